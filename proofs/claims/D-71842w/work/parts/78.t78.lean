/-! THE CLASS: node, count -/
set_option maxRecDepth 10000
theorem mxN_max {f : Nat → Nat} {n : Nat} : mxN f (n + 1) = max (mxN f n) (f n) := by
  show (if mxN f n < f n then f n else mxN f n) = _
  split <;> omega
theorem tb_snoc (c : Co) : ∀ n b, tb c b (n + 1) = tb c b n ++ k_row c (b + n)
  | 0, b => by
    show k_row c b ++ [] = [] ++ k_row c (b + 0)
    simp
  | n + 1, b => by
    show k_row c b ++ tb c (b + 1) (n + 1) = (k_row c b ++ tb c (b + 1) n) ++ k_row c (b + (n + 1))
    rw [tb_snoc c n (b + 1), List.append_assoc, show b + 1 + n = b + (n + 1) by omega]
theorem sumN_range (f : Nat → Nat) : ∀ n, sumN f n = ((List.range n).map f).sum
  | 0 => rfl
  | n + 1 => by
    rw [List.range_succ, List.map_append, List.sum_append, ← sumN_range f n]
    show sumN f n + f n = _
    simp
theorem ks_range {c : Co} (g : Nat → Nat) : (k_ks c).map g = (List.range (k_es c).length).map (fun e => g (kAt c e)) := by
  refine List.ext_getElem? fun j => ?_
  rw [List.getElem?_map, List.getElem?_map]
  by_cases h : j < (k_es c).length
  · rw [ks_at h, List.getElem?_range h]
    rfl
  · rw [List.getElem?_eq_none (by rw [k_len]; omega), List.getElem?_eq_none (by simp; omega)]
    rfl
theorem sum_by {c : Co} (hI : CI c) : ((tb c 0 (k_n c 1)).map (k_steps c)).sum = sumN (fun e => k_steps c (kAt c e)) (k_es c).length := by
  rw [sumN_range, ← ks_range]
  exact ((k_by_perm hI 2).map _).sum_nat
section T78
variable {D : Dx} {ad p : Nat → Nat} {σ : Sg} {α : Al} {N : Nat} {d : Nat} {o bs : Nat} {B : Nat → Nat} {c : Co}
theorem cx_keyOfM {x r : Option Nat} (hr : r = x.map ad) (hx : ∀ k, x = some k → kd σ (ad k) = 2 ∧ fi σ 20 (ad k) = nI k) : Ct (wX D) yX0_keyOf cX0_keyOf 1 (some .int) [va_rf r] σ (PE (some (.int (oI x))) σ) d 0 0 := by
  subst hr
  cases x with
  | none => exact cx_keyOf0 σ
  | some k => exact cx_keyOf (hx k rfl).1 (hx k rfl).2
set_option maxHeartbeats 1000000 in
theorem cx_nodeOf (hX : XB ad o bs σ B c) (hI : CI c) {k e w : Nat} (hp : k_pl c k = some e) (ht : k_tr c (k_b c k) = true) (hw3 : w ≤ 3) : Ct (wX D) yX0_nodeOf cX0_nodeOf 7 (some .int) [.ref o, .ref (B (k_b c k)), .ref (ad k), .int (nI w)] σ (PE (some (.int (k_nf c k w))) σ) 3 0 0 := by
  have hb := k_b_lt hI k
  have hw := (hX.2.1.1 _ hb).2.2
  have hk34 := hw.k34
  obtain ⟨pk, hpk, hpkk⟩ := k_pl_srt hI hp
  have hEN := hX.row (k_b c k)
  have hl49 := (k_srt_le hI (b := k_b c k)).1
  have hmem : ∀ q, q < (k_srt c (k_b c k)).length → (k_srt c (k_b c k)).getD q 0 ∈ k_row c (k_b c k) := fun q hq => srt_en hI hEN hq
  have hkr : k ∈ k_row c (k_b c k) := by
    have := hmem pk hpk
    rw [hpkk] at this
    exact this
  obtain ⟨hkd, e20, -, e23, e5, e6⟩ := hEN k hkr
  have hroot := cx_rt4 (D := D) (d := 0) hX hI hb
  have hwt := hw
  rw [ht] at hwt
  have hTI := hwt.ti hI
  have h4 : kd σ (B (k_b c k)) = 4 := hwt.1
  have hroot := hroot h4
  have hkey : ∀ i j, j ≤ (k_srt c (k_b c k)).length → ∀ x, (k_rt (k_srt c (k_b c k)) i j).map (fun n => (k_srt c (k_b c k)).getD n 0) = some x → kd σ (ad x) = 2 ∧ fi σ 20 (ad x) = nI x := fun i j hj x hx => by
    cases hz : k_rt (k_srt c (k_b c k)) i j with
    | none => rw [hz] at hx; cases hx
    | some q =>
      rw [hz] at hx
      have := k_rt_in hz
      cases hx
      have := hEN _ (hmem q (by omega))
      exact ⟨this.1, this.2.1⟩
  refine Ct.of KXok (by decide) (Nat.le_of_ble_eq_true rfl) rfl fun Y C hQ hNm => ?_
  have fin : ∀ (f i j n q : Nat) (ov : Option Nat) (x6 : Option Value), j ≤ (k_srt c (k_b c k)).length → k_dsc c (k_b c k) k = (n + 1, i, j, ov) → k_rt (k_srt c (k_b c k)) i j = some q → TI ad (fr σ 28) (fr σ 29) (k_srt c (k_b c k)) f i q (fr σ 28 (ad k)) → TI ad (fr σ 28) (fr σ 29) (k_srt c (k_b c k)) f (q + 1) j (fr σ 29 (ad k)) → (∀ x, ov = some x → x < (k_srt c (k_b c k)).length) → Zj (wX D) Y σ 0 0 59 [some (.ref o), some (.ref (B (k_b c k))), some (.ref (ad k)), some (.int (nI w)), some (va_rf ((ov.map (fun n => (k_srt c (k_b c k)).getD n 0)).map ad)), some (.int (nI (n + 1))), x6] [] := by
    intro f i j n q ov x6 hj hd hq t1 t2 hov
    have hqin := k_rt_in hq
    have r1 := t1.root
    have r2 := t2.root
    rcases (show w = 0 ∨ w = 1 ∨ w = 2 ∨ w = 3 by omega) with rfl | rfl | rfl | rfl
    · have hnf : k_nf c k 0 = oI ((k_rt (k_srt c (k_b c k)) i q).map (fun n => (k_srt c (k_b c k)).getD n 0)) := by
        unfold k_nf
        rw [hd]
        simp only
        rw [hq]
        rfl
      rw [hnf] at hQ
      refine z_il3 (q := 60) C dX0_nodeOf_59 rfl ?_
      first | refine z_if_neB (tgt := 73) (q := 63) C dX0_nodeOf_60 (by decide) rfl (fun c60 => ?_) (fun c60 => ?_) | refine z_if_ne (tgt := 73) (q := 63) C dX0_nodeOf_60 (by decide) rfl (fun c60 => ?_) (fun c60 => ?_)
      · exact absurd rfl c60
      · first | refine z_al2 (q := 64) C dX0_nodeOf_63 rfl ?_ | refine z_al2q (q := 64) C dX0_nodeOf_63 rfl ?_ | refine z_al2u (q := 64) C dX0_nodeOf_63 rfl ?_
        refine xg_X0_276 (q := 67) C (by exact hkd) dX0_nodeOf_64 rfl ?_
        refine xc_X0_282 (q := 70) C (cx_keyOfM (d := 0) (ad := ad) (by rw [r1, Option.map_map]; rfl) (hkey i q (by omega))) dX0_nodeOf_67 rfl rfl rfl (Nat.le_of_ble_eq_true rfl) (by first | decide | omega) (by omega) (by omega) (kkE ?_)
        refine z_goto (tgt := 103) C dX0_nodeOf_70 (by decide) ?_
        refine z_iret C hQ dX0_nodeOf_103 (by omega) (by omega) ?_
        exact ⟨rfl, rfl⟩
    · have hnf : k_nf c k 1 = oI ((k_rt (k_srt c (k_b c k)) (q + 1) j).map (fun n => (k_srt c (k_b c k)).getD n 0)) := by
        unfold k_nf
        rw [hd]
        simp only
        rw [hq]
        rfl
      rw [hnf] at hQ
      refine z_il3 (q := 60) C dX0_nodeOf_59 rfl ?_
      first | refine z_if_neB (tgt := 73) (q := 63) C dX0_nodeOf_60 (by decide) rfl (fun c60 => ?_) (fun c60 => ?_) | refine z_if_ne (tgt := 73) (q := 63) C dX0_nodeOf_60 (by decide) rfl (fun c60 => ?_) (fun c60 => ?_)
      · refine z_il3 (q := 74) C dX0_nodeOf_73 rfl ?_
        refine z_iconst (q := 75) (v := nI 1) C dX0_nodeOf_74 rfl (by decide) ?_
        refine z_icmp_ne (tgt := 88) (q := 78) C dX0_nodeOf_75 (by decide) rfl (fun c75 => ?_) (fun c75 => ?_)
        · exact absurd rfl c75
        · first | refine z_al2 (q := 79) C dX0_nodeOf_78 rfl ?_ | refine z_al2q (q := 79) C dX0_nodeOf_78 rfl ?_ | refine z_al2u (q := 79) C dX0_nodeOf_78 rfl ?_
          refine xg_X0_279 (q := 82) C (by exact hkd) dX0_nodeOf_79 rfl ?_
          refine xc_X0_282 (q := 85) C (cx_keyOfM (d := 0) (ad := ad) (by rw [r2, Option.map_map]; rfl) (hkey (q + 1) j hj)) dX0_nodeOf_82 rfl rfl rfl (Nat.le_of_ble_eq_true rfl) (by first | decide | omega) (by omega) (by omega) (kkE ?_)
          refine z_goto (tgt := 103) C dX0_nodeOf_85 (by decide) ?_
          refine z_iret C hQ dX0_nodeOf_103 (by omega) (by omega) ?_
          exact ⟨rfl, rfl⟩
      · exact absurd c60 (by decide)
    · have hnf : k_nf c k 2 = oI (ov.map (fun n => (k_srt c (k_b c k)).getD n 0)) := by
        unfold k_nf
        rw [hd]
        rfl
      rw [hnf] at hQ
      have hko := cx_keyOfM (D := D) (d := 0) (σ := σ) (ad := ad) (x := ov.map (fun n => (k_srt c (k_b c k)).getD n 0)) rfl (fun x hx => by
        cases ov with
        | none => cases hx
        | some y =>
          cases hx
          have := hEN _ (hmem y (hov y rfl))
          exact ⟨this.1, this.2.1⟩)
      refine z_il3 (q := 60) C dX0_nodeOf_59 rfl ?_
      first | refine z_if_neB (tgt := 73) (q := 63) C dX0_nodeOf_60 (by decide) rfl (fun c60 => ?_) (fun c60 => ?_) | refine z_if_ne (tgt := 73) (q := 63) C dX0_nodeOf_60 (by decide) rfl (fun c60 => ?_) (fun c60 => ?_)
      · refine z_il3 (q := 74) C dX0_nodeOf_73 rfl ?_
        refine z_iconst (q := 75) (v := nI 1) C dX0_nodeOf_74 rfl (by decide) ?_
        refine z_icmp_ne (tgt := 88) (q := 78) C dX0_nodeOf_75 (by decide) rfl (fun c75 => ?_) (fun c75 => ?_)
        · refine z_il3 (q := 89) C dX0_nodeOf_88 rfl ?_
          refine z_iconst (q := 90) (v := nI 2) C dX0_nodeOf_89 rfl (by decide) ?_
          refine z_icmp_ne (tgt := 101) (q := 93) C dX0_nodeOf_90 (by decide) rfl (fun c90 => ?_) (fun c90 => ?_)
          · exact absurd rfl c90
          · first | refine z_al4 (q := 95) C dX0_nodeOf_93 rfl ?_ | refine z_al4q (q := 95) C dX0_nodeOf_93 rfl ?_ | refine z_al4u (q := 95) C dX0_nodeOf_93 rfl ?_
            refine xc_X0_282 (q := 98) C hko dX0_nodeOf_95 rfl rfl rfl (Nat.le_of_ble_eq_true rfl) (by first | decide | omega) (by omega) (by omega) (kkE ?_)
            refine z_goto (tgt := 103) C dX0_nodeOf_98 (by decide) ?_
            refine z_iret C hQ dX0_nodeOf_103 (by omega) (by omega) ?_
            exact ⟨rfl, rfl⟩
        · exact absurd c75 (by decide)
      · exact absurd c60 (by decide)
    · have hnf : k_nf c k 3 = nI (n + 1) := by
        unfold k_nf
        rw [hd]
        rfl
      rw [hnf] at hQ
      refine z_il3 (q := 60) C dX0_nodeOf_59 rfl ?_
      first | refine z_if_neB (tgt := 73) (q := 63) C dX0_nodeOf_60 (by decide) rfl (fun c60 => ?_) (fun c60 => ?_) | refine z_if_ne (tgt := 73) (q := 63) C dX0_nodeOf_60 (by decide) rfl (fun c60 => ?_) (fun c60 => ?_)
      · refine z_il3 (q := 74) C dX0_nodeOf_73 rfl ?_
        refine z_iconst (q := 75) (v := nI 1) C dX0_nodeOf_74 rfl (by decide) ?_
        refine z_icmp_ne (tgt := 88) (q := 78) C dX0_nodeOf_75 (by decide) rfl (fun c75 => ?_) (fun c75 => ?_)
        · refine z_il3 (q := 89) C dX0_nodeOf_88 rfl ?_
          refine z_iconst (q := 90) (v := nI 2) C dX0_nodeOf_89 rfl (by decide) ?_
          refine z_icmp_ne (tgt := 101) (q := 93) C dX0_nodeOf_90 (by decide) rfl (fun c90 => ?_) (fun c90 => ?_)
          · refine z_il5 (q := 103) C dX0_nodeOf_101 rfl ?_
            refine z_iret C hQ dX0_nodeOf_103 (by omega) (by omega) ?_
            exact ⟨rfl, rfl⟩
          · exact absurd c90 (by decide)
        · exact absurd c75 (by decide)
      · exact absurd c60 (by decide)
  have loop : ∀ (f i j : Nat) (ov : Option Nat) (n : Nat) (r : Option Nat), i ≤ pk → pk < j → j ≤ (k_srt c (k_b c k)).length → TI ad (fr σ 28) (fr σ 29) (k_srt c (k_b c k)) f i j r → dsc c (k_srt c (k_b c k)) k f i j ov n = k_dsc c (k_b c k) k → (∀ x, ov = some x → x < (k_srt c (k_b c k)).length) → Zj (wX D) Y σ 0 0 12 [some (.ref o), some (.ref (B (k_b c k))), some (.ref (ad k)), some (.int (nI w)), some (va_rf ((ov.map (fun n => (k_srt c (k_b c k)).getD n 0)).map ad)), some (.int (nI (n + 1))), some (va_rf r)] [] := by
    intro f
    induction f with
    | zero => intro i j ov n r h1 h2 h3 hT; have := hT.1; omega
    | succ f ih =>
      intro i j ov n r h1 h2 h3 hT hd hov
      rcases hT with ⟨hz, hr⟩ | ⟨q, hz, hr, t1, t2⟩
      · obtain ⟨q, hq⟩ := k_rt_some (L := k_srt c (k_b c k)) (show i < j by omega)
        rw [hq] at hz; cases hz
      · subst hr
        have hin := k_rt_in hz
        have hqr := hmem q (by omega)
        obtain ⟨gkd, g20, -, g23, g5, g6⟩ := hEN _ hqr
        unfold dsc at hd
        rw [hz] at hd
        simp only at hd
        have hsr := k_srt_srt hI (k_b c k)
        first | refine z_al6 (q := 14) C dX0_nodeOf_12 rfl ?_ | refine z_al6q (q := 14) C dX0_nodeOf_12 rfl ?_ | refine z_al6u (q := 14) C dX0_nodeOf_12 rfl ?_
        first | refine z_al2 (q := 15) C dX0_nodeOf_14 rfl ?_ | refine z_al2q (q := 15) C dX0_nodeOf_14 rfl ?_ | refine z_al2u (q := 15) C dX0_nodeOf_14 rfl ?_
        refine z_acmp_eq (rx := some (ad ((k_srt c (k_b c k)).getD q 0))) (ry := some (ad k)) (tgt := 59) (q := 18) C dX0_nodeOf_15 (by decide) rfl (fun c15 => ?_) (fun c15 => ?_)
        · have hkk : (k_srt c (k_b c k)).getD q 0 = k := hEN.inj hqr hkr (Option.some.inj c15)
          rw [if_pos hkk] at hd
          rw [hkk] at t1 t2
          exact fin f i j n q ov _ h3 hd.symm hz t1 t2 hov
        · have hkk : ¬ (k_srt c (k_b c k)).getD q 0 = k := fun z => c15 (by rw [z])
          rw [if_neg hkk] at hd
          have hne : pk ≠ q := fun z => hkk (by rw [← z]; exact hpkk)
          show Zj _ _ _ _ _ _ [some (.ref o), some (.ref (B (k_b c k))), some (.ref (ad k)), some (.int (nI w)), some (va_rf ((ov.map (fun n => (k_srt c (k_b c k)).getD n 0)).map ad)), some (.int (nI (n + 1))), some (.ref (ad ((k_srt c (k_b c k)).getD q 0)))] []
          first | refine z_al6 (q := 20) C dX0_nodeOf_18 rfl ?_ | refine z_al6q (q := 20) C dX0_nodeOf_18 rfl ?_ | refine z_al6u (q := 20) C dX0_nodeOf_18 rfl ?_
          first | refine z_as4 (q := 22) C dX0_nodeOf_20 rfl (by first | exact loC_i | exact loC_r | exact loC_n | exact loC_q | exact loC_u) ?_ | refine z_as4q (q := 22) C dX0_nodeOf_20 rfl (by first | exact loC_i | exact loC_r | exact loC_n | exact loC_q | exact loC_u) ?_ | refine z_asu4 (q := 22) C dX0_nodeOf_20 rfl (by first | exact loC_i | exact loC_r | exact loC_n | exact loC_q | exact loC_u) ?_
          first | refine z_al6 (q := 24) C dX0_nodeOf_22 rfl ?_ | refine z_al6q (q := 24) C dX0_nodeOf_22 rfl ?_ | refine z_al6u (q := 24) C dX0_nodeOf_22 rfl ?_
          first | refine z_al2 (q := 25) C dX0_nodeOf_24 rfl ?_ | refine z_al2q (q := 25) C dX0_nodeOf_24 rfl ?_ | refine z_al2u (q := 25) C dX0_nodeOf_24 rfl ?_
          refine xg_X0_105 (q := 28) C (by exact hkd) dX0_nodeOf_25 rfl ?_
          rw [e23]
          first | refine z_al2 (q := 29) C dX0_nodeOf_28 rfl ?_ | refine z_al2q (q := 29) C dX0_nodeOf_28 rfl ?_ | refine z_al2u (q := 29) C dX0_nodeOf_28 rfl ?_
          refine xg_X0_120 (q := 32) C (by exact hkd) dX0_nodeOf_29 rfl ?_
          rw [e20]
          refine xc_X0_273 (q := 35) C (cx_place (d := 0) gkd g23 g20 g6 e6 (by omega) (by omega)) (by exact gkd) dX0_nodeOf_32 rfl rfl rfl (Nat.le_of_ble_eq_true rfl) (by first | decide | omega) (by omega) (by omega) (kkI fun r32 σ32 h32 => ?_)
          obtain ⟨e32, hpl⟩ := h32
          rw [e32]
          have hpl : r32 < 0 ↔ tlt (k_h c) k ((k_srt c (k_b c k)).getD q 0) := hpl
          refine z_if_ge (tgt := 46) (q := 38) C dX0_nodeOf_35 (by decide) rfl (fun c35 => ?_) (fun c35 => ?_)
          · have hna : ¬ ahd c k ((k_srt c (k_b c k)).getD q 0) = true := fun z => absurd (hpl.mpr (tlt_ahd.mpr z)) (Int32.not_lt.mpr c35)
            rw [if_neg hna] at hd
            have hlt : q < pk := by
              rcases Nat.lt_or_gt_of_ne hne with z | z
              · have := srt_lt hsr z (by omega)
                rw [hpkk] at this
                exact absurd this hna
              · exact z
            have hg := ih (q + 1) j (some q) (n + 1) (fr σ 29 (ad ((k_srt c (k_b c k)).getD q 0))) (by omega) h2 h3 t2 hd (fun x hx => by cases hx; omega)
            first | refine z_al6 (q := 48) C dX0_nodeOf_46 rfl ?_ | refine z_al6q (q := 48) C dX0_nodeOf_46 rfl ?_ | refine z_al6u (q := 48) C dX0_nodeOf_46 rfl ?_
            refine xg_X0_279 (q := 51) C (by exact gkd) dX0_nodeOf_48 rfl ?_
            first | refine z_as6 (q := 53) C dX0_nodeOf_51 rfl (by first | exact loC_i | exact loC_r | exact loC_n | exact loC_q | exact loC_u) ?_ | refine z_as6q (q := 53) C dX0_nodeOf_51 rfl (by first | exact loC_i | exact loC_r | exact loC_n | exact loC_q | exact loC_u) ?_ | refine z_asu6 (q := 53) C dX0_nodeOf_51 rfl (by first | exact loC_i | exact loC_r | exact loC_n | exact loC_q | exact loC_u) ?_
            first | refine z_iinc5N (q := 56) C dX0_nodeOf_53 rfl (by first | exact loC_i | exact loC_r | exact loC_n | exact loC_q | exact loC_u) ?_ | refine z_iinc5 (q := 56) C dX0_nodeOf_53 rfl rfl (by first | exact loC_i | exact loC_r | exact loC_n | exact loC_q | exact loC_u) ?_
            refine z_goto (tgt := 12) C dX0_nodeOf_56 (by decide) ?_
            exact hg
          · have ha : ahd c k ((k_srt c (k_b c k)).getD q 0) = true := tlt_ahd.mp (hpl.mp (Int32.not_le.mp c35))
            rw [if_pos ha] at hd
            have hlt : pk < q := by
              rcases Nat.lt_or_gt_of_ne hne with z | z
              · exact z
              · have := srt_lt hsr z (by omega)
                rw [hpkk] at this
                exact absurd ha (ahd_as _ _ this)
            have hg := ih i q (some q) (n + 1) (fr σ 28 (ad ((k_srt c (k_b c k)).getD q 0))) h1 hlt (by omega) t1 hd (fun x hx => by cases hx; omega)
            first | refine z_al6 (q := 40) C dX0_nodeOf_38 rfl ?_ | refine z_al6q (q := 40) C dX0_nodeOf_38 rfl ?_ | refine z_al6u (q := 40) C dX0_nodeOf_38 rfl ?_
            refine xg_X0_276 (q := 43) C (by exact gkd) dX0_nodeOf_40 rfl ?_
            refine z_goto (tgt := 51) C dX0_nodeOf_43 (by decide) ?_
            first | refine z_as6 (q := 53) C dX0_nodeOf_51 rfl (by first | exact loC_i | exact loC_r | exact loC_n | exact loC_q | exact loC_u) ?_ | refine z_as6q (q := 53) C dX0_nodeOf_51 rfl (by first | exact loC_i | exact loC_r | exact loC_n | exact loC_q | exact loC_u) ?_ | refine z_asu6 (q := 53) C dX0_nodeOf_51 rfl (by first | exact loC_i | exact loC_r | exact loC_n | exact loC_q | exact loC_u) ?_
            first | refine z_iinc5N (q := 56) C dX0_nodeOf_53 rfl (by first | exact loC_i | exact loC_r | exact loC_n | exact loC_q | exact loC_u) ?_ | refine z_iinc5 (q := 56) C dX0_nodeOf_53 rfl rfl (by first | exact loC_i | exact loC_r | exact loC_n | exact loC_q | exact loC_u) ?_
            refine z_goto (tgt := 12) C dX0_nodeOf_56 (by decide) ?_
            exact hg
  have hroot' := hroot
  have e60 : (k_root c (k_b c k)).map ad = fr σ 60 (B (k_b c k)) := by
    rw [hTI.root]
    unfold k_root
    rw [if_pos ht, Option.map_map]
    rfl
  rw [e60] at hroot'
  refine z_null (q := 1) C dX0_nodeOf_0 rfl ?_
  first | refine z_as4 (q := 3) C dX0_nodeOf_1 rfl (by first | exact loC_i | exact loC_r | exact loC_n | exact loC_q | exact loC_u) ?_ | refine z_as4q (q := 3) C dX0_nodeOf_1 rfl (by first | exact loC_i | exact loC_r | exact loC_n | exact loC_q | exact loC_u) ?_ | refine z_asu4 (q := 3) C dX0_nodeOf_1 rfl (by first | exact loC_i | exact loC_r | exact loC_n | exact loC_q | exact loC_u) ?_
  refine z_iconst (q := 4) (v := nI 1) C dX0_nodeOf_3 rfl (by decide) ?_
  refine z_is5 (q := 6) C dX0_nodeOf_4 rfl (by first | exact loC_i | exact loC_r | exact loC_n | exact loC_q | exact loC_u) ?_
  first | refine z_al1 (q := 7) C dX0_nodeOf_6 rfl ?_ | refine z_al1q (q := 7) C dX0_nodeOf_6 rfl ?_ | refine z_al1u (q := 7) C dX0_nodeOf_6 rfl ?_
  refine xc_X0_258 (q := 10) C (fun h => absurd h (by rw [h4]; decide)) (fun _ => hroot') (by exact hk34) dX0_nodeOf_7 rfl rfl rfl (Nat.le_of_ble_eq_true rfl) (by first | decide | omega) (by omega) (by omega) (kkE ?_)
  first | refine z_as6 (q := 12) C dX0_nodeOf_10 rfl (by first | exact loC_i | exact loC_r | exact loC_n | exact loC_q | exact loC_u) ?_ | refine z_as6q (q := 12) C dX0_nodeOf_10 rfl (by first | exact loC_i | exact loC_r | exact loC_n | exact loC_q | exact loC_u) ?_ | refine z_asu6 (q := 12) C dX0_nodeOf_10 rfl (by first | exact loC_i | exact loC_r | exact loC_n | exact loC_q | exact loC_u) ?_
  exact loop _ 0 _ none 0 _ (by omega) hpk (by omega) hTI rfl (fun x hx => by cases hx)
set_option maxHeartbeats 1000000 in
theorem cx_node (h : XA false D p σ α) (hA : AI N α) (k w : Int32) : Ct (wX D) yX0_node cX0_node 5 (some .int) [.ref (p 0), .int k, .int w] σ (PI (fun r σ' => r = (a_node α k w).1 ∧ XA false D p σ' (a_node α k w).2)) 64 300 1500 := by
  obtain ⟨ad, B, hX, hq, hC, hU, hP, h9, hR⟩ := h.num
  obtain ⟨ho, h0, hbk, hln⟩ := hX.1
  obtain ⟨r16, k5, l5⟩ := hX.2.2.2.2.1
  have hI := hA.1
  refine Ct.of KXok (by decide) (Nat.le_of_ble_eq_true rfl) rfl fun Y C hQ hNm => ?_
  cases hi : (isK k && inB w (nI 0) (nI 3)) with
  | false =>
    have e1 : a_node α k w = (-2, a_rfs α 0) := if_neg (by rw [hi]; decide)
    rw [e1] at hQ
    have hb := h.rfs hA (i := 0) (by decide)
    refine z_il1 (q := 1) C dX0_node_0 rfl ?_
    refine xc_X0_220 (q := 4) C (cx_isKey (d := 0) σ k) dX0_node_1 rfl rfl rfl (Nat.le_of_ble_eq_true rfl) (by first | decide | omega) (by omega) (by omega) (kkE ?_)
    first | refine z_if_eqB (tgt := 19) (q := 7) C dX0_node_4 (by decide) rfl (fun c4 => ?_) (fun c4 => ?_) | refine z_if_eq (tgt := 19) (q := 7) C dX0_node_4 (by decide) rfl (fun c4 => ?_) (fun c4 => ?_)
    · first | refine z_al0 (q := 20) C dX0_node_19 rfl ?_ | refine z_al0q (q := 20) C dX0_node_19 rfl ?_ | refine z_al0u (q := 20) C dX0_node_19 rfl ?_
      refine xc_X0_227 (q := 23) C (cx_bad (d := 0) ho r16 k5 l5) (by first | exact ho | exact hk | exact hb | exact he | assumption | exact Or.inl (by assumption) | exact Or.inr (by assumption)) dX0_node_20 rfl rfl rfl (Nat.le_of_ble_eq_true rfl) (by first | decide | omega) (by omega) (by omega) (kkE ?_)
      refine z_iret C hQ dX0_node_23 (by omega) (by omega) ?_
      exact ⟨_, rfl, rfl, hb⟩
    · refine z_il2 (q := 8) C dX0_node_7 rfl ?_
      refine z_i2l (q := 9) C dX0_node_8 rfl ?_
      refine z_lconst (q := 10) (v := 0) C dX0_node_9 rfl rfl ?_
      refine z_ldc2 (q := 13) C dX0_node_10 rfl q558 ?_
      refine xc_X0_214 (q := 16) C (cx_inB (d := 0) σ w (nI 0) (nI 3)) dX0_node_13 rfl rfl rfl (Nat.le_of_ble_eq_true rfl) (by first | decide | omega) (by omega) (by omega) (kkE ?_)
      first | refine z_if_neB (tgt := 24) (q := 19) C dX0_node_16 (by decide) rfl (fun c16 => ?_) (fun c16 => ?_) | refine z_if_ne (tgt := 24) (q := 19) C dX0_node_16 (by decide) rfl (fun c16 => ?_) (fun c16 => ?_)
      · rw [show isK k = true from c4, c16] at hi; cases hi
      · first | refine z_al0 (q := 20) C dX0_node_19 rfl ?_ | refine z_al0q (q := 20) C dX0_node_19 rfl ?_ | refine z_al0u (q := 20) C dX0_node_19 rfl ?_
        refine xc_X0_227 (q := 23) C (cx_bad (d := 0) ho r16 k5 l5) (by first | exact ho | exact hk | exact hb | exact he | assumption | exact Or.inl (by assumption) | exact Or.inr (by assumption)) dX0_node_20 rfl rfl rfl (Nat.le_of_ble_eq_true rfl) (by first | decide | omega) (by omega) (by omega) (kkE ?_)
        refine z_iret C hQ dX0_node_23 (by omega) (by omega) ?_
        exact ⟨_, rfl, rfl, hb⟩
  | true =>
    obtain ⟨g1, g2⟩ := Bool.and_eq_true_iff.mp hi
    obtain ⟨ek, hk⟩ := isK_of g1
    obtain ⟨ew, hw⟩ := in_of (by decide) g2
    have e0 : a_node α k w = if (k_pl (a_c α) (kN k)).isSome = true ∧ k_tr (a_c α) (k_b (a_c α) (kN k)) = true then (k_nf (a_c α) (kN k) (kN w), α) else (-3, a_rfs α 1) := if_pos hi
    rw [e0] at hQ
    generalize kN k = kn at *
    generalize kN w = wn at *
    subst ek
    subst ew
    have hb1 := h.rfs hA (i := 1) (by decide)
    have hbw := cx_binWith (D := D) (d := 0) hX.1 hC.2.1 hI hk
    have hkk := (hC.2.1.2.1.1 _ (k_b_lt hI kn)).2.2.1
    refine z_il1 (q := 1) C dX0_node_0 rfl ?_
    refine xc_X0_220 (q := 4) C (cx_isKey (d := 0) σ _) dX0_node_1 rfl rfl rfl (Nat.le_of_ble_eq_true rfl) (by first | decide | omega) (by omega) (by omega) (kkE ?_)
    refine z_if_eqB (tgt := 19) (q := 7) C dX0_node_4 (by decide) rfl (fun c4 => absurd g1 (by rw [show isK (nI kn) = false from c4]; decide)) (fun c4 => ?_)
    refine z_il2 (q := 8) C dX0_node_7 rfl ?_
    refine z_i2l (q := 9) C dX0_node_8 rfl ?_
    refine z_lconst (q := 10) (v := 0) C dX0_node_9 rfl rfl ?_
    refine z_ldc2 (q := 13) C dX0_node_10 rfl q558 ?_
    refine xc_X0_214 (q := 16) C (cx_inB (d := 0) σ _ (nI 0) (nI 3)) dX0_node_13 rfl rfl rfl (Nat.le_of_ble_eq_true rfl) (by first | decide | omega) (by omega) (by omega) (kkE ?_)
    refine z_if_neB (tgt := 24) (q := 19) C dX0_node_16 (by decide) rfl (fun c16 => ?_) (fun c16 => by rw [g2] at c16; cases c16)
    cases hp : k_pl (a_c α) kn with
    | none =>
      rw [if_neg (by rw [hp]; simp)] at hQ
      have hfd := cx_foundN (D := D) (d := 0) hX.1 hC.2.1 hI hk hp
      first | refine z_al0 (q := 25) C dX0_node_24 rfl ?_ | refine z_al0q (q := 25) C dX0_node_24 rfl ?_ | refine z_al0u (q := 25) C dX0_node_24 rfl ?_
      refine z_il1 (q := 26) C dX0_node_25 rfl ?_
      refine xc_X0_80 (q := 29) C hbw (by first | exact ho | exact hk | exact hb | exact he | assumption | exact Or.inl (by assumption) | exact Or.inr (by assumption)) dX0_node_26 rfl rfl rfl (Nat.le_of_ble_eq_true rfl) (by first | decide | omega) (by omega) (by omega) (kkE ?_)
      first | refine z_as3 (q := 30) C dX0_node_29 rfl (by first | exact loC_i | exact loC_r | exact loC_n | exact loC_q | exact loC_u) ?_ | refine z_as3q (q := 30) C dX0_node_29 rfl (by first | exact loC_i | exact loC_r | exact loC_n | exact loC_q | exact loC_u) ?_ | refine z_asu3 (q := 30) C dX0_node_29 rfl (by first | exact loC_i | exact loC_r | exact loC_n | exact loC_q | exact loC_u) ?_
      first | refine z_al0 (q := 31) C dX0_node_30 rfl ?_ | refine z_al0q (q := 31) C dX0_node_30 rfl ?_ | refine z_al0u (q := 31) C dX0_node_30 rfl ?_
      refine z_il1 (q := 32) C dX0_node_31 rfl ?_
      refine xc_X0_230 (q := 35) C hfd (by first | exact ho | exact hk | exact hb | exact he | assumption | exact Or.inl (by assumption) | exact Or.inr (by assumption)) dX0_node_32 rfl rfl rfl (Nat.le_of_ble_eq_true rfl) (by first | decide | omega) (by omega) (by omega) (kkE ?_)
      first | refine z_as4 (q := 37) C dX0_node_35 rfl (by first | exact loC_i | exact loC_r | exact loC_n | exact loC_q | exact loC_u) ?_ | refine z_as4q (q := 37) C dX0_node_35 rfl (by first | exact loC_i | exact loC_r | exact loC_n | exact loC_q | exact loC_u) ?_ | refine z_asu4 (q := 37) C dX0_node_35 rfl (by first | exact loC_i | exact loC_r | exact loC_n | exact loC_q | exact loC_u) ?_
      first | refine z_al4 (q := 39) C dX0_node_37 rfl ?_ | refine z_al4q (q := 39) C dX0_node_37 rfl ?_ | refine z_al4u (q := 39) C dX0_node_37 rfl ?_
      refine z_ifnull_u (tgt := 60) C dX0_node_39 (by decide) ?_
      first | refine z_al0 (q := 61) C dX0_node_60 rfl ?_ | refine z_al0q (q := 61) C dX0_node_60 rfl ?_ | refine z_al0u (q := 61) C dX0_node_60 rfl ?_
      refine xc_X0_290 (q := 64) C (cx_no (d := 0) ho r16 k5 l5) (by first | exact ho | exact hk | exact hb | exact he | assumption | exact Or.inl (by assumption) | exact Or.inr (by assumption)) dX0_node_61 rfl rfl rfl (Nat.le_of_ble_eq_true rfl) (by first | decide | omega) (by omega) (by omega) (kkE ?_)
      refine z_iret C hQ dX0_node_64 (by omega) (by omega) ?_
      exact ⟨_, rfl, rfl, hb1⟩
    | some e =>
      obtain ⟨he, hes, hke⟩ := k_pl_some hp
      have hfd := cx_foundS (D := D) (d := 0) hX.1 hC.2.1 hI hk hp
      rw [hke] at hfd
      cases ht : k_tr (a_c α) (k_b (a_c α) kn) with
      | false =>
        rw [if_neg (by rw [ht]; simp)] at hQ
        rw [ht] at hkk
        first | refine z_al0 (q := 25) C dX0_node_24 rfl ?_ | refine z_al0q (q := 25) C dX0_node_24 rfl ?_ | refine z_al0u (q := 25) C dX0_node_24 rfl ?_
        refine z_il1 (q := 26) C dX0_node_25 rfl ?_
        refine xc_X0_80 (q := 29) C hbw (by first | exact ho | exact hk | exact hb | exact he | assumption | exact Or.inl (by assumption) | exact Or.inr (by assumption)) dX0_node_26 rfl rfl rfl (Nat.le_of_ble_eq_true rfl) (by first | decide | omega) (by omega) (by omega) (kkE ?_)
        first | refine z_as3 (q := 30) C dX0_node_29 rfl (by first | exact loC_i | exact loC_r | exact loC_n | exact loC_q | exact loC_u) ?_ | refine z_as3q (q := 30) C dX0_node_29 rfl (by first | exact loC_i | exact loC_r | exact loC_n | exact loC_q | exact loC_u) ?_ | refine z_asu3 (q := 30) C dX0_node_29 rfl (by first | exact loC_i | exact loC_r | exact loC_n | exact loC_q | exact loC_u) ?_
        first | refine z_al0 (q := 31) C dX0_node_30 rfl ?_ | refine z_al0q (q := 31) C dX0_node_30 rfl ?_ | refine z_al0u (q := 31) C dX0_node_30 rfl ?_
        refine z_il1 (q := 32) C dX0_node_31 rfl ?_
        refine xc_X0_230 (q := 35) C hfd (by first | exact ho | exact hk | exact hb | exact he | assumption | exact Or.inl (by assumption) | exact Or.inr (by assumption)) dX0_node_32 rfl rfl rfl (Nat.le_of_ble_eq_true rfl) (by first | decide | omega) (by omega) (by omega) (kkE ?_)
        first | refine z_as4 (q := 37) C dX0_node_35 rfl (by first | exact loC_i | exact loC_r | exact loC_n | exact loC_q | exact loC_u) ?_ | refine z_as4q (q := 37) C dX0_node_35 rfl (by first | exact loC_i | exact loC_r | exact loC_n | exact loC_q | exact loC_u) ?_ | refine z_asu4 (q := 37) C dX0_node_35 rfl (by first | exact loC_i | exact loC_r | exact loC_n | exact loC_q | exact loC_u) ?_
        first | refine z_al4 (q := 39) C dX0_node_37 rfl ?_ | refine z_al4q (q := 39) C dX0_node_37 rfl ?_ | refine z_al4u (q := 39) C dX0_node_37 rfl ?_
        refine z_ifnull_r (q := 42) C dX0_node_39 rfl ?_
        first | refine z_al3 (q := 43) C dX0_node_42 rfl ?_ | refine z_al3q (q := 43) C dX0_node_42 rfl ?_ | refine z_al3u (q := 43) C dX0_node_42 rfl ?_
        refine x_isT (q := 46) C (t := false) hkk q343 dX0_node_43 rfl ?_
        first | refine z_if_eqB (tgt := 60) (q := 49) C dX0_node_46 (by decide) rfl (fun c46 => ?_) (fun c46 => ?_) | refine z_if_eq (tgt := 60) (q := 49) C dX0_node_46 (by decide) rfl (fun c46 => ?_) (fun c46 => ?_)
        · first | refine z_al0 (q := 61) C dX0_node_60 rfl ?_ | refine z_al0q (q := 61) C dX0_node_60 rfl ?_ | refine z_al0u (q := 61) C dX0_node_60 rfl ?_
          refine xc_X0_290 (q := 64) C (cx_no (d := 0) ho r16 k5 l5) (by first | exact ho | exact hk | exact hb | exact he | assumption | exact Or.inl (by assumption) | exact Or.inr (by assumption)) dX0_node_61 rfl rfl rfl (Nat.le_of_ble_eq_true rfl) (by first | decide | omega) (by omega) (by omega) (kkE ?_)
          refine z_iret C hQ dX0_node_64 (by omega) (by omega) ?_
          exact ⟨_, rfl, rfl, hb1⟩
        · cases c46
      | true =>
        rw [if_pos ⟨by rw [hp]; rfl, ht⟩] at hQ
        rw [ht] at hkk
        first | refine z_al0 (q := 25) C dX0_node_24 rfl ?_ | refine z_al0q (q := 25) C dX0_node_24 rfl ?_ | refine z_al0u (q := 25) C dX0_node_24 rfl ?_
        refine z_il1 (q := 26) C dX0_node_25 rfl ?_
        refine xc_X0_80 (q := 29) C hbw (by first | exact ho | exact hk | exact hb | exact he | assumption | exact Or.inl (by assumption) | exact Or.inr (by assumption)) dX0_node_26 rfl rfl rfl (Nat.le_of_ble_eq_true rfl) (by first | decide | omega) (by omega) (by omega) (kkE ?_)
        first | refine z_as3 (q := 30) C dX0_node_29 rfl (by first | exact loC_i | exact loC_r | exact loC_n | exact loC_q | exact loC_u) ?_ | refine z_as3q (q := 30) C dX0_node_29 rfl (by first | exact loC_i | exact loC_r | exact loC_n | exact loC_q | exact loC_u) ?_ | refine z_asu3 (q := 30) C dX0_node_29 rfl (by first | exact loC_i | exact loC_r | exact loC_n | exact loC_q | exact loC_u) ?_
        first | refine z_al0 (q := 31) C dX0_node_30 rfl ?_ | refine z_al0q (q := 31) C dX0_node_30 rfl ?_ | refine z_al0u (q := 31) C dX0_node_30 rfl ?_
        refine z_il1 (q := 32) C dX0_node_31 rfl ?_
        refine xc_X0_230 (q := 35) C hfd (by first | exact ho | exact hk | exact hb | exact he | assumption | exact Or.inl (by assumption) | exact Or.inr (by assumption)) dX0_node_32 rfl rfl rfl (Nat.le_of_ble_eq_true rfl) (by first | decide | omega) (by omega) (by omega) (kkE ?_)
        first | refine z_as4 (q := 37) C dX0_node_35 rfl (by first | exact loC_i | exact loC_r | exact loC_n | exact loC_q | exact loC_u) ?_ | refine z_as4q (q := 37) C dX0_node_35 rfl (by first | exact loC_i | exact loC_r | exact loC_n | exact loC_q | exact loC_u) ?_ | refine z_asu4 (q := 37) C dX0_node_35 rfl (by first | exact loC_i | exact loC_r | exact loC_n | exact loC_q | exact loC_u) ?_
        first | refine z_al4 (q := 39) C dX0_node_37 rfl ?_ | refine z_al4q (q := 39) C dX0_node_37 rfl ?_ | refine z_al4u (q := 39) C dX0_node_37 rfl ?_
        refine z_ifnull_r (q := 42) C dX0_node_39 rfl ?_
        first | refine z_al3 (q := 43) C dX0_node_42 rfl ?_ | refine z_al3q (q := 43) C dX0_node_42 rfl ?_ | refine z_al3u (q := 43) C dX0_node_42 rfl ?_
        refine x_isT (q := 46) C (t := true) hkk q343 dX0_node_43 rfl ?_
        first | refine z_if_eqB (tgt := 60) (q := 49) C dX0_node_46 (by decide) rfl (fun c46 => ?_) (fun c46 => ?_) | refine z_if_eq (tgt := 60) (q := 49) C dX0_node_46 (by decide) rfl (fun c46 => ?_) (fun c46 => ?_)
        · cases c46
        · first | refine z_al0 (q := 50) C dX0_node_49 rfl ?_ | refine z_al0q (q := 50) C dX0_node_49 rfl ?_ | refine z_al0u (q := 50) C dX0_node_49 rfl ?_
          first | refine z_al3 (q := 51) C dX0_node_50 rfl ?_ | refine z_al3q (q := 51) C dX0_node_50 rfl ?_ | refine z_al3u (q := 51) C dX0_node_50 rfl ?_
          first | refine z_al4 (q := 53) C dX0_node_51 rfl ?_ | refine z_al4q (q := 53) C dX0_node_51 rfl ?_ | refine z_al4u (q := 53) C dX0_node_51 rfl ?_
          refine z_il2 (q := 54) C dX0_node_53 rfl ?_
          refine xc_X0_286 (q := 57) C (cx_nodeOf hC.2.1 hI hp ht hw) (by first | exact ho | exact hk | exact hb | exact he | assumption | exact Or.inl (by assumption) | exact Or.inr (by assumption)) dX0_node_54 rfl rfl rfl (Nat.le_of_ble_eq_true rfl) (by first | decide | omega) (by omega) (by omega) (kkE ?_)
          refine z_goto (tgt := 64) C dX0_node_57 (by decide) ?_
          refine z_iret C hQ dX0_node_64 (by omega) (by omega) ?_
          exact ⟨_, rfl, rfl, h⟩
set_option maxHeartbeats 2000000 in
theorem cx_counted (hM : MO o bs σ) (hX : XC ad o bs σ B c) (hI : CI c) {ch w : Nat} (h9 : fi σ 9 o = nI ch) (hw7 : w ≤ 7) : Ct (wX D) yX0_counted cX0_counted 10 (some .int) [.ref o, .int (nI w)] σ (PE (some (.int (k_cnt c ch w))) σ) 62 0 0 := by
  obtain ⟨ho, h0, hbk, hln⟩ := hM
  have hw := hI.w
  have e1 := hX.2.1.2.2.2.1
  have e4 := hX.1.2.1
  refine Ct.of KXok (by decide) (Nat.le_of_ble_eq_true rfl) rfl fun Y C hQ hNm => ?_
  have fin : ∀ (x7 x8 x9 : Option Value), Zj (wX D) Y σ 0 0 143 [some (.ref o), some (.int (nI w)), some (.int (nI (cntN (k_tr c) (k_n c 1)))), some (.int (nI (mxN (k_mi c) (k_n c 1)))), some (.int (nI (mxN (k_lev c) (k_n c 1)))), some (.int (nI (if w = 5 then ((tb c 0 (k_n c 1)).map (k_steps c)).sum else 0))), some (.int (nI (cntN (fun b => k_mi c b == 0) (k_n c 1)))), x7, x8, x9] [] := by
    intro x7 x8 x9
    rcases (show w = 0 ∨ w = 1 ∨ w = 2 ∨ w = 3 ∨ w = 4 ∨ w = 5 ∨ w = 6 ∨ w = 7 by omega) with rfl | rfl | rfl | rfl | rfl | rfl | rfl | rfl
    · refine z_il1 (q := 144) C dX0_counted_143 rfl ?_
      refine z_tswI (tgt := 188) C dX0_counted_144 (by decide) (by decide) rfl (by decide) ?_
      first | refine z_al0 (q := 189) C dX0_counted_188 rfl ?_ | refine z_al0q (q := 189) C dX0_counted_188 rfl ?_ | refine z_al0u (q := 189) C dX0_counted_188 rfl ?_
      refine xg_X0_142 (q := 192) C (by first | exact ho | exact hk | exact hb | exact he | assumption) dX0_counted_189 rfl ?_
      rw [e4]
      refine z_iret C hQ dX0_counted_192 (by omega) (by omega) ?_
      exact ⟨rfl, rfl⟩
    · refine z_il1 (q := 144) C dX0_counted_143 rfl ?_
      refine z_tswI (tgt := 193) C dX0_counted_144 (by decide) (by decide) rfl (by decide) ?_
      first | refine z_al0 (q := 194) C dX0_counted_193 rfl ?_ | refine z_al0q (q := 194) C dX0_counted_193 rfl ?_ | refine z_al0u (q := 194) C dX0_counted_193 rfl ?_
      refine xg_X0_62 (q := 197) C (by first | exact ho | exact hk | exact hb | exact he | assumption) dX0_counted_194 rfl ?_
      rw [e1]
      refine z_iret C hQ dX0_counted_197 (by omega) (by omega) ?_
      exact ⟨rfl, rfl⟩
    · refine z_il1 (q := 144) C dX0_counted_143 rfl ?_
      refine z_tswI (tgt := 198) C dX0_counted_144 (by decide) (by decide) rfl (by decide) ?_
      refine z_il2 (q := 199) C dX0_counted_198 rfl ?_
      refine z_iret C hQ dX0_counted_199 (by omega) (by omega) ?_
      exact ⟨rfl, rfl⟩
    · refine z_il1 (q := 144) C dX0_counted_143 rfl ?_
      refine z_tswI (tgt := 200) C dX0_counted_144 (by decide) (by decide) rfl (by decide) ?_
      refine z_il3 (q := 201) C dX0_counted_200 rfl ?_
      refine z_iret C hQ dX0_counted_201 (by omega) (by omega) ?_
      exact ⟨rfl, rfl⟩
    · refine z_il1 (q := 144) C dX0_counted_143 rfl ?_
      refine z_tswI (tgt := 202) C dX0_counted_144 (by decide) (by decide) rfl (by decide) ?_
      refine z_il4 (q := 204) C dX0_counted_202 rfl ?_
      refine z_iret C hQ dX0_counted_204 (by omega) (by omega) ?_
      exact ⟨rfl, rfl⟩
    · have : k_cnt c ch 5 = nI (if (5 : Nat) = 5 then ((tb c 0 (k_n c 1)).map (k_steps c)).sum else 0) := by
        rw [if_pos rfl, sum_by hI]
        rfl
      rw [this] at hQ
      refine z_il1 (q := 144) C dX0_counted_143 rfl ?_
      refine z_tswI (tgt := 205) C dX0_counted_144 (by decide) (by decide) rfl (by decide) ?_
      refine z_il5 (q := 207) C dX0_counted_205 rfl ?_
      refine z_iret C hQ dX0_counted_207 (by omega) (by omega) ?_
      exact ⟨rfl, rfl⟩
    · refine z_il1 (q := 144) C dX0_counted_143 rfl ?_
      refine z_tswI (tgt := 208) C dX0_counted_144 (by decide) (by decide) rfl (by decide) ?_
      refine z_il6 (q := 210) C dX0_counted_208 rfl ?_
      refine z_iret C hQ dX0_counted_210 (by omega) (by omega) ?_
      exact ⟨rfl, rfl⟩
    · refine z_il1 (q := 144) C dX0_counted_143 rfl ?_
      refine z_tswO (tgt := 211) C dX0_counted_144 (by decide) (by decide) ?_
      first | refine z_al0 (q := 212) C dX0_counted_211 rfl ?_ | refine z_al0q (q := 212) C dX0_counted_211 rfl ?_ | refine z_al0u (q := 212) C dX0_counted_211 rfl ?_
      refine xg_X0_153 (q := 215) C (by first | exact ho | exact hk | exact hb | exact he | assumption) dX0_counted_212 rfl ?_
      rw [h9]
      refine z_iret C hQ dX0_counted_215 (by omega) (by omega) ?_
      exact ⟨rfl, rfl⟩
  have loop : ∀ m b, b + m = k_n c 1 → ∀ (x8 x9 : Option Value), loC x8 → loC x9 → Zj (wX D) Y σ 0 0 16 [some (.ref o), some (.int (nI w)), some (.int (nI (cntN (k_tr c) b))), some (.int (nI (mxN (k_mi c) b))), some (.int (nI (mxN (k_lev c) b))), some (.int (nI (if w = 5 then ((tb c 0 b).map (k_steps c)).sum else 0))), some (.int (nI (cntN (fun b => k_mi c b == 0) b))), some (.int (nI b)), x8, x9] [] := by
    intro m
    induction m with
    | zero =>
      intro b hb x8 x9 y8 y9
      have hb : b = k_n c 1 := hb
      subst hb
      refine z_il7 (q := 18) C dX0_counted_16 rfl ?_
      first | refine z_al0 (q := 19) C dX0_counted_18 rfl ?_ | refine z_al0q (q := 19) C dX0_counted_18 rfl ?_ | refine z_al0u (q := 19) C dX0_counted_18 rfl ?_
      refine xg_X0_62 (q := 22) C (by first | exact ho | exact hk | exact hb | exact he | assumption) dX0_counted_19 rfl ?_
      rw [e1]
      refine z_icmp_geN (tgt := 143) (q := 25) C dX0_counted_22 (by decide) rfl (by omega) (by omega) (fun c22 => fin _ _ _) (fun c22 => absurd c22 (by omega))
    | succ m ih =>
      intro b hb x8 x9 y8 y9
      have hbn : b < k_n c 1 := by omega
      obtain ⟨-, hab, hrw⟩ := hX.2.1.2.1.1 b hbn
      have hk34 := hrw.k34
      have h42 : fi σ 42 (B b) = nI (k_mi c b) := hrw.2.1
      have hmi := k_mi_le hI b
      have hmi49 := hI.2.2.2.1
      have hlv49 : k_lev c b ≤ 49 := by
        unfold k_lev
        split
        · exact k_deep_le hI b
        · omega
      have hEN := hX.2.1.row b
      have hmx1 : mxN (k_mi c) b ≤ 49 := mxN_le _ (fun i _ => by have := k_mi_le hI i; omega)
      have hmx2 : mxN (k_lev c) b ≤ 49 := mxN_le _ (fun i _ => by
        unfold k_lev
        split
        · exact k_deep_le hI i
        · omega)
      have inner : ∀ (R P : List Nat) (r : Option Nat), P ++ R = k_row c b → CH ad (fr σ 27) R r → Zj (wX D) Y σ 0 0 97 [some (.ref o), some (.int (nI w)), some (.int (nI (cntN (k_tr c) (b + 1)))), some (.int (nI (mxN (k_mi c) (b + 1)))), some (.int (nI (mxN (k_lev c) (b + 1)))), some (.int (nI (if w = 5 then ((tb c 0 b).map (k_steps c)).sum + (P.map (k_steps c)).sum else 0))), some (.int (nI (cntN (fun b => k_mi c b == 0) (b + 1)))), some (.int (nI b)), some (.ref (B b)), some (va_rf r)] [] := by
        intro R
        induction R with
        | nil =>
          intro P r hP hc
          have hc : r = none := hc
          subst hc
          rw [List.append_nil] at hP
          subst hP
          have hg := ih (b + 1) (by omega) (some (.ref (B b))) (some .null) loC_r loC_u
          rw [tb_snoc, List.map_append, List.sum_append, Nat.zero_add] at hg
          show Zj _ _ _ _ _ _ [some (.ref o), some (.int (nI w)), some (.int (nI (cntN (k_tr c) (b + 1)))), some (.int (nI (mxN (k_mi c) (b + 1)))), some (.int (nI (mxN (k_lev c) (b + 1)))), some (.int (nI (if w = 5 then ((tb c 0 b).map (k_steps c)).sum + ((k_row c b).map (k_steps c)).sum else 0))), some (.int (nI (cntN (fun b => k_mi c b == 0) (b + 1)))), some (.int (nI b)), some (.ref (B b)), some .null] []
          first | refine z_al9 (q := 99) C dX0_counted_97 rfl ?_ | refine z_al9q (q := 99) C dX0_counted_97 rfl ?_ | refine z_al9u (q := 99) C dX0_counted_97 rfl ?_
          refine z_ifnull_u (tgt := 137) C dX0_counted_99 (by decide) ?_
          first | refine z_iinc7N (q := 140) C dX0_counted_137 rfl (by first | exact loC_i | exact loC_r | exact loC_n | exact loC_q | exact loC_u) ?_ | refine z_iinc7 (q := 140) C dX0_counted_137 rfl rfl (by first | exact loC_i | exact loC_r | exact loC_n | exact loC_q | exact loC_u) ?_
          refine z_goto (tgt := 16) C dX0_counted_140 (by decide) ?_
          exact hg
        | cons k R ihR =>
          intro P r hP hc
          obtain ⟨rfl, hc⟩ := hc
          have hkr : k ∈ k_row c b := by rw [← hP]; simp
          obtain ⟨hkd, e20, -, e23, e5, e6⟩ := hEN k hkr
          have hkb := (k_b_row hkr).2
          show Zj _ _ _ _ _ _ [some (.ref o), some (.int (nI w)), some (.int (nI (cntN (k_tr c) (b + 1)))), some (.int (nI (mxN (k_mi c) (b + 1)))), some (.int (nI (mxN (k_lev c) (b + 1)))), some (.int (nI (if w = 5 then ((tb c 0 b).map (k_steps c)).sum + (P.map (k_steps c)).sum else 0))), some (.int (nI (cntN (fun b => k_mi c b == 0) (b + 1)))), some (.int (nI b)), some (.ref (B b)), some (.ref (ad k))] []
          first | refine z_al9 (q := 99) C dX0_counted_97 rfl ?_ | refine z_al9q (q := 99) C dX0_counted_97 rfl ?_ | refine z_al9u (q := 99) C dX0_counted_97 rfl ?_
          refine z_ifnull_r (q := 102) C dX0_counted_99 rfl ?_
          refine z_il1 (q := 103) C dX0_counted_102 rfl ?_
          refine z_iconst (q := 104) (v := nI 5) C dX0_counted_103 rfl (by decide) ?_
          refine z_icmp_neN (tgt := 137) (q := 107) C dX0_counted_104 (by decide) rfl (by omega) (by omega) (fun c104 => ?_) (fun c104 => ?_)
          · have hg := ih (b + 1) (by omega) (some (.ref (B b))) (some (.ref (ad k))) loC_r loC_r
            rw [if_neg c104] at hg ⊢
            first | refine z_iinc7N (q := 140) C dX0_counted_137 rfl (by first | exact loC_i | exact loC_r | exact loC_n | exact loC_q | exact loC_u) ?_ | refine z_iinc7 (q := 140) C dX0_counted_137 rfl rfl (by first | exact loC_i | exact loC_r | exact loC_n | exact loC_q | exact loC_u) ?_
            refine z_goto (tgt := 16) C dX0_counted_140 (by decide) ?_
            exact hg
          · have hg := ihR (P ++ [k]) (fr σ 27 (ad k)) (by rw [← hP]; simp) hc
            rw [if_pos c104, List.map_append, List.sum_append, ← Nat.add_assoc, show (List.map (k_steps c) [k]).sum = k_steps c k by simp] at hg
            rw [if_pos c104]
            subst hkb
            refine z_il5 (q := 109) C dX0_counted_107 rfl ?_
            first | refine z_al8 (q := 111) C dX0_counted_109 rfl ?_ | refine z_al8q (q := 111) C dX0_counted_109 rfl ?_ | refine z_al8u (q := 111) C dX0_counted_109 rfl ?_
            first | refine z_al9 (q := 113) C dX0_counted_111 rfl ?_ | refine z_al9q (q := 113) C dX0_counted_111 rfl ?_ | refine z_al9u (q := 113) C dX0_counted_111 rfl ?_
            refine xg_X0_105 (q := 116) C (by exact hkd) dX0_counted_113 rfl ?_
            rw [e23]
            first | refine z_al9 (q := 118) C dX0_counted_116 rfl ?_ | refine z_al9q (q := 118) C dX0_counted_116 rfl ?_ | refine z_al9u (q := 118) C dX0_counted_116 rfl ?_
            refine xg_X0_120 (q := 121) C (by exact hkd) dX0_counted_118 rfl ?_
            rw [e20]
            refine xc_X0_255 (q := 124) C (fun h => cx_stp3 (d := 0) hX.2.1 hI e5 h) (fun h => cx_stp4 (d := 0) hX.2.1 hI e5 h) (by exact hk34) dX0_counted_121 rfl rfl rfl (Nat.le_of_ble_eq_true rfl) (by first | decide | omega) (by omega) (by omega) (kkE ?_)
            first | refine z_iaddN (q := 125) C dX0_counted_124 rfl ?_ | refine z_iadd (q := 125) C dX0_counted_124 rfl ?_
            refine z_is5 (q := 127) C dX0_counted_125 rfl (by first | exact loC_i | exact loC_r | exact loC_n | exact loC_q | exact loC_u) ?_
            first | refine z_al9 (q := 129) C dX0_counted_127 rfl ?_ | refine z_al9q (q := 129) C dX0_counted_127 rfl ?_ | refine z_al9u (q := 129) C dX0_counted_127 rfl ?_
            refine xg_X0_99 (q := 132) C (by exact hkd) dX0_counted_129 rfl ?_
            first | refine z_as9 (q := 134) C dX0_counted_132 rfl (by first | exact loC_i | exact loC_r | exact loC_n | exact loC_q | exact loC_u) ?_ | refine z_as9q (q := 134) C dX0_counted_132 rfl (by first | exact loC_i | exact loC_r | exact loC_n | exact loC_q | exact loC_u) ?_ | refine z_asu9 (q := 134) C dX0_counted_132 rfl (by first | exact loC_i | exact loC_r | exact loC_n | exact loC_q | exact loC_u) ?_
            refine z_goto (tgt := 97) C dX0_counted_134 (by decide) ?_
            exact hg
      have ph3 : Zj (wX D) Y σ 0 0 90 [some (.ref o), some (.int (nI w)), some (.int (nI (cntN (k_tr c) (b + 1)))), some (.int (nI (mxN (k_mi c) (b + 1)))), some (.int (nI (mxN (k_lev c) (b + 1)))), some (.int (nI (if w = 5 then ((tb c 0 b).map (k_steps c)).sum else 0))), some (.int (nI (cntN (fun b => k_mi c b == 0) (b + 1)))), some (.int (nI b)), some (.ref (B b)), x9] [] := by
        have hg := inner (k_row c b) [] (fr σ 40 (B b)) rfl hrw.2.2.1.ch
        first | refine z_al8 (q := 92) C dX0_counted_90 rfl ?_ | refine z_al8q (q := 92) C dX0_counted_90 rfl ?_ | refine z_al8u (q := 92) C dX0_counted_90 rfl ?_
        refine xc_X0_95 (q := 95) C (fun _ => cx_first (d := 0) hk34) (fun _ => cx_first (d := 0) hk34) (by exact hk34) dX0_counted_92 rfl rfl rfl (Nat.le_of_ble_eq_true rfl) (by first | decide | omega) (by omega) (by omega) (kkE ?_)
        first | refine z_as9 (q := 97) C dX0_counted_95 rfl (by first | exact loC_i | exact loC_r | exact loC_n | exact loC_q | exact loC_u) ?_ | refine z_as9q (q := 97) C dX0_counted_95 rfl (by first | exact loC_i | exact loC_r | exact loC_n | exact loC_q | exact loC_u) ?_ | refine z_asu9 (q := 97) C dX0_counted_95 rfl (by first | exact loC_i | exact loC_r | exact loC_n | exact loC_q | exact loC_u) ?_
        exact hg
      have ph2 : Zj (wX D) Y σ 0 0 50 [some (.ref o), some (.int (nI w)), some (.int (nI (cntN (k_tr c) (b + 1)))), some (.int (nI (mxN (k_mi c) b))), some (.int (nI (mxN (k_lev c) b))), some (.int (nI (if w = 5 then ((tb c 0 b).map (k_steps c)).sum else 0))), some (.int (nI (cntN (fun b => k_mi c b == 0) b))), some (.int (nI b)), some (.ref (B b)), x9] [] := by
        have hce : cntN (fun b => k_mi c b == 0) (b + 1) = cntN (fun b => k_mi c b == 0) b + if (k_mi c b == 0) = true then 1 else 0 := rfl
        rw [hce, mxN_max, mxN_max] at ph3
        refine z_il3 (q := 51) C dX0_counted_50 rfl ?_
        first | refine z_al8 (q := 53) C dX0_counted_51 rfl ?_ | refine z_al8q (q := 53) C dX0_counted_51 rfl ?_ | refine z_al8u (q := 53) C dX0_counted_51 rfl ?_
        refine xc_X0_124 (q := 56) C (fun _ => cx_size (d := 0) hk34) (fun _ => cx_size (d := 0) hk34) (by exact hk34) dX0_counted_53 rfl rfl rfl (Nat.le_of_ble_eq_true rfl) (by first | decide | omega) (by omega) (by omega) (kkE ?_)
        rw [h42]
        refine xc_X0_293 (q := 59) C dX0_counted_56 rfl (Nat.le_of_ble_eq_true rfl) (by omega) (by omega) (by first | decide | omega) ?_
        rw [max_nI (by omega) (by omega)]
        refine z_is3 (q := 60) C dX0_counted_59 rfl (by first | exact loC_i | exact loC_r | exact loC_n | exact loC_q | exact loC_u) ?_
        refine z_il4 (q := 62) C dX0_counted_60 rfl ?_
        first | refine z_al8 (q := 64) C dX0_counted_62 rfl ?_ | refine z_al8q (q := 64) C dX0_counted_62 rfl ?_ | refine z_al8u (q := 64) C dX0_counted_62 rfl ?_
        refine xc_X0_261 (q := 67) C (fun h => cx_lev3 (d := 60) hX.2.1 hbn h) (fun h => cx_lev4 hX.2.1 hI hbn h) (by exact hk34) dX0_counted_64 rfl rfl rfl (Nat.le_of_ble_eq_true rfl) (by first | decide | omega) (by omega) (by omega) (kkE ?_)
        refine xc_X0_293 (q := 70) C dX0_counted_67 rfl (Nat.le_of_ble_eq_true rfl) (by omega) (by omega) (by first | decide | omega) ?_
        rw [max_nI (by omega) (by omega)]
        refine z_is4 (q := 72) C dX0_counted_70 rfl (by first | exact loC_i | exact loC_r | exact loC_n | exact loC_q | exact loC_u) ?_
        refine z_il6 (q := 74) C dX0_counted_72 rfl ?_
        first | refine z_al8 (q := 76) C dX0_counted_74 rfl ?_ | refine z_al8q (q := 76) C dX0_counted_74 rfl ?_ | refine z_al8u (q := 76) C dX0_counted_74 rfl ?_
        refine xc_X0_124 (q := 79) C (fun _ => cx_size (d := 0) hk34) (fun _ => cx_size (d := 0) hk34) (by exact hk34) dX0_counted_76 rfl rfl rfl (Nat.le_of_ble_eq_true rfl) (by first | decide | omega) (by omega) (by omega) (kkE ?_)
        rw [h42]
        refine z_if_ne (tgt := 86) (q := 82) C dX0_counted_79 (by decide) rfl (fun c79 => ?_) (fun c79 => ?_)
        · have : (k_mi c b == 0) = false := by
            simp
            exact fun z => c79 (by rw [z]; rfl)
          rw [this] at ph3
          refine z_iconst (q := 87) (v := nI 0) C dX0_counted_86 rfl (by decide) ?_
          first | refine z_iaddN (q := 88) C dX0_counted_87 rfl ?_ | refine z_iadd (q := 88) C dX0_counted_87 rfl ?_
          refine z_is6 (q := 90) C dX0_counted_88 rfl (by first | exact loC_i | exact loC_r | exact loC_n | exact loC_q | exact loC_u) ?_
          exact ph3
        · have : (k_mi c b == 0) = true := by
            have := congrArg Int32.toInt c79
            rw [nI_toInt (by omega)] at this
            have h2 : (0 : Int32).toInt = 0 := by decide
            simp
            omega
          rw [this] at ph3
          refine z_iconst (q := 83) (v := nI 1) C dX0_counted_82 rfl (by decide) ?_
          refine z_goto (tgt := 87) C dX0_counted_83 (by decide) ?_
          first | refine z_iaddN (q := 88) C dX0_counted_87 rfl ?_ | refine z_iadd (q := 88) C dX0_counted_87 rfl ?_
          refine z_is6 (q := 90) C dX0_counted_88 rfl (by first | exact loC_i | exact loC_r | exact loC_n | exact loC_q | exact loC_u) ?_
          exact ph3
      have hct : cntN (k_tr c) (b + 1) = cntN (k_tr c) b + if k_tr c b = true then 1 else 0 := rfl
      rw [hct] at ph2
      refine z_il7 (q := 18) C dX0_counted_16 rfl ?_
      first | refine z_al0 (q := 19) C dX0_counted_18 rfl ?_ | refine z_al0q (q := 19) C dX0_counted_18 rfl ?_ | refine z_al0u (q := 19) C dX0_counted_18 rfl ?_
      refine xg_X0_62 (q := 22) C (by first | exact ho | exact hk | exact hb | exact he | assumption) dX0_counted_19 rfl ?_
      rw [e1]
      refine z_icmp_geN (tgt := 143) (q := 25) C dX0_counted_22 (by decide) rfl (by omega) (by omega) (fun c22 => absurd c22 (by omega)) (fun c22 => ?_)
      first | refine z_al0 (q := 26) C dX0_counted_25 rfl ?_ | refine z_al0q (q := 26) C dX0_counted_25 rfl ?_ | refine z_al0u (q := 26) C dX0_counted_25 rfl ?_
      first | refine xr_X0_14 (q := 29) C (by first | exact ho | exact hk | exact hb | exact he | assumption) (by assumption) dX0_counted_26 rfl ?_ | refine xn_X0_14 (q := 29) C (by first | exact ho | exact hk | exact hb | exact he | assumption) (by assumption) dX0_counted_26 rfl ?_ | refine xg_X0_14 (q := 29) C (by first | exact ho | exact hk | exact hb | exact he | assumption) dX0_counted_26 rfl ?_
      refine z_il7 (q := 31) C dX0_counted_29 rfl ?_
      refine x_aald (q := 32) C 3 (by decide) (by decide) (by assumption) (by rw [hln]; omega) (by omega) dX0_counted_31 rfl ?_
      rw [hab]
      first | refine z_as8 (q := 34) C dX0_counted_32 rfl (by first | exact loC_i | exact loC_r | exact loC_n | exact loC_q | exact loC_u) ?_ | refine z_as8q (q := 34) C dX0_counted_32 rfl (by first | exact loC_i | exact loC_r | exact loC_n | exact loC_q | exact loC_u) ?_ | refine z_asu8 (q := 34) C dX0_counted_32 rfl (by first | exact loC_i | exact loC_r | exact loC_n | exact loC_q | exact loC_u) ?_
      refine z_il2 (q := 35) C dX0_counted_34 rfl ?_
      first | refine z_al8 (q := 37) C dX0_counted_35 rfl ?_ | refine z_al8q (q := 37) C dX0_counted_35 rfl ?_ | refine z_al8u (q := 37) C dX0_counted_35 rfl ?_
      refine x_isT (q := 40) C hrw.1 q343 dX0_counted_37 rfl ?_
      refine z_if_eqB (tgt := 47) (q := 43) C dX0_counted_40 (by decide) rfl (fun c40 => ?_) (fun c40 => ?_)
      · rw [c40] at ph2
        refine z_iconst (q := 48) (v := nI 0) C dX0_counted_47 rfl (by decide) ?_
        first | refine z_iaddN (q := 49) C dX0_counted_48 rfl ?_ | refine z_iadd (q := 49) C dX0_counted_48 rfl ?_
        refine z_is2 (q := 50) C dX0_counted_49 rfl (by first | exact loC_i | exact loC_r | exact loC_n | exact loC_q | exact loC_u) ?_
        exact ph2
      · rw [c40] at ph2
        refine z_iconst (q := 44) (v := nI 1) C dX0_counted_43 rfl (by decide) ?_
        refine z_goto (tgt := 48) C dX0_counted_44 (by decide) ?_
        first | refine z_iaddN (q := 49) C dX0_counted_48 rfl ?_ | refine z_iadd (q := 49) C dX0_counted_48 rfl ?_
        refine z_is2 (q := 50) C dX0_counted_49 rfl (by first | exact loC_i | exact loC_r | exact loC_n | exact loC_q | exact loC_u) ?_
        exact ph2
  refine z_iconst (q := 1) (v := nI 0) C dX0_counted_0 rfl (by decide) ?_
  refine z_is2 (q := 2) C dX0_counted_1 rfl (by first | exact loC_i | exact loC_r | exact loC_n | exact loC_q | exact loC_u) ?_
  refine z_iconst (q := 3) (v := nI 0) C dX0_counted_2 rfl (by decide) ?_
  refine z_is3 (q := 4) C dX0_counted_3 rfl (by first | exact loC_i | exact loC_r | exact loC_n | exact loC_q | exact loC_u) ?_
  refine z_iconst (q := 5) (v := nI 0) C dX0_counted_4 rfl (by decide) ?_
  refine z_is4 (q := 7) C dX0_counted_5 rfl (by first | exact loC_i | exact loC_r | exact loC_n | exact loC_q | exact loC_u) ?_
  refine z_iconst (q := 8) (v := nI 0) C dX0_counted_7 rfl (by decide) ?_
  refine z_is5 (q := 10) C dX0_counted_8 rfl (by first | exact loC_i | exact loC_r | exact loC_n | exact loC_q | exact loC_u) ?_
  refine z_iconst (q := 11) (v := nI 0) C dX0_counted_10 rfl (by decide) ?_
  refine z_is6 (q := 13) C dX0_counted_11 rfl (by first | exact loC_i | exact loC_r | exact loC_n | exact loC_q | exact loC_u) ?_
  refine z_iconst (q := 14) (v := nI 0) C dX0_counted_13 rfl (by decide) ?_
  refine z_is7 (q := 16) C dX0_counted_14 rfl (by first | exact loC_i | exact loC_r | exact loC_n | exact loC_q | exact loC_u) ?_
  have hg := loop (k_n c 1) 0 (by omega) none none loC_n loC_n
  have e0 : (if w = 5 then ((tb c 0 0).map (k_steps c)).sum else 0) = 0 := by split <;> rfl
  rw [e0] at hg
  exact hg
theorem cx_count (h : XA false D p σ α) (hA : AI N α) (w : Int32) : Ct (wX D) yX0_count cX0_count 2 (some .int) [.ref (p 0), .int w] σ (PI (fun r σ' => r = (a_count α w).1 ∧ XA false D p σ' (a_count α w).2)) 64 300 1500 := by
  obtain ⟨ad, B, hX, hq, hC, hU, hP, h9, hR⟩ := h.num
  have ho := hX.1.1
  obtain ⟨r16, k5, l5⟩ := hX.2.2.2.2.1
  have hI := hA.1
  refine Ct.of KXok (by decide) (Nat.le_of_ble_eq_true rfl) rfl fun Y C hQ hNm => ?_
  cases hi : inB w (nI 0) (nI 7) with
  | false =>
    have e1 : a_count α w = (-2, a_rfs α 0) := if_neg (by rw [hi]; decide)
    rw [e1] at hQ
    have hb := h.rfs hA (i := 0) (by decide)
    refine z_il1 (q := 1) C dX0_count_0 rfl ?_
    refine z_i2l (q := 2) C dX0_count_1 rfl ?_
    refine z_lconst (q := 3) (v := 0) C dX0_count_2 rfl rfl ?_
    refine z_ldc2 (q := 6) C dX0_count_3 rfl q609 ?_
    refine xc_X0_214 (q := 9) C (cx_inB (d := 0) σ w (nI 0) (nI 7)) dX0_count_6 rfl rfl rfl (Nat.le_of_ble_eq_true rfl) (by first | decide | omega) (by omega) (by omega) (kkE ?_)
    first | refine z_if_eqB (tgt := 20) (q := 12) C dX0_count_9 (by decide) rfl (fun c9 => ?_) (fun c9 => ?_) | refine z_if_eq (tgt := 20) (q := 12) C dX0_count_9 (by decide) rfl (fun c9 => ?_) (fun c9 => ?_)
    · first | refine z_al0 (q := 21) C dX0_count_20 rfl ?_ | refine z_al0q (q := 21) C dX0_count_20 rfl ?_ | refine z_al0u (q := 21) C dX0_count_20 rfl ?_
      refine xc_X0_227 (q := 24) C (cx_bad (d := 0) ho r16 k5 l5) (by first | exact ho | exact hk | exact hb | exact he | assumption | exact Or.inl (by assumption) | exact Or.inr (by assumption)) dX0_count_21 rfl rfl rfl (Nat.le_of_ble_eq_true rfl) (by first | decide | omega) (by omega) (by omega) (kkE ?_)
      refine z_iret C hQ dX0_count_24 (by omega) (by omega) ?_
      exact ⟨_, rfl, rfl, hb⟩
    · rw [hi] at c9; cases c9
  | true =>
    obtain ⟨ec, hc⟩ := in_of (by decide) hi
    have e1 : a_count α w = (k_cnt (a_c α) (a_ch α) (kN w), α) := if_pos hi
    rw [e1] at hQ
    generalize kN w = wn at *
    subst ec
    refine z_il1 (q := 1) C dX0_count_0 rfl ?_
    refine z_i2l (q := 2) C dX0_count_1 rfl ?_
    refine z_lconst (q := 3) (v := 0) C dX0_count_2 rfl rfl ?_
    refine z_ldc2 (q := 6) C dX0_count_3 rfl q609 ?_
    refine xc_X0_214 (q := 9) C (cx_inB (d := 0) σ (nI wn) (nI 0) (nI 7)) dX0_count_6 rfl rfl rfl (Nat.le_of_ble_eq_true rfl) (by first | decide | omega) (by omega) (by omega) (kkE ?_)
    first | refine z_if_eqB (tgt := 20) (q := 12) C dX0_count_9 (by decide) rfl (fun c9 => ?_) (fun c9 => ?_) | refine z_if_eq (tgt := 20) (q := 12) C dX0_count_9 (by decide) rfl (fun c9 => ?_) (fun c9 => ?_)
    · rw [hi] at c9; cases c9
    · first | refine z_al0 (q := 13) C dX0_count_12 rfl ?_ | refine z_al0q (q := 13) C dX0_count_12 rfl ?_ | refine z_al0u (q := 13) C dX0_count_12 rfl ?_
      refine z_il1 (q := 14) C dX0_count_13 rfl ?_
      refine xc_X0_298 (q := 17) C (cx_counted hX.1 hC hI h9 hc) (by first | exact ho | exact hk | exact hb | exact he | assumption | exact Or.inl (by assumption) | exact Or.inr (by assumption)) dX0_count_14 rfl rfl rfl (Nat.le_of_ble_eq_true rfl) (by first | decide | omega) (by omega) (by omega) (kkE ?_)
      refine z_goto (tgt := 24) C dX0_count_17 (by decide) ?_
      refine z_iret C hQ dX0_count_24 (by omega) (by omega) ?_
      exact ⟨_, rfl, rfl, h⟩
end T78
