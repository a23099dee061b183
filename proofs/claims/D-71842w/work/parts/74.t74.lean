/-! THE CLASS: hashes, sets, hash, order, type, clear, told -/
set_option maxRecDepth 10000
theorem XB.numq {ad : Nat → Nat} {o bs : Nat} {σ : Sg} {B : Nat → Nat} {c : Co} {i v : Nat} (h : XB ad o bs σ B c) (h1 : i ≠ 1) (h2 : i ≠ 2) (h3 : i ≠ 3) : XB ad o bs σ B (setN c i v) := by
  have e1 : k_n (setN c i v) 1 = k_n c 1 := if_neg (Ne.symm h1)
  have e2 : k_n (setN c i v) 2 = k_n c 2 := if_neg (Ne.symm h2)
  have e3 : k_n (setN c i v) 3 = k_n c 3 := if_neg (Ne.symm h3)
  have eh : k_h (setN c i v) = k_h c := by
    funext k
    unfold k_h
    rw [e2, e3]
  have er : k_row (setN c i v) = k_row c := by
    funext b
    unfold k_row k_b
    rw [eh, e1]
    rfl
  unfold XB
  rw [eh, er, e1, e2, e3]
  exact h
section T74
variable {D : Dx} {p : Nat → Nat} {σ : Sg} {α : Al} {N : Nat} {d : Nat}
theorem cx_inB (σ : Sg) (v a b : Int32) : Ct (wX D) yX0_in cX0_in 6 (some .boolean) [.long v.toInt64, .long a.toInt64, .long b.toInt64] σ (PE (some (.int (bI (inB v a b)))) σ) d 0 0 := by
  have := cx_in (D := D) (d := d) σ v.toInt64 a.toInt64 b.toInt64
  rw [in_B] at this
  exact this
theorem XA.num (h : XA false D p σ α) : ∃ ad B, FX p σ ∧ fi σ 13 (p 0) = bI false ∧ XC ad (p 0) (p 1) σ B (a_c α) ∧ XU D p ad σ (k_ks (a_c α)) (a_ch α) (a_cu α) ∧ XP p σ (a_ps α) ∧ fi σ 9 (p 0) = nI (a_ch α) ∧ XR p σ (a_rf α) (a_tx α) := by
  obtain ⟨hX, hq, ⟨ad, B, hC, hU⟩, hP, h9, hR⟩ := h
  exact ⟨ad, B, hX, hq, hC, hU, hP, h9, hR⟩
theorem cx_hash (h : XA false D p σ α) (hA : AI N α) (k : Int32) : Ct (wX D) yX0_hash cX0_hash 2 (some .int) [.ref (p 0), .int k] σ (PI (fun r σ' => r = (a_hash α k).1 ∧ XA false D p σ' (a_hash α k).2)) 64 300 1500 := by
  obtain ⟨ad, B, hX, hq, hC, hU, hP, h9, hR⟩ := h.num
  have ho := hX.1.1
  obtain ⟨r16, k5, l5⟩ := hX.2.2.2.2.1
  have hI := hA.1
  refine Ct.of KXok (by decide) (Nat.le_of_ble_eq_true rfl) rfl fun Y C hQ hNm => ?_
  cases hi : isK k with
  | false =>
    have e1 : a_hash α k = (-2, a_rfs α 0) := if_neg (by rw [hi]; decide)
    rw [e1] at hQ
    have hb := h.rfs hA (i := 0) (by decide)
    refine z_il1 (q := 1) C dX0_hash_0 rfl ?_
    refine xc_X0_220 (q := 4) C (cx_isKey (d := 0) σ k) dX0_hash_1 rfl rfl rfl (Nat.le_of_ble_eq_true rfl) (by first | decide | omega) (by omega) (by omega) (kkE ?_)
    first | refine z_if_eqB (tgt := 15) (q := 7) C dX0_hash_4 (by decide) rfl (fun c4 => ?_) (fun c4 => ?_) | refine z_if_eq (tgt := 15) (q := 7) C dX0_hash_4 (by decide) rfl (fun c4 => ?_) (fun c4 => ?_)
    · first | refine z_al0 (q := 16) C dX0_hash_15 rfl ?_ | refine z_al0q (q := 16) C dX0_hash_15 rfl ?_ | refine z_al0u (q := 16) C dX0_hash_15 rfl ?_
      refine xc_X0_227 (q := 19) C (cx_bad (d := 0) ho r16 k5 l5) (by first | exact ho | exact hk | exact hb | exact he | assumption | exact Or.inl (by assumption) | exact Or.inr (by assumption)) dX0_hash_16 rfl rfl rfl (Nat.le_of_ble_eq_true rfl) (by first | decide | omega) (by omega) (by omega) (kkE ?_)
      refine z_iret C hQ dX0_hash_19 (by omega) (by omega) ?_
      exact ⟨_, rfl, rfl, hb⟩
    · exact absurd hi (by rw [show isK k = true from c4]; decide)
  | true =>
    obtain ⟨ek, hk⟩ := isK_of hi
    have e0 : a_hash α k = (nI (k_h (a_c α) (kN k)), α) := if_pos hi
    rw [e0] at hQ
    generalize kN k = kn at *
    subst ek
    refine z_il1 (q := 1) C dX0_hash_0 rfl ?_
    refine xc_X0_220 (q := 4) C (cx_isKey (d := 0) σ _) dX0_hash_1 rfl rfl rfl (Nat.le_of_ble_eq_true rfl) (by first | decide | omega) (by omega) (by omega) (kkE ?_)
    first | refine z_if_eqB (tgt := 15) (q := 7) C dX0_hash_4 (by decide) rfl (fun c4 => ?_) (fun c4 => ?_) | refine z_if_eq (tgt := 15) (q := 7) C dX0_hash_4 (by decide) rfl (fun c4 => ?_) (fun c4 => ?_)
    · exact absurd hi (by rw [show isK (nI kn) = false from c4]; decide)
    · first | refine z_al0 (q := 8) C dX0_hash_7 rfl ?_ | refine z_al0q (q := 8) C dX0_hash_7 rfl ?_ | refine z_al0u (q := 8) C dX0_hash_7 rfl ?_
      refine z_il1 (q := 9) C dX0_hash_8 rfl ?_
      refine xc_X0_73 (q := 12) C (cx_hashOf (d := 0) ho hC.2.1.2.2.2.2.1 hC.2.1.2.2.2.2.2 hI.2.2.2.2.2.1 hI.2.2.2.2.2.2.1 kn hk) (by first | exact ho | exact hk | exact hb | exact he | assumption | exact Or.inl (by assumption) | exact Or.inr (by assumption)) dX0_hash_9 rfl rfl rfl (Nat.le_of_ble_eq_true rfl) (by first | decide | omega) (by omega) (by omega) (kkE ?_)
      refine z_goto (tgt := 19) C dX0_hash_12 (by decide) ?_
      refine z_iret C hQ dX0_hash_19 (by omega) (by omega) ?_
      exact ⟨_, rfl, rfl, h⟩
set_option maxHeartbeats 1000000 in
theorem cx_sets (h : XA false D p σ α) (hA : AI N α) (w v : Int32) : Ct (wX D) yX0_sets cX0_sets 4 (some .int) [.ref (p 0), .int w, .int v] σ (PI (fun r σ' => r = (a_sets α w v).1 ∧ XA false D p σ' (a_sets α w v).2)) 64 300 1500 := by
  obtain ⟨ad, B, hX, hq, hC, hU, hP, h9, hR⟩ := h.num
  have hM := hX.1
  have ho := hX.1.1
  have hs := hX.sep
  obtain ⟨r16, k5, l5⟩ := hX.2.2.2.2.1
  have hI := hA.1
  refine Ct.of KXok (by decide) (Nat.le_of_ble_eq_true rfl) rfl fun Y C hQ hNm => ?_
  have hb := h.rfs hA (i := 0) (by decide)
  cases hi : inB w (nI 0) (nI 1) with
  | false =>
    have e1 : a_sets α w v = (-2, a_rfs α 0) := if_neg (by rw [hi]; simp)
    rw [e1] at hQ
    refine z_il1 (q := 1) C dX0_sets_0 rfl ?_
    refine z_i2l (q := 2) C dX0_sets_1 rfl ?_
    refine z_lconst (q := 3) (v := 0) C dX0_sets_2 rfl rfl ?_
    refine z_lconst (q := 4) (v := 1) C dX0_sets_3 rfl rfl ?_
    refine xc_X0_214 (q := 7) C (cx_inB (d := 0) σ w (nI 0) (nI 1)) dX0_sets_4 rfl rfl rfl (Nat.le_of_ble_eq_true rfl) (by first | decide | omega) (by omega) (by omega) (kkE ?_)
    first | refine z_if_eqB (tgt := 30) (q := 10) C dX0_sets_7 (by decide) rfl (fun c7 => ?_) (fun c7 => ?_) | refine z_if_eq (tgt := 30) (q := 10) C dX0_sets_7 (by decide) rfl (fun c7 => ?_) (fun c7 => ?_)
    · first | refine z_al0 (q := 31) C dX0_sets_30 rfl ?_ | refine z_al0q (q := 31) C dX0_sets_30 rfl ?_ | refine z_al0u (q := 31) C dX0_sets_30 rfl ?_
      refine xc_X0_227 (q := 34) C (cx_bad (d := 0) ho r16 k5 l5) (by first | exact ho | exact hk | exact hb | exact he | assumption | exact Or.inl (by assumption) | exact Or.inr (by assumption)) dX0_sets_31 rfl rfl rfl (Nat.le_of_ble_eq_true rfl) (by first | decide | omega) (by omega) (by omega) (kkE ?_)
      refine z_iret C hQ dX0_sets_34 (by omega) (by omega) ?_
      exact ⟨_, rfl, rfl, hb⟩
    · rw [hi] at c7; cases c7
  | true =>
    obtain ⟨ew, hw⟩ := in_of (by decide) hi
    cases hj : inB v (nI 0) (if w = 0 then nI 1 else nI 48) with
    | false =>
      have e1 : a_sets α w v = (-2, a_rfs α 0) := if_neg (by rw [hi, hj]; decide)
      rw [e1] at hQ
      rcases (show kN w = 0 ∨ kN w = 1 by omega) with q | q
      · rw [q] at ew
        have ew : w = 0 := ew
        rw [if_pos ew] at hj
        refine z_il1 (q := 1) C dX0_sets_0 rfl ?_
        refine z_i2l (q := 2) C dX0_sets_1 rfl ?_
        refine z_lconst (q := 3) (v := 0) C dX0_sets_2 rfl rfl ?_
        refine z_lconst (q := 4) (v := 1) C dX0_sets_3 rfl rfl ?_
        refine xc_X0_214 (q := 7) C (cx_inB (d := 0) σ w (nI 0) (nI 1)) dX0_sets_4 rfl rfl rfl (Nat.le_of_ble_eq_true rfl) (by first | decide | omega) (by omega) (by omega) (kkE ?_)
        first | refine z_if_eqB (tgt := 30) (q := 10) C dX0_sets_7 (by decide) rfl (fun c7 => ?_) (fun c7 => ?_) | refine z_if_eq (tgt := 30) (q := 10) C dX0_sets_7 (by decide) rfl (fun c7 => ?_) (fun c7 => ?_)
        · rw [hi] at c7; cases c7
        · refine z_il2 (q := 11) C dX0_sets_10 rfl ?_
          refine z_i2l (q := 12) C dX0_sets_11 rfl ?_
          refine z_lconst (q := 13) (v := 0) C dX0_sets_12 rfl rfl ?_
          refine z_il1 (q := 14) C dX0_sets_13 rfl ?_
          first | refine z_if_neB (tgt := 21) (q := 17) C dX0_sets_14 (by decide) rfl (fun c14 => ?_) (fun c14 => ?_) | refine z_if_ne (tgt := 21) (q := 17) C dX0_sets_14 (by decide) rfl (fun c14 => ?_) (fun c14 => ?_)
          · exact absurd ew c14
          · refine z_lconst (q := 18) (v := 1) C dX0_sets_17 rfl rfl ?_
            refine z_goto (tgt := 24) C dX0_sets_18 (by decide) ?_
            refine xc_X0_214 (q := 27) C (cx_inB (d := 0) σ v (nI 0) (nI 1)) dX0_sets_24 rfl rfl rfl (Nat.le_of_ble_eq_true rfl) (by first | decide | omega) (by omega) (by omega) (kkE ?_)
            first | refine z_if_neB (tgt := 35) (q := 30) C dX0_sets_27 (by decide) rfl (fun c27 => ?_) (fun c27 => ?_) | refine z_if_ne (tgt := 35) (q := 30) C dX0_sets_27 (by decide) rfl (fun c27 => ?_) (fun c27 => ?_)
            · rw [hj] at c27; cases c27
            · first | refine z_al0 (q := 31) C dX0_sets_30 rfl ?_ | refine z_al0q (q := 31) C dX0_sets_30 rfl ?_ | refine z_al0u (q := 31) C dX0_sets_30 rfl ?_
              refine xc_X0_227 (q := 34) C (cx_bad (d := 0) ho r16 k5 l5) (by first | exact ho | exact hk | exact hb | exact he | assumption | exact Or.inl (by assumption) | exact Or.inr (by assumption)) dX0_sets_31 rfl rfl rfl (Nat.le_of_ble_eq_true rfl) (by first | decide | omega) (by omega) (by omega) (kkE ?_)
              refine z_iret C hQ dX0_sets_34 (by omega) (by omega) ?_
              exact ⟨_, rfl, rfl, hb⟩
      · rw [q] at ew
        have ew0 : ¬ w = 0 := by rw [ew]; decide
        rw [if_neg ew0] at hj
        refine z_il1 (q := 1) C dX0_sets_0 rfl ?_
        refine z_i2l (q := 2) C dX0_sets_1 rfl ?_
        refine z_lconst (q := 3) (v := 0) C dX0_sets_2 rfl rfl ?_
        refine z_lconst (q := 4) (v := 1) C dX0_sets_3 rfl rfl ?_
        refine xc_X0_214 (q := 7) C (cx_inB (d := 0) σ w (nI 0) (nI 1)) dX0_sets_4 rfl rfl rfl (Nat.le_of_ble_eq_true rfl) (by first | decide | omega) (by omega) (by omega) (kkE ?_)
        first | refine z_if_eqB (tgt := 30) (q := 10) C dX0_sets_7 (by decide) rfl (fun c7 => ?_) (fun c7 => ?_) | refine z_if_eq (tgt := 30) (q := 10) C dX0_sets_7 (by decide) rfl (fun c7 => ?_) (fun c7 => ?_)
        · rw [hi] at c7; cases c7
        · refine z_il2 (q := 11) C dX0_sets_10 rfl ?_
          refine z_i2l (q := 12) C dX0_sets_11 rfl ?_
          refine z_lconst (q := 13) (v := 0) C dX0_sets_12 rfl rfl ?_
          refine z_il1 (q := 14) C dX0_sets_13 rfl ?_
          first | refine z_if_neB (tgt := 21) (q := 17) C dX0_sets_14 (by decide) rfl (fun c14 => ?_) (fun c14 => ?_) | refine z_if_ne (tgt := 21) (q := 17) C dX0_sets_14 (by decide) rfl (fun c14 => ?_) (fun c14 => ?_)
          · refine z_ldc2 (q := 24) C dX0_sets_21 rfl q528 ?_
            refine xc_X0_214 (q := 27) C (cx_inB (d := 0) σ v (nI 0) (nI 48)) dX0_sets_24 rfl rfl rfl (Nat.le_of_ble_eq_true rfl) (by first | decide | omega) (by omega) (by omega) (kkE ?_)
            first | refine z_if_neB (tgt := 35) (q := 30) C dX0_sets_27 (by decide) rfl (fun c27 => ?_) (fun c27 => ?_) | refine z_if_ne (tgt := 35) (q := 30) C dX0_sets_27 (by decide) rfl (fun c27 => ?_) (fun c27 => ?_)
            · rw [hj] at c27; cases c27
            · first | refine z_al0 (q := 31) C dX0_sets_30 rfl ?_ | refine z_al0q (q := 31) C dX0_sets_30 rfl ?_ | refine z_al0u (q := 31) C dX0_sets_30 rfl ?_
              refine xc_X0_227 (q := 34) C (cx_bad (d := 0) ho r16 k5 l5) (by first | exact ho | exact hk | exact hb | exact he | assumption | exact Or.inl (by assumption) | exact Or.inr (by assumption)) dX0_sets_31 rfl rfl rfl (Nat.le_of_ble_eq_true rfl) (by first | decide | omega) (by omega) (by omega) (kkE ?_)
              refine z_iret C hQ dX0_sets_34 (by omega) (by omega) ?_
              exact ⟨_, rfl, rfl, hb⟩
          · exact absurd c14 ew0
    | true =>
      have ea : a_sets α w v = (nI (k_n (a_c α) (4 + kN w)), a_lv α (setN (a_c α) (4 + kN w) (kN v)) 0) := if_pos (by rw [hi, hj]; rfl)
      have fin : ∀ (vn wn g : Nat) (σ1 : Sg), g = 7 + wn → wn ≤ 1 → XP p σ1 (psQ false (a_ps α) (a_c α)) → FG [12] [] [p 3] σ σ1 → XA false D p (sI g (p 0) (nI vn) σ1) (setN (a_c α) (4 + wn) vn, psQ false (a_ps α) (a_c α), a_rf α, a_ch α + 0, a_tx α, a_cu α) := by
        intro vn wn g σ1 hg hwn hP1 hF1
        have hX1 := hX.keep hF1 (by simp) (by simp; exact hs.2.1.symm)
        have hC1 := hC.keep hM hF1 (by simp) (by simp) (by simp; exact hs.1.symm)
        have n1 : kd σ1 (p 0) ≠ 0 := by have := hX1.1.1; omega
        have hF2 : FG [7, 8] [] [] σ1 (sI g (p 0) (nI vn) σ1) := FR.rf.wI (fun _ => by simp; omega)
        refine XA.core (B' := B) hX hq hU hR hA ((hF1.up (by simp) (by simp) (by simp)).tr (hF2.up (by simp) (by simp) (by simp))) ⟨hC1.1.keep hX1.1.1 hF2 (by simp) (by simp), (hC1.2.1.keep hX1.1 hF2 (by simp) (by simp) (by simp)).numq (by omega) (by omega) (by omega), ?_, ?_⟩ (hP1.keep hX1 hF2 (by simp) (by simp) (by simp) (by simp)) ?_ (Or.inr ⟨rfl, fun x hx => ⟨hx, rfl⟩⟩)
        · rw [fi_sI]
          show _ = nI (if 4 = 4 + wn then vn else k_n (a_c α) 4)
          by_cases e : wn = 0
          · rw [if_pos ⟨by omega, rfl⟩, if_pos (by omega)]
          · rw [if_neg (fun z => by omega), if_neg (by omega)]; exact hC1.2.2.1
        · rw [fi_sI]
          show _ = nI (if 5 = 4 + wn then vn else k_n (a_c α) 5)
          by_cases e : wn = 1
          · rw [if_pos ⟨by omega, rfl⟩, if_pos (by omega)]
          · rw [if_neg (fun z => by omega), if_neg (by omega)]; exact hC1.2.2.2
        · rw [fi_sI, if_neg (fun z => by omega), hF1.gi (by omega) (by simp), h9]
          rfl
      rcases (show kN w = 0 ∨ kN w = 1 by omega) with q | q
      · rw [q] at ew ea
        have ew : w = 0 := ew
        rw [if_pos ew] at hj
        obtain ⟨ev, hv⟩ := in_of (by decide) hj
        rw [ea] at hQ
        generalize kN v = vn at *
        subst ew
        subst ev
        refine z_il1 (q := 1) C dX0_sets_0 rfl ?_
        refine z_i2l (q := 2) C dX0_sets_1 rfl ?_
        refine z_lconst (q := 3) (v := 0) C dX0_sets_2 rfl rfl ?_
        refine z_lconst (q := 4) (v := 1) C dX0_sets_3 rfl rfl ?_
        refine xc_X0_214 (q := 7) C (cx_inB (d := 0) σ 0 (nI 0) (nI 1)) dX0_sets_4 rfl rfl rfl (Nat.le_of_ble_eq_true rfl) (by first | decide | omega) (by omega) (by omega) (kkE ?_)
        refine z_if_eqB (tgt := 30) (q := 10) C dX0_sets_7 (by decide) rfl (fun c7 => by rw [hi] at c7; cases c7) (fun c7 => ?_)
        refine z_il2 (q := 11) C dX0_sets_10 rfl ?_
        refine z_i2l (q := 12) C dX0_sets_11 rfl ?_
        refine z_lconst (q := 13) (v := 0) C dX0_sets_12 rfl rfl ?_
        refine z_il1 (q := 14) C dX0_sets_13 rfl ?_
        refine z_if_ne (tgt := 21) (q := 17) C dX0_sets_14 (by decide) rfl (fun c14 => absurd rfl c14) (fun c14 => ?_)
        refine z_lconst (q := 18) (v := 1) C dX0_sets_17 rfl rfl ?_
        refine z_goto (tgt := 24) C dX0_sets_18 (by decide) ?_
        refine xc_X0_214 (q := 27) C (cx_inB (d := 0) σ _ (nI 0) (nI 1)) dX0_sets_24 rfl rfl rfl (Nat.le_of_ble_eq_true rfl) (by first | decide | omega) (by omega) (by omega) (kkE ?_)
        refine z_if_neB (tgt := 35) (q := 30) C dX0_sets_27 (by decide) rfl (fun c27 => ?_) (fun c27 => by rw [hj] at c27; cases c27)
        first | refine z_al0 (q := 36) C dX0_sets_35 rfl ?_ | refine z_al0q (q := 36) C dX0_sets_35 rfl ?_ | refine z_al0u (q := 36) C dX0_sets_35 rfl ?_
        refine xc_X0_237 (q := 39) C (cx_lv hX hC hI hP hq) (by first | exact ho | exact hk | exact hb | exact he | assumption | exact Or.inl (by assumption) | exact Or.inr (by assumption)) dX0_sets_36 rfl rfl rfl (Nat.le_of_ble_eq_true rfl) (by first | decide | omega) (by omega) (by omega) (kkV fun σ36 h36 => ?_)
        obtain ⟨hP1, hF1⟩ := h36
        have ho1 : kd σ36 (p 0) = 1 := hF1.ek ho
        have hC1 := hC.keep hM hF1 (by simp) (by simp) (by simp; exact hs.1.symm)
        have e7 := hC1.2.2.1
        have hfin := fin vn 0 7 σ36 rfl (by decide) hP1 hF1
        have e8 : fi (sI 7 (p 0) (nI vn) σ36) 8 (p 0) = fi σ36 8 (p 0) := by rw [fi_sI, if_neg (fun z => by cases z.1)]
        have hsame : sI 8 (p 0) (fi σ36 8 (p 0)) (sI 7 (p 0) (nI vn) σ36) = sI 7 (p 0) (nI vn) σ36 := by
          unfold sI
          simp only [Prod.mk.injEq, true_and, and_true]
          funext g x
          show up2 (up2 (fi σ36) 7 (p 0) (nI vn)) 8 (p 0) (fi σ36 8 (p 0)) g x = up2 (fi σ36) 7 (p 0) (nI vn) g x
          by_cases eg : g = 8
          · subst eg
            by_cases ex : x = p 0
            · rw [ex, up2_s, up2_g (by decide)]
            · rw [up2_a ex]
          · rw [up2_g eg]
        refine z_il1 (q := 40) C dX0_sets_39 rfl ?_
        first | refine z_if_neB (tgt := 50) (q := 43) C dX0_sets_40 (by decide) rfl (fun c40 => ?_) (fun c40 => ?_) | refine z_if_ne (tgt := 50) (q := 43) C dX0_sets_40 (by decide) rfl (fun c40 => ?_) (fun c40 => ?_)
        · exact absurd rfl c40
        · first | refine z_al0 (q := 44) C dX0_sets_43 rfl ?_ | refine z_al0q (q := 44) C dX0_sets_43 rfl ?_ | refine z_al0u (q := 44) C dX0_sets_43 rfl ?_
          refine xg_X0_144 (q := 47) C (by exact ho1) dX0_sets_44 rfl ?_
          rw [e7]
          refine z_goto (tgt := 54) C dX0_sets_47 (by decide) ?_
          refine z_is3 (q := 55) C dX0_sets_54 rfl (by first | exact loC_i | exact loC_r | exact loC_n | exact loC_q | exact loC_u) ?_
          first | refine z_al0 (q := 56) C dX0_sets_55 rfl ?_ | refine z_al0q (q := 56) C dX0_sets_55 rfl ?_ | refine z_al0u (q := 56) C dX0_sets_55 rfl ?_
          refine z_il1 (q := 57) C dX0_sets_56 rfl ?_
          first | refine z_if_neB (tgt := 64) (q := 60) C dX0_sets_57 (by decide) rfl (fun c57 => ?_) (fun c57 => ?_) | refine z_if_ne (tgt := 64) (q := 60) C dX0_sets_57 (by decide) rfl (fun c57 => ?_) (fun c57 => ?_)
          · exact absurd rfl c57
          · refine z_il2 (q := 61) C dX0_sets_60 rfl ?_
            refine z_goto (tgt := 68) C dX0_sets_61 (by decide) ?_
            refine xp_X0_144 (q := 71) C (by exact ho1) dX0_sets_68 rfl ?_
            first | refine z_al0 (q := 72) C dX0_sets_71 rfl ?_ | refine z_al0q (q := 72) C dX0_sets_71 rfl ?_ | refine z_al0u (q := 72) C dX0_sets_71 rfl ?_
            refine z_il1 (q := 73) C dX0_sets_72 rfl ?_
            refine z_iconst (q := 74) (v := nI 1) C dX0_sets_73 rfl (by decide) ?_
            refine z_icmp_ne (tgt := 81) (q := 77) C dX0_sets_74 (by decide) rfl (fun c74 => ?_) (fun c74 => ?_)
            · first | refine z_al0 (q := 82) C dX0_sets_81 rfl ?_ | refine z_al0q (q := 82) C dX0_sets_81 rfl ?_ | refine z_al0u (q := 82) C dX0_sets_81 rfl ?_
              refine xg_X0_166 (q := 85) C (by exact ho1) dX0_sets_82 rfl ?_
              rw [e8]
              refine xp_X0_166 (q := 88) C (by exact ho1) dX0_sets_85 rfl ?_
              refine z_il3 (q := 89) C dX0_sets_88 rfl ?_
              refine z_iret C hQ dX0_sets_89 (by omega) (by omega) ?_
              exact ⟨_, rfl, rfl, by rw [hsame]; exact hfin⟩
            · exact absurd c74 (by decide)
      · rw [q] at ew ea
        have ew0 : ¬ w = 0 := by rw [ew]; decide
        rw [if_neg ew0] at hj
        obtain ⟨ev, hv⟩ := in_of (by decide) hj
        rw [ea] at hQ
        generalize kN v = vn at *
        subst ew
        subst ev
        refine z_il1 (q := 1) C dX0_sets_0 rfl ?_
        refine z_i2l (q := 2) C dX0_sets_1 rfl ?_
        refine z_lconst (q := 3) (v := 0) C dX0_sets_2 rfl rfl ?_
        refine z_lconst (q := 4) (v := 1) C dX0_sets_3 rfl rfl ?_
        refine xc_X0_214 (q := 7) C (cx_inB (d := 0) σ _ (nI 0) (nI 1)) dX0_sets_4 rfl rfl rfl (Nat.le_of_ble_eq_true rfl) (by first | decide | omega) (by omega) (by omega) (kkE ?_)
        refine z_if_eqB (tgt := 30) (q := 10) C dX0_sets_7 (by decide) rfl (fun c7 => by rw [hi] at c7; cases c7) (fun c7 => ?_)
        refine z_il2 (q := 11) C dX0_sets_10 rfl ?_
        refine z_i2l (q := 12) C dX0_sets_11 rfl ?_
        refine z_lconst (q := 13) (v := 0) C dX0_sets_12 rfl rfl ?_
        refine z_il1 (q := 14) C dX0_sets_13 rfl ?_
        refine z_if_ne (tgt := 21) (q := 17) C dX0_sets_14 (by decide) rfl (fun c14 => ?_) (fun c14 => absurd c14 ew0)
        refine z_ldc2 (q := 24) C dX0_sets_21 rfl q528 ?_
        refine xc_X0_214 (q := 27) C (cx_inB (d := 0) σ _ (nI 0) (nI 48)) dX0_sets_24 rfl rfl rfl (Nat.le_of_ble_eq_true rfl) (by first | decide | omega) (by omega) (by omega) (kkE ?_)
        refine z_if_neB (tgt := 35) (q := 30) C dX0_sets_27 (by decide) rfl (fun c27 => ?_) (fun c27 => by rw [hj] at c27; cases c27)
        first | refine z_al0 (q := 36) C dX0_sets_35 rfl ?_ | refine z_al0q (q := 36) C dX0_sets_35 rfl ?_ | refine z_al0u (q := 36) C dX0_sets_35 rfl ?_
        refine xc_X0_237 (q := 39) C (cx_lv hX hC hI hP hq) (by first | exact ho | exact hk | exact hb | exact he | assumption | exact Or.inl (by assumption) | exact Or.inr (by assumption)) dX0_sets_36 rfl rfl rfl (Nat.le_of_ble_eq_true rfl) (by first | decide | omega) (by omega) (by omega) (kkV fun σ36 h36 => ?_)
        obtain ⟨hP1, hF1⟩ := h36
        have ho1 : kd σ36 (p 0) = 1 := hF1.ek ho
        have hC1 := hC.keep hM hF1 (by simp) (by simp) (by simp; exact hs.1.symm)
        have e8 := hC1.2.2.2
        have hfin := fin vn 1 8 σ36 rfl (by decide) hP1 hF1
        have hsame : sI 7 (p 0) (fi σ36 7 (p 0)) σ36 = σ36 := by
          unfold sI
          have : up2 (fi σ36) 7 (p 0) (fi σ36 7 (p 0)) = fi σ36 := by
            funext g x
            by_cases eg : g = 7
            · subst eg
              by_cases ex : x = p 0
              · rw [ex, up2_s]
              · rw [up2_a ex]
            · rw [up2_g eg]
          rw [this]
        refine z_il1 (q := 40) C dX0_sets_39 rfl ?_
        first | refine z_if_neB (tgt := 50) (q := 43) C dX0_sets_40 (by decide) rfl (fun c40 => ?_) (fun c40 => ?_) | refine z_if_ne (tgt := 50) (q := 43) C dX0_sets_40 (by decide) rfl (fun c40 => ?_) (fun c40 => ?_)
        · first | refine z_al0 (q := 51) C dX0_sets_50 rfl ?_ | refine z_al0q (q := 51) C dX0_sets_50 rfl ?_ | refine z_al0u (q := 51) C dX0_sets_50 rfl ?_
          refine xg_X0_166 (q := 54) C (by exact ho1) dX0_sets_51 rfl ?_
          rw [e8]
          refine z_is3 (q := 55) C dX0_sets_54 rfl (by first | exact loC_i | exact loC_r | exact loC_n | exact loC_q | exact loC_u) ?_
          first | refine z_al0 (q := 56) C dX0_sets_55 rfl ?_ | refine z_al0q (q := 56) C dX0_sets_55 rfl ?_ | refine z_al0u (q := 56) C dX0_sets_55 rfl ?_
          refine z_il1 (q := 57) C dX0_sets_56 rfl ?_
          first | refine z_if_neB (tgt := 64) (q := 60) C dX0_sets_57 (by decide) rfl (fun c57 => ?_) (fun c57 => ?_) | refine z_if_ne (tgt := 64) (q := 60) C dX0_sets_57 (by decide) rfl (fun c57 => ?_) (fun c57 => ?_)
          · first | refine z_al0 (q := 65) C dX0_sets_64 rfl ?_ | refine z_al0q (q := 65) C dX0_sets_64 rfl ?_ | refine z_al0u (q := 65) C dX0_sets_64 rfl ?_
            refine xg_X0_144 (q := 68) C (by exact ho1) dX0_sets_65 rfl ?_
            refine xp_X0_144 (q := 71) C (by exact ho1) dX0_sets_68 rfl ?_
            first | refine z_al0 (q := 72) C dX0_sets_71 rfl ?_ | refine z_al0q (q := 72) C dX0_sets_71 rfl ?_ | refine z_al0u (q := 72) C dX0_sets_71 rfl ?_
            refine z_il1 (q := 73) C dX0_sets_72 rfl ?_
            refine z_iconst (q := 74) (v := nI 1) C dX0_sets_73 rfl (by decide) ?_
            refine z_icmp_ne (tgt := 81) (q := 77) C dX0_sets_74 (by decide) rfl (fun c74 => ?_) (fun c74 => ?_)
            · exact absurd rfl c74
            · refine z_il2 (q := 78) C dX0_sets_77 rfl ?_
              refine z_goto (tgt := 85) C dX0_sets_78 (by decide) ?_
              refine xp_X0_166 (q := 88) C (by exact ho1) dX0_sets_85 rfl ?_
              refine z_il3 (q := 89) C dX0_sets_88 rfl ?_
              refine z_iret C hQ dX0_sets_89 (by omega) (by omega) ?_
              exact ⟨_, rfl, rfl, by rw [hsame]; exact hfin⟩
          · exact absurd c57 ew0
        · exact absurd c40 ew0
set_option maxHeartbeats 1000000 in
theorem cx_order (h : XA false D p σ α) (hA : AI N α) (i : Int32) : Ct (wX D) yX0_order cX0_order 4 (some .int) [.ref (p 0), .int i] σ (PI (fun r σ' => r = (a_order α i).1 ∧ XA false D p σ' (a_order α i).2)) 64 300 1500 := by
  obtain ⟨ad, B, hX, hq, hC, hU, hP, h9, hR⟩ := h.num
  have ho := hX.1.1
  obtain ⟨r16, k5, l5⟩ := hX.2.2.2.2.1
  have hI := hA.1
  refine Ct.of KXok (by decide) (Nat.le_of_ble_eq_true rfl) rfl fun Y C hQ hNm => ?_
  have hb := h.rfs hA (i := 0) (by decide)
  by_cases hi : i < 0
  · have e1 : a_order α i = (-2, a_rfs α 0) := if_pos hi
    rw [e1] at hQ
    refine z_il1 (q := 1) C dX0_order_0 rfl ?_
    refine z_if_ge (tgt := 9) (q := 4) C dX0_order_1 (by decide) rfl (fun c1 => ?_) (fun c1 => ?_)
    · exact absurd hi (Int32.not_lt.mpr c1)
    · first | refine z_al0 (q := 5) C dX0_order_4 rfl ?_ | refine z_al0q (q := 5) C dX0_order_4 rfl ?_ | refine z_al0u (q := 5) C dX0_order_4 rfl ?_
      refine xc_X0_227 (q := 8) C (cx_bad (d := 0) ho r16 k5 l5) (by first | exact ho | exact hk | exact hb | exact he | assumption | exact Or.inl (by assumption) | exact Or.inr (by assumption)) dX0_order_5 rfl rfl rfl (Nat.le_of_ble_eq_true rfl) (by first | decide | omega) (by omega) (by omega) (kkE ?_)
      refine z_iret C hQ dX0_order_8 (by omega) (by omega) ?_
      exact ⟨_, rfl, rfl, hb⟩
  · have e1 : a_order α i = (oI ((k_ks (a_c α))[kN i]?), α) := if_neg hi
    rw [e1] at hQ
    obtain ⟨n, hn31, rfl⟩ := nI_of hi
    rw [show kN (nI n) = n from nI_clamp hn31] at hQ
    have fin : ∀ (x3 : Option Value) (r : Option Nat), (r = ((k_ks (a_c α))[n]?).map ad) → Zj (wX D) Y σ 0 0 36 [some (.ref (p 0)), some (.int (nI n)), some (va_rf r), x3] [] := by
      intro x3 r hr
      cases e : (k_ks (a_c α))[n]? with
      | none =>
        rw [e] at hr hQ
        subst hr
        show Zj _ _ _ _ _ _ [some (.ref (p 0)), some (.int (nI n)), some .null, x3] []
        first | refine z_al2 (q := 37) C dX0_order_36 rfl ?_ | refine z_al2q (q := 37) C dX0_order_36 rfl ?_ | refine z_al2u (q := 37) C dX0_order_36 rfl ?_
        refine z_ifnonnull_u (q := 40) C dX0_order_37 rfl ?_
        refine z_iconst (q := 41) (v := -1) C dX0_order_40 rfl (by decide) ?_
        refine z_goto (tgt := 48) C dX0_order_41 (by decide) ?_
        refine z_iret C hQ dX0_order_48 (by omega) (by omega) ?_
        exact ⟨_, rfl, rfl, h⟩
      | some k =>
        rw [e] at hr hQ
        subst hr
        obtain ⟨x, hx, hxk⟩ := List.mem_map.mp (List.mem_of_getElem? e)
        have hEC := hC.1.2.2 x hx
        unfold EC at hEC
        rw [hxk] at hEC
        have hkd := hEC.1
        have e20 := hEC.2.1
        show Zj _ _ _ _ _ _ [some (.ref (p 0)), some (.int (nI n)), some (.ref (ad k)), x3] []
        first | refine z_al2 (q := 37) C dX0_order_36 rfl ?_ | refine z_al2q (q := 37) C dX0_order_36 rfl ?_ | refine z_al2u (q := 37) C dX0_order_36 rfl ?_
        refine z_ifnonnull_r (tgt := 44) C dX0_order_37 (by decide) ?_
        first | refine z_al2 (q := 45) C dX0_order_44 rfl ?_ | refine z_al2q (q := 45) C dX0_order_44 rfl ?_ | refine z_al2u (q := 45) C dX0_order_44 rfl ?_
        refine xg_X0_120 (q := 48) C (by exact hkd) dX0_order_45 rfl ?_
        rw [e20]
        refine z_iret C hQ dX0_order_48 (by omega) (by omega) ?_
        exact ⟨_, rfl, rfl, h⟩
    have loop : ∀ (R : List Nat) (j : Nat) (r : Option Nat), (k_ks (a_c α)).drop j = R → j ≤ n → CH ad (fr σ 25) R r → Zj (wX D) Y σ 0 0 16 [some (.ref (p 0)), some (.int (nI n)), some (va_rf r), some (.int (nI j))] [] := by
      intro R
      induction R with
      | nil =>
        intro j r hd hj hc
        have hc : r = none := hc
        subst hc
        have hjl : (k_ks (a_c α)).length ≤ j := by simpa using hd
        have hg := fin (some (.int (nI j))) none (by rw [List.getElem?_eq_none (by omega)]; rfl)
        refine z_il3 (q := 17) C dX0_order_16 rfl ?_
        refine z_il1 (q := 18) C dX0_order_17 rfl ?_
        refine z_icmp_geN (tgt := 36) (q := 21) C dX0_order_18 (by decide) rfl (by omega) (by omega) (fun c18 => ?_) (fun c18 => ?_)
        · exact hg
        · show Zj _ _ _ _ _ _ [some (.ref (p 0)), some (.int (nI n)), some .null, some (.int (nI j))] []
          first | refine z_al2 (q := 22) C dX0_order_21 rfl ?_ | refine z_al2q (q := 22) C dX0_order_21 rfl ?_ | refine z_al2u (q := 22) C dX0_order_21 rfl ?_
          refine z_ifnull_u (tgt := 36) C dX0_order_22 (by decide) ?_
          exact hg
      | cons k R ih =>
        intro j r hd hj hc
        obtain ⟨rfl, hc⟩ := hc
        obtain ⟨hn1, hn2, hn3⟩ := drop_hd hd
        refine z_il3 (q := 17) C dX0_order_16 rfl ?_
        refine z_il1 (q := 18) C dX0_order_17 rfl ?_
        refine z_icmp_geN (tgt := 36) (q := 21) C dX0_order_18 (by decide) rfl (by omega) (by omega) (fun c18 => ?_) (fun c18 => ?_)
        · exact fin _ _ (by rw [show n = j by omega, hn1]; rfl)
        · obtain ⟨x, hx, hxk⟩ := List.mem_map.mp (List.mem_of_getElem? hn1)
          have hkd : kd σ (ad k) = 2 := by have := (hC.1.2.2 x hx).1; rw [hxk] at this; exact this
          have hg := ih (j + 1) (fr σ 25 (ad k)) hn3 (by omega) hc
          show Zj _ _ _ _ _ _ [some (.ref (p 0)), some (.int (nI n)), some (.ref (ad k)), some (.int (nI j))] []
          first | refine z_al2 (q := 22) C dX0_order_21 rfl ?_ | refine z_al2q (q := 22) C dX0_order_21 rfl ?_ | refine z_al2u (q := 22) C dX0_order_21 rfl ?_
          refine z_ifnull_r (q := 25) C dX0_order_22 rfl ?_
          first | refine z_al2 (q := 26) C dX0_order_25 rfl ?_ | refine z_al2q (q := 26) C dX0_order_25 rfl ?_ | refine z_al2u (q := 26) C dX0_order_25 rfl ?_
          refine xg_X0_137 (q := 29) C (by exact hkd) dX0_order_26 rfl ?_
          first | refine z_as2 (q := 30) C dX0_order_29 rfl (by first | exact loC_i | exact loC_r | exact loC_n | exact loC_q | exact loC_u) ?_ | refine z_as2q (q := 30) C dX0_order_29 rfl (by first | exact loC_i | exact loC_r | exact loC_n | exact loC_q | exact loC_u) ?_ | refine z_asu2 (q := 30) C dX0_order_29 rfl (by first | exact loC_i | exact loC_r | exact loC_n | exact loC_q | exact loC_u) ?_
          first | refine z_iinc3N (q := 33) C dX0_order_30 rfl (by first | exact loC_i | exact loC_r | exact loC_n | exact loC_q | exact loC_u) ?_ | refine z_iinc3 (q := 33) C dX0_order_30 rfl rfl (by first | exact loC_i | exact loC_r | exact loC_n | exact loC_q | exact loC_u) ?_
          refine z_goto (tgt := 16) C dX0_order_33 (by decide) ?_
          exact hg
    refine z_il1 (q := 1) C dX0_order_0 rfl ?_
    refine z_if_ge (tgt := 9) (q := 4) C dX0_order_1 (by decide) rfl (fun c1 => ?_) (fun c1 => absurd (Int32.not_le.mp c1) hi)
    first | refine z_al0 (q := 10) C dX0_order_9 rfl ?_ | refine z_al0q (q := 10) C dX0_order_9 rfl ?_ | refine z_al0u (q := 10) C dX0_order_9 rfl ?_
    refine xg_X0_140 (q := 13) C (by first | exact ho | exact hk | exact hb | exact he | assumption) dX0_order_10 rfl ?_
    first | refine z_as2 (q := 14) C dX0_order_13 rfl (by first | exact loC_i | exact loC_r | exact loC_n | exact loC_q | exact loC_u) ?_ | refine z_as2q (q := 14) C dX0_order_13 rfl (by first | exact loC_i | exact loC_r | exact loC_n | exact loC_q | exact loC_u) ?_ | refine z_asu2 (q := 14) C dX0_order_13 rfl (by first | exact loC_i | exact loC_r | exact loC_n | exact loC_q | exact loC_u) ?_
    refine z_iconst (q := 15) (v := nI 0) C dX0_order_14 rfl (by decide) ?_
    refine z_is3 (q := 16) C dX0_order_15 rfl (by first | exact loC_i | exact loC_r | exact loC_n | exact loC_q | exact loC_u) ?_
    exact loop (k_ks (a_c α)) 0 _ rfl (by omega) hC.1.1.ch
theorem cx_clear (h : XA false D p σ α) (hA : AI N α) : Ct (wX D) yX0_clear cX0_clear 2 (some .int) [.ref (p 0)] σ (PI (fun r σ' => r = (a_clear α).1 ∧ XA false D p σ' (a_clear α).2)) 64 300 1500 := by
  obtain ⟨ad, B, hX, hq, hC, hU, hP, h9, hR⟩ := h.num
  have ho := hX.1.1
  have e15 := hR.2.1
  have hF : FG [15] [] [] σ (sI 15 (p 0) (nI 0) σ) := FR.rf.wI (fun _ => by simp)
  refine Ct.of KXok (by decide) (Nat.le_of_ble_eq_true rfl) rfl fun Y C hQ hNm => ?_
  first | refine z_al0 (q := 1) C dX0_clear_0 rfl ?_ | refine z_al0q (q := 1) C dX0_clear_0 rfl ?_ | refine z_al0u (q := 1) C dX0_clear_0 rfl ?_
  refine xg_X0_342 (q := 4) C (by first | exact ho | exact hk | exact hb | exact he | assumption) dX0_clear_1 rfl ?_
  rw [e15]
  refine z_is1 (q := 5) C dX0_clear_4 rfl (by first | exact loC_i | exact loC_r | exact loC_n | exact loC_q | exact loC_u) ?_
  first | refine z_al0 (q := 6) C dX0_clear_5 rfl ?_ | refine z_al0q (q := 6) C dX0_clear_5 rfl ?_ | refine z_al0u (q := 6) C dX0_clear_5 rfl ?_
  refine z_iconst (q := 7) (v := nI 0) C dX0_clear_6 rfl (by decide) ?_
  refine xp_X0_342 (q := 10) C (by first | exact ho | exact hk | exact hb | exact he | assumption) dX0_clear_7 rfl ?_
  refine z_il1 (q := 11) C dX0_clear_10 rfl ?_
  refine z_iret C hQ dX0_clear_11 (by omega) (by omega) ?_
  refine ⟨_, rfl, rfl, hX.keep hF (by simp) (by simp), hq, ⟨ad, B, hC.keep hX.1 hF (by simp) (by simp) (by simp), hU.go hX hF (by simp) (by simp) (fun i hi => (hA.2.2.2.2.2.2.2 i hi).2.2.2) (Or.inr ⟨rfl, fun x hx => ⟨hx, rfl⟩⟩)⟩, hP.keep hX hF (by simp) (by simp) (by simp) (by simp), h9, hR.1, by rw [fi_sI, if_pos ⟨rfl, rfl⟩]; rfl, (fun j x hj => by cases hj), hR.2.2.2⟩
theorem i8_nI {c : Nat} (hc : c ≤ 127) : (nI c).toInt8.toInt32 = nI c := by
  apply Int32.toInt_inj.1
  rw [Int8.toInt_toInt32, Int32.toInt_toInt8, nI_toInt (by omega), Int.bmod_eq_of_le (by omega) (by omega)]
set_option maxHeartbeats 1000000 in
theorem cx_type (h : XA false D p σ α) (hA : AI N α) (c : Int32) : Ct (wX D) yX0_type cX0_type 2 (some .int) [.ref (p 0), .int c] σ (PI (fun r σ' => r = (a_type α c).1 ∧ XA false D p σ' (a_type α c).2)) 64 300 1500 := by
  obtain ⟨ad, B, hX, hq, hC, hU, hP, h9, hR⟩ := h.num
  have ho := hX.1.1
  have hs := hX.sep
  obtain ⟨r16, k5, l5⟩ := hX.2.2.2.2.1
  obtain ⟨r14, k4, l4⟩ := hX.2.2.2.1
  have e15 := hR.2.1
  have h120 := hA.2.2.2.2.2.1
  refine Ct.of KXok (by decide) (Nat.le_of_ble_eq_true rfl) rfl fun Y C hQ hNm => ?_
  cases hi : inB c (nI 0) (nI 127) with
  | false =>
    have e1 : a_type α c = (-2, a_rfs α 0) := if_neg (by rw [hi]; decide)
    rw [e1] at hQ
    have hb := h.rfs hA (i := 0) (by decide)
    refine z_il1 (q := 1) C dX0_type_0 rfl ?_
    refine z_i2l (q := 2) C dX0_type_1 rfl ?_
    refine z_lconst (q := 3) (v := 0) C dX0_type_2 rfl rfl ?_
    refine z_ldc2 (q := 6) C dX0_type_3 rfl q688 ?_
    refine xc_X0_214 (q := 9) C (cx_inB (d := 0) σ c (nI 0) (nI 127)) dX0_type_6 rfl rfl rfl (Nat.le_of_ble_eq_true rfl) (by first | decide | omega) (by omega) (by omega) (kkE ?_)
    first | refine z_if_neB (tgt := 17) (q := 12) C dX0_type_9 (by decide) rfl (fun c9 => ?_) (fun c9 => ?_) | refine z_if_ne (tgt := 17) (q := 12) C dX0_type_9 (by decide) rfl (fun c9 => ?_) (fun c9 => ?_)
    · rw [hi] at c9; cases c9
    · first | refine z_al0 (q := 13) C dX0_type_12 rfl ?_ | refine z_al0q (q := 13) C dX0_type_12 rfl ?_ | refine z_al0u (q := 13) C dX0_type_12 rfl ?_
      refine xc_X0_227 (q := 16) C (cx_bad (d := 0) ho r16 k5 l5) (by first | exact ho | exact hk | exact hb | exact he | assumption | exact Or.inl (by assumption) | exact Or.inr (by assumption)) dX0_type_13 rfl rfl rfl (Nat.le_of_ble_eq_true rfl) (by first | decide | omega) (by omega) (by omega) (kkE ?_)
      refine z_iret C hQ dX0_type_16 (by omega) (by omega) ?_
      exact ⟨_, rfl, rfl, hb⟩
  | true =>
    obtain ⟨ec, hc⟩ := in_of (by decide) hi
    have e0 : a_type α c = if (a_tx α).length = 120 then (-4, a_rfs α 2) else (nI ((a_tx α).length + 1), a_txt α (a_tx α ++ [kN c])) := if_pos hi
    rw [e0] at hQ
    generalize kN c = cn at *
    subst ec
    refine z_il1 (q := 1) C dX0_type_0 rfl ?_
    refine z_i2l (q := 2) C dX0_type_1 rfl ?_
    refine z_lconst (q := 3) (v := 0) C dX0_type_2 rfl rfl ?_
    refine z_ldc2 (q := 6) C dX0_type_3 rfl q688 ?_
    refine xc_X0_214 (q := 9) C (cx_inB (d := 0) σ (nI cn) (nI 0) (nI 127)) dX0_type_6 rfl rfl rfl (Nat.le_of_ble_eq_true rfl) (by first | decide | omega) (by omega) (by omega) (kkE ?_)
    refine z_if_neB (tgt := 17) (q := 12) C dX0_type_9 (by decide) rfl (fun c9 => ?_) (fun c9 => by rw [hi] at c9; cases c9)
    first | refine z_al0 (q := 18) C dX0_type_17 rfl ?_ | refine z_al0q (q := 18) C dX0_type_17 rfl ?_ | refine z_al0u (q := 18) C dX0_type_17 rfl ?_
    refine xg_X0_342 (q := 21) C (by first | exact ho | exact hk | exact hb | exact he | assumption) dX0_type_18 rfl ?_
    rw [e15]
    refine z_bipush (q := 23) (v := nI 120) C dX0_type_21 rfl (by decide) ?_
    refine z_icmp_neN (tgt := 34) (q := 26) C dX0_type_23 (by decide) rfl (by omega) (by omega) (fun c23 => ?_) (fun c23 => ?_)
    · rw [if_neg c23] at hQ
      have hnar : narrow .byte (.int (nI cn)) = .int (nI cn) := congrArg Value.int (i8_nI hc)
      have hF : FG [15] [] [p 4] σ (sI 15 (p 0) (nI ((a_tx α).length + 1)) (sA (p 4) (a_tx α).length (nI cn) σ)) := (FR.rf.wA (fun _ => by simp)).wI (fun _ => by simp)
      have e152 : fi (sA (p 4) (a_tx α).length (nI cn) σ) 15 (p 0) = nI (a_tx α).length := e15
      have e153 : fi (sI 15 (p 0) (nI ((a_tx α).length + 1)) (sA (p 4) (a_tx α).length (nI cn) σ)) 15 (p 0) = nI ((a_tx α).length + 1) := by rw [fi_sI, if_pos ⟨rfl, rfl⟩]
      first | refine z_al0 (q := 35) C dX0_type_34 rfl ?_ | refine z_al0q (q := 35) C dX0_type_34 rfl ?_ | refine z_al0u (q := 35) C dX0_type_34 rfl ?_
      first | refine xr_X0_35 (q := 38) C (by first | exact ho | exact hk | exact hb | exact he | assumption) (by assumption) dX0_type_35 rfl ?_ | refine xn_X0_35 (q := 38) C (by first | exact ho | exact hk | exact hb | exact he | assumption) (by assumption) dX0_type_35 rfl ?_ | refine xg_X0_35 (q := 38) C (by first | exact ho | exact hk | exact hb | exact he | assumption) dX0_type_35 rfl ?_
      first | refine z_al0 (q := 39) C dX0_type_38 rfl ?_ | refine z_al0q (q := 39) C dX0_type_38 rfl ?_ | refine z_al0u (q := 39) C dX0_type_38 rfl ?_
      refine xg_X0_342 (q := 42) C (by first | exact ho | exact hk | exact hb | exact he | assumption) dX0_type_39 rfl ?_
      rw [e15]
      refine z_il1 (q := 43) C dX0_type_42 rfl ?_
      refine z_i2b (q := 44) C dX0_type_43 rfl ?_
      rw [i8_nI hc]
      first | refine x_bast (q := 45) C (by exact k4) (by rw [l4]; omega) (by omega) (by first | rfl | assumption) dX0_type_44 rfl ?_ | refine x_zast (q := 45) C (by exact k4) (by rw [l4]; omega) (by omega) (by first | rfl | exact bI_nar _) dX0_type_44 rfl ?_
      first | refine z_al0 (q := 46) C dX0_type_45 rfl ?_ | refine z_al0q (q := 46) C dX0_type_45 rfl ?_ | refine z_al0u (q := 46) C dX0_type_45 rfl ?_
      refine z_dup (q := 47) C dX0_type_46 rfl rfl ?_
      refine xg_X0_342 (q := 50) C (by first | exact ho | exact hk | exact hb | exact he | assumption) dX0_type_47 rfl ?_
      rw [e152]
      refine z_iconst (q := 51) (v := nI 1) C dX0_type_50 rfl (by decide) ?_
      first | refine z_iaddN (q := 52) C dX0_type_51 rfl ?_ | refine z_iadd (q := 52) C dX0_type_51 rfl ?_
      refine xp_X0_342 (q := 55) C (by first | exact ho | exact hk | exact hb | exact he | assumption) dX0_type_52 rfl ?_
      first | refine z_al0 (q := 56) C dX0_type_55 rfl ?_ | refine z_al0q (q := 56) C dX0_type_55 rfl ?_ | refine z_al0u (q := 56) C dX0_type_55 rfl ?_
      refine xg_X0_342 (q := 59) C (by first | exact ho | exact hk | exact hb | exact he | assumption) dX0_type_56 rfl ?_
      rw [e153]
      refine z_iret C hQ dX0_type_59 (by omega) (by omega) ?_
      refine ⟨_, rfl, rfl, hX.keep hF (by simp) (by simp; exact hs.2.2.2.2.2.2.2.2.2.1), hq, ⟨ad, B, hC.keep hX.1 hF (by simp) (by simp) (by simp; exact hs.2.2.2.2.2.2.1), hU.go hX hF (by simp) (by simp) (fun i hi => (hA.2.2.2.2.2.2.2 i hi).2.2.2) (Or.inr ⟨rfl, fun x hx => ⟨hx, rfl⟩⟩)⟩, hP.keep hX hF (by simp) (by simp) (by simp; exact hs.2.2.1) (by simp), h9, fun i hi => ?_, ?_, (fun j x hj => ?_), hR.2.2.2.1, (fun i hi => by show ai (sA (p 4) (a_tx α).length (nI cn) σ) (p 6) i = _; rw [ai_sA, if_neg (fun z => hs.2.2.2.2.2.2.2.2.2.2.2.2.2 z.1.symm)]; exact hR.2.2.2.2 i hi)⟩
      · show ai (sA (p 4) (a_tx α).length (nI cn) σ) (p 5) i = _
        rw [ai_sA, if_neg (fun z => hs.2.2.2.2.2.2.2.2.2.2.2.2.1 z.1.symm)]
        exact hR.1 i hi
      · rw [e153]
        show _ = nI (a_tx α ++ [cn]).length
        rw [List.length_append]; rfl
      · show ai (sA (p 4) (a_tx α).length (nI cn) σ) (p 4) j = _
        have hj : (a_tx α ++ [cn])[j]? = some x := hj
        rw [ai_sA]
        by_cases e : j < (a_tx α).length
        · rw [List.getElem?_append_left e] at hj
          rw [if_neg (fun z => by omega)]
          exact hR.2.2.1 j x hj
        · have hjl := (List.getElem?_eq_some_iff.mp hj).1
          rw [List.length_append] at hjl
          simp at hjl
          have : j = (a_tx α).length := by omega
          subst this
          rw [List.getElem?_append_right (by omega), Nat.sub_self] at hj
          simp at hj
          rw [if_pos ⟨rfl, rfl⟩, hj]
    · rw [if_pos c23] at hQ
      have hb := h.rfs hA (i := 2) (by decide)
      first | refine z_al0 (q := 27) C dX0_type_26 rfl ?_ | refine z_al0q (q := 27) C dX0_type_26 rfl ?_ | refine z_al0u (q := 27) C dX0_type_26 rfl ?_
      refine z_iconst (q := 28) (v := nI 2) C dX0_type_27 rfl (by decide) ?_
      refine z_bipush (q := 30) (v := -4) C dX0_type_28 rfl (by decide) ?_
      refine xc_X0_58 (q := 33) C (cx_refuses (d := 0) ho r16 k5 l5 (by decide)) (by first | exact ho | exact hk | exact hb | exact he | assumption | exact Or.inl (by assumption) | exact Or.inr (by assumption)) dX0_type_30 rfl rfl rfl (Nat.le_of_ble_eq_true rfl) (by first | decide | omega) (by omega) (by omega) (kkE ?_)
      refine z_iret C hQ dX0_type_33 (by omega) (by omega) ?_
      exact ⟨_, rfl, rfl, hb⟩
theorem cx_isOpen (h : XA false D p σ α) {i : Nat} (hi : i < 3) : Ct (wX D) yX0_isOpen cX0_isOpen 2 (some .boolean) [.ref (p 0), .int (nI i)] σ (PE (some (.int (bI (a_cu α i).1.isSome))) σ) d 0 0 := by
  obtain ⟨ad, B, hX, hq, hC, hU, hP, h9, hR⟩ := h.num
  have ho := hX.1.1
  obtain ⟨r10, k2, l2⟩ := hX.2.1
  obtain ⟨har, hkc⟩ := hX.2.2.2.2.2.2.2.1 i hi
  obtain ⟨u0, u1⟩ := hU i hi
  refine Ct.of KXok (by decide) (Nat.le_of_ble_eq_true rfl) rfl fun Y C hQ hNm => ?_
  cases e : (a_cu α i).1 with
  | none =>
    rw [e] at hQ
    have h80 := u0 e
    first | refine z_al0 (q := 1) C dX0_isOpen_0 rfl ?_ | refine z_al0q (q := 1) C dX0_isOpen_0 rfl ?_ | refine z_al0u (q := 1) C dX0_isOpen_0 rfl ?_
    first | refine xr_X0_26 (q := 4) C (by first | exact ho | exact hk | exact hb | exact he | assumption) (by assumption) dX0_isOpen_1 rfl ?_ | refine xn_X0_26 (q := 4) C (by first | exact ho | exact hk | exact hb | exact he | assumption) (by assumption) dX0_isOpen_1 rfl ?_ | refine xg_X0_26 (q := 4) C (by first | exact ho | exact hk | exact hb | exact he | assumption) dX0_isOpen_1 rfl ?_
    refine z_il1 (q := 5) C dX0_isOpen_4 rfl ?_
    refine x_aald (q := 6) C 4 (by decide) (by decide) (by assumption) (by rw [l2]; omega) (by omega) dX0_isOpen_5 rfl ?_
    rw [har]
    first | refine xr_X0_303 (q := 9) C (by exact hkc) h80 dX0_isOpen_6 rfl ?_ | refine xn_X0_303 (q := 9) C (by exact hkc) h80 dX0_isOpen_6 rfl ?_
    refine z_ifnull_u (tgt := 16) C dX0_isOpen_9 (by decide) ?_
    refine z_iconst (q := 17) (v := nI 0) C dX0_isOpen_16 rfl (by decide) ?_
    refine z_zret C hQ dX0_isOpen_17 (by omega) (by omega) (by first | rfl | exact bI_nar _) ?_
    exact ⟨rfl, rfl⟩
  | some w =>
    rw [e] at hQ
    have h80 := (u1 w e).1
    first | refine z_al0 (q := 1) C dX0_isOpen_0 rfl ?_ | refine z_al0q (q := 1) C dX0_isOpen_0 rfl ?_ | refine z_al0u (q := 1) C dX0_isOpen_0 rfl ?_
    first | refine xr_X0_26 (q := 4) C (by first | exact ho | exact hk | exact hb | exact he | assumption) (by assumption) dX0_isOpen_1 rfl ?_ | refine xn_X0_26 (q := 4) C (by first | exact ho | exact hk | exact hb | exact he | assumption) (by assumption) dX0_isOpen_1 rfl ?_ | refine xg_X0_26 (q := 4) C (by first | exact ho | exact hk | exact hb | exact he | assumption) dX0_isOpen_1 rfl ?_
    refine z_il1 (q := 5) C dX0_isOpen_4 rfl ?_
    refine x_aald (q := 6) C 4 (by decide) (by decide) (by assumption) (by rw [l2]; omega) (by omega) dX0_isOpen_5 rfl ?_
    rw [har]
    first | refine xr_X0_303 (q := 9) C (by exact hkc) h80 dX0_isOpen_6 rfl ?_ | refine xn_X0_303 (q := 9) C (by exact hkc) h80 dX0_isOpen_6 rfl ?_
    refine z_ifnull_r (q := 12) C dX0_isOpen_9 rfl ?_
    refine z_iconst (q := 13) (v := nI 1) C dX0_isOpen_12 rfl (by decide) ?_
    refine z_goto (tgt := 17) C dX0_isOpen_13 (by decide) ?_
    refine z_zret C hQ dX0_isOpen_17 (by omega) (by omega) (by first | rfl | exact bI_nar _) ?_
    exact ⟨rfl, rfl⟩
theorem cx_openSet (h : XA false D p σ α) : Ct (wX D) yX0_openSet cX0_openSet 3 (some .int) [.ref (p 0)] σ (PE (some (.int (opn (a_cu α) 3))) σ) (d + 1) 0 0 := by
  have ho := h.1.1.1
  refine Ct.of KXok (by decide) (Nat.le_of_ble_eq_true rfl) rfl fun Y C hQ hNm => ?_
  have loop : ∀ m i, i + m = 3 → Zj (wX D) Y σ 0 0 4 [some (.ref (p 0)), some (.int (opn (a_cu α) i)), some (.int (nI i))] [] := by
    intro m
    induction m with
    | zero =>
      intro i hi
      have hi : i = 3 := hi
      subst hi
      refine z_il2 (q := 5) C dX0_openSet_4 rfl ?_
      refine z_iconst (q := 6) (v := nI 3) C dX0_openSet_5 rfl (by decide) ?_
      first | refine z_icmp_geN (tgt := 33) (q := 9) C dX0_openSet_6 (by decide) rfl (by omega) (by omega) (fun c6 => ?_) (fun c6 => ?_) | refine z_icmp_ge (tgt := 33) (q := 9) C dX0_openSet_6 (by decide) rfl (fun c6 => ?_) (fun c6 => ?_)
      · refine z_il1 (q := 34) C dX0_openSet_33 rfl ?_
        refine z_iret C hQ dX0_openSet_34 (by omega) (by omega) ?_
        exact ⟨rfl, rfl⟩
      · exact absurd c6 (by omega)
    | succ m ih =>
      intro i hi
      have ih := ih (i + 1) (by omega)
      have hst : opn (a_cu α) (i + 1) = opn (a_cu α) i ||| (if (a_cu α i).1 = none then nI 0 else nI 1 <<< (nI i &&& 31)) := rfl
      rw [hst] at ih
      have hop := cx_isOpen (D := D) (d := d) h (i := i) (by omega)
      cases hz : (a_cu α i).1 with
      | none =>
        rw [if_pos hz] at ih
        rw [hz] at hop
        refine z_il2 (q := 5) C dX0_openSet_4 rfl ?_
        refine z_iconst (q := 6) (v := nI 3) C dX0_openSet_5 rfl (by decide) ?_
        first | refine z_icmp_geN (tgt := 33) (q := 9) C dX0_openSet_6 (by decide) rfl (by omega) (by omega) (fun c6 => ?_) (fun c6 => ?_) | refine z_icmp_ge (tgt := 33) (q := 9) C dX0_openSet_6 (by decide) rfl (fun c6 => ?_) (fun c6 => ?_)
        · exact absurd c6 (by omega)
        · refine z_il1 (q := 10) C dX0_openSet_9 rfl ?_
          first | refine z_al0 (q := 11) C dX0_openSet_10 rfl ?_ | refine z_al0q (q := 11) C dX0_openSet_10 rfl ?_ | refine z_al0u (q := 11) C dX0_openSet_10 rfl ?_
          refine z_il2 (q := 12) C dX0_openSet_11 rfl ?_
          refine xc_X0_327 (q := 15) C hop (by first | exact ho | exact hk | exact hb | exact he | assumption | exact Or.inl (by assumption) | exact Or.inr (by assumption)) dX0_openSet_12 rfl rfl rfl (Nat.le_of_ble_eq_true rfl) (by first | decide | omega) (by omega) (by omega) (kkE ?_)
          first | refine z_if_eqB (tgt := 24) (q := 18) C dX0_openSet_15 (by decide) rfl (fun c15 => ?_) (fun c15 => ?_) | refine z_if_eq (tgt := 24) (q := 18) C dX0_openSet_15 (by decide) rfl (fun c15 => ?_) (fun c15 => ?_)
          · refine z_iconst (q := 25) (v := nI 0) C dX0_openSet_24 rfl (by decide) ?_
            refine z_ior (q := 26) C dX0_openSet_25 rfl ?_
            refine z_is1 (q := 27) C dX0_openSet_26 rfl (by first | exact loC_i | exact loC_r | exact loC_n | exact loC_q | exact loC_u) ?_
            first | refine z_iinc2N (q := 30) C dX0_openSet_27 rfl (by first | exact loC_i | exact loC_r | exact loC_n | exact loC_q | exact loC_u) ?_ | refine z_iinc2 (q := 30) C dX0_openSet_27 rfl rfl (by first | exact loC_i | exact loC_r | exact loC_n | exact loC_q | exact loC_u) ?_
            refine z_goto (tgt := 4) C dX0_openSet_30 (by decide) ?_
            exact ih
          · cases c15
      | some x =>
        rw [if_neg (by rw [hz]; simp)] at ih
        rw [hz] at hop
        refine z_il2 (q := 5) C dX0_openSet_4 rfl ?_
        refine z_iconst (q := 6) (v := nI 3) C dX0_openSet_5 rfl (by decide) ?_
        first | refine z_icmp_geN (tgt := 33) (q := 9) C dX0_openSet_6 (by decide) rfl (by omega) (by omega) (fun c6 => ?_) (fun c6 => ?_) | refine z_icmp_ge (tgt := 33) (q := 9) C dX0_openSet_6 (by decide) rfl (fun c6 => ?_) (fun c6 => ?_)
        · exact absurd c6 (by omega)
        · refine z_il1 (q := 10) C dX0_openSet_9 rfl ?_
          first | refine z_al0 (q := 11) C dX0_openSet_10 rfl ?_ | refine z_al0q (q := 11) C dX0_openSet_10 rfl ?_ | refine z_al0u (q := 11) C dX0_openSet_10 rfl ?_
          refine z_il2 (q := 12) C dX0_openSet_11 rfl ?_
          refine xc_X0_327 (q := 15) C hop (by first | exact ho | exact hk | exact hb | exact he | assumption | exact Or.inl (by assumption) | exact Or.inr (by assumption)) dX0_openSet_12 rfl rfl rfl (Nat.le_of_ble_eq_true rfl) (by first | decide | omega) (by omega) (by omega) (kkE ?_)
          first | refine z_if_eqB (tgt := 24) (q := 18) C dX0_openSet_15 (by decide) rfl (fun c15 => ?_) (fun c15 => ?_) | refine z_if_eq (tgt := 24) (q := 18) C dX0_openSet_15 (by decide) rfl (fun c15 => ?_) (fun c15 => ?_)
          · cases c15
          · refine z_iconst (q := 19) (v := nI 1) C dX0_openSet_18 rfl (by decide) ?_
            refine z_il2 (q := 20) C dX0_openSet_19 rfl ?_
            refine z_ishl (q := 21) C dX0_openSet_20 rfl ?_
            refine z_goto (tgt := 25) C dX0_openSet_21 (by decide) ?_
            refine z_ior (q := 26) C dX0_openSet_25 rfl ?_
            refine z_is1 (q := 27) C dX0_openSet_26 rfl (by first | exact loC_i | exact loC_r | exact loC_n | exact loC_q | exact loC_u) ?_
            first | refine z_iinc2N (q := 30) C dX0_openSet_27 rfl (by first | exact loC_i | exact loC_r | exact loC_n | exact loC_q | exact loC_u) ?_ | refine z_iinc2 (q := 30) C dX0_openSet_27 rfl rfl (by first | exact loC_i | exact loC_r | exact loC_n | exact loC_q | exact loC_u) ?_
            refine z_goto (tgt := 4) C dX0_openSet_30 (by decide) ?_
            exact ih
  refine z_iconst (q := 1) (v := nI 0) C dX0_openSet_0 rfl (by decide) ?_
  refine z_is1 (q := 2) C dX0_openSet_1 rfl (by first | exact loC_i | exact loC_r | exact loC_n | exact loC_q | exact loC_u) ?_
  refine z_iconst (q := 3) (v := nI 0) C dX0_openSet_2 rfl (by decide) ?_
  refine z_is2 (q := 4) C dX0_openSet_3 rfl (by first | exact loC_i | exact loC_r | exact loC_n | exact loC_q | exact loC_u) ?_
  exact loop 3 0 (by omega)
set_option maxHeartbeats 1000000 in
theorem cx_toldOf (h : XA false D p σ α) (hA : AI N α) {w : Nat} (hw : w ≤ 10) : Ct (wX D) yX0_toldOf cX0_toldOf 2 (some .int) [.ref (p 0), .int (nI w)] σ (PE (some (.int (a_tof α w))) σ) (d + 2) 0 0 := by
  obtain ⟨ad, B, hX, hq, hC, hU, hP, h9, hR⟩ := h.num
  have ho := hX.1.1
  obtain ⟨r16, k5, l5⟩ := hX.2.2.2.2.1
  have e5 := hC.2.1.2.2.2.2.1
  have e6 := hC.2.1.2.2.2.2.2
  have e7 := hC.2.2.1
  have e8 := hC.2.2.2
  have e15 := hR.2.1
  have e12 := hP.2.1
  refine Ct.of KXok (by decide) (Nat.le_of_ble_eq_true rfl) rfl fun Y C hQ hNm => ?_
  rcases (show w = 0 ∨ w = 1 ∨ w = 2 ∨ w = 3 ∨ w = 4 ∨ w = 5 ∨ w = 6 ∨ w = 7 ∨ w = 8 ∨ w = 9 ∨ w = 10 by omega) with rfl | rfl | rfl | rfl | rfl | rfl | rfl | rfl | rfl | rfl | rfl
  · refine z_il1 (q := 1) C dX0_toldOf_0 rfl ?_
    refine z_tswI (tgt := 56) C dX0_toldOf_1 (by decide) (by decide) rfl (by decide) ?_
    first | refine z_al0 (q := 57) C dX0_toldOf_56 rfl ?_ | refine z_al0q (q := 57) C dX0_toldOf_56 rfl ?_ | refine z_al0u (q := 57) C dX0_toldOf_56 rfl ?_
    first | refine xr_X0_39 (q := 60) C (by first | exact ho | exact hk | exact hb | exact he | assumption) (by assumption) dX0_toldOf_57 rfl ?_ | refine xn_X0_39 (q := 60) C (by first | exact ho | exact hk | exact hb | exact he | assumption) (by assumption) dX0_toldOf_57 rfl ?_ | refine xg_X0_39 (q := 60) C (by first | exact ho | exact hk | exact hb | exact he | assumption) dX0_toldOf_57 rfl ?_
    refine z_il1 (q := 61) C dX0_toldOf_60 rfl ?_
    refine x_iald (q := 62) C (by exact k5) (by rw [l5]; omega) (by omega) dX0_toldOf_61 rfl ?_
    rw [hR.1 0 (by decide)]
    refine z_iret C hQ dX0_toldOf_62 (by omega) (by omega) ?_
    exact ⟨rfl, rfl⟩
  · refine z_il1 (q := 1) C dX0_toldOf_0 rfl ?_
    refine z_tswI (tgt := 56) C dX0_toldOf_1 (by decide) (by decide) rfl (by decide) ?_
    first | refine z_al0 (q := 57) C dX0_toldOf_56 rfl ?_ | refine z_al0q (q := 57) C dX0_toldOf_56 rfl ?_ | refine z_al0u (q := 57) C dX0_toldOf_56 rfl ?_
    first | refine xr_X0_39 (q := 60) C (by first | exact ho | exact hk | exact hb | exact he | assumption) (by assumption) dX0_toldOf_57 rfl ?_ | refine xn_X0_39 (q := 60) C (by first | exact ho | exact hk | exact hb | exact he | assumption) (by assumption) dX0_toldOf_57 rfl ?_ | refine xg_X0_39 (q := 60) C (by first | exact ho | exact hk | exact hb | exact he | assumption) dX0_toldOf_57 rfl ?_
    refine z_il1 (q := 61) C dX0_toldOf_60 rfl ?_
    refine x_iald (q := 62) C (by exact k5) (by rw [l5]; omega) (by omega) dX0_toldOf_61 rfl ?_
    rw [hR.1 1 (by decide)]
    refine z_iret C hQ dX0_toldOf_62 (by omega) (by omega) ?_
    exact ⟨rfl, rfl⟩
  · refine z_il1 (q := 1) C dX0_toldOf_0 rfl ?_
    refine z_tswI (tgt := 56) C dX0_toldOf_1 (by decide) (by decide) rfl (by decide) ?_
    first | refine z_al0 (q := 57) C dX0_toldOf_56 rfl ?_ | refine z_al0q (q := 57) C dX0_toldOf_56 rfl ?_ | refine z_al0u (q := 57) C dX0_toldOf_56 rfl ?_
    first | refine xr_X0_39 (q := 60) C (by first | exact ho | exact hk | exact hb | exact he | assumption) (by assumption) dX0_toldOf_57 rfl ?_ | refine xn_X0_39 (q := 60) C (by first | exact ho | exact hk | exact hb | exact he | assumption) (by assumption) dX0_toldOf_57 rfl ?_ | refine xg_X0_39 (q := 60) C (by first | exact ho | exact hk | exact hb | exact he | assumption) dX0_toldOf_57 rfl ?_
    refine z_il1 (q := 61) C dX0_toldOf_60 rfl ?_
    refine x_iald (q := 62) C (by exact k5) (by rw [l5]; omega) (by omega) dX0_toldOf_61 rfl ?_
    rw [hR.1 2 (by decide)]
    refine z_iret C hQ dX0_toldOf_62 (by omega) (by omega) ?_
    exact ⟨rfl, rfl⟩
  · refine z_il1 (q := 1) C dX0_toldOf_0 rfl ?_
    refine z_tswI (tgt := 56) C dX0_toldOf_1 (by decide) (by decide) rfl (by decide) ?_
    first | refine z_al0 (q := 57) C dX0_toldOf_56 rfl ?_ | refine z_al0q (q := 57) C dX0_toldOf_56 rfl ?_ | refine z_al0u (q := 57) C dX0_toldOf_56 rfl ?_
    first | refine xr_X0_39 (q := 60) C (by first | exact ho | exact hk | exact hb | exact he | assumption) (by assumption) dX0_toldOf_57 rfl ?_ | refine xn_X0_39 (q := 60) C (by first | exact ho | exact hk | exact hb | exact he | assumption) (by assumption) dX0_toldOf_57 rfl ?_ | refine xg_X0_39 (q := 60) C (by first | exact ho | exact hk | exact hb | exact he | assumption) dX0_toldOf_57 rfl ?_
    refine z_il1 (q := 61) C dX0_toldOf_60 rfl ?_
    refine x_iald (q := 62) C (by exact k5) (by rw [l5]; omega) (by omega) dX0_toldOf_61 rfl ?_
    rw [hR.1 3 (by decide)]
    refine z_iret C hQ dX0_toldOf_62 (by omega) (by omega) ?_
    exact ⟨rfl, rfl⟩
  · refine z_il1 (q := 1) C dX0_toldOf_0 rfl ?_
    refine z_tswI (tgt := 63) C dX0_toldOf_1 (by decide) (by decide) rfl (by decide) ?_
    first | refine z_al0 (q := 64) C dX0_toldOf_63 rfl ?_ | refine z_al0q (q := 64) C dX0_toldOf_63 rfl ?_ | refine z_al0u (q := 64) C dX0_toldOf_63 rfl ?_
    refine xg_X0_18 (q := 67) C (by first | exact ho | exact hk | exact hb | exact he | assumption) dX0_toldOf_64 rfl ?_
    rw [e5]
    refine z_iret C hQ dX0_toldOf_67 (by omega) (by omega) ?_
    exact ⟨rfl, rfl⟩
  · refine z_il1 (q := 1) C dX0_toldOf_0 rfl ?_
    refine z_tswI (tgt := 68) C dX0_toldOf_1 (by decide) (by decide) rfl (by decide) ?_
    first | refine z_al0 (q := 69) C dX0_toldOf_68 rfl ?_ | refine z_al0q (q := 69) C dX0_toldOf_68 rfl ?_ | refine z_al0u (q := 69) C dX0_toldOf_68 rfl ?_
    refine xg_X0_68 (q := 72) C (by first | exact ho | exact hk | exact hb | exact he | assumption) dX0_toldOf_69 rfl ?_
    rw [e6]
    refine z_iret C hQ dX0_toldOf_72 (by omega) (by omega) ?_
    exact ⟨rfl, rfl⟩
  · refine z_il1 (q := 1) C dX0_toldOf_0 rfl ?_
    refine z_tswI (tgt := 73) C dX0_toldOf_1 (by decide) (by decide) rfl (by decide) ?_
    first | refine z_al0 (q := 74) C dX0_toldOf_73 rfl ?_ | refine z_al0q (q := 74) C dX0_toldOf_73 rfl ?_ | refine z_al0u (q := 74) C dX0_toldOf_73 rfl ?_
    refine xg_X0_144 (q := 77) C (by first | exact ho | exact hk | exact hb | exact he | assumption) dX0_toldOf_74 rfl ?_
    rw [e7]
    refine z_iret C hQ dX0_toldOf_77 (by omega) (by omega) ?_
    exact ⟨rfl, rfl⟩
  · refine z_il1 (q := 1) C dX0_toldOf_0 rfl ?_
    refine z_tswI (tgt := 78) C dX0_toldOf_1 (by decide) (by decide) rfl (by decide) ?_
    first | refine z_al0 (q := 79) C dX0_toldOf_78 rfl ?_ | refine z_al0q (q := 79) C dX0_toldOf_78 rfl ?_ | refine z_al0u (q := 79) C dX0_toldOf_78 rfl ?_
    refine xg_X0_166 (q := 82) C (by first | exact ho | exact hk | exact hb | exact he | assumption) dX0_toldOf_79 rfl ?_
    rw [e8]
    refine z_iret C hQ dX0_toldOf_82 (by omega) (by omega) ?_
    exact ⟨rfl, rfl⟩
  · refine z_il1 (q := 1) C dX0_toldOf_0 rfl ?_
    refine z_tswI (tgt := 83) C dX0_toldOf_1 (by decide) (by decide) rfl (by decide) ?_
    first | refine z_al0 (q := 84) C dX0_toldOf_83 rfl ?_ | refine z_al0q (q := 84) C dX0_toldOf_83 rfl ?_ | refine z_al0u (q := 84) C dX0_toldOf_83 rfl ?_
    refine xg_X0_342 (q := 87) C (by first | exact ho | exact hk | exact hb | exact he | assumption) dX0_toldOf_84 rfl ?_
    rw [e15]
    refine z_iret C hQ dX0_toldOf_87 (by omega) (by omega) ?_
    exact ⟨rfl, rfl⟩
  · refine z_il1 (q := 1) C dX0_toldOf_0 rfl ?_
    refine z_tswI (tgt := 88) C dX0_toldOf_1 (by decide) (by decide) rfl (by decide) ?_
    first | refine z_al0 (q := 89) C dX0_toldOf_88 rfl ?_ | refine z_al0q (q := 89) C dX0_toldOf_88 rfl ?_ | refine z_al0u (q := 89) C dX0_toldOf_88 rfl ?_
    refine xg_X0_176 (q := 92) C (by first | exact ho | exact hk | exact hb | exact he | assumption) dX0_toldOf_89 rfl ?_
    rw [e12]
    refine z_iret C hQ dX0_toldOf_92 (by omega) (by omega) ?_
    exact ⟨rfl, rfl⟩
  · refine z_il1 (q := 1) C dX0_toldOf_0 rfl ?_
    refine z_tswO (tgt := 93) C dX0_toldOf_1 (by decide) (by decide) ?_
    first | refine z_al0 (q := 94) C dX0_toldOf_93 rfl ?_ | refine z_al0q (q := 94) C dX0_toldOf_93 rfl ?_ | refine z_al0u (q := 94) C dX0_toldOf_93 rfl ?_
    refine xc_X0_362 (q := 97) C (cx_openSet (d := d) h) (by first | exact ho | exact hk | exact hb | exact he | assumption | exact Or.inl (by assumption) | exact Or.inr (by assumption)) dX0_toldOf_94 rfl rfl rfl (Nat.le_of_ble_eq_true rfl) (by first | decide | omega) (by omega) (by omega) (kkE ?_)
    refine z_iret C hQ dX0_toldOf_97 (by omega) (by omega) ?_
    exact ⟨rfl, rfl⟩
theorem cx_told (h : XA false D p σ α) (hA : AI N α) (w : Int32) : Ct (wX D) yX0_told cX0_told 2 (some .int) [.ref (p 0), .int w] σ (PI (fun r σ' => r = (a_told α w).1 ∧ XA false D p σ' (a_told α w).2)) 64 300 1500 := by
  obtain ⟨ad, B, hX, hq, hC, hU, hP, h9, hR⟩ := h.num
  have ho := hX.1.1
  obtain ⟨r16, k5, l5⟩ := hX.2.2.2.2.1
  refine Ct.of KXok (by decide) (Nat.le_of_ble_eq_true rfl) rfl fun Y C hQ hNm => ?_
  cases hi : inB w (nI 0) (nI 10) with
  | false =>
    have e1 : a_told α w = (-2, a_rfs α 0) := if_neg (by rw [hi]; decide)
    rw [e1] at hQ
    have hb := h.rfs hA (i := 0) (by decide)
    refine z_il1 (q := 1) C dX0_told_0 rfl ?_
    refine z_i2l (q := 2) C dX0_told_1 rfl ?_
    refine z_lconst (q := 3) (v := 0) C dX0_told_2 rfl rfl ?_
    refine z_ldc2 (q := 6) C dX0_told_3 rfl q807 ?_
    refine xc_X0_214 (q := 9) C (cx_inB (d := 0) σ w (nI 0) (nI 10)) dX0_told_6 rfl rfl rfl (Nat.le_of_ble_eq_true rfl) (by first | decide | omega) (by omega) (by omega) (kkE ?_)
    first | refine z_if_eqB (tgt := 20) (q := 12) C dX0_told_9 (by decide) rfl (fun c9 => ?_) (fun c9 => ?_) | refine z_if_eq (tgt := 20) (q := 12) C dX0_told_9 (by decide) rfl (fun c9 => ?_) (fun c9 => ?_)
    · first | refine z_al0 (q := 21) C dX0_told_20 rfl ?_ | refine z_al0q (q := 21) C dX0_told_20 rfl ?_ | refine z_al0u (q := 21) C dX0_told_20 rfl ?_
      refine xc_X0_227 (q := 24) C (cx_bad (d := 0) ho r16 k5 l5) (by first | exact ho | exact hk | exact hb | exact he | assumption | exact Or.inl (by assumption) | exact Or.inr (by assumption)) dX0_told_21 rfl rfl rfl (Nat.le_of_ble_eq_true rfl) (by first | decide | omega) (by omega) (by omega) (kkE ?_)
      refine z_iret C hQ dX0_told_24 (by omega) (by omega) ?_
      exact ⟨_, rfl, rfl, hb⟩
    · rw [hi] at c9; cases c9
  | true =>
    obtain ⟨ec, hc⟩ := in_of (by decide) hi
    have e1 : a_told α w = (a_tof α (kN w), α) := if_pos hi
    rw [e1] at hQ
    generalize kN w = wn at *
    subst ec
    refine z_il1 (q := 1) C dX0_told_0 rfl ?_
    refine z_i2l (q := 2) C dX0_told_1 rfl ?_
    refine z_lconst (q := 3) (v := 0) C dX0_told_2 rfl rfl ?_
    refine z_ldc2 (q := 6) C dX0_told_3 rfl q807 ?_
    refine xc_X0_214 (q := 9) C (cx_inB (d := 0) σ (nI wn) (nI 0) (nI 10)) dX0_told_6 rfl rfl rfl (Nat.le_of_ble_eq_true rfl) (by first | decide | omega) (by omega) (by omega) (kkE ?_)
    first | refine z_if_eqB (tgt := 20) (q := 12) C dX0_told_9 (by decide) rfl (fun c9 => ?_) (fun c9 => ?_) | refine z_if_eq (tgt := 20) (q := 12) C dX0_told_9 (by decide) rfl (fun c9 => ?_) (fun c9 => ?_)
    · rw [hi] at c9; cases c9
    · first | refine z_al0 (q := 13) C dX0_told_12 rfl ?_ | refine z_al0q (q := 13) C dX0_told_12 rfl ?_ | refine z_al0u (q := 13) C dX0_told_12 rfl ?_
      refine z_il1 (q := 14) C dX0_told_13 rfl ?_
      refine xc_X0_367 (q := 17) C (cx_toldOf (d := 0) h hA hc) (by first | exact ho | exact hk | exact hb | exact he | assumption | exact Or.inl (by assumption) | exact Or.inr (by assumption)) dX0_told_14 rfl rfl rfl (Nat.le_of_ble_eq_true rfl) (by first | decide | omega) (by omega) (by omega) (kkE ?_)
      refine z_goto (tgt := 24) C dX0_told_17 (by decide) ?_
      refine z_iret C hQ dX0_told_24 (by omega) (by omega) ?_
      exact ⟨_, rfl, rfl, h⟩
end T74
