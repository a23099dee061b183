/-! THE CLASS: a key comes into a tree -/
set_option maxRecDepth 10000
theorem abv_tr {x y z : Nat} (h1 : abv x y = true) (h2 : abv y z = true) : abv x z = true := by
  rw [abv_iff] at *
  omega
theorem abv_tot {x y : Nat} (h : x ≠ y) (h1 : ¬ abv x y = true) : abv y x = true := by
  rw [abv_iff] at *
  omega
section T57
variable {D : Dx}
theorem cx_with {ad hs : Nat → Nat} {e : Nat} : ∀ (n : Nat) (σ : Sg) (A B : List Nat) (r : Option Nat), EN ad hs σ (e :: (A ++ B)) → e ∉ A ++ B → (A ++ B).Nodup → (∀ x ∈ A, tlt hs x e) → (∀ x ∈ B, tlt hs e x) → TT ad (fr σ 28) (fr σ 29) n (A ++ B) r →
    Ct (wX D) yX8_with cX8_with 2 (some (.object "CrowdedBins$Entry")) [va_rf r, .ref (ad e)] σ (PQ (fun r' σ' => F2 ad (e :: (A ++ B)) σ σ' ∧ TT ad (fr σ' 28) (fr σ' 29) (n + 1) (A ++ e :: B) r')) (n + 2) 0 0 := by
  intro n
  induction n with
  | zero =>
    intro σ A B r hE heN hN hA hB hT
    obtain ⟨h1, rfl⟩ := id hT
    obtain ⟨rfl, rfl⟩ := List.append_eq_nil_iff.mp h1
    have he : kd σ (ad e) = 2 := (hE e (by simp)).1
    have hc := cx_splits (D := D) 0 σ [] [] none hE heN hN hA hB hT
    show Ct (wX D) yX8_with cX8_with 2 _ [.null, .ref (ad e)] σ _ _ 0 0
    refine Ct.of KXok (by decide) (Nat.le_of_ble_eq_true rfl) rfl fun Y C hQ hNm => ?_
    first | refine z_al1 (q := 1) C dX8_with_0 rfl ?_ | refine z_al1q (q := 1) C dX8_with_0 rfl ?_ | refine z_al1u (q := 1) C dX8_with_0 rfl ?_
    first | refine z_al0 (q := 2) C dX8_with_1 rfl ?_ | refine z_al0q (q := 2) C dX8_with_1 rfl ?_ | refine z_al0u (q := 2) C dX8_with_1 rfl ?_
    refine xc_X8_27 (q := 5) C (cx_above0 (d := 0) he) (by first | exact ho | exact hk | exact hb | exact he | assumption | exact Or.inl (by assumption) | exact Or.inr (by assumption)) dX8_with_2 rfl rfl rfl (Nat.le_of_ble_eq_true rfl) (by first | decide | omega) (by omega) (by omega) (kkE ?_)
    refine z_if_eqB (tgt := 15) (q := 8) C dX8_with_5 (by decide) rfl (fun c5 => by cases c5) (fun c5 => ?_)
    first | refine z_al0 (q := 9) C dX8_with_8 rfl ?_ | refine z_al0q (q := 9) C dX8_with_8 rfl ?_ | refine z_al0u (q := 9) C dX8_with_8 rfl ?_
    first | refine z_al1 (q := 10) C dX8_with_9 rfl ?_ | refine z_al1q (q := 10) C dX8_with_9 rfl ?_ | refine z_al1u (q := 10) C dX8_with_9 rfl ?_
    refine xc_X8_33 (q := 13) C hc dX8_with_10 rfl rfl rfl (Nat.le_of_ble_eq_true rfl) (by first | decide | omega) (by omega) (by omega) (kkV fun σ10 h10 => ?_)
    first | refine z_al1 (q := 14) C dX8_with_13 rfl ?_ | refine z_al1q (q := 14) C dX8_with_13 rfl ?_ | refine z_al1u (q := 14) C dX8_with_13 rfl ?_
    first | refine z_aret C hQ (Or.inl ⟨_, rfl⟩) dX8_with_14 (by omega) (by omega) ?_ | refine z_aret (r := some _) C hQ (Or.inl ⟨_, rfl⟩) dX8_with_14 (by omega) (by omega) ?_ | refine z_aret (r := none) C hQ (Or.inl ⟨_, rfl⟩) dX8_with_14 (by omega) (by omega) ?_
    exact ⟨_, rfl, h10.1, Or.inr ⟨[], e, [], rfl, rfl, fun x hx => (by simp at hx), fun x hx => (by simp at hx), h10.2.1, h10.2.2⟩⟩
  | succ n ih =>
    intro σ A B r hE heN hN hA hB hT
    have he : kd σ (ad e) = 2 := (hE e (by simp)).1
    obtain ⟨-, e20, e22, e23, e5, e6⟩ := hE e (by simp)
    have hc := cx_splits (D := D) (n + 1) σ A B r hE heN hN hA hB hT
    cases r with
    | none =>
      obtain ⟨rfl, rfl⟩ := List.append_eq_nil_iff.mp hT.of_none
      show Ct (wX D) yX8_with cX8_with 2 _ [.null, .ref (ad e)] σ _ _ 0 0
      refine Ct.of KXok (by decide) (Nat.le_of_ble_eq_true rfl) rfl fun Y C hQ hNm => ?_
      first | refine z_al1 (q := 1) C dX8_with_0 rfl ?_ | refine z_al1q (q := 1) C dX8_with_0 rfl ?_ | refine z_al1u (q := 1) C dX8_with_0 rfl ?_
      first | refine z_al0 (q := 2) C dX8_with_1 rfl ?_ | refine z_al0q (q := 2) C dX8_with_1 rfl ?_ | refine z_al0u (q := 2) C dX8_with_1 rfl ?_
      refine xc_X8_27 (q := 5) C (cx_above0 (d := 0) he) (by first | exact ho | exact hk | exact hb | exact he | assumption | exact Or.inl (by assumption) | exact Or.inr (by assumption)) dX8_with_2 rfl rfl rfl (Nat.le_of_ble_eq_true rfl) (by first | decide | omega) (by omega) (by omega) (kkE ?_)
      refine z_if_eqB (tgt := 15) (q := 8) C dX8_with_5 (by decide) rfl (fun c5 => by cases c5) (fun c5 => ?_)
      first | refine z_al0 (q := 9) C dX8_with_8 rfl ?_ | refine z_al0q (q := 9) C dX8_with_8 rfl ?_ | refine z_al0u (q := 9) C dX8_with_8 rfl ?_
      first | refine z_al1 (q := 10) C dX8_with_9 rfl ?_ | refine z_al1q (q := 10) C dX8_with_9 rfl ?_ | refine z_al1u (q := 10) C dX8_with_9 rfl ?_
      refine xc_X8_33 (q := 13) C hc dX8_with_10 rfl rfl rfl (Nat.le_of_ble_eq_true rfl) (by first | decide | omega) (by omega) (by omega) (kkV fun σ10 h10 => ?_)
      first | refine z_al1 (q := 14) C dX8_with_13 rfl ?_ | refine z_al1q (q := 14) C dX8_with_13 rfl ?_ | refine z_al1u (q := 14) C dX8_with_13 rfl ?_
      first | refine z_aret C hQ (Or.inl ⟨_, rfl⟩) dX8_with_14 (by omega) (by omega) ?_ | refine z_aret (r := some _) C hQ (Or.inl ⟨_, rfl⟩) dX8_with_14 (by omega) (by omega) ?_ | refine z_aret (r := none) C hQ (Or.inl ⟨_, rfl⟩) dX8_with_14 (by omega) (by omega) ?_
      exact ⟨_, rfl, h10.1, Or.inr ⟨[], e, [], rfl, rfl, fun x hx => (by simp at hx), fun x hx => (by simp at hx), h10.2.1, h10.2.2⟩⟩
    | some a =>
      obtain ⟨m, A', k, B', hm, hL, rfl, ha1, ha2, t1, t2⟩ := hT.of_some
      obtain rfl : n = m := by omega
      have hkm : k ∈ A ++ B := by rw [hL]; simp
      obtain ⟨hk, k20, k22, k23, k5, k6⟩ := hE k (List.mem_cons_of_mem _ hkm)
      have hke : k ≠ e := fun z => heN (z ▸ hkm)
      have hade : ad k ≠ ad e := fun z => hke (hE.inj (List.mem_cons_of_mem _ hkm) (by simp) z)
      show Ct (wX D) yX8_with cX8_with 2 _ [.ref (ad k), .ref (ad e)] σ _ _ 0 0
      refine Ct.of KXok (by decide) (Nat.le_of_ble_eq_true rfl) rfl fun Y C hQ hNm => ?_
      first | refine z_al1 (q := 1) C dX8_with_0 rfl ?_ | refine z_al1q (q := 1) C dX8_with_0 rfl ?_ | refine z_al1u (q := 1) C dX8_with_0 rfl ?_
      first | refine z_al0 (q := 2) C dX8_with_1 rfl ?_ | refine z_al0q (q := 2) C dX8_with_1 rfl ?_ | refine z_al0u (q := 2) C dX8_with_1 rfl ?_
      refine xc_X8_27 (q := 5) C (cx_above (d := 0) he hk e22 k22 e20 k20 (by omega) (by omega)) (by first | exact ho | exact hk | exact hb | exact he | assumption | exact Or.inl (by assumption) | exact Or.inr (by assumption)) dX8_with_2 rfl rfl rfl (Nat.le_of_ble_eq_true rfl) (by first | decide | omega) (by omega) (by omega) (kkE ?_)
      refine z_if_eqB (tgt := 15) (q := 8) C dX8_with_5 (by decide) rfl (fun c5 => ?_) (fun c5 => ?_)
      · have hka : abv k e = true := abv_tot (Ne.symm hke) (by rw [c5]; simp)
        first | refine z_al0 (q := 16) C dX8_with_15 rfl ?_ | refine z_al0q (q := 16) C dX8_with_15 rfl ?_ | refine z_al0u (q := 16) C dX8_with_15 rfl ?_
        first | refine z_al1 (q := 17) C dX8_with_16 rfl ?_ | refine z_al1q (q := 17) C dX8_with_16 rfl ?_ | refine z_al1u (q := 17) C dX8_with_16 rfl ?_
        refine xg_X8_37 (q := 20) C (by first | exact ho | exact hk | exact hb | exact he | assumption) dX8_with_17 rfl ?_
        rw [e23]
        first | refine z_al1 (q := 21) C dX8_with_20 rfl ?_ | refine z_al1q (q := 21) C dX8_with_20 rfl ?_ | refine z_al1u (q := 21) C dX8_with_20 rfl ?_
        refine xg_X8_41 (q := 24) C (by first | exact ho | exact hk | exact hb | exact he | assumption) dX8_with_21 rfl ?_
        rw [e20]
        refine xc_X8_44 (q := 27) C (cx_place (d := 0) hk k23 k20 k6 e6 (by omega) (by omega)) (by first | exact ho | exact hk | exact hb | exact he | assumption | exact Or.inl (by assumption) | exact Or.inr (by assumption)) dX8_with_24 rfl rfl rfl (Nat.le_of_ble_eq_true rfl) (by first | decide | omega) (by omega) (by omega) (kkI fun r24 σ24 h24 => ?_)
        obtain ⟨e24, hpl⟩ := h24
        rw [e24]
        refine z_if_ge (tgt := 45) (q := 30) C dX8_with_27 (by decide) rfl (fun c27 => ?_) (fun c27 => ?_)
        · have hlt : tlt hs k e := by
            have : ¬ tlt hs e k := fun z => absurd (hpl.mpr z) (Int32.not_lt.mpr c27)
            unfold tlt at this ⊢
            omega
          have hkB : k ∉ B := fun z => by have := hB k z; unfold tlt at this hlt; omega
          obtain ⟨B1, rfl, rfl⟩ := sp_r hL.symm hkB
          have hNd := hN
          simp only [List.append_assoc, List.cons_append] at hNd
          rw [List.nodup_append] at hNd
          obtain ⟨hn1, hn2, hn3⟩ := hNd
          rw [List.nodup_cons] at hn2
          have hsub : ∀ x ∈ e :: (B1 ++ B), x ∈ e :: (A' ++ k :: B1 ++ B) := fun x hx => by simp at hx ⊢; rcases hx with h | h | h <;> simp [h]
          first | refine z_al0 (q := 46) C dX8_with_45 rfl ?_ | refine z_al0q (q := 46) C dX8_with_45 rfl ?_ | refine z_al0u (q := 46) C dX8_with_45 rfl ?_
          first | refine z_al0 (q := 47) C dX8_with_46 rfl ?_ | refine z_al0q (q := 47) C dX8_with_46 rfl ?_ | refine z_al0u (q := 47) C dX8_with_46 rfl ?_
          refine xg_X8_51 (q := 50) C (by first | exact ho | exact hk | exact hb | exact he | assumption) dX8_with_47 rfl ?_
          first | refine z_al1 (q := 51) C dX8_with_50 rfl ?_ | refine z_al1q (q := 51) C dX8_with_50 rfl ?_ | refine z_al1u (q := 51) C dX8_with_50 rfl ?_
          refine xc_X8_17 (q := 54) C (ih σ B1 B (fr σ 29 (ad k)) (fun x hx => hE x (hsub x hx)) (fun z => heN (by simp at z ⊢; rcases z with h | h <;> simp [h])) hn2.2 (fun x hx => hA x (by simp [hx])) hB t2) dX8_with_51 rfl rfl rfl (Nat.le_of_ble_eq_true rfl) (by first | decide | omega) (by omega) (by omega) (kkQ fun r51 σ51 h51 => ?_)
          obtain ⟨hF, q1⟩ := h51
          have hk1 : kd σ51 (ad k) = 2 := by rw [hF.1]; exact hk
          have hnk : ∀ x ∈ e :: (B1 ++ B), ad x ≠ ad k := fun x hx z => by
            have h1 := hE.inj (hsub x hx) (by simp) z
            rcases List.mem_cons.mp hx with h | h
            · exact hke (h1.symm.trans h)
            · exact hn2.1 (h1 ▸ h)
          first | refine xpr_X8_51 (q := 57) C (by exact hk1) dX8_with_54 rfl ?_ | refine xpn_X8_51 (q := 57) C (by exact hk1) dX8_with_54 rfl ?_ | refine xp_X8_51 (q := 57) C (by exact hk1) dX8_with_54 rfl ?_
          first | refine z_al0 (q := 58) C dX8_with_57 rfl ?_ | refine z_al0q (q := 58) C dX8_with_57 rfl ?_ | refine z_al0u (q := 58) C dX8_with_57 rfl ?_
          first | refine z_aret C hQ (Or.inl ⟨_, rfl⟩) dX8_with_58 (by omega) (by omega) ?_ | refine z_aret (r := some _) C hQ (Or.inl ⟨_, rfl⟩) dX8_with_58 (by omega) (by omega) ?_ | refine z_aret (r := none) C hQ (Or.inl ⟨_, rfl⟩) dX8_with_58 (by omega) (by omega) ?_
          refine ⟨_, rfl, (hF.mono hsub).set (k := k) (by simp) (Or.inr rfl) _, Or.inr ⟨A', k, B1 ++ e :: B, by simp, rfl, ha1, fun x hx => ?_, ?_, ?_⟩⟩
          · rcases List.mem_append.mp hx with h | h
            · exact ha2 x (by simp [h])
            · rcases List.mem_cons.mp h with h | h
              · rw [h]; exact hka
              · exact ha2 x (by simp [h])
          · rw [fr_sR, if_neg (fun z => by cases z.1), hF.2.2.2.2.2.2 28 (ad k) (fun y hy z => hnk y hy z.symm)]
            refine (t1.congr (fun x hx => ?_)).up
            have hxm : x ∈ e :: (A' ++ k :: B1 ++ B) := by simp [hx]
            have hxk : ad x ≠ ad k := fun z => (hn3 x hx k (by simp)) (hE.inj hxm (by simp) z)
            have hxn : ∀ y ∈ e :: (B1 ++ B), ad x ≠ ad y := fun y hy z => by
              have h1 := hE.inj hxm (hsub y hy) z
              rcases List.mem_cons.mp hy with h | h
              · exact heN (by rw [← h, ← h1]; simp [hx])
              · exact (hn3 x hx y (List.mem_cons_of_mem _ h)) h1
            rw [fr_sR, if_neg (fun z => by cases z.1), fr_sR, if_neg (fun z => hxk z.2), hF.2.2.2.2.2.2 28 _ hxn, hF.2.2.2.2.2.2 29 _ hxn]
            exact ⟨rfl, rfl⟩
          · rw [fr_sR, if_pos ⟨rfl, rfl⟩]
            refine q1.congr (fun x hx => ?_)
            have hxk := hnk x (by simp at hx ⊢; rcases hx with h | h | h <;> simp [h])
            rw [fr_sR, if_neg (fun z => by cases z.1), fr_sR, if_neg (fun z => hxk z.2)]
            exact ⟨rfl, rfl⟩
        · have hlt : tlt hs e k := hpl.mp (Int32.not_le.mp c27)
          have hkA : k ∉ A := fun z => by have := hA k z; unfold tlt at this hlt; omega
          obtain ⟨A2, rfl, rfl⟩ := sp_l hL.symm hkA
          have hNd := hN
          rw [← List.append_assoc, List.nodup_append] at hNd
          obtain ⟨hn1, hn2, hn3⟩ := hNd
          rw [List.nodup_cons] at hn2
          have hsub : ∀ x ∈ e :: (A ++ A2), x ∈ e :: (A ++ (A2 ++ k :: B')) := fun x hx => by simp at hx ⊢; rcases hx with h | h | h <;> simp [h]
          first | refine z_al0 (q := 31) C dX8_with_30 rfl ?_ | refine z_al0q (q := 31) C dX8_with_30 rfl ?_ | refine z_al0u (q := 31) C dX8_with_30 rfl ?_
          first | refine z_al0 (q := 32) C dX8_with_31 rfl ?_ | refine z_al0q (q := 32) C dX8_with_31 rfl ?_ | refine z_al0u (q := 32) C dX8_with_31 rfl ?_
          refine xg_X8_48 (q := 35) C (by first | exact ho | exact hk | exact hb | exact he | assumption) dX8_with_32 rfl ?_
          first | refine z_al1 (q := 36) C dX8_with_35 rfl ?_ | refine z_al1q (q := 36) C dX8_with_35 rfl ?_ | refine z_al1u (q := 36) C dX8_with_35 rfl ?_
          refine xc_X8_17 (q := 39) C (ih σ A A2 (fr σ 28 (ad k)) (fun x hx => hE x (hsub x hx)) (fun z => heN (by simp at z ⊢; rcases z with h | h <;> simp [h])) hn1 hA (fun x hx => hB x (by simp [hx])) t1) dX8_with_36 rfl rfl rfl (Nat.le_of_ble_eq_true rfl) (by first | decide | omega) (by omega) (by omega) (kkQ fun r36 σ36 h36 => ?_)
          obtain ⟨hF, q1⟩ := h36
          have hk1 : kd σ36 (ad k) = 2 := by rw [hF.1]; exact hk
          have hnk : ∀ x ∈ e :: (A ++ A2), ad x ≠ ad k := fun x hx z => by
            have h1 := hE.inj (hsub x hx) (by simp) z
            rcases List.mem_cons.mp hx with h | h
            · exact hke (h1.symm.trans h)
            · exact (hn3 x h k (by simp)) h1
          first | refine xpr_X8_48 (q := 42) C (by exact hk1) dX8_with_39 rfl ?_ | refine xpn_X8_48 (q := 42) C (by exact hk1) dX8_with_39 rfl ?_ | refine xp_X8_48 (q := 42) C (by exact hk1) dX8_with_39 rfl ?_
          refine z_goto (tgt := 57) C dX8_with_42 (by decide) ?_
          first | refine z_al0 (q := 58) C dX8_with_57 rfl ?_ | refine z_al0q (q := 58) C dX8_with_57 rfl ?_ | refine z_al0u (q := 58) C dX8_with_57 rfl ?_
          first | refine z_aret C hQ (Or.inl ⟨_, rfl⟩) dX8_with_58 (by omega) (by omega) ?_ | refine z_aret (r := some _) C hQ (Or.inl ⟨_, rfl⟩) dX8_with_58 (by omega) (by omega) ?_ | refine z_aret (r := none) C hQ (Or.inl ⟨_, rfl⟩) dX8_with_58 (by omega) (by omega) ?_
          refine ⟨_, rfl, (hF.mono hsub).set (k := k) (by simp) (Or.inl rfl) _, Or.inr ⟨A ++ e :: A2, k, B', by simp, rfl, fun x hx => ?_, ha2, ?_, ?_⟩⟩
          · rcases List.mem_append.mp hx with h | h
            · exact ha1 x (by simp [h])
            · rcases List.mem_cons.mp h with h | h
              · rw [h]; exact hka
              · exact ha1 x (by simp [h])
          · rw [fr_sR, if_pos ⟨rfl, rfl⟩]
            refine q1.congr (fun x hx => ?_)
            have hxk := hnk x (by simp at hx ⊢; rcases hx with h | h | h <;> simp [h])
            rw [fr_sR, if_neg (fun z => hxk z.2), fr_sR, if_neg (fun z => by cases z.1)]
            exact ⟨rfl, rfl⟩
          · rw [fr_sR, if_neg (fun z => by cases z.1), hF.2.2.2.2.2.2 29 (ad k) (fun y hy z => hnk y hy z.symm)]
            refine (t2.congr (fun x hx => ?_)).up
            have hxm : x ∈ e :: (A ++ (A2 ++ k :: B')) := by simp [hx]
            have hxk : ad x ≠ ad k := fun z => hn2.1 (by have := hE.inj hxm (by simp) z; rw [← this]; exact hx)
            have hxn : ∀ y ∈ e :: (A ++ A2), ad x ≠ ad y := fun y hy z => by
              have h1 := hE.inj hxm (hsub y hy) z
              rcases List.mem_cons.mp hy with h | h
              · exact heN (by rw [← h, ← h1]; simp [hx])
              · exact (hn3 y h x (List.mem_cons_of_mem _ hx)) h1.symm
            rw [fr_sR, if_neg (fun z => hxk z.2), fr_sR, if_neg (fun z => by cases z.1), hF.2.2.2.2.2.2 28 _ hxn, hF.2.2.2.2.2.2 29 _ hxn]
            exact ⟨rfl, rfl⟩
      · have hab : ∀ x ∈ A ++ B, abv e x = true := fun x hx => by
          rw [hL] at hx
          rcases List.mem_append.mp hx with h | h
          · exact abv_tr c5 (ha1 x h)
          · rcases List.mem_cons.mp h with h | h
            · rw [h]; exact c5
            · exact abv_tr c5 (ha2 x h)
        first | refine z_al0 (q := 9) C dX8_with_8 rfl ?_ | refine z_al0q (q := 9) C dX8_with_8 rfl ?_ | refine z_al0u (q := 9) C dX8_with_8 rfl ?_
        first | refine z_al1 (q := 10) C dX8_with_9 rfl ?_ | refine z_al1q (q := 10) C dX8_with_9 rfl ?_ | refine z_al1u (q := 10) C dX8_with_9 rfl ?_
        refine xc_X8_33 (q := 13) C hc dX8_with_10 rfl rfl rfl (Nat.le_of_ble_eq_true rfl) (by first | decide | omega) (by omega) (by omega) (kkV fun σ10 h10 => ?_)
        first | refine z_al1 (q := 14) C dX8_with_13 rfl ?_ | refine z_al1q (q := 14) C dX8_with_13 rfl ?_ | refine z_al1u (q := 14) C dX8_with_13 rfl ?_
        first | refine z_aret C hQ (Or.inl ⟨_, rfl⟩) dX8_with_14 (by omega) (by omega) ?_ | refine z_aret (r := some _) C hQ (Or.inl ⟨_, rfl⟩) dX8_with_14 (by omega) (by omega) ?_ | refine z_aret (r := none) C hQ (Or.inl ⟨_, rfl⟩) dX8_with_14 (by omega) (by omega) ?_
        exact ⟨_, rfl, h10.1, Or.inr ⟨A, e, B, rfl, rfl, fun x hx => hab x (by simp [hx]), fun x hx => hab x (by simp [hx]), h10.2.1, h10.2.2⟩⟩
end T57
