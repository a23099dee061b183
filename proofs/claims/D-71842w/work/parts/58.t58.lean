/-! THE CLASS: two trees are joined -/
set_option maxRecDepth 10000
section T58
variable {D : Dx}
theorem cx_joined {ad hs : Nat → Nat} : ∀ (n : Nat) (σ : Sg) (A B : List Nat) (r r2 : Option Nat), A.length + B.length ≤ n → EN ad hs σ (A ++ B) → (A ++ B).Nodup → TT ad (fr σ 28) (fr σ 29) A.length A r → TT ad (fr σ 28) (fr σ 29) B.length B r2 →
    Ct (wX D) yX8_joined cX8_joined 2 (some (.object "CrowdedBins$Entry")) [va_rf r, va_rf r2] σ (PQ (fun r' σ' => F2 ad (A ++ B) σ σ' ∧ TT ad (fr σ' 28) (fr σ' 29) (A ++ B).length (A ++ B) r')) (n + 2) 0 0 := by
  intro n
  induction n with
  | zero =>
    intro σ A B r r2 hl hE hN hA hB
    obtain rfl : A = [] := List.eq_nil_of_length_eq_zero (by omega)
    obtain rfl : B = [] := List.eq_nil_of_length_eq_zero (by omega)
    obtain rfl := hA.of_nil
    obtain rfl := hB.of_nil
    show Ct (wX D) yX8_joined cX8_joined 2 _ [.null, .null] σ _ _ 0 0
    refine Ct.of KXok (by decide) (Nat.le_of_ble_eq_true rfl) rfl fun Y C hQ hNm => ?_
    first | refine z_al0 (q := 1) C dX8_joined_0 rfl ?_ | refine z_al0q (q := 1) C dX8_joined_0 rfl ?_ | refine z_al0u (q := 1) C dX8_joined_0 rfl ?_
    refine z_ifnull_u (tgt := 8) C dX8_joined_1 (by decide) ?_
    first | refine z_al0 (q := 9) C dX8_joined_8 rfl ?_ | refine z_al0q (q := 9) C dX8_joined_8 rfl ?_ | refine z_al0u (q := 9) C dX8_joined_8 rfl ?_
    refine z_ifnonnull_u (q := 12) C dX8_joined_9 rfl ?_
    first | refine z_al1 (q := 13) C dX8_joined_12 rfl ?_ | refine z_al1q (q := 13) C dX8_joined_12 rfl ?_ | refine z_al1u (q := 13) C dX8_joined_12 rfl ?_
    refine z_goto (tgt := 17) C dX8_joined_13 (by decide) ?_
    first | refine z_aret C hQ (Or.inl ⟨_, rfl⟩) dX8_joined_17 (by omega) (by omega) ?_ | refine z_aret (r := some _) C hQ (Or.inl ⟨_, rfl⟩) dX8_joined_17 (by omega) (by omega) ?_ | refine z_aret (r := none) C hQ (Or.inl ⟨_, rfl⟩) dX8_joined_17 (by omega) (by omega) ?_
    exact ⟨none, rfl, F2.rf, TT.nil⟩
  | succ n ih =>
    intro σ A B r r2 hl hE hN hA hB
    cases r with
    | none =>
      obtain rfl := hA.of_none
      cases r2 with
      | none =>
        obtain rfl := hB.of_none
        show Ct (wX D) yX8_joined cX8_joined 2 _ [.null, .null] σ _ _ 0 0
        refine Ct.of KXok (by decide) (Nat.le_of_ble_eq_true rfl) rfl fun Y C hQ hNm => ?_
        first | refine z_al0 (q := 1) C dX8_joined_0 rfl ?_ | refine z_al0q (q := 1) C dX8_joined_0 rfl ?_ | refine z_al0u (q := 1) C dX8_joined_0 rfl ?_
        refine z_ifnull_u (tgt := 8) C dX8_joined_1 (by decide) ?_
        first | refine z_al0 (q := 9) C dX8_joined_8 rfl ?_ | refine z_al0q (q := 9) C dX8_joined_8 rfl ?_ | refine z_al0u (q := 9) C dX8_joined_8 rfl ?_
        refine z_ifnonnull_u (q := 12) C dX8_joined_9 rfl ?_
        first | refine z_al1 (q := 13) C dX8_joined_12 rfl ?_ | refine z_al1q (q := 13) C dX8_joined_12 rfl ?_ | refine z_al1u (q := 13) C dX8_joined_12 rfl ?_
        refine z_goto (tgt := 17) C dX8_joined_13 (by decide) ?_
        first | refine z_aret C hQ (Or.inl ⟨_, rfl⟩) dX8_joined_17 (by omega) (by omega) ?_ | refine z_aret (r := some _) C hQ (Or.inl ⟨_, rfl⟩) dX8_joined_17 (by omega) (by omega) ?_ | refine z_aret (r := none) C hQ (Or.inl ⟨_, rfl⟩) dX8_joined_17 (by omega) (by omega) ?_
        exact ⟨none, rfl, F2.rf, TT.nil⟩
      | some b =>
        show Ct (wX D) yX8_joined cX8_joined 2 _ [.null, .ref b] σ _ _ 0 0
        refine Ct.of KXok (by decide) (Nat.le_of_ble_eq_true rfl) rfl fun Y C hQ hNm => ?_
        first | refine z_al0 (q := 1) C dX8_joined_0 rfl ?_ | refine z_al0q (q := 1) C dX8_joined_0 rfl ?_ | refine z_al0u (q := 1) C dX8_joined_0 rfl ?_
        refine z_ifnull_u (tgt := 8) C dX8_joined_1 (by decide) ?_
        first | refine z_al0 (q := 9) C dX8_joined_8 rfl ?_ | refine z_al0q (q := 9) C dX8_joined_8 rfl ?_ | refine z_al0u (q := 9) C dX8_joined_8 rfl ?_
        refine z_ifnonnull_u (q := 12) C dX8_joined_9 rfl ?_
        first | refine z_al1 (q := 13) C dX8_joined_12 rfl ?_ | refine z_al1q (q := 13) C dX8_joined_12 rfl ?_ | refine z_al1u (q := 13) C dX8_joined_12 rfl ?_
        refine z_goto (tgt := 17) C dX8_joined_13 (by decide) ?_
        first | refine z_aret C hQ (Or.inl ⟨_, rfl⟩) dX8_joined_17 (by omega) (by omega) ?_ | refine z_aret (r := some _) C hQ (Or.inl ⟨_, rfl⟩) dX8_joined_17 (by omega) (by omega) ?_ | refine z_aret (r := none) C hQ (Or.inl ⟨_, rfl⟩) dX8_joined_17 (by omega) (by omega) ?_
        exact ⟨some b, rfl, F2.rf, hB⟩
    | some a =>
      cases r2 with
      | none =>
        obtain rfl := hB.of_none
        show Ct (wX D) yX8_joined cX8_joined 2 _ [.ref a, .null] σ _ _ 0 0
        refine Ct.of KXok (by decide) (Nat.le_of_ble_eq_true rfl) rfl fun Y C hQ hNm => ?_
        first | refine z_al0 (q := 1) C dX8_joined_0 rfl ?_ | refine z_al0q (q := 1) C dX8_joined_0 rfl ?_ | refine z_al0u (q := 1) C dX8_joined_0 rfl ?_
        refine z_ifnull_r (q := 4) C dX8_joined_1 rfl ?_
        first | refine z_al1 (q := 5) C dX8_joined_4 rfl ?_ | refine z_al1q (q := 5) C dX8_joined_4 rfl ?_ | refine z_al1u (q := 5) C dX8_joined_4 rfl ?_
        refine z_ifnonnull_u (q := 8) C dX8_joined_5 rfl ?_
        first | refine z_al0 (q := 9) C dX8_joined_8 rfl ?_ | refine z_al0q (q := 9) C dX8_joined_8 rfl ?_ | refine z_al0u (q := 9) C dX8_joined_8 rfl ?_
        refine z_ifnonnull_r (tgt := 16) C dX8_joined_9 (by decide) ?_
        first | refine z_al0 (q := 17) C dX8_joined_16 rfl ?_ | refine z_al0q (q := 17) C dX8_joined_16 rfl ?_ | refine z_al0u (q := 17) C dX8_joined_16 rfl ?_
        first | refine z_aret C hQ (Or.inl ⟨_, rfl⟩) dX8_joined_17 (by omega) (by omega) ?_ | refine z_aret (r := some _) C hQ (Or.inl ⟨_, rfl⟩) dX8_joined_17 (by omega) (by omega) ?_ | refine z_aret (r := none) C hQ (Or.inl ⟨_, rfl⟩) dX8_joined_17 (by omega) (by omega) ?_
        exact ⟨some a, rfl, F2.rf, by rw [List.append_nil]; exact hA⟩
      | some b =>
        obtain ⟨m1, A1, ka, A2, -, rfl, rfl, ha1, ha2, ta1, ta2⟩ := hA.of_some
        obtain ⟨m2, B1, kb, B2, -, rfl, rfl, hb1, hb2, tb1, tb2⟩ := hB.of_some
        obtain ⟨hk, k20, k22, -, k5, -⟩ := hE ka (by simp)
        obtain ⟨hb, b20, b22, -, b5, -⟩ := hE kb (by simp)
        have hinj : ∀ x y, x ∈ A1 ++ ka :: A2 ++ (B1 ++ kb :: B2) → y ∈ A1 ++ ka :: A2 ++ (B1 ++ kb :: B2) → ad x = ad y → x = y := fun x y h1 h2 h3 => hE.inj h1 h2 h3
        have hN2 := hN
        simp only [List.append_assoc, List.cons_append, List.nodup_append, List.nodup_cons, List.mem_append, List.mem_cons] at hN2
        show Ct (wX D) yX8_joined cX8_joined 2 _ [.ref (ad ka), .ref (ad kb)] σ _ _ 0 0
        refine Ct.of KXok (by decide) (Nat.le_of_ble_eq_true rfl) rfl fun Y C hQ hNm => ?_
        first | refine z_al0 (q := 1) C dX8_joined_0 rfl ?_ | refine z_al0q (q := 1) C dX8_joined_0 rfl ?_ | refine z_al0u (q := 1) C dX8_joined_0 rfl ?_
        refine z_ifnull_r (q := 4) C dX8_joined_1 rfl ?_
        first | refine z_al1 (q := 5) C dX8_joined_4 rfl ?_ | refine z_al1q (q := 5) C dX8_joined_4 rfl ?_ | refine z_al1u (q := 5) C dX8_joined_4 rfl ?_
        refine z_ifnonnull_r (tgt := 18) C dX8_joined_5 (by decide) ?_
        first | refine z_al0 (q := 19) C dX8_joined_18 rfl ?_ | refine z_al0q (q := 19) C dX8_joined_18 rfl ?_ | refine z_al0u (q := 19) C dX8_joined_18 rfl ?_
        first | refine z_al1 (q := 20) C dX8_joined_19 rfl ?_ | refine z_al1q (q := 20) C dX8_joined_19 rfl ?_ | refine z_al1u (q := 20) C dX8_joined_19 rfl ?_
        refine xc_X8_27 (q := 23) C (cx_above (d := 0) hk hb k22 b22 k20 b20 (by omega) (by omega)) (by first | exact ho | exact hk | exact hb | exact he | assumption | exact Or.inl (by assumption) | exact Or.inr (by assumption)) dX8_joined_20 rfl rfl rfl (Nat.le_of_ble_eq_true rfl) (by first | decide | omega) (by omega) (by omega) (kkE ?_)
        have hlA : (A1 ++ ka :: A2).length = A1.length + A2.length + 1 := by simp; omega
        have hlB : (B1 ++ kb :: B2).length = B1.length + B2.length + 1 := by simp; omega
        rw [hlA, hlB] at hl
        refine z_if_eqB (tgt := 40) (q := 26) C dX8_joined_23 (by decide) rfl (fun c23 => ?_) (fun c23 => ?_)
        · have hne : ka ≠ kb := fun z => by subst z; simp at hN2
          have hba : abv kb ka = true := abv_tot hne (by rw [c23]; simp)
          have hsub : ∀ x ∈ (A1 ++ ka :: A2) ++ B1, x ∈ A1 ++ ka :: A2 ++ (B1 ++ kb :: B2) := fun x hx => by simp at hx ⊢; rcases hx with h | h | h | h <;> simp [h]
          have hnd : ((A1 ++ ka :: A2) ++ B1 ++ kb :: B2).Nodup := by rw [List.append_assoc]; exact hN
          rw [List.nodup_append] at hnd
          obtain ⟨hn1, hn2, hn3⟩ := hnd
          rw [List.nodup_cons] at hn2
          first | refine z_al1 (q := 41) C dX8_joined_40 rfl ?_ | refine z_al1q (q := 41) C dX8_joined_40 rfl ?_ | refine z_al1u (q := 41) C dX8_joined_40 rfl ?_
          first | refine z_al0 (q := 42) C dX8_joined_41 rfl ?_ | refine z_al0q (q := 42) C dX8_joined_41 rfl ?_ | refine z_al0u (q := 42) C dX8_joined_41 rfl ?_
          first | refine z_al1 (q := 43) C dX8_joined_42 rfl ?_ | refine z_al1q (q := 43) C dX8_joined_42 rfl ?_ | refine z_al1u (q := 43) C dX8_joined_42 rfl ?_
          refine xg_X8_48 (q := 46) C (by first | exact ho | exact hk | exact hb | exact he | assumption) dX8_joined_43 rfl ?_
          refine xc_X8_54 (q := 49) C (ih σ (A1 ++ ka :: A2) B1 (some (ad ka)) (fr σ 28 (ad kb)) (by rw [hlA]; omega) (fun x hx => hE x (hsub x hx)) hn1 hA tb1.fuel) dX8_joined_46 rfl rfl rfl (Nat.le_of_ble_eq_true rfl) (by first | decide | omega) (by omega) (by omega) (kkQ fun r46 σ46 h46 => ?_)
          obtain ⟨hF, q1⟩ := h46
          have hk1 : kd σ46 (ad kb) = 2 := by rw [hF.1]; exact hb
          have hnk : ∀ x ∈ (A1 ++ ka :: A2) ++ B1, ad x ≠ ad kb := fun x hx z => (hn3 x hx kb (by simp)) (hE.inj (hsub x hx) (by simp) z)
          first | refine xpr_X8_48 (q := 52) C (by exact hk1) dX8_joined_49 rfl ?_ | refine xpn_X8_48 (q := 52) C (by exact hk1) dX8_joined_49 rfl ?_ | refine xp_X8_48 (q := 52) C (by exact hk1) dX8_joined_49 rfl ?_
          first | refine z_al1 (q := 53) C dX8_joined_52 rfl ?_ | refine z_al1q (q := 53) C dX8_joined_52 rfl ?_ | refine z_al1u (q := 53) C dX8_joined_52 rfl ?_
          first | refine z_aret C hQ (Or.inl ⟨_, rfl⟩) dX8_joined_53 (by omega) (by omega) ?_ | refine z_aret (r := some _) C hQ (Or.inl ⟨_, rfl⟩) dX8_joined_53 (by omega) (by omega) ?_ | refine z_aret (r := none) C hQ (Or.inl ⟨_, rfl⟩) dX8_joined_53 (by omega) (by omega) ?_
          refine ⟨some (ad kb), rfl, (hF.mono hsub).set (k := kb) (by simp) (Or.inl rfl) _, TT.fuel (n := ((A1 ++ ka :: A2) ++ B1).length + B2.length + 1) (Or.inr ⟨(A1 ++ ka :: A2) ++ B1, kb, B2, by simp, rfl, fun x hx => ?_, hb2, ?_, ?_⟩)⟩
          · rcases List.mem_append.mp hx with h | h
            · rcases List.mem_append.mp h with h | h
              · exact abv_tr hba (ha1 x h)
              · rcases List.mem_cons.mp h with h | h
                · rw [h]; exact hba
                · exact abv_tr hba (ha2 x h)
            · exact hb1 x h
          · rw [fr_sR, if_pos ⟨rfl, rfl⟩]
            refine (q1.congr (fun x hx => ?_)).le (by omega)
            rw [fr_sR, if_neg (fun z => hnk x hx z.2), fr_sR, if_neg (fun z => by cases z.1)]
            exact ⟨rfl, rfl⟩
          · rw [fr_sR, if_neg (fun z => by cases z.1), hF.2.2.2.2.2.2 29 (ad kb) (fun y hy z => hnk y hy z.symm)]
            refine (tb2.fuel.congr (fun x hx => ?_)).le (by omega)
            have hxm : x ∈ A1 ++ ka :: A2 ++ (B1 ++ kb :: B2) := by simp [hx]
            have hxk : ad x ≠ ad kb := fun z => hn2.1 (by have := hE.inj hxm (by simp) z; rw [← this]; exact hx)
            have hxn : ∀ y ∈ (A1 ++ ka :: A2) ++ B1, ad x ≠ ad y := fun y hy z => (hn3 y hy x (List.mem_cons_of_mem _ hx)) (hE.inj hxm (hsub y hy) z).symm
            rw [fr_sR, if_neg (fun z => hxk z.2), fr_sR, if_neg (fun z => by cases z.1), hF.2.2.2.2.2.2 28 _ hxn, hF.2.2.2.2.2.2 29 _ hxn]
            exact ⟨rfl, rfl⟩
        · have hsub : ∀ x ∈ A2 ++ (B1 ++ kb :: B2), x ∈ A1 ++ ka :: A2 ++ (B1 ++ kb :: B2) := fun x hx => by simp at hx ⊢; rcases hx with h | h | h | h <;> simp [h]
          have hnd : (A1 ++ ka :: (A2 ++ (B1 ++ kb :: B2))).Nodup := by have h := hN; rw [List.append_assoc, List.cons_append] at h; exact h
          rw [List.nodup_append] at hnd
          obtain ⟨hn1, hn2, hn3⟩ := hnd
          rw [List.nodup_cons] at hn2
          first | refine z_al0 (q := 27) C dX8_joined_26 rfl ?_ | refine z_al0q (q := 27) C dX8_joined_26 rfl ?_ | refine z_al0u (q := 27) C dX8_joined_26 rfl ?_
          first | refine z_al0 (q := 28) C dX8_joined_27 rfl ?_ | refine z_al0q (q := 28) C dX8_joined_27 rfl ?_ | refine z_al0u (q := 28) C dX8_joined_27 rfl ?_
          refine xg_X8_51 (q := 31) C (by first | exact ho | exact hk | exact hb | exact he | assumption) dX8_joined_28 rfl ?_
          first | refine z_al1 (q := 32) C dX8_joined_31 rfl ?_ | refine z_al1q (q := 32) C dX8_joined_31 rfl ?_ | refine z_al1u (q := 32) C dX8_joined_31 rfl ?_
          refine xc_X8_54 (q := 35) C (ih σ A2 (B1 ++ kb :: B2) (fr σ 29 (ad ka)) (some (ad kb)) (by rw [hlB]; omega) (fun x hx => hE x (hsub x hx)) hn2.2 ta2.fuel hB) dX8_joined_32 rfl rfl rfl (Nat.le_of_ble_eq_true rfl) (by first | decide | omega) (by omega) (by omega) (kkQ fun r32 σ32 h32 => ?_)
          obtain ⟨hF, q1⟩ := h32
          have hk1 : kd σ32 (ad ka) = 2 := by rw [hF.1]; exact hk
          have hnk : ∀ x ∈ A2 ++ (B1 ++ kb :: B2), ad x ≠ ad ka := fun x hx z => hn2.1 (by have := hE.inj (hsub x hx) (by simp) z; rw [← this]; exact hx)
          first | refine xpr_X8_51 (q := 38) C (by exact hk1) dX8_joined_35 rfl ?_ | refine xpn_X8_51 (q := 38) C (by exact hk1) dX8_joined_35 rfl ?_ | refine xp_X8_51 (q := 38) C (by exact hk1) dX8_joined_35 rfl ?_
          first | refine z_al0 (q := 39) C dX8_joined_38 rfl ?_ | refine z_al0q (q := 39) C dX8_joined_38 rfl ?_ | refine z_al0u (q := 39) C dX8_joined_38 rfl ?_
          first | refine z_aret C hQ (Or.inl ⟨_, rfl⟩) dX8_joined_39 (by omega) (by omega) ?_ | refine z_aret (r := some _) C hQ (Or.inl ⟨_, rfl⟩) dX8_joined_39 (by omega) (by omega) ?_ | refine z_aret (r := none) C hQ (Or.inl ⟨_, rfl⟩) dX8_joined_39 (by omega) (by omega) ?_
          refine ⟨some (ad ka), rfl, (hF.mono hsub).set (k := ka) (by simp) (Or.inr rfl) _, TT.fuel (n := A1.length + (A2 ++ (B1 ++ kb :: B2)).length + 1) (Or.inr ⟨A1, ka, A2 ++ (B1 ++ kb :: B2), by simp, rfl, ha1, fun x hx => ?_, ?_, ?_⟩)⟩
          · rcases List.mem_append.mp hx with h | h
            · exact ha2 x h
            · rcases List.mem_append.mp h with h | h
              · exact abv_tr c23 (hb1 x h)
              · rcases List.mem_cons.mp h with h | h
                · rw [h]; exact c23
                · exact abv_tr c23 (hb2 x h)
          · rw [fr_sR, if_neg (fun z => by cases z.1), hF.2.2.2.2.2.2 28 (ad ka) (fun y hy z => hnk y hy z.symm)]
            refine (ta1.fuel.congr (fun x hx => ?_)).le (by omega)
            have hxm : x ∈ A1 ++ ka :: A2 ++ (B1 ++ kb :: B2) := by simp [hx]
            have hxk : ad x ≠ ad ka := fun z => (hn3 x hx ka (by simp)) (hE.inj hxm (by simp) z)
            have hxn : ∀ y ∈ A2 ++ (B1 ++ kb :: B2), ad x ≠ ad y := fun y hy z => (hn3 x hx y (List.mem_cons_of_mem _ hy)) (hE.inj hxm (hsub y hy) z)
            rw [fr_sR, if_neg (fun z => by cases z.1), fr_sR, if_neg (fun z => hxk z.2), hF.2.2.2.2.2.2 28 _ hxn, hF.2.2.2.2.2.2 29 _ hxn]
            exact ⟨rfl, rfl⟩
          · rw [fr_sR, if_pos ⟨rfl, rfl⟩]
            refine (q1.congr (fun x hx => ?_)).le (by omega)
            rw [fr_sR, if_neg (fun z => by cases z.1), fr_sR, if_neg (fun z => hnk x hx z.2)]
            exact ⟨rfl, rfl⟩
end T58
