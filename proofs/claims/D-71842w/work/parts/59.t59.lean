/-! THE CLASS: a key goes out of a tree -/
set_option maxRecDepth 10000
section T59
variable {D : Dx}
theorem cx_without {ad hs : Nat → Nat} {e : Nat} : ∀ (n : Nat) (σ : Sg) (A B : List Nat) (r : Option Nat), (A ++ e :: B).length ≤ n → EN ad hs σ (A ++ e :: B) → (A ++ e :: B).Nodup → (∀ x ∈ A, tlt hs x e) → (∀ x ∈ B, tlt hs e x) → TT ad (fr σ 28) (fr σ 29) (A ++ e :: B).length (A ++ e :: B) r →
    Ct (wX D) yX8_without cX8_without 2 (some (.object "CrowdedBins$Entry")) [va_rf r, .ref (ad e)] σ (PQ (fun r' σ' => F2 ad (A ++ e :: B) σ σ' ∧ TT ad (fr σ' 28) (fr σ' 29) (A ++ B).length (A ++ B) r')) (n + 3) 0 0 := by
  intro n
  induction n with
  | zero => intro σ A B r hl; simp at hl
  | succ n ih =>
    intro σ A B r hl hE hN hA hB hT
    obtain ⟨he, e20, -, e23, e5, e6⟩ := hE e (by simp)
    cases r with
    | none => have := hT.of_none; simp at this
    | some a =>
      obtain ⟨m, A', k, B', -, hL, rfl, ha1, ha2, t1, t2⟩ := hT.of_some
      have hkm : k ∈ A ++ e :: B := by rw [hL]; simp
      obtain ⟨hk, k20, -, k23, k5, k6⟩ := hE k hkm
      show Ct (wX D) yX8_without cX8_without 2 _ [.ref (ad k), .ref (ad e)] σ _ _ 0 0
      refine Ct.of KXok (by decide) (Nat.le_of_ble_eq_true rfl) rfl fun Y C hQ hNm => ?_
      first | refine z_al0 (q := 1) C dX8_without_0 rfl ?_ | refine z_al0q (q := 1) C dX8_without_0 rfl ?_ | refine z_al0u (q := 1) C dX8_without_0 rfl ?_
      first | refine z_al1 (q := 2) C dX8_without_1 rfl ?_ | refine z_al1q (q := 2) C dX8_without_1 rfl ?_ | refine z_al1u (q := 2) C dX8_without_1 rfl ?_
      refine z_acmp_ne (rx := some (ad k)) (ry := some (ad e)) (tgt := 17) (q := 5) C dX8_without_2 (by decide) rfl (fun c2 => ?_) (fun c2 => ?_)
      · have hke : k ≠ e := fun z => c2 (by rw [z])
        first | refine z_al0 (q := 18) C dX8_without_17 rfl ?_ | refine z_al0q (q := 18) C dX8_without_17 rfl ?_ | refine z_al0u (q := 18) C dX8_without_17 rfl ?_
        first | refine z_al1 (q := 19) C dX8_without_18 rfl ?_ | refine z_al1q (q := 19) C dX8_without_18 rfl ?_ | refine z_al1u (q := 19) C dX8_without_18 rfl ?_
        refine xg_X8_37 (q := 22) C (by first | exact ho | exact hk | exact hb | exact he | assumption) dX8_without_19 rfl ?_
        rw [e23]
        first | refine z_al1 (q := 23) C dX8_without_22 rfl ?_ | refine z_al1q (q := 23) C dX8_without_22 rfl ?_ | refine z_al1u (q := 23) C dX8_without_22 rfl ?_
        refine xg_X8_41 (q := 26) C (by first | exact ho | exact hk | exact hb | exact he | assumption) dX8_without_23 rfl ?_
        rw [e20]
        refine xc_X8_44 (q := 29) C (cx_place (d := 0) hk k23 k20 k6 e6 (by omega) (by omega)) (by first | exact ho | exact hk | exact hb | exact he | assumption | exact Or.inl (by assumption) | exact Or.inr (by assumption)) dX8_without_26 rfl rfl rfl (Nat.le_of_ble_eq_true rfl) (by first | decide | omega) (by omega) (by omega) (kkI fun r26 σ26 h26 => ?_)
        obtain ⟨e26, hpl⟩ := h26
        rw [e26]
        refine z_if_ge (tgt := 47) (q := 32) C dX8_without_29 (by decide) rfl (fun c29 => ?_) (fun c29 => ?_)
        · have hlt : tlt hs k e := by
            have : ¬ tlt hs e k := fun z => absurd (hpl.mpr z) (Int32.not_lt.mpr c29)
            unfold tlt at this ⊢
            omega
          have hkB : k ∉ e :: B := fun z => by
            rcases List.mem_cons.mp z with h | h
            · exact hke h
            · have := hB k h; unfold tlt at this hlt; omega
          obtain ⟨B1, rfl, rfl⟩ := sp_r hL.symm hkB
          have hnd : (A' ++ k :: (B1 ++ e :: B)).Nodup := by have h := hN; rw [List.append_assoc, List.cons_append] at h; exact h
          rw [List.nodup_append] at hnd
          obtain ⟨hn1, hn2, hn3⟩ := hnd
          rw [List.nodup_cons] at hn2
          have hsub : ∀ x ∈ B1 ++ e :: B, x ∈ A' ++ k :: B1 ++ e :: B := fun x hx => by simp at hx ⊢; rcases hx with h | h | h <;> simp [h]
          first | refine z_al0 (q := 48) C dX8_without_47 rfl ?_ | refine z_al0q (q := 48) C dX8_without_47 rfl ?_ | refine z_al0u (q := 48) C dX8_without_47 rfl ?_
          first | refine z_al0 (q := 49) C dX8_without_48 rfl ?_ | refine z_al0q (q := 49) C dX8_without_48 rfl ?_ | refine z_al0u (q := 49) C dX8_without_48 rfl ?_
          refine xg_X8_51 (q := 52) C (by first | exact ho | exact hk | exact hb | exact he | assumption) dX8_without_49 rfl ?_
          first | refine z_al1 (q := 53) C dX8_without_52 rfl ?_ | refine z_al1q (q := 53) C dX8_without_52 rfl ?_ | refine z_al1u (q := 53) C dX8_without_52 rfl ?_
          refine xc_X8_24 (q := 56) C (ih σ B1 B (fr σ 29 (ad k)) (by simp at hl ⊢; omega) (fun x hx => hE x (hsub x hx)) hn2.2 (fun x hx => hA x (by simp [hx])) hB t2.fuel) dX8_without_53 rfl rfl rfl (Nat.le_of_ble_eq_true rfl) (by first | decide | omega) (by omega) (by omega) (kkQ fun r53 σ53 h53 => ?_)
          obtain ⟨hF, q1⟩ := h53
          have hk1 : kd σ53 (ad k) = 2 := by rw [hF.1]; exact hk
          have hnk : ∀ x ∈ B1 ++ e :: B, ad x ≠ ad k := fun x hx z => hn2.1 (by have := hE.inj (hsub x hx) (by simp) z; rw [← this]; exact hx)
          first | refine xpr_X8_51 (q := 59) C (by exact hk1) dX8_without_56 rfl ?_ | refine xpn_X8_51 (q := 59) C (by exact hk1) dX8_without_56 rfl ?_ | refine xp_X8_51 (q := 59) C (by exact hk1) dX8_without_56 rfl ?_
          first | refine z_al0 (q := 60) C dX8_without_59 rfl ?_ | refine z_al0q (q := 60) C dX8_without_59 rfl ?_ | refine z_al0u (q := 60) C dX8_without_59 rfl ?_
          first | refine z_aret C hQ (Or.inl ⟨_, rfl⟩) dX8_without_60 (by omega) (by omega) ?_ | refine z_aret (r := some _) C hQ (Or.inl ⟨_, rfl⟩) dX8_without_60 (by omega) (by omega) ?_ | refine z_aret (r := none) C hQ (Or.inl ⟨_, rfl⟩) dX8_without_60 (by omega) (by omega) ?_
          refine ⟨some (ad k), rfl, (hF.mono hsub).set (k := k) (by simp) (Or.inr rfl) _, TT.fuel (n := A'.length + (B1 ++ B).length + 1) (Or.inr ⟨A', k, B1 ++ B, by simp, rfl, ha1, fun x hx => ha2 x (by simp at hx ⊢; rcases hx with h | h <;> simp [h]), ?_, ?_⟩)⟩
          · rw [fr_sR, if_neg (fun z => by cases z.1), hF.2.2.2.2.2.2 28 (ad k) (fun y hy z => hnk y hy z.symm)]
            refine (t1.fuel.congr (fun x hx => ?_)).le (by omega)
            have hxm : x ∈ A' ++ k :: B1 ++ e :: B := by simp [hx]
            have hxk : ad x ≠ ad k := fun z => (hn3 x hx k (by simp)) (hE.inj hxm (by simp) z)
            have hxn : ∀ y ∈ B1 ++ e :: B, ad x ≠ ad y := fun y hy z => (hn3 x hx y (List.mem_cons_of_mem _ hy)) (hE.inj hxm (hsub y hy) z)
            rw [fr_sR, if_neg (fun z => by cases z.1), fr_sR, if_neg (fun z => hxk z.2), hF.2.2.2.2.2.2 28 _ hxn, hF.2.2.2.2.2.2 29 _ hxn]
            exact ⟨rfl, rfl⟩
          · rw [fr_sR, if_pos ⟨rfl, rfl⟩]
            refine (q1.congr (fun x hx => ?_)).le (by omega)
            rw [fr_sR, if_neg (fun z => by cases z.1), fr_sR, if_neg (fun z => hnk x (by simp at hx ⊢; rcases hx with h | h <;> simp [h]) z.2)]
            exact ⟨rfl, rfl⟩
        · have hlt : tlt hs e k := hpl.mp (Int32.not_le.mp c29)
          have hkA : k ∉ A ++ [e] := fun z => by
            rcases List.mem_append.mp z with h | h
            · have := hA k h; unfold tlt at this hlt; omega
            · simp at h; exact hke h
          obtain ⟨A2, rfl, rfl⟩ := sp_l (A := A ++ [e]) (B := B) (by rw [← hL]; simp) hkA
          have hnd : ((A ++ e :: A2) ++ k :: B').Nodup := by have h := hN; simp only [List.append_assoc, List.cons_append] at h ⊢; exact h
          rw [List.nodup_append] at hnd
          obtain ⟨hn1, hn2, hn3⟩ := hnd
          rw [List.nodup_cons] at hn2
          have hsub : ∀ x ∈ A ++ e :: A2, x ∈ A ++ e :: (A2 ++ k :: B') := fun x hx => by simp at hx ⊢; rcases hx with h | h | h <;> simp [h]
          have t1' : TT ad (fr σ 28) (fr σ 29) (A ++ e :: A2).length (A ++ e :: A2) (fr σ 28 (ad k)) := by have h := t1.fuel; simp only [List.append_assoc, List.cons_append, List.nil_append] at h; exact h
          first | refine z_al0 (q := 33) C dX8_without_32 rfl ?_ | refine z_al0q (q := 33) C dX8_without_32 rfl ?_ | refine z_al0u (q := 33) C dX8_without_32 rfl ?_
          first | refine z_al0 (q := 34) C dX8_without_33 rfl ?_ | refine z_al0q (q := 34) C dX8_without_33 rfl ?_ | refine z_al0u (q := 34) C dX8_without_33 rfl ?_
          refine xg_X8_48 (q := 37) C (by first | exact ho | exact hk | exact hb | exact he | assumption) dX8_without_34 rfl ?_
          first | refine z_al1 (q := 38) C dX8_without_37 rfl ?_ | refine z_al1q (q := 38) C dX8_without_37 rfl ?_ | refine z_al1u (q := 38) C dX8_without_37 rfl ?_
          refine xc_X8_24 (q := 41) C (ih σ A A2 (fr σ 28 (ad k)) (by simp at hl ⊢; omega) (fun x hx => hE x (hsub x hx)) hn1 hA (fun x hx => hB x (by simp [hx])) t1') dX8_without_38 rfl rfl rfl (Nat.le_of_ble_eq_true rfl) (by first | decide | omega) (by omega) (by omega) (kkQ fun r38 σ38 h38 => ?_)
          obtain ⟨hF, q1⟩ := h38
          have hk1 : kd σ38 (ad k) = 2 := by rw [hF.1]; exact hk
          have hnk : ∀ x ∈ A ++ e :: A2, ad x ≠ ad k := fun x hx z => (hn3 x hx k (by simp)) (hE.inj (hsub x hx) (by simp) z)
          first | refine xpr_X8_48 (q := 44) C (by exact hk1) dX8_without_41 rfl ?_ | refine xpn_X8_48 (q := 44) C (by exact hk1) dX8_without_41 rfl ?_ | refine xp_X8_48 (q := 44) C (by exact hk1) dX8_without_41 rfl ?_
          refine z_goto (tgt := 59) C dX8_without_44 (by decide) ?_
          first | refine z_al0 (q := 60) C dX8_without_59 rfl ?_ | refine z_al0q (q := 60) C dX8_without_59 rfl ?_ | refine z_al0u (q := 60) C dX8_without_59 rfl ?_
          first | refine z_aret C hQ (Or.inl ⟨_, rfl⟩) dX8_without_60 (by omega) (by omega) ?_ | refine z_aret (r := some _) C hQ (Or.inl ⟨_, rfl⟩) dX8_without_60 (by omega) (by omega) ?_ | refine z_aret (r := none) C hQ (Or.inl ⟨_, rfl⟩) dX8_without_60 (by omega) (by omega) ?_
          refine ⟨some (ad k), rfl, (hF.mono hsub).set (k := k) (by simp) (Or.inl rfl) _, TT.fuel (n := (A ++ A2).length + B'.length + 1) (Or.inr ⟨A ++ A2, k, B', by simp, rfl, fun x hx => ha1 x (by simp at hx ⊢; rcases hx with h | h <;> simp [h]), ha2, ?_, ?_⟩)⟩
          · rw [fr_sR, if_pos ⟨rfl, rfl⟩]
            refine (q1.congr (fun x hx => ?_)).le (by omega)
            rw [fr_sR, if_neg (fun z => hnk x (by simp at hx ⊢; rcases hx with h | h <;> simp [h]) z.2), fr_sR, if_neg (fun z => by cases z.1)]
            exact ⟨rfl, rfl⟩
          · rw [fr_sR, if_neg (fun z => by cases z.1), hF.2.2.2.2.2.2 29 (ad k) (fun y hy z => hnk y hy z.symm)]
            refine (t2.fuel.congr (fun x hx => ?_)).le (by omega)
            have hxm : x ∈ A ++ e :: (A2 ++ k :: B') := by simp [hx]
            have hxk : ad x ≠ ad k := fun z => hn2.1 (by have := hE.inj hxm (by simp) z; rw [← this]; exact hx)
            have hxn : ∀ y ∈ A ++ e :: A2, ad x ≠ ad y := fun y hy z => (hn3 y hy x (List.mem_cons_of_mem _ hx)) (hE.inj hxm (hsub y hy) z).symm
            rw [fr_sR, if_neg (fun z => hxk z.2), fr_sR, if_neg (fun z => by cases z.1), hF.2.2.2.2.2.2 28 _ hxn, hF.2.2.2.2.2.2 29 _ hxn]
            exact ⟨rfl, rfl⟩
      · have hke : k = e := hE.inj hkm (by simp) (Option.some.inj c2)
        subst hke
        have hAB : A' = A ∧ B' = B := by
          have hN' := hN
          rw [hL] at hN'
          have h1 : k ∉ A := fun z => by have := hA k z; unfold tlt at this; omega
          obtain ⟨A2, h2, h3⟩ := sp_l hL.symm h1
          cases A2 with
          | nil => simp at h3; exact ⟨by simpa using h2, h3.symm⟩
          | cons c A2 =>
            simp at h3
            obtain ⟨rfl, h3⟩ := h3
            have := hB k (by rw [h3]; simp)
            unfold tlt at this
            omega
        obtain ⟨rfl, rfl⟩ := hAB
        have hn : (A' ++ B').Nodup := hN.sublist (by simp)
        have hl2 : A'.length + B'.length + 1 ≤ n + 1 := by simp at hl; omega
        first | refine z_al1 (q := 6) C dX8_without_5 rfl ?_ | refine z_al1q (q := 6) C dX8_without_5 rfl ?_ | refine z_al1u (q := 6) C dX8_without_5 rfl ?_
        refine xg_X8_48 (q := 9) C (by first | exact ho | exact hk | exact hb | exact he | assumption) dX8_without_6 rfl ?_
        first | refine z_al1 (q := 10) C dX8_without_9 rfl ?_ | refine z_al1q (q := 10) C dX8_without_9 rfl ?_ | refine z_al1u (q := 10) C dX8_without_9 rfl ?_
        refine xg_X8_51 (q := 13) C (by first | exact ho | exact hk | exact hb | exact he | assumption) dX8_without_10 rfl ?_
        refine xc_X8_54 (q := 16) C (cx_joined (hs := hs) n σ A' B' (fr σ 28 (ad k)) (fr σ 29 (ad k)) (by omega) (fun x hx => hE x (by simp at hx ⊢; rcases hx with h | h <;> simp [h])) hn t1.fuel t2.fuel) dX8_without_13 rfl rfl rfl (Nat.le_of_ble_eq_true rfl) (by first | decide | omega) (by omega) (by omega) (kkQ fun r13 σ13 h13 => ?_)
        first | refine z_aret C hQ (Or.inl ⟨_, rfl⟩) dX8_without_16 (by omega) (by omega) ?_ | refine z_aret (r := some _) C hQ (Or.inl ⟨_, rfl⟩) dX8_without_16 (by omega) (by omega) ?_ | refine z_aret (r := none) C hQ (Or.inl ⟨_, rfl⟩) dX8_without_16 (by omega) (by omega) ?_
        exact ⟨_, rfl, h13.1.mono (fun x hx => by simp at hx ⊢; rcases hx with h | h <;> simp [h]), h13.2⟩
end T59
