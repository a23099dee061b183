/-! THE CLASS: a tree is split about a key -/
set_option maxRecDepth 10000
theorem sp_l {A B A' B' : List Nat} {k : Nat} (h : A' ++ k :: B' = A ++ B) (hk : k ∉ A) : ∃ A2, A' = A ++ A2 ∧ B = A2 ++ k :: B' := by
  rcases List.append_eq_append_iff.mp h with ⟨C, h1, h2⟩ | ⟨C, h1, h2⟩
  · cases C with
    | nil => exact ⟨[], by simpa using h1.symm, by simpa using h2.symm⟩
    | cons c C =>
      have : c = k := by simp at h2; exact h2.1.symm
      exact absurd (by rw [h1, this]; simp) hk
  · exact ⟨C, h1, h2⟩
theorem sp_r {A B A' B' : List Nat} {k : Nat} (h : A' ++ k :: B' = A ++ B) (hk : k ∉ B) : ∃ B1, A = A' ++ k :: B1 ∧ B' = B1 ++ B := by
  rcases List.append_eq_append_iff.mp h with ⟨C, h1, h2⟩ | ⟨C, h1, h2⟩
  · cases C with
    | nil => exact absurd (by rw [show B = k :: B' by simpa using h2.symm]; simp) hk
    | cons c C =>
      simp at h2
      obtain ⟨rfl, h2⟩ := h2
      exact ⟨C, h1, h2⟩
  · exact absurd (by rw [h2]; simp) hk
section T56
variable {D : Dx}
theorem cx_splits {ad hs : Nat → Nat} {e : Nat} : ∀ (n : Nat) (σ : Sg) (A B : List Nat) (r : Option Nat), EN ad hs σ (e :: (A ++ B)) → e ∉ A ++ B → (A ++ B).Nodup → (∀ x ∈ A, tlt hs x e) → (∀ x ∈ B, tlt hs e x) → TT ad (fr σ 28) (fr σ 29) n (A ++ B) r →
    Ct (wX D) yX8_splits cX8_splits 2 none [va_rf r, .ref (ad e)] σ (PV (fun σ' => F2 ad (e :: (A ++ B)) σ σ' ∧ TT ad (fr σ' 28) (fr σ' 29) n A (fr σ' 28 (ad e)) ∧ TT ad (fr σ' 28) (fr σ' 29) n B (fr σ' 29 (ad e)))) (n + 1) 0 0 := by
  intro n
  induction n with
  | zero =>
    intro σ A B r hE heN hN hA hB hT
    obtain ⟨h1, rfl⟩ := hT
    obtain ⟨rfl, rfl⟩ := List.append_eq_nil_iff.mp h1
    have he : kd σ (ad e) = 2 := (hE e (by simp)).1
    show Ct (wX D) yX8_splits cX8_splits 2 none [.null, .ref (ad e)] σ _ _ 0 0
    refine Ct.of KXok (by decide) (Nat.le_of_ble_eq_true rfl) rfl fun Y C hQ hNm => ?_
    first | refine z_al0 (q := 1) C dX8_splits_0 rfl ?_ | refine z_al0q (q := 1) C dX8_splits_0 rfl ?_ | refine z_al0u (q := 1) C dX8_splits_0 rfl ?_
    refine z_ifnonnull_u (q := 4) C dX8_splits_1 rfl ?_
    first | refine z_al1 (q := 5) C dX8_splits_4 rfl ?_ | refine z_al1q (q := 5) C dX8_splits_4 rfl ?_ | refine z_al1u (q := 5) C dX8_splits_4 rfl ?_
    refine z_null (q := 6) C dX8_splits_5 rfl ?_
    first | refine xpr_X8_48 (q := 9) C (by first | exact ho | exact hk | exact hb | exact he | assumption) dX8_splits_6 rfl ?_ | refine xpn_X8_48 (q := 9) C (by first | exact ho | exact hk | exact hb | exact he | assumption) dX8_splits_6 rfl ?_ | refine xp_X8_48 (q := 9) C (by first | exact ho | exact hk | exact hb | exact he | assumption) dX8_splits_6 rfl ?_
    first | refine z_al1 (q := 10) C dX8_splits_9 rfl ?_ | refine z_al1q (q := 10) C dX8_splits_9 rfl ?_ | refine z_al1u (q := 10) C dX8_splits_9 rfl ?_
    refine z_null (q := 11) C dX8_splits_10 rfl ?_
    first | refine xpr_X8_51 (q := 14) C (by first | exact ho | exact hk | exact hb | exact he | assumption) dX8_splits_11 rfl ?_ | refine xpn_X8_51 (q := 14) C (by first | exact ho | exact hk | exact hb | exact he | assumption) dX8_splits_11 rfl ?_ | refine xp_X8_51 (q := 14) C (by first | exact ho | exact hk | exact hb | exact he | assumption) dX8_splits_11 rfl ?_
    refine z_goto (tgt := 77) C dX8_splits_14 (by decide) ?_
    refine z_vret C hQ dX8_splits_77 (by omega) (by omega) ?_
    exact ⟨rfl, (F2.rf.set (k := e) (by simp) (Or.inl rfl) none).set (k := e) (by simp) (Or.inr rfl) none, ⟨rfl, by rw [fr_sR, if_neg (by simp), fr_sR, if_pos ⟨rfl, rfl⟩]⟩, ⟨rfl, by rw [fr_sR, if_pos ⟨rfl, rfl⟩]⟩⟩
  | succ n ih =>
    intro σ A B r hE heN hN hA hB hT
    have he : kd σ (ad e) = 2 := (hE e (by simp)).1
    obtain ⟨-, e20, -, e23, e5, e6⟩ := hE e (by simp)
    cases r with
    | none =>
      obtain ⟨rfl, rfl⟩ := List.append_eq_nil_iff.mp hT.of_none
      show Ct (wX D) yX8_splits cX8_splits 2 none [.null, .ref (ad e)] σ _ _ 0 0
      refine Ct.of KXok (by decide) (Nat.le_of_ble_eq_true rfl) rfl fun Y C hQ hNm => ?_
      first | refine z_al0 (q := 1) C dX8_splits_0 rfl ?_ | refine z_al0q (q := 1) C dX8_splits_0 rfl ?_ | refine z_al0u (q := 1) C dX8_splits_0 rfl ?_
      refine z_ifnonnull_u (q := 4) C dX8_splits_1 rfl ?_
      first | refine z_al1 (q := 5) C dX8_splits_4 rfl ?_ | refine z_al1q (q := 5) C dX8_splits_4 rfl ?_ | refine z_al1u (q := 5) C dX8_splits_4 rfl ?_
      refine z_null (q := 6) C dX8_splits_5 rfl ?_
      first | refine xpr_X8_48 (q := 9) C (by first | exact ho | exact hk | exact hb | exact he | assumption) dX8_splits_6 rfl ?_ | refine xpn_X8_48 (q := 9) C (by first | exact ho | exact hk | exact hb | exact he | assumption) dX8_splits_6 rfl ?_ | refine xp_X8_48 (q := 9) C (by first | exact ho | exact hk | exact hb | exact he | assumption) dX8_splits_6 rfl ?_
      first | refine z_al1 (q := 10) C dX8_splits_9 rfl ?_ | refine z_al1q (q := 10) C dX8_splits_9 rfl ?_ | refine z_al1u (q := 10) C dX8_splits_9 rfl ?_
      refine z_null (q := 11) C dX8_splits_10 rfl ?_
      first | refine xpr_X8_51 (q := 14) C (by first | exact ho | exact hk | exact hb | exact he | assumption) dX8_splits_11 rfl ?_ | refine xpn_X8_51 (q := 14) C (by first | exact ho | exact hk | exact hb | exact he | assumption) dX8_splits_11 rfl ?_ | refine xp_X8_51 (q := 14) C (by first | exact ho | exact hk | exact hb | exact he | assumption) dX8_splits_11 rfl ?_
      refine z_goto (tgt := 77) C dX8_splits_14 (by decide) ?_
      refine z_vret C hQ dX8_splits_77 (by omega) (by omega) ?_
      exact ⟨rfl, (F2.rf.set (k := e) (by simp) (Or.inl rfl) none).set (k := e) (by simp) (Or.inr rfl) none, by rw [fr_sR, if_neg (by simp), fr_sR, if_pos ⟨rfl, rfl⟩]; exact TT.nil, by rw [fr_sR, if_pos ⟨rfl, rfl⟩]; exact TT.nil⟩
    | some a =>
      obtain ⟨m, A', k, B', hm, hL, rfl, ha1, ha2, t1, t2⟩ := hT.of_some
      obtain rfl : n = m := by omega
      have hkm : k ∈ A ++ B := by rw [hL]; simp
      obtain ⟨hk, k20, -, k23, k5, k6⟩ := hE k (List.mem_cons_of_mem _ hkm)
      have hke : k ≠ e := fun z => heN (z ▸ hkm)
      have hade : ad k ≠ ad e := fun z => hke (hE.inj (List.mem_cons_of_mem _ hkm) (by simp) z)
      show Ct (wX D) yX8_splits cX8_splits 2 none [.ref (ad k), .ref (ad e)] σ _ _ 0 0
      refine Ct.of KXok (by decide) (Nat.le_of_ble_eq_true rfl) rfl fun Y C hQ hNm => ?_
      first | refine z_al0 (q := 1) C dX8_splits_0 rfl ?_ | refine z_al0q (q := 1) C dX8_splits_0 rfl ?_ | refine z_al0u (q := 1) C dX8_splits_0 rfl ?_
      refine z_ifnonnull_r (tgt := 17) C dX8_splits_1 (by decide) ?_
      first | refine z_al0 (q := 18) C dX8_splits_17 rfl ?_ | refine z_al0q (q := 18) C dX8_splits_17 rfl ?_ | refine z_al0u (q := 18) C dX8_splits_17 rfl ?_
      first | refine z_al1 (q := 19) C dX8_splits_18 rfl ?_ | refine z_al1q (q := 19) C dX8_splits_18 rfl ?_ | refine z_al1u (q := 19) C dX8_splits_18 rfl ?_
      refine xg_X8_37 (q := 22) C (by first | exact ho | exact hk | exact hb | exact he | assumption) dX8_splits_19 rfl ?_
      rw [e23]
      first | refine z_al1 (q := 23) C dX8_splits_22 rfl ?_ | refine z_al1q (q := 23) C dX8_splits_22 rfl ?_ | refine z_al1u (q := 23) C dX8_splits_22 rfl ?_
      refine xg_X8_41 (q := 26) C (by first | exact ho | exact hk | exact hb | exact he | assumption) dX8_splits_23 rfl ?_
      rw [e20]
      refine xc_X8_44 (q := 29) C (cx_place (d := 0) hk k23 k20 k6 e6 (by omega) (by omega)) (by first | exact ho | exact hk | exact hb | exact he | assumption | exact Or.inl (by assumption) | exact Or.inr (by assumption)) dX8_splits_26 rfl rfl rfl (Nat.le_of_ble_eq_true rfl) (by first | decide | omega) (by omega) (by omega) (kkI fun r26 σ26 h26 => ?_)
      obtain ⟨e26, hpl⟩ := h26
      rw [e26]
      have hdj : ∀ x ∈ A ++ B, x ≠ e := fun x hx z => heN (z ▸ hx)
      refine z_if_ge (tgt := 56) (q := 32) C dX8_splits_29 (by decide) rfl (fun c29 => ?_) (fun c29 => ?_)
      · have hlt : tlt hs k e := by
          have : ¬ tlt hs e k := fun z => absurd (hpl.mpr z) (Int32.not_lt.mpr c29)
          unfold tlt at this ⊢
          omega
        have hkB : k ∉ B := fun z => by have := hB k z; unfold tlt at this hlt; omega
        obtain ⟨B1, rfl, rfl⟩ := sp_r hL.symm hkB
        have hNd := hN
        simp only [List.append_assoc, List.cons_append] at hNd
        rw [List.nodup_append] at hNd
        obtain ⟨hn1, hn2, hn3⟩ := hNd
        rw [List.nodup_cons] at hn2
        have hsub : ∀ x ∈ e :: (B1 ++ B), x ∈ e :: (A' ++ k :: B1 ++ B) := fun x hx => by simp at hx ⊢; rcases hx with h | h | h <;> simp [h]
        first | refine z_al0 (q := 57) C dX8_splits_56 rfl ?_ | refine z_al0q (q := 57) C dX8_splits_56 rfl ?_ | refine z_al0u (q := 57) C dX8_splits_56 rfl ?_
        refine xg_X8_51 (q := 60) C (by first | exact ho | exact hk | exact hb | exact he | assumption) dX8_splits_57 rfl ?_
        first | refine z_al1 (q := 61) C dX8_splits_60 rfl ?_ | refine z_al1q (q := 61) C dX8_splits_60 rfl ?_ | refine z_al1u (q := 61) C dX8_splits_60 rfl ?_
        refine xc_X8_33 (q := 64) C (ih σ B1 B (fr σ 29 (ad k)) (fun x hx => hE x (hsub x hx)) (fun z => heN (by simp at z ⊢; rcases z with h | h <;> simp [h])) hn2.2 (fun x hx => hA x (by simp [hx])) hB t2) dX8_splits_61 rfl rfl rfl (Nat.le_of_ble_eq_true rfl) (by first | decide | omega) (by omega) (by omega) (kkV fun σ61 h61 => ?_)
        obtain ⟨hF, q1, q2⟩ := h61
        have he1 : kd σ61 (ad e) = 2 := by rw [hF.1]; exact he
        have hk1 : kd σ61 (ad k) = 2 := by rw [hF.1]; exact hk
        first | refine z_al0 (q := 65) C dX8_splits_64 rfl ?_ | refine z_al0q (q := 65) C dX8_splits_64 rfl ?_ | refine z_al0u (q := 65) C dX8_splits_64 rfl ?_
        first | refine z_al1 (q := 66) C dX8_splits_65 rfl ?_ | refine z_al1q (q := 66) C dX8_splits_65 rfl ?_ | refine z_al1u (q := 66) C dX8_splits_65 rfl ?_
        refine xg_X8_48 (q := 69) C (by exact he1) dX8_splits_66 rfl ?_
        first | refine xpr_X8_51 (q := 72) C (by exact hk1) dX8_splits_69 rfl ?_ | refine xpn_X8_51 (q := 72) C (by exact hk1) dX8_splits_69 rfl ?_ | refine xp_X8_51 (q := 72) C (by exact hk1) dX8_splits_69 rfl ?_
        first | refine z_al1 (q := 73) C dX8_splits_72 rfl ?_ | refine z_al1q (q := 73) C dX8_splits_72 rfl ?_ | refine z_al1u (q := 73) C dX8_splits_72 rfl ?_
        first | refine z_al0 (q := 74) C dX8_splits_73 rfl ?_ | refine z_al0q (q := 74) C dX8_splits_73 rfl ?_ | refine z_al0u (q := 74) C dX8_splits_73 rfl ?_
        first | refine xpr_X8_48 (q := 77) C (by exact he1) dX8_splits_74 rfl ?_ | refine xpn_X8_48 (q := 77) C (by exact he1) dX8_splits_74 rfl ?_ | refine xp_X8_48 (q := 77) C (by exact he1) dX8_splits_74 rfl ?_
        refine z_vret C hQ dX8_splits_77 (by omega) (by omega) ?_
        refine ⟨rfl, ((hF.mono hsub).set (k := k) (by simp) (Or.inr rfl) _).set (k := e) (by simp) (Or.inl rfl) _, ?_, ?_⟩
        · rw [fr_sR, if_pos ⟨rfl, rfl⟩]
          refine Or.inr ⟨A', k, B1, rfl, rfl, ha1, fun x hx => ha2 x (by simp [hx]), ?_, ?_⟩
          · rw [fr_sR, if_neg (fun z => hade z.2), fr_sR, if_neg (fun z => by cases z.1), hF.2.2.2.2.2.2 28 (ad k) (fun x hx z => ?_)]
            · refine t1.congr (fun x hx => ?_)
              have hxm : x ∈ e :: (A' ++ k :: B1 ++ B) := by simp [hx]
              have hxk : ad x ≠ ad k := fun z => by have := hE.inj hxm (by simp) z; subst this; exact (hn3 x hx x (by simp)) rfl
              have hxe : ad x ≠ ad e := fun z => by have := hE.inj hxm (by simp) z; exact hdj x (by simp [hx]) this
              have hxn : ∀ y ∈ e :: (B1 ++ B), ad x ≠ ad y := fun y hy z => by
                have := hE.inj hxm (hsub y hy) z
                subst this
                rcases List.mem_cons.mp hy with h | h
                · exact hdj x (by simp [hx]) h
                · exact (hn3 x hx x (List.mem_cons_of_mem _ h)) rfl
              rw [fr_sR, if_neg (fun z => hxe z.2), fr_sR, if_neg (fun z => by cases z.1), fr_sR, if_neg (fun z => by cases z.1), fr_sR, if_neg (fun z => hxk z.2), hF.2.2.2.2.2.2 28 _ hxn, hF.2.2.2.2.2.2 29 _ hxn]
              exact ⟨rfl, rfl⟩
            · have := hE.inj (by simp) (hsub x hx) z
              subst this
              rcases List.mem_cons.mp hx with h | h
              · exact hke h
              · exact hn2.1 h
          · rw [fr_sR, if_neg (fun z => by cases z.1), fr_sR, if_pos ⟨rfl, rfl⟩]
            refine q1.congr (fun x hx => ?_)
            have hxm : x ∈ e :: (A' ++ k :: B1 ++ B) := by simp [hx]
            have hxk : ad x ≠ ad k := fun z => by have := hE.inj hxm (by simp) z; subst this; exact hn2.1 (by simp [hx])
            have hxe : ad x ≠ ad e := fun z => by have := hE.inj hxm (by simp) z; exact hdj x (by simp [hx]) this
            rw [fr_sR, if_neg (fun z => hxe z.2), fr_sR, if_neg (fun z => by cases z.1), fr_sR, if_neg (fun z => by cases z.1), fr_sR, if_neg (fun z => hxk z.2)]
            exact ⟨rfl, rfl⟩
        · rw [fr_sR, if_neg (fun z => by cases z.1), fr_sR, if_neg (fun z => hade z.2.symm)]
          refine (q2.congr (fun x hx => ?_)).up
          have hxm : x ∈ e :: (A' ++ k :: B1 ++ B) := by simp [hx]
          have hxk : ad x ≠ ad k := fun z => by have := hE.inj hxm (by simp) z; subst this; exact hn2.1 (by simp [hx])
          have hxe : ad x ≠ ad e := fun z => by have := hE.inj hxm (by simp) z; exact hdj x (by simp [hx]) this
          rw [fr_sR, if_neg (fun z => hxe z.2), fr_sR, if_neg (fun z => by cases z.1), fr_sR, if_neg (fun z => by cases z.1), fr_sR, if_neg (fun z => hxk z.2)]
          exact ⟨rfl, rfl⟩
      · have hlt : tlt hs e k := hpl.mp (Int32.not_le.mp c29)
        have hkA : k ∉ A := fun z => by have := hA k z; unfold tlt at this hlt; omega
        obtain ⟨A2, rfl, rfl⟩ := sp_l hL.symm hkA
        have hNd := hN
        rw [← List.append_assoc, List.nodup_append] at hNd
        obtain ⟨hn1, hn2, hn3⟩ := hNd
        rw [List.nodup_cons] at hn2
        have hsub : ∀ x ∈ e :: (A ++ A2), x ∈ e :: (A ++ (A2 ++ k :: B')) := fun x hx => by simp at hx ⊢; rcases hx with h | h | h <;> simp [h]
        first | refine z_al0 (q := 33) C dX8_splits_32 rfl ?_ | refine z_al0q (q := 33) C dX8_splits_32 rfl ?_ | refine z_al0u (q := 33) C dX8_splits_32 rfl ?_
        refine xg_X8_48 (q := 36) C (by first | exact ho | exact hk | exact hb | exact he | assumption) dX8_splits_33 rfl ?_
        first | refine z_al1 (q := 37) C dX8_splits_36 rfl ?_ | refine z_al1q (q := 37) C dX8_splits_36 rfl ?_ | refine z_al1u (q := 37) C dX8_splits_36 rfl ?_
        refine xc_X8_33 (q := 40) C (ih σ A A2 (fr σ 28 (ad k)) (fun x hx => hE x (hsub x hx)) (fun z => heN (by simp at z ⊢; rcases z with h | h <;> simp [h])) hn1 hA (fun x hx => hB x (by simp [hx])) t1) dX8_splits_37 rfl rfl rfl (Nat.le_of_ble_eq_true rfl) (by first | decide | omega) (by omega) (by omega) (kkV fun σ37 h37 => ?_)
        obtain ⟨hF, q1, q2⟩ := h37
        have he1 : kd σ37 (ad e) = 2 := by rw [hF.1]; exact he
        have hk1 : kd σ37 (ad k) = 2 := by rw [hF.1]; exact hk
        have hnk : ∀ x ∈ A ++ A2, x ≠ k := fun x hx z => (hn3 x hx k (by simp)) z
        first | refine z_al0 (q := 41) C dX8_splits_40 rfl ?_ | refine z_al0q (q := 41) C dX8_splits_40 rfl ?_ | refine z_al0u (q := 41) C dX8_splits_40 rfl ?_
        first | refine z_al1 (q := 42) C dX8_splits_41 rfl ?_ | refine z_al1q (q := 42) C dX8_splits_41 rfl ?_ | refine z_al1u (q := 42) C dX8_splits_41 rfl ?_
        refine xg_X8_51 (q := 45) C (by exact he1) dX8_splits_42 rfl ?_
        first | refine xpr_X8_48 (q := 48) C (by exact hk1) dX8_splits_45 rfl ?_ | refine xpn_X8_48 (q := 48) C (by exact hk1) dX8_splits_45 rfl ?_ | refine xp_X8_48 (q := 48) C (by exact hk1) dX8_splits_45 rfl ?_
        first | refine z_al1 (q := 49) C dX8_splits_48 rfl ?_ | refine z_al1q (q := 49) C dX8_splits_48 rfl ?_ | refine z_al1u (q := 49) C dX8_splits_48 rfl ?_
        first | refine z_al0 (q := 50) C dX8_splits_49 rfl ?_ | refine z_al0q (q := 50) C dX8_splits_49 rfl ?_ | refine z_al0u (q := 50) C dX8_splits_49 rfl ?_
        first | refine xpr_X8_51 (q := 53) C (by exact he1) dX8_splits_50 rfl ?_ | refine xpn_X8_51 (q := 53) C (by exact he1) dX8_splits_50 rfl ?_ | refine xp_X8_51 (q := 53) C (by exact he1) dX8_splits_50 rfl ?_
        refine z_goto (tgt := 77) C dX8_splits_53 (by decide) ?_
        refine z_vret C hQ dX8_splits_77 (by omega) (by omega) ?_
        refine ⟨rfl, ((hF.mono hsub).set (k := k) (by simp) (Or.inl rfl) _).set (k := e) (by simp) (Or.inr rfl) _, ?_, ?_⟩
        · rw [fr_sR, if_neg (fun z => by cases z.1), fr_sR, if_neg (fun z => hade z.2.symm)]
          refine (q1.congr (fun x hx => ?_)).up
          have hxm : x ∈ e :: (A ++ (A2 ++ k :: B')) := by simp [hx]
          have hxk : ad x ≠ ad k := fun z => hnk x (by simp [hx]) (hE.inj hxm (by simp) z)
          have hxe : ad x ≠ ad e := fun z => hdj x (by simp [hx]) (hE.inj hxm (by simp) z)
          rw [fr_sR, if_neg (fun z => by cases z.1), fr_sR, if_neg (fun z => hxk z.2), fr_sR, if_neg (fun z => hxe z.2), fr_sR, if_neg (fun z => by cases z.1)]
          exact ⟨rfl, rfl⟩
        · rw [fr_sR, if_pos ⟨rfl, rfl⟩]
          refine Or.inr ⟨A2, k, B', rfl, rfl, fun x hx => ha1 x (by simp [hx]), ha2, ?_, ?_⟩
          · rw [fr_sR, if_neg (fun z => by cases z.1), fr_sR, if_pos ⟨rfl, rfl⟩]
            refine q2.congr (fun x hx => ?_)
            have hxm : x ∈ e :: (A ++ (A2 ++ k :: B')) := by simp [hx]
            have hxk : ad x ≠ ad k := fun z => hnk x (by simp [hx]) (hE.inj hxm (by simp) z)
            have hxe : ad x ≠ ad e := fun z => hdj x (by simp [hx]) (hE.inj hxm (by simp) z)
            rw [fr_sR, if_neg (fun z => by cases z.1), fr_sR, if_neg (fun z => hxk z.2), fr_sR, if_neg (fun z => hxe z.2), fr_sR, if_neg (fun z => by cases z.1)]
            exact ⟨rfl, rfl⟩
          · have hkn : ∀ y ∈ e :: (A ++ A2), ad k ≠ ad y := fun y hy z => by
              have h1 := hE.inj (by simp) (hsub y hy) z
              rcases List.mem_cons.mp hy with h | h
              · exact hke (h1.trans h)
              · exact hnk y h h1.symm
            rw [fr_sR, if_neg (fun z => hade z.2), fr_sR, if_neg (fun z => by cases z.1), hF.2.2.2.2.2.2 29 (ad k) hkn]
            refine t2.congr (fun x hx => ?_)
            have hxm : x ∈ e :: (A ++ (A2 ++ k :: B')) := by simp [hx]
            have hxk : ad x ≠ ad k := fun z => hn2.1 (by have := hE.inj hxm (by simp) z; rw [← this]; exact hx)
            have hxe : ad x ≠ ad e := fun z => hdj x (by simp [hx]) (hE.inj hxm (by simp) z)
            have hxn : ∀ y ∈ e :: (A ++ A2), ad x ≠ ad y := fun y hy z => by
              have h1 := hE.inj hxm (hsub y hy) z
              rcases List.mem_cons.mp hy with h | h
              · exact hdj x (by simp [hx]) (h1.trans h)
              · exact (hn3 y h x (List.mem_cons_of_mem _ hx)) h1.symm
            rw [fr_sR, if_neg (fun z => by cases z.1), fr_sR, if_neg (fun z => hxk z.2), fr_sR, if_neg (fun z => hxe z.2), fr_sR, if_neg (fun z => by cases z.1), hF.2.2.2.2.2.2 28 _ hxn, hF.2.2.2.2.2.2 29 _ hxn]
            exact ⟨rfl, rfl⟩
end T56
