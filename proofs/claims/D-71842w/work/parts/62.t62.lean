/-! THE CLASS: all of a row come to another bin; a bin as a list or a tree -/
set_option maxRecDepth 10000
def FK (ad : Nat → Nat) (L : List Nat) (σ σ' : Sg) : Prop := FR (fun _ _ => False) (fun g x => (26 ≤ g ∧ g ≤ 29) ∧ ∃ k ∈ L, x = ad k) (fun _ => False) σ σ'
theorem FK.of {ad : Nat → Nat} {L : List Nat} {σ σ' : Sg} {a : Nat} (h : FB ad L a σ σ') (ha : kd σ a = 0) : FK ad L σ σ' :=
  FR.mono h (fun g x hx z => hx (by rw [z.2]; exact ha)) (fun g x hx z => z.elim (fun z => absurd ha (by rw [← z.2]; exact hx)) id) (fun _ _ z => z)
theorem RW.new {ad hs : Nat → Nat} {σ : Sg} {a : Nat} (t : Bool) : RW ad hs (nO (if t = true then 4 else 3) a σ) a [] t := by
  have e1 : ∀ g, fr (nO (if t = true then 4 else 3) a σ) g a = none := fun g => if_pos rfl
  refine ⟨if_pos rfl, ?_, ?_, fun _ => ⟨[], List.Perm.refl _, List.Pairwise.nil, ?_⟩⟩
  · exact (show fi (nO (if t = true then 4 else 3) a σ) 42 a = 0 from if_pos rfl)
  · rw [e1 40, e1 41]; exact DL.nil
  · rw [e1 60]; exact TT.nil
section T62
variable {D : Dx} {ad hs : Nat → Nat} {σ : Sg} {b bo : Nat} {L : List Nat} {t : Bool}
theorem CH.fb {S R : List Nat} {σ1 : Sg} {r : Option Nat} (h : CH ad (fr σ 27) R r) (hF : FB ad S b σ σ1) (hE : EN ad hs σ (S ++ R)) (hd : ∀ k ∈ R, k ∉ S) : CH ad (fr σ1 27) R r :=
  h.congr fun k hk => hF.2.2.1 27 _ (hE.nz k (by simp [hk])) (fun z => by
    rcases z with ⟨z, -⟩ | ⟨-, j, hj, e⟩
    · omega
    · have := hE.inj (by simp [hk]) (by simp [hj]) e
      subst this
      exact hd k hk hj)
theorem cx_takes (hw : RW ad hs σ b [] t) (hbo : kd σ bo = 3 ∨ kd σ bo = 4) (hc : CH ad (fr σ 27) L (fr σ 40 bo)) (hE : EN ad hs σ L) (hN : L.Nodup) (hl : L.length ≤ 50) : Ct (wX D) yX3_takes cX3_takes 4 none [.ref b, .ref bo] σ (PV (fun σ' => RW ad hs σ' b L t ∧ FB ad L b σ σ')) 57 0 0 := by
  refine Ct.of KXok (by decide) (Nat.le_of_ble_eq_true rfl) rfl fun Y C hQ hNm => ?_
  have loop : ∀ (R P : List Nat) (σ1 : Sg) (r : Option Nat) (x3 : Option Value), P ++ R = L → loC x3 → RW ad hs σ1 b P t → CH ad (fr σ1 27) R r → FB ad L b σ σ1 → Zj (wX D) Y σ1 0 0 5 [some (.ref b), some (.ref bo), some (va_rf r), x3] [] := by
    intro R
    induction R with
    | nil =>
      intro P σ1 r x3 hPR hx3 hw1 hc1 hF
      have hc1 : r = none := hc1
      subst hc1
      rw [List.append_nil] at hPR
      subst hPR
      show Zj _ _ _ _ _ _ [some (.ref b), some (.ref bo), some .null, x3] []
      first | refine z_al2 (q := 6) C dX3_takes_5 rfl ?_ | refine z_al2q (q := 6) C dX3_takes_5 rfl ?_ | refine z_al2u (q := 6) C dX3_takes_5 rfl ?_
      refine z_ifnull_u (tgt := 24) C dX3_takes_6 (by decide) ?_
      refine z_vret C hQ dX3_takes_24 (by omega) (by omega) ?_
      exact ⟨rfl, hw1, hF⟩
    | cons k R ih =>
      intro P σ1 r x3 hPR hx3 hw1 hc1 hF
      obtain ⟨rfl, hc1⟩ := hc1
      have hE1 : EN ad hs σ1 L := EN.fb (S := L) hE hF
      have hN1 := hN
      rw [← hPR, List.nodup_append, List.nodup_cons] at hN1
      have hsub : ∀ x ∈ k :: P, x ∈ L := fun x hx => by rw [← hPR]; simp at hx ⊢; rcases hx with h | h <;> simp [h]
      have hkd : kd σ1 (ad k) = 2 := (hE1 k (hsub k (by simp))).1
      have hnk : k ∉ P := fun z => hN1.2.2 k z k (by simp) rfl
      have hb1 := hw1.k34
      have hlP : P.length ≤ 50 := by rw [← hPR] at hl; simp at hl; omega
      show Zj _ _ _ _ _ _ [some (.ref b), some (.ref bo), some (.ref (ad k)), x3] []
      first | refine z_al2 (q := 6) C dX3_takes_5 rfl ?_ | refine z_al2q (q := 6) C dX3_takes_5 rfl ?_ | refine z_al2u (q := 6) C dX3_takes_5 rfl ?_
      refine z_ifnull_r (q := 9) C dX3_takes_6 rfl ?_
      first | refine z_al2 (q := 10) C dX3_takes_9 rfl ?_ | refine z_al2q (q := 10) C dX3_takes_9 rfl ?_ | refine z_al2u (q := 10) C dX3_takes_9 rfl ?_
      refine xg_X3_18 (q := 13) C (by exact hkd) dX3_takes_10 rfl ?_
      first | refine z_as3 (q := 14) C dX3_takes_13 rfl (by first | exact loC_i | exact loC_r | exact loC_n | exact loC_q | exact loC_u) ?_ | refine z_as3q (q := 14) C dX3_takes_13 rfl (by first | exact loC_i | exact loC_r | exact loC_n | exact loC_q | exact loC_u) ?_ | refine z_asu3 (q := 14) C dX3_takes_13 rfl (by first | exact loC_i | exact loC_r | exact loC_n | exact loC_q | exact loC_u) ?_
      first | refine z_al0 (q := 15) C dX3_takes_14 rfl ?_ | refine z_al0q (q := 15) C dX3_takes_14 rfl ?_ | refine z_al0u (q := 15) C dX3_takes_14 rfl ?_
      first | refine z_al2 (q := 16) C dX3_takes_15 rfl ?_ | refine z_al2q (q := 16) C dX3_takes_15 rfl ?_ | refine z_al2u (q := 16) C dX3_takes_15 rfl ?_
      refine xc_X3_28 (q := 19) C (fun h => cx_comes3 hw1 (hE1.sub hsub) hnk h (d := 56)) (fun h => cx_comes4 hw1 (hE1.sub hsub) hnk hlP h (Nat.le_refl 56)) (by exact hb1) dX3_takes_16 rfl rfl rfl (Nat.le_of_ble_eq_true rfl) (by first | decide | omega) (by omega) (by omega) (kkV fun σ16 h16 => ?_)
      obtain ⟨hw2, hF2⟩ := h16
      have hg := ih (P ++ [k]) σ16 (fr σ1 27 (ad k)) (some (va_rf (fr σ1 27 (ad k)))) (by rw [← hPR]; simp) loC_q hw2 (hc1.fb hF2 (hE1.sub fun x hx => by rw [← hPR]; simp at hx ⊢; rcases hx with h | h | h <;> simp [h]) (fun x hx z => by
        rcases List.mem_cons.mp z with rfl | z
        · exact hN1.2.1.1 hx
        · exact hN1.2.2 x z x (by simp [hx]) rfl)) (hF.tr (FR.fbmono hF2 hsub))
      first | refine z_al3 (q := 20) C dX3_takes_19 rfl ?_ | refine z_al3q (q := 20) C dX3_takes_19 rfl ?_ | refine z_al3u (q := 20) C dX3_takes_19 rfl ?_
      first | refine z_as2 (q := 21) C dX3_takes_20 rfl (by first | exact loC_i | exact loC_r | exact loC_n | exact loC_q | exact loC_u) ?_ | refine z_as2q (q := 21) C dX3_takes_20 rfl (by first | exact loC_i | exact loC_r | exact loC_n | exact loC_q | exact loC_u) ?_ | refine z_asu2 (q := 21) C dX3_takes_20 rfl (by first | exact loC_i | exact loC_r | exact loC_n | exact loC_q | exact loC_u) ?_
      refine z_goto (tgt := 5) C dX3_takes_21 (by decide) ?_
      exact hg
  first | refine z_al1 (q := 1) C dX3_takes_0 rfl ?_ | refine z_al1q (q := 1) C dX3_takes_0 rfl ?_ | refine z_al1u (q := 1) C dX3_takes_0 rfl ?_
  refine xg_X3_21 (q := 4) C (by exact hbo) dX3_takes_1 rfl ?_
  first | refine z_as2 (q := 5) C dX3_takes_4 rfl (by first | exact loC_i | exact loC_r | exact loC_n | exact loC_q | exact loC_u) ?_ | refine z_as2q (q := 5) C dX3_takes_4 rfl (by first | exact loC_i | exact loC_r | exact loC_n | exact loC_q | exact loC_u) ?_ | refine z_asu2 (q := 5) C dX3_takes_4 rfl (by first | exact loC_i | exact loC_r | exact loC_n | exact loC_q | exact loC_u) ?_
  exact loop L [] σ _ _ rfl loC_n hw hc FR.rf
theorem cx_as {tt : Bool} (hbo : kd σ bo = 3 ∨ kd σ bo = 4) (hc : CH ad (fr σ 27) L (fr σ 40 bo)) (hE : EN ad hs σ L) (hN : L.Nodup) (hl : L.length ≤ 50) : Ct (wX D) yX0_as cX0_as 3 (some (.object "CrowdedBins$Bin")) [.ref bo, .int (bI tt)] σ (PQ (fun r σ' => ∃ a, r = some a ∧ kd σ a = 0 ∧ RW ad hs σ' a L tt ∧ FK ad L σ σ')) 58 1 4 := by
  have hn : ∀ a, kd σ a = 0 → ∀ y, kd (nO y a σ) bo = kd σ bo := fun a ha y => if_neg (fun z => by rw [z, ha] at hbo; omega)
  have key : ∀ a, kd σ a = 0 → Ct (wX D) yX3_takes cX3_takes 4 none [.ref a, .ref bo] (nO (if tt = true then 4 else 3) a σ) (PV (fun σ' => RW ad hs σ' a L tt ∧ FK ad L σ σ')) 57 0 0 := fun a ha => by
    have h0 : FR (qi a) (qr ad L a) (fun _ => False) σ (nO (if tt = true then 4 else 3) a σ) := FR.rf.wO ha
    refine (cx_takes (D := D) (RW.new (ad := ad) (hs := hs) (a := a) (σ := σ) tt) (by rw [hn a ha]; exact hbo) ?_ (EN.fb (S := L) hE h0) hN hl).weak (fun v σ' h => ⟨h.1, h.2.1, FK.of (h0.tr h.2.2) ha⟩)
    have e : fr (nO (if tt = true then 4 else 3) a σ) 40 bo = fr σ 40 bo := if_neg (fun z => by rw [z, ha] at hbo; omega)
    rw [e]
    exact hc.congr fun k hk => if_neg (fun z => by have := (hE k hk).1; rw [z, ha] at this; cases this)
  refine Ct.of KXok (by decide) (Nat.le_of_ble_eq_true rfl) rfl fun Y C hQ hNm => ?_
  cases tt with
  | true =>
    refine z_il1 (q := 1) C dX0_as_0 rfl ?_
    first | refine z_if_eqB (tgt := 14) (q := 4) C dX0_as_1 (by decide) rfl (fun c1 => ?_) (fun c1 => ?_) | refine z_if_eq (tgt := 14) (q := 4) C dX0_as_1 (by decide) rfl (fun c1 => ?_) (fun c1 => ?_)
    · cases c1
    · refine x_newN (q := 7) (m := 4) C rfl KC3 q343 q447 q89 (by decide) (by omega) (by omega) dX0_as_4 rfl (fun a4 f4 => ?_)
      refine z_dup (q := 8) C dX0_as_7 rfl rfl ?_
      refine xc_X0_90 (q := 11) C (cx_initT (d := 0)) dX0_as_8 rfl rfl rfl (Nat.le_of_ble_eq_true rfl) (by first | decide | omega) (by omega) (by omega) (kkN ?_)
      refine z_goto (tgt := 21) C dX0_as_11 (by decide) ?_
      first | refine z_as2 (q := 22) C dX0_as_21 rfl (by first | exact loC_i | exact loC_r | exact loC_n | exact loC_q | exact loC_u) ?_ | refine z_as2q (q := 22) C dX0_as_21 rfl (by first | exact loC_i | exact loC_r | exact loC_n | exact loC_q | exact loC_u) ?_ | refine z_asu2 (q := 22) C dX0_as_21 rfl (by first | exact loC_i | exact loC_r | exact loC_n | exact loC_q | exact loC_u) ?_
      first | refine z_al2 (q := 23) C dX0_as_22 rfl ?_ | refine z_al2q (q := 23) C dX0_as_22 rfl ?_ | refine z_al2u (q := 23) C dX0_as_22 rfl ?_
      first | refine z_al0 (q := 24) C dX0_as_23 rfl ?_ | refine z_al0q (q := 24) C dX0_as_23 rfl ?_ | refine z_al0u (q := 24) C dX0_as_23 rfl ?_
      refine xc_X0_91 (q := 27) C (fun _ => key a4 f4) (fun _ => key a4 f4) (by exact (Or.inr (if_pos rfl))) dX0_as_24 rfl rfl rfl (Nat.le_of_ble_eq_true rfl) (by first | decide | omega) (by omega) (by omega) (kkV fun σ24 h24 => ?_)
      first | refine z_al2 (q := 28) C dX0_as_27 rfl ?_ | refine z_al2q (q := 28) C dX0_as_27 rfl ?_ | refine z_al2u (q := 28) C dX0_as_27 rfl ?_
      first | refine z_aret C hQ (Or.inl ⟨_, rfl⟩) dX0_as_28 (by omega) (by omega) ?_ | refine z_aret (r := some _) C hQ (Or.inl ⟨_, rfl⟩) dX0_as_28 (by omega) (by omega) ?_ | refine z_aret (r := none) C hQ (Or.inl ⟨_, rfl⟩) dX0_as_28 (by omega) (by omega) ?_
      exact ⟨some a4, rfl, a4, rfl, f4, h24⟩
  | false =>
    refine z_il1 (q := 1) C dX0_as_0 rfl ?_
    first | refine z_if_eqB (tgt := 14) (q := 4) C dX0_as_1 (by decide) rfl (fun c1 => ?_) (fun c1 => ?_) | refine z_if_eq (tgt := 14) (q := 4) C dX0_as_1 (by decide) rfl (fun c1 => ?_) (fun c1 => ?_)
    · refine x_newN (q := 17) (m := 3) C rfl KC2 q150 q151 q85 (by decide) (by omega) (by omega) dX0_as_14 rfl (fun a14 f14 => ?_)
      refine z_dup (q := 18) C dX0_as_17 rfl rfl ?_
      refine xc_X0_67 (q := 21) C (cx_initL (d := 0)) dX0_as_18 rfl rfl rfl (Nat.le_of_ble_eq_true rfl) (by first | decide | omega) (by omega) (by omega) (kkN ?_)
      first | refine z_as2 (q := 22) C dX0_as_21 rfl (by first | exact loC_i | exact loC_r | exact loC_n | exact loC_q | exact loC_u) ?_ | refine z_as2q (q := 22) C dX0_as_21 rfl (by first | exact loC_i | exact loC_r | exact loC_n | exact loC_q | exact loC_u) ?_ | refine z_asu2 (q := 22) C dX0_as_21 rfl (by first | exact loC_i | exact loC_r | exact loC_n | exact loC_q | exact loC_u) ?_
      first | refine z_al2 (q := 23) C dX0_as_22 rfl ?_ | refine z_al2q (q := 23) C dX0_as_22 rfl ?_ | refine z_al2u (q := 23) C dX0_as_22 rfl ?_
      first | refine z_al0 (q := 24) C dX0_as_23 rfl ?_ | refine z_al0q (q := 24) C dX0_as_23 rfl ?_ | refine z_al0u (q := 24) C dX0_as_23 rfl ?_
      refine xc_X0_91 (q := 27) C (fun _ => key a14 f14) (fun _ => key a14 f14) (by exact (Or.inl (if_pos rfl))) dX0_as_24 rfl rfl rfl (Nat.le_of_ble_eq_true rfl) (by first | decide | omega) (by omega) (by omega) (kkV fun σ24 h24 => ?_)
      first | refine z_al2 (q := 28) C dX0_as_27 rfl ?_ | refine z_al2q (q := 28) C dX0_as_27 rfl ?_ | refine z_al2u (q := 28) C dX0_as_27 rfl ?_
      first | refine z_aret C hQ (Or.inl ⟨_, rfl⟩) dX0_as_28 (by omega) (by omega) ?_ | refine z_aret (r := some _) C hQ (Or.inl ⟨_, rfl⟩) dX0_as_28 (by omega) (by omega) ?_ | refine z_aret (r := none) C hQ (Or.inl ⟨_, rfl⟩) dX0_as_28 (by omega) (by omega) ?_
      exact ⟨some a14, rfl, a14, rfl, f14, h24⟩
    · cases c1
end T62
