/-! THE CLASS: what is fixed; states that were left -/
set_option maxRecDepth 10000
/-- p: 0 the main object, 1 bins, 2 cursors, 3 past, 4 text, 5 refused, 6 counts, 7 reader, 8.. the cursors -/
def FX (p : Nat → Nat) (σ : Sg) : Prop := MO (p 0) (p 1) σ ∧ (fr σ 10 (p 0) = some (p 2) ∧ kd σ (p 2) = 15 ∧ ln σ (p 2) = 3) ∧ (fr σ 11 (p 0) = some (p 3) ∧ kd σ (p 3) = 16 ∧ ln σ (p 3) = 6) ∧ (fr σ 14 (p 0) = some (p 4) ∧ kd σ (p 4) = 12 ∧ ln σ (p 4) = 120) ∧ (fr σ 16 (p 0) = some (p 5) ∧ kd σ (p 5) = 11 ∧ ln σ (p 5) = 4) ∧ (fr σ 17 (p 0) = some (p 6) ∧ kd σ (p 6) = 11 ∧ ln σ (p 6) = 4) ∧ (fr σ 18 (p 0) = some (p 7) ∧ kd σ (p 7) = 7 ∧ fr σ 121 (p 7) = some (p 0)) ∧ (∀ i, i < 3 → ar σ (p 2) i = some (p (8 + i)) ∧ kd σ (p (8 + i)) = 5) ∧ p 5 ≠ p 6 ∧ ∀ i j, i < 3 → j < 3 → p (8 + i) = p (8 + j) → i = j
theorem FX.keep {p : Nat → Nat} {σ σ' : Sg} {li lr la : List Nat} (h : FX p σ) (hF : FG li lr la σ σ') (h2 : ∀ g ∈ [0, 10, 11, 14, 16, 17, 18, 121], g ∉ lr) (h3 : p 2 ∉ la) : FX p σ' := by
  obtain ⟨a, ⟨b1, b2, b3⟩, ⟨c1, c2, c3⟩, ⟨d1, d2, d3⟩, ⟨e1, e2, e3⟩, ⟨f1, f2, f3⟩, ⟨g1, g2, g3⟩, i1, i2, i3⟩ := h
  have hn : kd σ (p 0) ≠ 0 := by have := a.1; omega
  refine ⟨a.keep hF (h2 0 (by simp)), ⟨by rw [hF.gr hn (h2 10 (by simp))]; exact b1, hF.ek b2, by rw [(hF.1 _ (by omega)).2]; exact b3⟩, ⟨by rw [hF.gr hn (h2 11 (by simp))]; exact c1, hF.ek c2, by rw [(hF.1 _ (by omega)).2]; exact c3⟩, ⟨by rw [hF.gr hn (h2 14 (by simp))]; exact d1, hF.ek d2, by rw [(hF.1 _ (by omega)).2]; exact d3⟩, ⟨by rw [hF.gr hn (h2 16 (by simp))]; exact e1, hF.ek e2, by rw [(hF.1 _ (by omega)).2]; exact e3⟩, ⟨by rw [hF.gr hn (h2 17 (by simp))]; exact f1, hF.ek f2, by rw [(hF.1 _ (by omega)).2]; exact f3⟩, ⟨by rw [hF.gr hn (h2 18 (by simp))]; exact g1, hF.ek g2, by rw [hF.gr (by omega) (h2 121 (by simp))]; exact g3⟩, fun i hi => ⟨by rw [(hF.2.2.2 (p 2) (by omega) h3).2]; exact (i1 i hi).1, hF.ek (i1 i hi).2⟩, i2, i3⟩
theorem FX.sep {p : Nat → Nat} {σ : Sg} (h : FX p σ) : p 3 ≠ p 1 ∧ p 3 ≠ p 2 ∧ p 3 ≠ p 4 ∧ p 3 ≠ p 5 ∧ p 3 ≠ p 6 ∧ p 1 ≠ p 2 ∧ p 1 ≠ p 4 ∧ p 1 ≠ p 5 ∧ p 1 ≠ p 6 ∧ p 2 ≠ p 4 ∧ p 2 ≠ p 5 ∧ p 2 ≠ p 6 ∧ p 4 ≠ p 5 ∧ p 4 ≠ p 6 := by
  obtain ⟨⟨-, -, a, -⟩, ⟨-, b2, -⟩, ⟨-, c2, -⟩, ⟨-, d2, -⟩, ⟨-, e2, -⟩, ⟨-, f2, -⟩, -⟩ := h
  refine ⟨?_, ?_, ?_, ?_, ?_, ?_, ?_, ?_, ?_, ?_, ?_, ?_, ?_, ?_⟩ <;> intro z <;> have := congrArg (kd σ) z <;> omega
/-- the states that were left -/
def XP (p : Nat → Nat) (σ : Sg) (ps : List Co) : Prop := (∀ j c, ps[j]? = some c → ∃ s, ar σ (p 3) j = some s ∧ ST [p 5, p 6] σ s c) ∧ fi σ 12 (p 0) = nI ps.length ∧ ps.length ≤ 6
theorem XP.keep {p : Nat → Nat} {σ σ' : Sg} {ps : List Co} {li lr la : List Nat} (h : XP p σ ps) (hX : FX p σ) (hF : FG li lr la σ σ') (h1 : ∀ g ∈ [12, 104, 105, 106, 107], g ∉ li) (h2 : ∀ g ∈ [100, 101, 102, 103], g ∉ lr) (h3 : p 3 ∉ la) (h4 : ∀ x ∈ la, x = p 1 ∨ x = p 2 ∨ x = p 4 ∨ x = p 5 ∨ x = p 6) : XP p σ' ps := by
  obtain ⟨⟨k0, -, kb, -⟩, ⟨-, k2, -⟩, ⟨-, k3, -⟩, ⟨-, k4, -⟩, -⟩ := hX
  refine ⟨fun j c hj => ?_, by rw [hF.gi (by omega) (h1 12 (by simp))]; exact h.2.1, h.2.2⟩
  obtain ⟨s, hs, hS⟩ := h.1 j c hj
  refine ⟨s, by rw [(hF.2.2.2 (p 3) (by omega) h3).2]; exact hs, hS.keep hF (fun g hg => h1 g (by simp at hg ⊢; omega)) h2 (fun x hx => ?_)⟩
  rcases h4 x hx with rfl | rfl | rfl | rfl | rfl
  · exact Or.inr (by omega)
  · exact Or.inr (by omega)
  · exact Or.inr (by omega)
  · exact Or.inl (by simp)
  · exact Or.inl (by simp)
section T71
variable {D : Dx} {ad p : Nat → Nat} {σ : Sg} {B : Nat → Nat} {c : Co} {ps : List Co} {d : Nat}
theorem cx_leavesQ (ho : kd σ (p 0) = 1) (hq : fi σ 13 (p 0) = bI true) {mc ms : Nat} : Ct (wX D) yX0_leaves cX0_leaves 2 none [.ref (p 0)] σ (PE none σ) d mc ms := by
  refine Ct.of KXok (by decide) (Nat.le_of_ble_eq_true rfl) rfl fun Y C hQ hNm => ?_
  first | refine z_al0 (q := 1) C dX0_leaves_0 rfl ?_ | refine z_al0q (q := 1) C dX0_leaves_0 rfl ?_ | refine z_al0u (q := 1) C dX0_leaves_0 rfl ?_
  refine xg_X0_172 (q := 4) C (by first | exact ho | exact hk | exact hb | exact he | assumption) dX0_leaves_1 rfl ?_
  rw [hq]
  refine z_if_eqB (tgt := 8) (q := 7) C dX0_leaves_4 (by decide) rfl (fun c4 => by cases c4) (fun c4 => ?_)
  refine z_vret C hQ dX0_leaves_7 (by omega) (by omega) ?_
  exact ⟨rfl, rfl⟩
set_option maxHeartbeats 1000000 in
theorem cx_leaves (hX : FX p σ) (hC : XC ad (p 0) (p 1) σ B c) (hI : CI c) (hP : XP p σ ps) (hq : fi σ 13 (p 0) = bI false) : Ct (wX D) yX0_leaves cX0_leaves 2 none [.ref (p 0)] σ (PV (fun σ' => XP p σ' (a_push ps c) ∧ FG [12] [] [p 3] σ σ')) 4 5 300 := by
  have hM := hX.1
  have ho := hM.1
  have hsep := hX.sep
  have h6 := hP.2.2
  have e12 := hP.2.1
  obtain ⟨r11, kpa, lpa⟩ := hX.2.2.1
  refine Ct.of KXok (by decide) (Nat.le_of_ble_eq_true rfl) rfl fun Y C hQ hNm => ?_
  have fin : ∀ (σ1 : Sg) (qs : List Co) (x1 : Option Value), a_push ps c = qs ++ [c] → qs.length ≤ 5 → XP p σ1 qs → FG [12] [] [p 3] σ σ1 → Zj (wX D) Y σ1 0 0 55 [some (.ref (p 0)), x1] [] := by
    intro σ1 qs x1 hqs hql hP1 hF1
    have hX1 := hX.keep hF1 (by simp) (by simp; exact fun z => hsep.2.1 z.symm)
    have hM1 := hX1.1
    have ho1 := hM1.1
    obtain ⟨r111, kpa1, lpa1⟩ := hX1.2.2.1
    have hC1 := hC.keep hM hF1 (by simp) (by simp) (by simp; exact fun z => hsep.1 z.symm)
    have e121 := hP1.2.1
    first | refine z_al0 (q := 56) C dX0_leaves_55 rfl ?_ | refine z_al0q (q := 56) C dX0_leaves_55 rfl ?_ | refine z_al0u (q := 56) C dX0_leaves_55 rfl ?_
    first | refine xr_X0_31 (q := 59) C (by exact ho1) (by assumption) dX0_leaves_56 rfl ?_ | refine xn_X0_31 (q := 59) C (by exact ho1) (by assumption) dX0_leaves_56 rfl ?_ | refine xg_X0_31 (q := 59) C (by exact ho1) dX0_leaves_56 rfl ?_
    first | refine z_al0 (q := 60) C dX0_leaves_59 rfl ?_ | refine z_al0q (q := 60) C dX0_leaves_59 rfl ?_ | refine z_al0u (q := 60) C dX0_leaves_59 rfl ?_
    refine xg_X0_176 (q := 63) C (by exact ho1) dX0_leaves_60 rfl ?_
    rw [e121]
    first | refine z_al0 (q := 64) C dX0_leaves_63 rfl ?_ | refine z_al0q (q := 64) C dX0_leaves_63 rfl ?_ | refine z_al0u (q := 64) C dX0_leaves_63 rfl ?_
    refine xc_X0_179 (q := 67) C (cx_state (ex := [p 5, p 6]) hM1 hC1 hI (fun x hx => by have h5 := hX1.2.2.2.2.1.2.1; have h6 := hX1.2.2.2.2.2.1.2.1; simp at hx; rcases hx with rfl | rfl <;> omega)) (by exact ho1) dX0_leaves_64 rfl rfl rfl (Nat.le_of_ble_eq_true rfl) (by first | decide | omega) (by omega) (by omega) (kkQ fun r64 σ64 h64 => ?_)
    obtain ⟨s, rfl, hS, hF2⟩ := h64
    have kpa2 : kd σ64 (p 3) = 16 := hF2.ek kpa1
    have lpa2 : ln σ64 (p 3) = 6 := by rw [(hF2.1 _ (by omega)).2]; exact lpa1
    have ho2 : kd σ64 (p 0) = 1 := hF2.ek ho1
    have hks := hS.1
    have e122 : fi (sQ (p 3) qs.length (some s) σ64) 12 (p 0) = nI qs.length := by rw [show fi (sQ (p 3) qs.length (some s) σ64) 12 (p 0) = fi σ64 12 (p 0) from rfl, hF2.gi (by omega) (by simp)]; exact e121
    have hX2 := hX1.keep hF2 (by simp) (by simp)
    have hP2 := hP1.keep hX1 hF2 (by simp) (by simp) (by simp) (by simp)
    have hF3 : FG [12] [] [p 3] σ64 (sI 12 (p 0) (nI (qs.length + 1)) (sQ (p 3) qs.length (some s) σ64)) := (FR.rf.wQ (fun _ => by simp)).wI (fun _ => by simp)
    refine x_aast (q := 68) C 5 (by decide) (by decide) (by assumption) KC5 (by assumption) (by first | exact Or.inl rfl | exact Or.inr q1191 | exact Or.inr q1192) (by rw [lpa2]; omega) (by omega) dX0_leaves_67 rfl ?_
    first | refine z_al0 (q := 69) C dX0_leaves_68 rfl ?_ | refine z_al0q (q := 69) C dX0_leaves_68 rfl ?_ | refine z_al0u (q := 69) C dX0_leaves_68 rfl ?_
    refine z_dup (q := 70) C dX0_leaves_69 rfl rfl ?_
    refine xg_X0_176 (q := 73) C (by exact ho2) dX0_leaves_70 rfl ?_
    rw [e122]
    refine z_iconst (q := 74) (v := nI 1) C dX0_leaves_73 rfl (by decide) ?_
    first | refine z_iaddN (q := 75) C dX0_leaves_74 rfl ?_ | refine z_iadd (q := 75) C dX0_leaves_74 rfl ?_
    refine xp_X0_176 (q := 78) C (by exact ho2) dX0_leaves_75 rfl ?_
    refine z_vret C hQ dX0_leaves_78 (by omega) (by omega) ?_
    refine ⟨rfl, ?_, hF1.tr ((hF2.up (by simp) (by simp) (by simp)).tr hF3)⟩
    rw [hqs]
    refine ⟨fun j c' hj => ?_, by rw [fi_sI, if_pos ⟨rfl, rfl⟩, List.length_append]; rfl, by rw [List.length_append]; simp; omega⟩
    have hk : ∀ s' c', ST [p 5, p 6] σ64 s' c' → ST [p 5, p 6] (sI 12 (p 0) (nI (qs.length + 1)) (sQ (p 3) qs.length (some s) σ64)) s' c' := fun s' c' h => h.keep hF3 (by simp) (by simp) (fun x hx => Or.inr (by simp at hx; rw [hx]; omega))
    by_cases e : j < qs.length
    · rw [List.getElem?_append_left e] at hj
      obtain ⟨s', hs', hS'⟩ := hP2.1 j c' hj
      exact ⟨s', (show up2 (ar σ64) (p 3) qs.length (some s) (p 3) j = _ from up2_a (by omega)).trans hs', hk s' c' hS'⟩
    · have hjl := (List.getElem?_eq_some_iff.mp hj).1
      rw [List.length_append] at hjl
      simp at hjl
      have : j = qs.length := by omega
      subst this
      rw [List.getElem?_append_right (by omega), Nat.sub_self] at hj
      simp at hj
      subst hj
      exact ⟨s, up2_s, hk s c hS⟩
  first | refine z_al0 (q := 1) C dX0_leaves_0 rfl ?_ | refine z_al0q (q := 1) C dX0_leaves_0 rfl ?_ | refine z_al0u (q := 1) C dX0_leaves_0 rfl ?_
  refine xg_X0_172 (q := 4) C (by first | exact ho | exact hk | exact hb | exact he | assumption) dX0_leaves_1 rfl ?_
  rw [hq]
  refine z_if_eqB (tgt := 8) (q := 7) C dX0_leaves_4 (by decide) rfl (fun c4 => ?_) (fun c4 => by cases c4)
  first | refine z_al0 (q := 9) C dX0_leaves_8 rfl ?_ | refine z_al0q (q := 9) C dX0_leaves_8 rfl ?_ | refine z_al0u (q := 9) C dX0_leaves_8 rfl ?_
  refine xg_X0_176 (q := 12) C (by first | exact ho | exact hk | exact hb | exact he | assumption) dX0_leaves_9 rfl ?_
  rw [e12]
  refine z_bipush (q := 14) (v := nI 6) C dX0_leaves_12 rfl (by decide) ?_
  refine z_icmp_neN (tgt := 55) (q := 17) C dX0_leaves_14 (by decide) rfl (by omega) (by omega) (fun c14 => ?_) (fun c14 => ?_)
  · exact fin σ ps _ (by unfold a_push; rw [if_neg c14]) (by omega) hP FR.rf
  · have loop : ∀ m k, k + m = 6 → 1 ≤ k → ∀ σ1 : Sg, (∀ j, ar σ1 (p 3) j = if j + 1 < k then ar σ (p 3) (j + 1) else ar σ (p 3) j) → FG [12] [] [p 3] σ σ1 → (∀ s c', ST [p 5, p 6] σ s c' → ST [p 5, p 6] σ1 s c') → fi σ1 12 (p 0) = nI 6 → Zj (wX D) Y σ1 0 0 19 [some (.ref (p 0)), some (.int (nI k))] [] := by
      intro m
      induction m with
      | zero =>
        intro k hk hk1 σ1 h1 hF1 hST e121
        have hk : k = 6 := hk
        subst hk
        have ho1 : kd σ1 (p 0) = 1 := hF1.ek ho
        have hF2 : FG [12] [] [p 3] σ1 (sI 12 (p 0) (nI (6 - 1)) σ1) := FR.rf.wI (fun _ => by simp)
        refine z_il1 (q := 20) C dX0_leaves_19 rfl ?_
        refine z_bipush (q := 22) (v := nI 6) C dX0_leaves_20 rfl (by decide) ?_
        refine z_icmp_geN (tgt := 45) (q := 25) C dX0_leaves_22 (by decide) rfl (by omega) (by omega) (fun c22 => ?_) (fun c22 => absurd c22 (by omega))
        first | refine z_al0 (q := 46) C dX0_leaves_45 rfl ?_ | refine z_al0q (q := 46) C dX0_leaves_45 rfl ?_ | refine z_al0u (q := 46) C dX0_leaves_45 rfl ?_
        refine z_dup (q := 47) C dX0_leaves_46 rfl rfl ?_
        refine xg_X0_176 (q := 50) C (by exact ho1) dX0_leaves_47 rfl ?_
        rw [e121]
        refine z_iconst (q := 51) (v := nI 1) C dX0_leaves_50 rfl (by decide) ?_
        refine z_isubN (q := 52) C dX0_leaves_51 rfl (by omega) ?_
        refine xp_X0_176 (q := 55) C (by exact ho1) dX0_leaves_52 rfl ?_
        refine fin _ ps.tail _ (by unfold a_push; rw [if_pos c14]) (by rw [List.length_tail]; omega) ⟨fun j c' hj => ?_, by rw [fi_sI, if_pos ⟨rfl, rfl⟩, List.length_tail, c14], by rw [List.length_tail]; omega⟩ (hF1.tr hF2)
        rw [List.getElem?_tail] at hj
        have hjl := (List.getElem?_eq_some_iff.mp hj).1
        obtain ⟨s, hs, hS⟩ := hP.1 (j + 1) c' hj
        refine ⟨s, ?_, (hST s c' hS).keep hF2 (by simp) (by simp) (fun x hx => Or.inr (by simp at hx; rw [hx, hF1.ek kpa]; omega))⟩
        show ar σ1 (p 3) j = some s
        rw [h1 j, if_pos (by omega)]
        exact hs
      | succ m ih =>
        intro k hk hk1 σ1 h1 hF1 hST e121
        have ho1 : kd σ1 (p 0) = 1 := hF1.ek ho
        have hX1 := hX.keep hF1 (by simp) (by simp; exact fun z => hsep.2.1 z.symm)
        obtain ⟨r111, kpa1, lpa1⟩ := hX1.2.2.1
        obtain ⟨c', hc'⟩ := at_lt (show k < ps.length by omega)
        obtain ⟨s, hs, hS⟩ := hP.1 k c' hc'
        have hs1 : ar σ1 (p 3) k = some s := by rw [h1 k, if_neg (by omega)]; exact hs
        have hks : kd σ1 s = 6 := (hST s c' hS).1
        have hF2 : FG [12] [] [p 3] σ1 (sQ (p 3) (k - 1) (some s) σ1) := FR.rf.wQ (fun _ => by simp)
        have hg := ih (k + 1) (by omega) (by omega) (sQ (p 3) (k - 1) (some s) σ1) (fun j => by
          by_cases e : j = k - 1
          · rw [e, show ar (sQ (p 3) (k - 1) (some s) σ1) (p 3) (k - 1) = some s from up2_s, if_pos (by omega), show k - 1 + 1 = k by omega]
            exact hs.symm
          · rw [show ar (sQ (p 3) (k - 1) (some s) σ1) (p 3) j = ar σ1 (p 3) j from up2_a e, h1 j]
            by_cases e2 : j + 1 < k
            · rw [if_pos e2, if_pos (by omega)]
            · rw [if_neg e2, if_neg (by omega)]) (hF1.tr hF2) (fun s' c'' h => (hST s' c'' h).keep hF2 (by simp) (by simp) (fun x hx => Or.inr (by simp at hx; rw [hx]; omega))) e121
        refine z_il1 (q := 20) C dX0_leaves_19 rfl ?_
        refine z_bipush (q := 22) (v := nI 6) C dX0_leaves_20 rfl (by decide) ?_
        refine z_icmp_geN (tgt := 45) (q := 25) C dX0_leaves_22 (by decide) rfl (by omega) (by omega) (fun c22 => absurd c22 (by omega)) (fun c22 => ?_)
        first | refine z_al0 (q := 26) C dX0_leaves_25 rfl ?_ | refine z_al0q (q := 26) C dX0_leaves_25 rfl ?_ | refine z_al0u (q := 26) C dX0_leaves_25 rfl ?_
        first | refine xr_X0_31 (q := 29) C (by exact ho1) (by assumption) dX0_leaves_26 rfl ?_ | refine xn_X0_31 (q := 29) C (by exact ho1) (by assumption) dX0_leaves_26 rfl ?_ | refine xg_X0_31 (q := 29) C (by exact ho1) dX0_leaves_26 rfl ?_
        refine z_il1 (q := 30) C dX0_leaves_29 rfl ?_
        refine z_iconst (q := 31) (v := nI 1) C dX0_leaves_30 rfl (by decide) ?_
        refine z_isubN (q := 32) C dX0_leaves_31 rfl (by omega) ?_
        first | refine z_al0 (q := 33) C dX0_leaves_32 rfl ?_ | refine z_al0q (q := 33) C dX0_leaves_32 rfl ?_ | refine z_al0u (q := 33) C dX0_leaves_32 rfl ?_
        first | refine xr_X0_31 (q := 36) C (by exact ho1) (by assumption) dX0_leaves_33 rfl ?_ | refine xn_X0_31 (q := 36) C (by exact ho1) (by assumption) dX0_leaves_33 rfl ?_ | refine xg_X0_31 (q := 36) C (by exact ho1) dX0_leaves_33 rfl ?_
        refine z_il1 (q := 37) C dX0_leaves_36 rfl ?_
        refine x_aald (q := 38) C 5 (by decide) (by decide) (by assumption) (by rw [lpa1]; omega) (by omega) dX0_leaves_37 rfl ?_
        rw [hs1]
        refine x_aast (q := 39) C 5 (by decide) (by decide) (by assumption) KC5 (by assumption) (by first | exact Or.inl rfl | exact Or.inr q1191 | exact Or.inr q1192) (by rw [lpa1]; omega) (by omega) dX0_leaves_38 rfl ?_
        first | refine z_iinc1N (q := 42) C dX0_leaves_39 rfl (by first | exact loC_i | exact loC_r | exact loC_n | exact loC_q | exact loC_u) ?_ | refine z_iinc1 (q := 42) C dX0_leaves_39 rfl rfl (by first | exact loC_i | exact loC_r | exact loC_n | exact loC_q | exact loC_u) ?_
        refine z_goto (tgt := 19) C dX0_leaves_42 (by decide) ?_
        exact hg
    refine z_iconst (q := 18) (v := nI 1) C dX0_leaves_17 rfl (by decide) ?_
    refine z_is1 (q := 19) C dX0_leaves_18 rfl (by first | exact loC_i | exact loC_r | exact loC_n | exact loC_q | exact loC_u) ?_
    exact loop 5 1 rfl (by omega) σ (fun j => by rw [if_neg (by omega)]) FR.rf (fun _ _ h => h) (by rw [e12, c14])
end T71
