/-! THE CLASS: an entry comes to a bin, goes out of it -/
set_option maxRecDepth 10000
section T61
variable {D : Dx} {ad hs : Nat → Nat} {σ : Sg} {b k : Nat} {L : List Nat} {t : Bool}
theorem RW.last (hw : RW ad hs σ b L t) (hE : EN ad hs σ L) : ∀ l, fr σ 41 b = some l → ∃ x ∈ L, l = ad x := fun l hl => by
  have := hw.2.2.1.tl_mem hl
  obtain ⟨x, hx, e⟩ := List.mem_map.mp this
  exact ⟨x, hx, e.symm⟩
theorem ad_nin (hE : EN ad hs σ (k :: L)) (hk : k ∉ L) : ad k ∉ L.map ad := fun z => by
  obtain ⟨x, hx, e⟩ := List.mem_map.mp z
  have := hE.inj (List.mem_cons_of_mem _ hx) (by simp) e
  subst this
  exact hk hx
theorem appB_fb (hw : RW ad hs σ b L t) (hE : EN ad hs σ (k :: L)) : FB ad (k :: L) b σ (appS 26 27 40 41 42 b (ad k) σ) :=
  FR.app G4b ⟨rfl, rfl⟩ (Or.inl ⟨by simp, rfl⟩) (Or.inr ⟨by decide, k, by simp, rfl⟩) (Or.inl ⟨by simp, rfl⟩) (Or.inr ⟨by decide, k, by simp, rfl⟩) (fun l hl => by
    obtain ⟨x, hx, rfl⟩ := hw.last (hE.sub fun _ h => List.mem_cons_of_mem _ h) l hl
    exact Or.inr ⟨by decide, x, by simp [hx], rfl⟩)
theorem cx_comes3 (hw : RW ad hs σ b L t) (hE : EN ad hs σ (k :: L)) (hk : k ∉ L) (h3 : kd σ b = 3) {d : Nat} : Ct (wX D) yX3_comes cX3_comes 2 none [.ref b, .ref (ad k)] σ (PV (fun σ' => RW ad hs σ' b (L ++ [k]) t ∧ FB ad (k :: L) b σ σ')) d 0 0 := by
  have hkd : kd σ (ad k) = 2 := (hE k (by simp)).1
  have hlast := hw.last (hE.sub fun _ h => List.mem_cons_of_mem _ h)
  have hc := cx_comesB (D := D) (d := d) (Or.inl h3) hkd (fun l hl => by obtain ⟨x, hx, rfl⟩ := hlast l hl; exact (hE x (by simp [hx])).1)
  refine Ct.weak hc (fun v σ' h => ?_)
  obtain ⟨rfl, rfl⟩ := h
  refine ⟨rfl, ?_, appB_fb hw hE⟩
  have hF := appB_fb hw hE
  have ht : t = false := by
    have := hw.1
    cases t
    · rfl
    · rw [h3] at this; cases this
  subst ht
  refine ⟨by rw [(hF.1 b hw.nz).1]; exact h3, ?_, ?_, fun z => by cases z⟩
  · rw [appS_m, hw.2.1, nI_add, List.length_append]
    rfl
  · rw [List.map_append]
    exact hw.2.2.1.appd G4b (ad_nin hE hk)
theorem cx_comes4 (hw : RW ad hs σ b L t) (hE : EN ad hs σ (k :: L)) (hk : k ∉ L) (hl : L.length ≤ 50) (h4 : kd σ b = 4) {d : Nat} (hd : 56 ≤ d) : Ct (wX D) yX8_comes cX8_comes 2 none [.ref b, .ref (ad k)] σ (PV (fun σ' => RW ad hs σ' b (L ++ [k]) t ∧ FB ad (k :: L) b σ σ')) d 0 0 := by
  have hkd : kd σ (ad k) = 2 := (hE k (by simp)).1
  have hlast := hw.last (hE.sub fun _ h => List.mem_cons_of_mem _ h)
  have hc := cx_comesB (D := D) (d := 0) (Or.inr h4) hkd (fun l hl => by obtain ⟨x, hx, rfl⟩ := hlast l hl; exact (hE x (by simp [hx])).1)
  have hF := appB_fb hw hE
  have ht : t = true := by
    have := hw.1
    cases t
    · rw [h4] at this; cases this
    · rfl
  subst ht
  obtain ⟨M, m1, m2, m3⟩ := hw.2.2.2 rfl
  have hkM : k ∉ M := fun z => hk (m1.mem_iff.mp z)
  obtain ⟨A, B, rfl, hA, hB⟩ := tlt_split m2 hkM
  have hlen := m1.length_eq
  have hsub : ∀ x ∈ k :: (A ++ B), x ∈ k :: L := fun x hx => by
    rcases List.mem_cons.mp hx with h | h
    · simp [h]
    · simp [m1.mem_iff.mp h]
  generalize hs1 : appS 26 27 40 41 42 b (ad k) σ = σ1 at hc hF
  have hE1 := EN.fb (S := L) hE hF
  have h41 : kd σ1 b = 4 := hF.ek h4
  have e8 : fr σ1 28 = fr σ 28 := by rw [← hs1]; exact (appS_SF G4b).2.2.2.2.1 28 (by decide)
  have e9 : fr σ1 29 = fr σ 29 := by rw [← hs1]; exact (appS_SF G4b).2.2.2.2.1 29 (by decide)
  have e60 : fr σ1 60 = fr σ 60 := by rw [← hs1]; exact (appS_SF G4b).2.2.2.2.1 60 (by decide)
  have hc2 := cx_with (D := D) (hs := hs) (e := k) (A ++ B).length σ1 A B (fr σ1 60 b) (hE1.sub hsub) hkM (tlt_nd m2) hA hB (by rw [e8, e9, e60]; exact m3)
  refine Ct.of KXok (by decide) (Nat.le_of_ble_eq_true rfl) rfl fun Y C hQ hNm => ?_
  first | refine z_al0 (q := 1) C dX8_comes_0 rfl ?_ | refine z_al0q (q := 1) C dX8_comes_0 rfl ?_ | refine z_al0u (q := 1) C dX8_comes_0 rfl ?_
  first | refine z_al1 (q := 2) C dX8_comes_1 rfl ?_ | refine z_al1q (q := 2) C dX8_comes_1 rfl ?_ | refine z_al1u (q := 2) C dX8_comes_1 rfl ?_
  refine xc_X8_7 (q := 5) C hc (by exact h4) dX8_comes_2 rfl rfl rfl (Nat.le_of_ble_eq_true rfl) (by first | decide | omega) (by omega) (by omega) (kkN ?_)
  first | refine z_al0 (q := 6) C dX8_comes_5 rfl ?_ | refine z_al0q (q := 6) C dX8_comes_5 rfl ?_ | refine z_al0u (q := 6) C dX8_comes_5 rfl ?_
  first | refine z_al0 (q := 7) C dX8_comes_6 rfl ?_ | refine z_al0q (q := 7) C dX8_comes_6 rfl ?_ | refine z_al0u (q := 7) C dX8_comes_6 rfl ?_
  refine xg_X8_11 (q := 10) C (by exact h41) dX8_comes_7 rfl ?_
  first | refine z_al1 (q := 11) C dX8_comes_10 rfl ?_ | refine z_al1q (q := 11) C dX8_comes_10 rfl ?_ | refine z_al1u (q := 11) C dX8_comes_10 rfl ?_
  refine xc_X8_17 (q := 14) C hc2 dX8_comes_11 rfl rfl rfl (Nat.le_of_ble_eq_true rfl) (by first | decide | omega) (by omega) (by omega) (kkQ fun r11 σ11 h11 => ?_)
  first | refine xpr_X8_11 (q := 17) C (by exact (by rw [h11.1.1]; exact h41)) dX8_comes_14 rfl ?_ | refine xpn_X8_11 (q := 17) C (by exact (by rw [h11.1.1]; exact h41)) dX8_comes_14 rfl ?_ | refine xp_X8_11 (q := 17) C (by exact (by rw [h11.1.1]; exact h41)) dX8_comes_14 rfl ?_
  refine z_vret C hQ dX8_comes_17 (by omega) (by omega) ?_
  refine ⟨rfl, ?_, ?_⟩
  · obtain ⟨hF2, hT⟩ := h11
    have e6 : ∀ g, g ≠ 28 → g ≠ 29 → g ≠ 60 → ∀ x, fr (sR 60 b r11 σ11) g x = fr σ1 g x := fun g g1 g2 g3 x => by rw [fr_sR, if_neg (fun z => g3 z.1), hF2.2.2.2.2.2.1 g g1 g2]
    refine ⟨?_, ?_, ?_, fun _ => ⟨A ++ k :: B, ?_, tlt_ins m2 hA hB, ?_⟩⟩
    · show kd σ11 b = 4
      rw [hF2.1]; exact h41
    · show fi σ11 42 b = _
      rw [hF2.2.1, ← hs1, appS_m, hw.2.1, nI_add, List.length_append]
      rfl
    · have hDL := hw.2.2.1.appd (gm := 42) G4b (ad_nin hE hk)
      rw [hs1] at hDL
      rw [List.map_append]
      exact hDL.other (σ' := sR 60 b r11 σ11) (fun x _ => ⟨e6 27 (by decide) (by decide) (by decide) x, e6 26 (by decide) (by decide) (by decide) x⟩) ⟨e6 40 (by decide) (by decide) (by decide) b, e6 41 (by decide) (by decide) (by decide) b⟩
    · exact (List.perm_middle.trans (List.Perm.cons k m1)).trans (List.perm_append_comm (l₁ := [k]) (l₂ := L))
    · rw [fr_sR, if_pos ⟨rfl, rfl⟩, show (A ++ k :: B).length = (A ++ B).length + 1 by simp; omega]
      exact hT.congr fun x _ => ⟨by rw [fr_sR, if_neg (fun z => by cases z.1)], by rw [fr_sR, if_neg (fun z => by cases z.1)]⟩
  · refine (hF.tr (FR.ofF2 h11.1 (fun g x hx hg => Or.inr ⟨by omega, x, hsub x hx, rfl⟩))).wR (fun _ => Or.inl ⟨by simp, rfl⟩)
theorem mem_ix {l : List Nat} {x : Nat} (h : x ∈ l) : ∃ i, l[i]? = some x ∧ l.erase x = l.eraseIdx i := by
  refine ⟨l.idxOf x, ?_, ?_⟩
  · rw [List.getElem?_eq_getElem (List.idxOf_lt_length_of_mem h), List.getElem_idxOf]
  · exact List.erase_eq_eraseIdx_of_idxOf rfl
theorem map_eIdx (f : Nat → Nat) : ∀ (l : List Nat) (i : Nat), (l.map f).eraseIdx i = (l.eraseIdx i).map f
  | [], _ => rfl
  | x :: t, 0 => rfl
  | x :: t, i + 1 => by
    show f x :: (t.map f).eraseIdx i = f x :: (t.eraseIdx i).map f
    rw [map_eIdx f t i]
theorem delB_fb (hw : RW ad hs σ b L t) (hE : EN ad hs σ L) (hk : k ∈ L) : FB ad L b σ (delS 26 27 40 41 42 b (ad k) σ) ∧ DL (fr (delS 26 27 40 41 42 b (ad k) σ) 27) (fr (delS 26 27 40 41 42 b (ad k) σ) 26) (fr (delS 26 27 40 41 42 b (ad k) σ) 40 b) (fr (delS 26 27 40 41 42 b (ad k) σ) 41 b) ((L.erase k).map ad) ∧ (∀ p, fr σ 26 (ad k) = some p → kd σ p = 2) ∧ (∀ q, fr (delS1 26 27 40 b (ad k) σ) 27 (ad k) = some q → kd σ q = 2) := by
  obtain ⟨i, hi, he⟩ := mem_ix hk
  have hi' : (L.map ad)[i]? = some (ad k) := by rw [List.getElem?_map, hi]; rfl
  have hp := hw.2.2.1.pne hi'
  have hpv := hw.2.2.1.pvi hi'
  have hnx := hw.2.2.1.2.2.2.1 i (ad k) hi'
  have q1 : ∀ p, fr σ 26 (ad k) = some p → ∃ x ∈ L, p = ad x := fun p h => by
    rw [hpv] at h
    by_cases z : i = 0
    · rw [if_pos z] at h; cases h
    · rw [if_neg z] at h
      obtain ⟨x, hx, e⟩ := List.mem_map.mp (List.mem_of_getElem? h)
      exact ⟨x, hx, e.symm⟩
  have q2 : ∀ p, fr σ 27 (ad k) = some p → ∃ x ∈ L, p = ad x := fun p h => by
    rw [hnx] at h
    obtain ⟨x, hx, e⟩ := List.mem_map.mp (List.mem_of_getElem? h)
    exact ⟨x, hx, e.symm⟩
  refine ⟨FR.del G4b hp ⟨rfl, rfl⟩ (Or.inl ⟨by simp, rfl⟩) (Or.inl ⟨by simp, rfl⟩) (fun p h => ?_) (fun p h => ?_), ?_, fun p h => ?_, fun p h => ?_⟩
  · obtain ⟨x, hx, rfl⟩ := q1 p h
    exact Or.inr ⟨by decide, x, hx, rfl⟩
  · obtain ⟨x, hx, rfl⟩ := q2 p h
    exact Or.inr ⟨by decide, x, hx, rfl⟩
  · rw [he, ← map_eIdx]
    exact hw.2.2.1.deld G4b hi'
  · obtain ⟨x, hx, rfl⟩ := q1 p h
    exact (hE x hx).1
  · rw [(delS1_n (gl := 41) G4b hp).1] at h
    obtain ⟨x, hx, rfl⟩ := q2 p h
    exact (hE x hx).1
theorem cx_goes3 (hw : RW ad hs σ b L t) (hE : EN ad hs σ L) (hk : k ∈ L) (hl : L.length ≤ 50) (h3 : kd σ b = 3) {d : Nat} : Ct (wX D) yX3_goes cX3_goes 2 none [.ref b, .ref (ad k)] σ (PV (fun σ' => RW ad hs σ' b (L.erase k) t ∧ FB ad L b σ σ')) d 0 0 := by
  have hkd : kd σ (ad k) = 2 := (hE k hk).1
  obtain ⟨hF, hDL, q1, q2⟩ := delB_fb hw hE hk
  refine Ct.weak (cx_goesB (D := D) (d := d) (Or.inl h3) hkd q1 q2) (fun v σ' h => ?_)
  obtain ⟨rfl, rfl⟩ := h
  have ht : t = false := by
    have := hw.1
    cases t
    · rfl
    · rw [h3] at this; cases this
  subst ht
  have hp := List.length_pos_of_mem hk
  refine ⟨rfl, ⟨hF.ek h3, ?_, hDL, fun z => by cases z⟩, hF⟩
  rw [delS_m, hw.2.1, pk_sub hp, List.length_erase_of_mem hk]
theorem cx_goes4 (hw : RW ad hs σ b L t) (hE : EN ad hs σ L) (hk : k ∈ L) (hl : L.length ≤ 50) (h4 : kd σ b = 4) {d : Nat} (hd : 56 ≤ d) : Ct (wX D) yX8_goes cX8_goes 2 none [.ref b, .ref (ad k)] σ (PV (fun σ' => RW ad hs σ' b (L.erase k) t ∧ FB ad L b σ σ')) d 0 0 := by
  have hkd : kd σ (ad k) = 2 := (hE k hk).1
  obtain ⟨hF, hDL, q1, q2⟩ := delB_fb hw hE hk
  have hc := cx_goesB (D := D) (d := 0) (Or.inr h4) hkd q1 q2
  have ht : t = true := by
    have := hw.1
    cases t
    · rw [h4] at this; cases this
    · rfl
  subst ht
  have hp := List.length_pos_of_mem hk
  obtain ⟨M, m1, m2, m3⟩ := hw.2.2.2 rfl
  obtain ⟨A, B, rfl⟩ := List.append_of_mem (m1.mem_iff.mpr hk)
  have hlen := m1.length_eq
  have hsub : ∀ x ∈ A ++ k :: B, x ∈ L := fun x hx => m1.mem_iff.mp hx
  have hmid := List.pairwise_append.mp m2
  have hA : ∀ x ∈ A, tlt hs x k := fun x hx => hmid.2.2 x hx k (by simp)
  have hB : ∀ x ∈ B, tlt hs k x := (List.pairwise_cons.mp hmid.2.1).1
  generalize hs1 : delS 26 27 40 41 42 b (ad k) σ = σ1 at hc hF hDL
  have hE1 := EN.fb (S := L) hE hF
  have h41 : kd σ1 b = 4 := hF.ek h4
  have hp0 : fr σ 26 (ad k) ≠ some (ad k) := by
    obtain ⟨i, hi, he⟩ := mem_ix hk
    exact hw.2.2.1.pne (i := i) (by rw [List.getElem?_map, hi]; rfl)
  have e8 : fr σ1 28 = fr σ 28 := by rw [← hs1]; exact (delS_SF G4b hp0).2.2.2.2.1 28 (by decide)
  have e9 : fr σ1 29 = fr σ 29 := by rw [← hs1]; exact (delS_SF G4b hp0).2.2.2.2.1 29 (by decide)
  have e60 : fr σ1 60 = fr σ 60 := by rw [← hs1]; exact (delS_SF G4b hp0).2.2.2.2.1 60 (by decide)
  have hc2 := cx_without (D := D) (hs := hs) (e := k) (A ++ k :: B).length σ1 A B (fr σ1 60 b) (Nat.le_refl _) (hE1.sub hsub) (tlt_nd m2) hA hB (by rw [e8, e9, e60]; exact m3)
  refine Ct.of KXok (by decide) (Nat.le_of_ble_eq_true rfl) rfl fun Y C hQ hNm => ?_
  first | refine z_al0 (q := 1) C dX8_goes_0 rfl ?_ | refine z_al0q (q := 1) C dX8_goes_0 rfl ?_ | refine z_al0u (q := 1) C dX8_goes_0 rfl ?_
  first | refine z_al1 (q := 2) C dX8_goes_1 rfl ?_ | refine z_al1q (q := 2) C dX8_goes_1 rfl ?_ | refine z_al1u (q := 2) C dX8_goes_1 rfl ?_
  refine xc_X8_21 (q := 5) C hc (by exact h4) dX8_goes_2 rfl rfl rfl (Nat.le_of_ble_eq_true rfl) (by first | decide | omega) (by omega) (by omega) (kkN ?_)
  first | refine z_al0 (q := 6) C dX8_goes_5 rfl ?_ | refine z_al0q (q := 6) C dX8_goes_5 rfl ?_ | refine z_al0u (q := 6) C dX8_goes_5 rfl ?_
  first | refine z_al0 (q := 7) C dX8_goes_6 rfl ?_ | refine z_al0q (q := 7) C dX8_goes_6 rfl ?_ | refine z_al0u (q := 7) C dX8_goes_6 rfl ?_
  refine xg_X8_11 (q := 10) C (by exact h41) dX8_goes_7 rfl ?_
  first | refine z_al1 (q := 11) C dX8_goes_10 rfl ?_ | refine z_al1q (q := 11) C dX8_goes_10 rfl ?_ | refine z_al1u (q := 11) C dX8_goes_10 rfl ?_
  refine xc_X8_24 (q := 14) C hc2 dX8_goes_11 rfl rfl rfl (Nat.le_of_ble_eq_true rfl) (by first | decide | omega) (by omega) (by omega) (kkQ fun r11 σ11 h11 => ?_)
  first | refine xpr_X8_11 (q := 17) C (by exact (by rw [h11.1.1]; exact h41)) dX8_goes_14 rfl ?_ | refine xpn_X8_11 (q := 17) C (by exact (by rw [h11.1.1]; exact h41)) dX8_goes_14 rfl ?_ | refine xp_X8_11 (q := 17) C (by exact (by rw [h11.1.1]; exact h41)) dX8_goes_14 rfl ?_
  refine z_vret C hQ dX8_goes_17 (by omega) (by omega) ?_
  refine ⟨rfl, ?_, ?_⟩
  · obtain ⟨hF2, hT⟩ := h11
    have e6 : ∀ g, g ≠ 28 → g ≠ 29 → g ≠ 60 → ∀ x, fr (sR 60 b r11 σ11) g x = fr σ1 g x := fun g g1 g2 g3 x => by rw [fr_sR, if_neg (fun z => g3 z.1), hF2.2.2.2.2.2.1 g g1 g2]
    refine ⟨?_, ?_, ?_, fun _ => ⟨A ++ B, ?_, m2.sublist (by simp), ?_⟩⟩
    · show kd σ11 b = 4
      rw [hF2.1]; exact h41
    · show fi σ11 42 b = _
      rw [hF2.2.1, ← hs1, delS_m, hw.2.1, pk_sub hp, List.length_erase_of_mem hk]
    · exact hDL.other (σ' := sR 60 b r11 σ11) (fun x _ => ⟨e6 27 (by decide) (by decide) (by decide) x, e6 26 (by decide) (by decide) (by decide) x⟩) ⟨e6 40 (by decide) (by decide) (by decide) b, e6 41 (by decide) (by decide) (by decide) b⟩
    · have h1 : (k :: (A ++ B)).Perm L := List.perm_middle.symm.trans m1
      exact (List.cons_perm_iff_perm_erase.mp h1).2
    · rw [fr_sR, if_pos ⟨rfl, rfl⟩]
      exact hT.congr fun x _ => ⟨by rw [fr_sR, if_neg (fun z => by cases z.1)], by rw [fr_sR, if_neg (fun z => by cases z.1)]⟩
  · refine (hF.tr (FR.ofF2 h11.1 (fun g x hx hg => Or.inr ⟨by omega, x, hsub x hx, rfl⟩))).wR (fun _ => Or.inl ⟨by simp, rfl⟩)
end T61
