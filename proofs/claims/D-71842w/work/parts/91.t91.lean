/-! THE CLASS: does -/
set_option maxRecDepth 10000
theorem nI_back (x : Int32) : nI x.toUInt32.toNat = x := by
  show Int32.ofNat x.toUInt32.toNat = x
  apply Int32.toBitVec_inj.1
  rw [Int32.toBitVec_ofNat']
  simp
/-- refusals kept aside -/
def ctp (p : Nat → Nat) (rf : Nat → Int32) : Nat → Nat := fun i => if i < 12 then p i else (rf (i - 12)).toUInt32.toNat
def hhD : List (Nat × Nat × Nat × Nat) := [(18, 45, 70, 355), (18, 45, 104, 0), (70, 79, 104, 0)]
section T91
variable {D : Dx} {p p' : Nat → Nat} {σ σ' : Sg} {α : Al} {N : Nat} {d : Nat} {q q' : Bool} {tx : List Nat}
theorem cpA_fg {a0 a : Nat} : FG [] [] [a] σ (cpA a0 a σ) := ⟨fun _ _ => ⟨rfl, rfl⟩, fun _ _ _ _ => rfl, fun _ _ _ _ => rfl, fun x _ hx => ⟨if_neg (fun z => hx (by rw [z]; simp)), rfl⟩⟩
theorem cpA_at {a0 a i : Nat} (hi : i < 4) : ai (cpA a0 a σ) a i = ai σ a0 i := by
  show (if a = a then va_cpy (ai σ a0) (ai σ a) 0 0 4 else ai σ a) i = _
  rw [if_pos rfl]
  unfold va_cpy
  simp [hi]
theorem cpA_ne {a0 a x : Nat} (hx : x ≠ a) : ai (cpA a0 a σ) x = ai σ x := if_neg hx
theorem XA.of {rf' : Nat → Int32} (h : XA q D p σ α) (hk : ∀ i, i < 3 → (a_cu α i).2.2.2 ≤ a_ch α) (hF : FG [13, 120] [] [p 5, p 6] σ σ') (hp : ∀ j, j < 11 → p' j = p j) (h13 : fi σ' 13 (p 0) = bI q') (h5 : ∀ i, i < 4 → ai σ' (p 5) i = rf' i) (h120 : fi σ' 120 (p 7) = nI (p' 11)) (h6 : ∀ i, i < 4 → ai σ' (p 6) i = nI (p' (12 + i))) : XA q' D p' σ' (a_c α, a_ps α, rf', a_ch α, a_tx α, a_cu α) := by
  obtain ⟨hX, hq, ⟨ad, B, hC, hU⟩, hP, h9, hR⟩ := h
  have hs := hX.sep
  have n0 : kd σ (p 0) ≠ 0 := by have := hX.1.1; omega
  have k4 := hX.2.2.2.1.2.1
  have hX2 := hX.keep hF (by simp) (by simp; exact ⟨hs.2.2.2.2.2.2.2.2.2.2.1, hs.2.2.2.2.2.2.2.2.2.2.2.1⟩)
  obtain ⟨f1, f2, f3, f4, f5, f6, f7, f8, f9, f10⟩ := hX2
  have hU2 := hU.go (σ' := σ') (ch' := a_ch α) (ks' := k_ks (a_c α)) (ad' := ad) hX hF (by simp) (by simp) hk (Or.inr ⟨rfl, fun x hx => ⟨hx, rfl⟩⟩)
  have hP2 := hP.keep hX hF (by simp) (by simp) (by simp; exact ⟨hs.2.2.2.1, hs.2.2.2.2.1⟩) (by simp)
  have hC2 := hC.keep hX.1 hF (by simp) (by simp) (by simp; exact ⟨hs.2.2.2.2.2.2.2.1, hs.2.2.2.2.2.2.2.2.1⟩)
  have e0 := hp 0 (by decide)
  have e1 := hp 1 (by decide)
  have e2 := hp 2 (by decide)
  have e3 := hp 3 (by decide)
  have e4 := hp 4 (by decide)
  have e5 := hp 5 (by decide)
  have e6 := hp 6 (by decide)
  have e7 := hp 7 (by decide)
  refine ⟨⟨by rw [e0, e1]; exact f1, by rw [e0, e2]; exact f2, by rw [e0, e3]; exact f3, by rw [e0, e4]; exact f4, by rw [e0, e5]; exact f5, by rw [e0, e6]; exact f6, by rw [e0, e7]; exact f7, fun i hi => by rw [e2, hp (8 + i) (by omega)]; exact f8 i hi, by rw [e5, e6]; exact f9, fun i j hi hj => by rw [hp (8 + i) (by omega), hp (8 + j) (by omega)]; exact f10 i j hi hj⟩, by rw [e0]; exact h13, ⟨ad, B, by rw [e0, e1]; exact hC2, fun i hi => by rw [hp (8 + i) (by omega)]; exact hU2 i hi⟩, ?_, by rw [e0, hF.gi n0 (by simp)]; exact h9, ?_⟩
  · unfold XP
    rw [e0, e3, e5, e6]
    exact hP2
  · refine ⟨by rw [e5]; exact h5, by rw [e0, hF.gi n0 (by simp)]; exact hR.2.1, fun j x hj => ?_, by rw [e7]; exact h120, by rw [e6]; exact h6⟩
    rw [e4, (hF.2.2.2 (p 4) (by omega) (by simp; exact ⟨hs.2.2.2.2.2.2.2.2.2.2.2.2.1, hs.2.2.2.2.2.2.2.2.2.2.2.2.2⟩)).1]
    exact hR.2.2.1 j x hj
set_option maxHeartbeats 2000000 in
theorem cx_does (h : XA false D p σ α) (hA : AI N α) (hN : N + 200 ≤ 1000000) : CtW (wX D) yX0_does cX0_does 4 (some .int) hhD [.ref (p 0)] σ (PI (fun r σ' => r = (a_does α).1 ∧ ∃ p', p' 0 = p 0 ∧ XA false D p' σ' (a_does α).2)) 68 13000 100000 := by
  have hX := h.1
  have ho := hX.1.1
  obtain ⟨r16, k5, l5⟩ := hX.2.2.2.2.1
  obtain ⟨r17, k6, l6⟩ := hX.2.2.2.2.2.1
  obtain ⟨r18, k7, r121⟩ := hX.2.2.2.2.2.2.1
  have h56 := hX.2.2.2.2.2.2.2.2.1
  have hR := h.2.2.2.2.2
  have hk : ∀ i, i < 3 → (a_cu α i).2.2.2 ≤ a_ch α := fun i hi => (hA.2.2.2.2.2.2.2 i hi).2.2.2
  refine CtW.of KXok (by decide) (Nat.le_of_ble_eq_true rfl) rfl fun Y C hQ hT => ?_
  -- refused → counts
  have h0 : XA false D (ctp p (a_rf α)) (cpA (p 5) (p 6) σ) α := h.of (rf' := a_rf α) (p' := ctp p (a_rf α)) hk (cpA_fg.up (by simp) (by simp) (by simp)) (fun j hj => if_pos (by omega)) h.2.1 (fun i hi => by rw [cpA_ne h56]; exact hR.1 i hi) hR.2.2.2.1 (fun i hi => by rw [cpA_at hi, hR.1 i hi]; show _ = nI (if 12 + i < 12 then _ else _); rw [if_neg (by omega), Nat.add_sub_cancel_left, nI_back])
  have hc12 : ∀ i, i < 4 → nI (ctp p (a_rf α) (12 + i)) = a_rf α i := fun i hi => by
    show nI (if 12 + i < 12 then _ else _) = _
    rw [if_neg (by omega), Nat.add_sub_cancel_left, nI_back]
  have hpj : ∀ j, j < 12 → ctp p (a_rf α) j = p j := fun j hj => if_pos hj
  generalize ctp p (a_rf α) = p0 at h0 hc12 hpj
  have e0 := hpj 0 (by decide)
  have e5 := hpj 5 (by decide)
  have e6 := hpj 6 (by decide)
  have e7 := hpj 7 (by decide)
  have fin : ∀ (σz : Sg) (pz : Nat → Nat) (αz : Al) (qq : Bool), XA qq D pz σz αz → (∀ i, i < 3 → (a_cu αz i).2.2.2 ≤ a_ch αz) → pz 0 = p 0 → pz 5 = p 5 → pz 6 = p 6 → pz 7 = p 7 → (∀ i, i < 4 → nI (pz (12 + i)) = a_rf α i) → XA false D pz (cpA (p 6) (p 5) (sI 13 (p 0) (nI 0) σz)) (a_c αz, a_ps αz, a_rf α, a_ch αz, a_tx αz, a_cu αz) := by
    intro σz pz αz qq hz hkz z0 z5 z6 z7 z12
    have hRz := hz.2.2.2.2.2
    refine hz.of hkz (by rw [z5, z6]; exact FR.tr (FR.rf.wI (fun _ => by simp)) (cpA_fg.up (by simp) (by simp) (by simp))) (fun _ _ => rfl) ?_ (fun i hi => ?_) ?_ (fun i hi => ?_)
    · rw [z0]; show fi (sI 13 (p 0) (nI 0) σz) 13 (p 0) = _; rw [fi_sI, if_pos ⟨rfl, rfl⟩]; rfl
    · rw [z5, cpA_at hi]; show ai σz (p 6) i = _; rw [← z6, hRz.2.2.2.2 i hi]; exact z12 i hi
    · show fi (sI 13 (p 0) (nI 0) σz) 120 (pz 7) = _; rw [fi_sI, if_neg (fun z => by cases z.1)]; exact hRz.2.2.2.1
    · rw [z6, cpA_ne (Ne.symm h56)]; show ai σz (p 6) i = _; rw [← z6]; exact hRz.2.2.2.2 i hi
  have hrF := cx_readsF (D := D) (h0.rd hA)
  rw [e7] at hrF
  first | refine z_al0 (q := 1) C dX0_does_0 rfl ?_ | refine z_al0q (q := 1) C dX0_does_0 rfl ?_ | refine z_al0u (q := 1) C dX0_does_0 rfl ?_
  first | refine xr_X0_39 (q := 4) C (by first | exact ho | exact hk | exact hb | exact he | assumption) r16 dX0_does_1 rfl ?_ | refine xn_X0_39 (q := 4) C (by first | exact ho | exact hk | exact hb | exact he | assumption) r16 dX0_does_1 rfl ?_
  refine z_iconst (q := 5) (v := nI 0) C dX0_does_4 rfl (by decide) ?_
  first | refine z_al0 (q := 6) C dX0_does_5 rfl ?_ | refine z_al0q (q := 6) C dX0_does_5 rfl ?_ | refine z_al0u (q := 6) C dX0_does_5 rfl ?_
  first | refine xr_X0_43 (q := 9) C (by first | exact ho | exact hk | exact hb | exact he | assumption) r17 dX0_does_6 rfl ?_ | refine xn_X0_43 (q := 9) C (by first | exact ho | exact hk | exact hb | exact he | assumption) r17 dX0_does_6 rfl ?_
  refine z_iconst (q := 10) (v := nI 0) C dX0_does_9 rfl (by decide) ?_
  first | refine z_al0 (q := 11) C dX0_does_10 rfl ?_ | refine z_al0q (q := 11) C dX0_does_10 rfl ?_ | refine z_al0u (q := 11) C dX0_does_10 rfl ?_
  first | refine xr_X0_43 (q := 14) C (by first | exact ho | exact hk | exact hb | exact he | assumption) r17 dX0_does_11 rfl ?_ | refine xn_X0_43 (q := 14) C (by first | exact ho | exact hk | exact hb | exact he | assumption) r17 dX0_does_11 rfl ?_
  first | refine x_wlen (q := 15) C dX0_does_14 rfl ?_ | refine x_alen (q := 15) C (by assumption) dX0_does_14 rfl ?_
  rw [l6]
  refine x_copy (q := 18) C k5 k6 l5 l6 q698 q700 q699 (by decide) (Nat.le_of_ble_eq_true rfl) dX0_does_15 rfl ?_
  have r180 : fr (cpA (p 5) (p 6) σ) 18 (p 0) = some (p 7) := r18
  have k70 : kd (cpA (p 5) (p 6) σ) (p 7) = 7 := k7
  have ho0 : kd (cpA (p 5) (p 6) σ) (p 0) = 1 := ho
  first | refine z_al0 (q := 19) C dX0_does_18 rfl ?_ | refine z_al0q (q := 19) C dX0_does_18 rfl ?_ | refine z_al0u (q := 19) C dX0_does_18 rfl ?_
  first | refine xr_X0_51 (q := 22) C (by exact ho0) r180 dX0_does_19 rfl ?_ | refine xn_X0_51 (q := 22) C (by exact ho0) r180 dX0_does_19 rfl ?_
  refine z_iconst (q := 23) (v := nI 0) C dX0_does_22 rfl (by decide) ?_
  refine z_callVX (q := 26) C (hrF) g_X0_351 (x_rcv KC6 k70) dX0_does_23 rfl rfl rfl (Nat.le_of_ble_eq_true rfl) (by first | decide | omega) (by omega) (by omega) (kkI fun r23 σ23 h23 => ?_) (fun q23 σ23 h23 => ?_)
  · obtain ⟨⟨l0, hl0⟩, hF1⟩ := h23
    obtain ⟨n, hn⟩ := nI_any (fi σ23 120 (p0 7))
    have h1 := h0.plc hA hF1 hn
    obtain ⟨hX1, hq1, ⟨ad, B, hC1, hU1⟩, hP1, h91, hR1⟩ := id h1
    have hs := hX1.sep
    have hlv := cx_lv (D := D) hX1 hC1 hA.1 hP1 hq1
    rw [show stp p0 n 0 = p 0 from e0] at hlv
    have ho1 : kd σ23 (p 0) = 1 := by have := hX1.1.1; rw [show stp p0 n 0 = p 0 from e0] at this; exact this
    have ea : a_does α = (nI (k_run l0 0 (a_c α) 0).1, a_lv α (k_run l0 0 (a_c α) 0).2.1 (k_run l0 0 (a_c α) 0).2.2) := by unfold a_does; rw [hl0]
    rw [ea] at hQ
    refine z_is1 (q := 27) C dX0_does_26 rfl (by first | exact loC_i | exact loC_r | exact loC_n | exact loC_q | exact loC_u) ?_
    first | refine z_al0 (q := 28) C dX0_does_27 rfl ?_ | refine z_al0q (q := 28) C dX0_does_27 rfl ?_ | refine z_al0u (q := 28) C dX0_does_27 rfl ?_
    refine xc_X0_237 (q := 31) C hlv (by exact ho1) dX0_does_28 rfl rfl rfl (Nat.le_of_ble_eq_true rfl) (by first | decide | omega) (by omega) (by omega) (kkV fun σ28 h28 => ?_)
    obtain ⟨hP2, hF2⟩ := h28
    have hP2 : XP (stp p0 n) σ28 (a_push (a_ps α) (a_c α)) := hP2
    have h2 := XA.core (δ := 0) (c' := a_c α) (ps' := a_push (a_ps α) (a_c α)) hX1 hq1 hU1 hR1 hA (hF2.up (by simp) (by simp) (by simp)) (hC1.keep hX1.1 hF2 (by simp) (by simp) (by simp; exact hs.1.symm)) hP2 (by rw [hF2.gi (by have := hX1.1.1; omega) (by simp)]; exact h91) (Or.inr ⟨rfl, fun x hx => ⟨hx, rfl⟩⟩)
    have h2 : XA false D (stp p0 n) σ28 (a_c α, a_push (a_ps α) (a_c α), a_rf α, a_ch α, a_tx α, a_cu α) := h2
    have hA1 : AI N (a_c α, a_push (a_ps α) (a_c α), a_rf α, a_ch α, a_tx α, a_cu α) := by
      obtain ⟨b1, b2, b3, b4⟩ := hA
      refine ⟨b1, b2, fun c hc => ?_, b4⟩
      have hc : c ∈ (if (a_ps α).length = 6 then (a_ps α).tail else a_ps α) ++ [a_c α] := hc
      rcases List.mem_append.mp hc with z | z
      · split at z
        · exact b3 c (List.mem_of_mem_tail z)
        · exact b3 c z
      · rw [List.mem_singleton.mp z]; exact ⟨b1, b2⟩
    have ho2 : kd σ28 (p 0) = 1 := hF2.ek ho1
    have h3 : XA true D (stp p0 n) (sI 13 (p 0) (nI 1) σ28) (a_c α, a_push (a_ps α) (a_c α), a_rf α, a_ch α, a_tx α, a_cu α) := by
      have hR2 := h2.2.2.2.2.2
      refine h2.of (q' := true) (rf' := a_rf α) hk (FR.rf.wI (fun _ => by simp)) (fun _ _ => rfl) ?_ hR2.1 ?_ hR2.2.2.2.2
      · rw [show stp p0 n 0 = p 0 from e0, fi_sI, if_pos ⟨rfl, rfl⟩]; rfl
      · rw [fi_sI, if_neg (fun z => by cases z.1)]; exact hR2.2.2.2.1
    have hrT := cx_readsT h3 hA1 hN hl0
    rw [show stp p0 n 7 = p 7 from e7] at hrT
    obtain ⟨r183, k73, -⟩ := h3.1.2.2.2.2.2.2.1
    rw [show stp p0 n 0 = p 0 from e0, show stp p0 n 7 = p 7 from e7] at r183
    rw [show stp p0 n 7 = p 7 from e7] at k73
    have ho3 : kd (sI 13 (p 0) (nI 1) σ28) (p 0) = 1 := ho2
    first | refine z_al0 (q := 32) C dX0_does_31 rfl ?_ | refine z_al0q (q := 32) C dX0_does_31 rfl ?_ | refine z_al0u (q := 32) C dX0_does_31 rfl ?_
    refine z_iconst (q := 33) (v := nI 1) C dX0_does_32 rfl (by decide) ?_
    refine xp_X0_172 (q := 36) C (by exact ho2) (by first | rfl | exact bI_nar _) rfl dX0_does_33 rfl ?_
    first | refine z_al0 (q := 37) C dX0_does_36 rfl ?_ | refine z_al0q (q := 37) C dX0_does_36 rfl ?_ | refine z_al0u (q := 37) C dX0_does_36 rfl ?_
    first | refine xr_X0_51 (q := 40) C (by exact ho3) r183 dX0_does_37 rfl ?_ | refine xn_X0_51 (q := 40) C (by exact ho3) r183 dX0_does_37 rfl ?_
    refine z_iconst (q := 41) (v := nI 1) C dX0_does_40 rfl (by decide) ?_
    refine z_callVX (q := 44) C (hrT) g_X0_351 (x_rcv KC6 k73) dX0_does_41 rfl rfl rfl (Nat.le_of_ble_eq_true rfl) (by first | decide | omega) (by omega) (by omega) (kkI fun r41 σ41 h41 => ?_) (fun q41 σ41 h41 => ?_)
    · obtain ⟨er, a, rf2, h4⟩ := h41
      subst er
      rw [stp_stp] at h4
      have hf := fin _ _ _ _ h4 (fun i hi => Nat.le_trans (hk i hi) (Nat.le_add_right _ _)) e0 e5 e6 e7 (fun i hi => by rw [stp_ne (by omega)]; exact hc12 i hi)
      have ho4 : kd σ41 (p 0) = 1 := by have := h4.1.1.1; rw [show stp p0 a 0 = p 0 from e0] at this; exact this
      obtain ⟨q16, q5, m5⟩ := h4.1.2.2.2.2.1
      obtain ⟨q17, q6, m6⟩ := h4.1.2.2.2.2.2.1
      rw [show stp p0 a 0 = p 0 from e0, show stp p0 a 5 = p 5 from e5] at q16
      rw [show stp p0 a 0 = p 0 from e0, show stp p0 a 6 = p 6 from e6] at q17
      rw [show stp p0 a 5 = p 5 from e5] at q5 m5
      rw [show stp p0 a 6 = p 6 from e6] at q6 m6
      generalize hσ5 : sI 13 (p 0) (nI 0) σ41 = σ5 at hf
      have ho5 : kd σ5 (p 0) = 1 := by rw [← hσ5]; exact ho4
      have q165 : fr σ5 16 (p 0) = some (p 5) := by rw [← hσ5]; exact q16
      have q175 : fr σ5 17 (p 0) = some (p 6) := by rw [← hσ5]; exact q17
      have q55 : kd σ5 (p 5) = 11 := by rw [← hσ5]; exact q5
      have q65 : kd σ5 (p 6) = 11 := by rw [← hσ5]; exact q6
      have m55 : ln σ5 (p 5) = 4 := by rw [← hσ5]; exact m5
      have m65 : ln σ5 (p 6) = 4 := by rw [← hσ5]; exact m6
      refine z_is2 (q := 45) C dX0_does_44 rfl (by first | exact loC_i | exact loC_r | exact loC_n | exact loC_q | exact loC_u) ?_
      first | refine z_al0 (q := 46) C dX0_does_45 rfl ?_ | refine z_al0q (q := 46) C dX0_does_45 rfl ?_ | refine z_al0u (q := 46) C dX0_does_45 rfl ?_
      refine z_iconst (q := 47) (v := nI 0) C dX0_does_46 rfl (by decide) ?_
      refine xp_X0_172 (q := 50) C (by exact ho4) (by first | rfl | exact bI_nar _) rfl dX0_does_47 rfl ?_
      rw [hσ5]
      first | refine z_al0 (q := 51) C dX0_does_50 rfl ?_ | refine z_al0q (q := 51) C dX0_does_50 rfl ?_ | refine z_al0u (q := 51) C dX0_does_50 rfl ?_
      first | refine xr_X0_43 (q := 54) C (by exact ho5) q175 dX0_does_51 rfl ?_ | refine xn_X0_43 (q := 54) C (by exact ho5) q175 dX0_does_51 rfl ?_
      refine z_iconst (q := 55) (v := nI 0) C dX0_does_54 rfl (by decide) ?_
      first | refine z_al0 (q := 56) C dX0_does_55 rfl ?_ | refine z_al0q (q := 56) C dX0_does_55 rfl ?_ | refine z_al0u (q := 56) C dX0_does_55 rfl ?_
      first | refine xr_X0_39 (q := 59) C (by exact ho5) q165 dX0_does_56 rfl ?_ | refine xn_X0_39 (q := 59) C (by exact ho5) q165 dX0_does_56 rfl ?_
      refine z_iconst (q := 60) (v := nI 0) C dX0_does_59 rfl (by decide) ?_
      first | refine z_al0 (q := 61) C dX0_does_60 rfl ?_ | refine z_al0q (q := 61) C dX0_does_60 rfl ?_ | refine z_al0u (q := 61) C dX0_does_60 rfl ?_
      first | refine xr_X0_43 (q := 64) C (by exact ho5) q175 dX0_does_61 rfl ?_ | refine xn_X0_43 (q := 64) C (by exact ho5) q175 dX0_does_61 rfl ?_
      first | refine x_wlen (q := 65) C dX0_does_64 rfl ?_ | refine x_alen (q := 65) C (by assumption) dX0_does_64 rfl ?_
      rw [m65]
      refine x_copy (q := 68) C q65 q55 m65 m55 q698 q700 q699 (by decide) (Nat.le_of_ble_eq_true rfl) dX0_does_65 rfl ?_
      refine z_il2 (q := 69) C dX0_does_68 rfl ?_
      refine z_iret C hQ dX0_does_69 (by omega) (by omega) ?_
      exact ⟨_, rfl, rfl, stp p0 a, e0, hf⟩
    · exact h41.elim
  · obtain ⟨a, hpa, g1, g2, hF1⟩ := h23
    obtain ⟨n, hn⟩ := nI_any (fi σ23 120 (p0 7))
    have h4 := h0.plc hA hF1 hn
    have ea : a_does α = (-10 - nI a, α) := by unfold a_does; rw [hpa]
    rw [ea] at hQ
    refine zt_catch C hT (by decide) (by decide) q697 g1 ?_
    have hf := fin _ _ _ _ h4 hk e0 e5 e6 e7 (fun i hi => by rw [stp_ne (by omega)]; exact hc12 i hi)
    have ho4 : kd σ23 (p 0) = 1 := by have := h4.1.1.1; rw [show stp p0 n 0 = p 0 from e0] at this; exact this
    obtain ⟨q16, q5, m5⟩ := h4.1.2.2.2.2.1
    obtain ⟨q17, q6, m6⟩ := h4.1.2.2.2.2.2.1
    rw [show stp p0 n 0 = p 0 from e0, show stp p0 n 5 = p 5 from e5] at q16
    rw [show stp p0 n 0 = p 0 from e0, show stp p0 n 6 = p 6 from e6] at q17
    rw [show stp p0 n 5 = p 5 from e5] at q5 m5
    rw [show stp p0 n 6 = p 6 from e6] at q6 m6
    generalize hσ5 : sI 13 (p 0) (nI 0) σ23 = σ5 at hf
    have ho5 : kd σ5 (p 0) = 1 := by rw [← hσ5]; exact ho4
    have q165 : fr σ5 16 (p 0) = some (p 5) := by rw [← hσ5]; exact q16
    have q175 : fr σ5 17 (p 0) = some (p 6) := by rw [← hσ5]; exact q17
    have q55 : kd σ5 (p 5) = 11 := by rw [← hσ5]; exact q5
    have q65 : kd σ5 (p 6) = 11 := by rw [← hσ5]; exact q6
    have m55 : ln σ5 (p 5) = 4 := by rw [← hσ5]; exact m5
    have m65 : ln σ5 (p 6) = 4 := by rw [← hσ5]; exact m6
    first | refine z_as1 (q := 71) C dX0_does_70 rfl (by first | exact loC_i | exact loC_r | exact loC_n | exact loC_q | exact loC_u) ?_ | refine z_as1q (q := 71) C dX0_does_70 rfl (by first | exact loC_i | exact loC_r | exact loC_n | exact loC_q | exact loC_u) ?_ | refine z_asu1 (q := 71) C dX0_does_70 rfl (by first | exact loC_i | exact loC_r | exact loC_n | exact loC_q | exact loC_u) ?_
    refine z_bipush (q := 73) (v := -10) C dX0_does_71 rfl (by decide) ?_
    first | refine z_al1 (q := 74) C dX0_does_73 rfl ?_ | refine z_al1q (q := 74) C dX0_does_73 rfl ?_ | refine z_al1u (q := 74) C dX0_does_73 rfl ?_
    refine xg_X0_357 (q := 77) C (by exact g1) dX0_does_74 rfl ?_
    rw [g2]
    refine z_isub (q := 78) C dX0_does_77 rfl ?_
    refine z_is2 (q := 79) C dX0_does_78 rfl (by first | exact loC_i | exact loC_r | exact loC_n | exact loC_q | exact loC_u) ?_
    first | refine z_al0 (q := 80) C dX0_does_79 rfl ?_ | refine z_al0q (q := 80) C dX0_does_79 rfl ?_ | refine z_al0u (q := 80) C dX0_does_79 rfl ?_
    refine z_iconst (q := 81) (v := nI 0) C dX0_does_80 rfl (by decide) ?_
    refine xp_X0_172 (q := 84) C (by exact ho4) (by first | rfl | exact bI_nar _) rfl dX0_does_81 rfl ?_
    rw [hσ5]
    first | refine z_al0 (q := 85) C dX0_does_84 rfl ?_ | refine z_al0q (q := 85) C dX0_does_84 rfl ?_ | refine z_al0u (q := 85) C dX0_does_84 rfl ?_
    first | refine xr_X0_43 (q := 88) C (by exact ho5) q175 dX0_does_85 rfl ?_ | refine xn_X0_43 (q := 88) C (by exact ho5) q175 dX0_does_85 rfl ?_
    refine z_iconst (q := 89) (v := nI 0) C dX0_does_88 rfl (by decide) ?_
    first | refine z_al0 (q := 90) C dX0_does_89 rfl ?_ | refine z_al0q (q := 90) C dX0_does_89 rfl ?_ | refine z_al0u (q := 90) C dX0_does_89 rfl ?_
    first | refine xr_X0_39 (q := 93) C (by exact ho5) q165 dX0_does_90 rfl ?_ | refine xn_X0_39 (q := 93) C (by exact ho5) q165 dX0_does_90 rfl ?_
    refine z_iconst (q := 94) (v := nI 0) C dX0_does_93 rfl (by decide) ?_
    first | refine z_al0 (q := 95) C dX0_does_94 rfl ?_ | refine z_al0q (q := 95) C dX0_does_94 rfl ?_ | refine z_al0u (q := 95) C dX0_does_94 rfl ?_
    first | refine xr_X0_43 (q := 98) C (by exact ho5) q175 dX0_does_95 rfl ?_ | refine xn_X0_43 (q := 98) C (by exact ho5) q175 dX0_does_95 rfl ?_
    first | refine x_wlen (q := 99) C dX0_does_98 rfl ?_ | refine x_alen (q := 99) C (by assumption) dX0_does_98 rfl ?_
    rw [m65]
    refine x_copy (q := 102) C q65 q55 m65 m55 q698 q700 q699 (by decide) (Nat.le_of_ble_eq_true rfl) dX0_does_99 rfl ?_
    refine z_il2 (q := 103) C dX0_does_102 rfl ?_
    refine z_iret C hQ dX0_does_103 (by omega) (by omega) ?_
    exact ⟨_, rfl, rfl, stp p0 n, e0, hf⟩
end T91
