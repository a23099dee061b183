/-! THE CLASS: hashes -/
set_option maxRecDepth 10000
theorem CI.h0 {c : Co} (h : CI c) {t p : Nat} (ht : t ≤ 999) (hp : p ≤ 999) : CI (k_h0 c t p) := ⟨List.nodup_nil, fun e he => (by cases he), List.Perm.refl _, (by show 0 ≤ 49; omega), ⟨3, by omega, by omega, rfl⟩, ht, hp, h.2.2.2.2.2.2.2.1, h.2.2.2.2.2.2.2.2.1, fun b hb => by cases hb⟩
section T75
variable {D : Dx} {p : Nat → Nat} {σ : Sg} {α : Al} {N : Nat} {d : Nat}
set_option maxHeartbeats 2000000 in
theorem cx_hashes (h : XA false D p σ α) (hA : AI N α) (t pl : Int32) : Ct (wX D) yX0_hashes cX0_hashes 5 (some .int) [.ref (p 0), .int t, .int pl] σ (PI (fun r σ' => r = (a_hashes α t pl).1 ∧ XA false D p σ' (a_hashes α t pl).2)) 64 13000 100000 := by
  obtain ⟨ad, B, hX, hq, hC, hU, hP, h9, hR⟩ := h.num
  have hM := hX.1
  have ho := hX.1.1
  have hs := hX.sep
  obtain ⟨r16, k5, l5⟩ := hX.2.2.2.2.1
  have hI := hA.1
  have h48 := hA.2.1
  refine Ct.of KXok (by decide) (Nat.le_of_ble_eq_true rfl) rfl fun Y C hQ hNm => ?_
  have hb := h.rfs hA (i := 0) (by decide)
  cases hi : (inB t (nI 0) (nI 999) && inB pl (nI 0) (nI 999)) with
  | false =>
    have e1 : a_hashes α t pl = (-2, a_rfs α 0) := if_neg (by rw [hi]; decide)
    rw [e1] at hQ
    refine z_il1 (q := 1) C dX0_hashes_0 rfl ?_
    refine z_i2l (q := 2) C dX0_hashes_1 rfl ?_
    refine z_lconst (q := 3) (v := 0) C dX0_hashes_2 rfl rfl ?_
    refine z_ldc2 (q := 6) C dX0_hashes_3 rfl q523 ?_
    refine xc_X0_214 (q := 9) C (cx_inB (d := 0) σ t (nI 0) (nI 999)) dX0_hashes_6 rfl rfl rfl (Nat.le_of_ble_eq_true rfl) (by first | decide | omega) (by omega) (by omega) (kkE ?_)
    first | refine z_if_eqB (tgt := 24) (q := 12) C dX0_hashes_9 (by decide) rfl (fun c9 => ?_) (fun c9 => ?_) | refine z_if_eq (tgt := 24) (q := 12) C dX0_hashes_9 (by decide) rfl (fun c9 => ?_) (fun c9 => ?_)
    · first | refine z_al0 (q := 25) C dX0_hashes_24 rfl ?_ | refine z_al0q (q := 25) C dX0_hashes_24 rfl ?_ | refine z_al0u (q := 25) C dX0_hashes_24 rfl ?_
      refine xc_X0_227 (q := 28) C (cx_bad (d := 0) ho r16 k5 l5) (by first | exact ho | exact hk | exact hb | exact he | assumption | exact Or.inl (by assumption) | exact Or.inr (by assumption)) dX0_hashes_25 rfl rfl rfl (Nat.le_of_ble_eq_true rfl) (by first | decide | omega) (by omega) (by omega) (kkE ?_)
      refine z_iret C hQ dX0_hashes_28 (by omega) (by omega) ?_
      exact ⟨_, rfl, rfl, hb⟩
    · refine z_il2 (q := 13) C dX0_hashes_12 rfl ?_
      refine z_i2l (q := 14) C dX0_hashes_13 rfl ?_
      refine z_lconst (q := 15) (v := 0) C dX0_hashes_14 rfl rfl ?_
      refine z_ldc2 (q := 18) C dX0_hashes_15 rfl q523 ?_
      refine xc_X0_214 (q := 21) C (cx_inB (d := 0) σ pl (nI 0) (nI 999)) dX0_hashes_18 rfl rfl rfl (Nat.le_of_ble_eq_true rfl) (by first | decide | omega) (by omega) (by omega) (kkE ?_)
      first | refine z_if_neB (tgt := 29) (q := 24) C dX0_hashes_21 (by decide) rfl (fun c21 => ?_) (fun c21 => ?_) | refine z_if_ne (tgt := 29) (q := 24) C dX0_hashes_21 (by decide) rfl (fun c21 => ?_) (fun c21 => ?_)
      · rw [c9, c21] at hi; cases hi
      · first | refine z_al0 (q := 25) C dX0_hashes_24 rfl ?_ | refine z_al0q (q := 25) C dX0_hashes_24 rfl ?_ | refine z_al0u (q := 25) C dX0_hashes_24 rfl ?_
        refine xc_X0_227 (q := 28) C (cx_bad (d := 0) ho r16 k5 l5) (by first | exact ho | exact hk | exact hb | exact he | assumption | exact Or.inl (by assumption) | exact Or.inr (by assumption)) dX0_hashes_25 rfl rfl rfl (Nat.le_of_ble_eq_true rfl) (by first | decide | omega) (by omega) (by omega) (kkE ?_)
        refine z_iret C hQ dX0_hashes_28 (by omega) (by omega) ?_
        exact ⟨_, rfl, rfl, hb⟩
  | true =>
    obtain ⟨g1, g2⟩ := Bool.and_eq_true_iff.mp hi
    obtain ⟨et, ht⟩ := in_of (by decide) g1
    obtain ⟨ep, hpl⟩ := in_of (by decide) g2
    have e0 : a_hashes α t pl = (nI (k_n (k_hash (a_c α) (kN t) (kN pl)) 1), a_lv α (k_hash (a_c α) (kN t) (kN pl)) 1) := if_pos hi
    rw [e0] at hQ
    generalize kN t = tn at *
    generalize kN pl = pn at *
    subst et
    subst ep
    have fin : ∀ (σ1 : Sg) (B1 : Nat → Nat) (x3 x4 : Option Value), XC ad (p 0) (p 1) σ1 B1 (k_hash (a_c α) tn pn) → XP p σ1 (psQ false (a_ps α) (a_c α)) → FG [1, 4, 5, 6, 7, 8, 9, 12, 21, 23, 42] [2, 3, 24, 25, 26, 27, 28, 29, 40, 41, 60] [p 1, p 3] σ σ1 → fi σ1 9 (p 0) = nI (a_ch α) → Zj (wX D) Y σ1 13000 100000 80 [some (.ref (p 0)), some (.int (nI tn)), some (.int (nI pn)), x3, x4] [] := by
      intro σ1 B1 x3 x4 hC1 hP1 hF1 h91
      have hX1 := hX.keep hF1 (by simp) (by simp; exact ⟨hs.2.2.2.2.2.1.symm, hs.2.1.symm⟩)
      have ho1 := hX1.1.1
      have hF4 : FG [9] [] [] σ1 (sI 9 (p 0) (nI (a_ch α + 1)) σ1) := FR.rf.wI (fun _ => by simp)
      have hC4 := hC1.keep hX1.1 hF4 (by simp) (by simp) (by simp)
      have e1 := hC4.2.1.2.2.2.1
      first | refine z_al0 (q := 81) C dX0_hashes_80 rfl ?_ | refine z_al0q (q := 81) C dX0_hashes_80 rfl ?_ | refine z_al0u (q := 81) C dX0_hashes_80 rfl ?_
      refine z_dup (q := 82) C dX0_hashes_81 rfl rfl ?_
      refine xg_X0_153 (q := 85) C (by exact ho1) dX0_hashes_82 rfl ?_
      rw [h91]
      refine z_iconst (q := 86) (v := nI 1) C dX0_hashes_85 rfl (by decide) ?_
      first | refine z_iaddN (q := 87) C dX0_hashes_86 rfl ?_ | refine z_iadd (q := 87) C dX0_hashes_86 rfl ?_
      refine xp_X0_153 (q := 90) C (by exact ho1) dX0_hashes_87 rfl ?_
      first | refine z_al0 (q := 91) C dX0_hashes_90 rfl ?_ | refine z_al0q (q := 91) C dX0_hashes_90 rfl ?_ | refine z_al0u (q := 91) C dX0_hashes_90 rfl ?_
      refine xg_X0_62 (q := 94) C (by exact ho1) dX0_hashes_91 rfl ?_
      rw [e1]
      refine z_iret C hQ dX0_hashes_94 (by omega) (by omega) ?_
      exact ⟨_, rfl, rfl, XA.core hX hq hU hR hA (hF1.tr (hF4.up (by simp) (by simp) (by simp))) hC4 (hP1.keep hX1 hF4 (by simp) (by simp) (by simp) (by simp)) (by rw [fi_sI, if_pos ⟨rfl, rfl⟩]) (Or.inl (by decide))⟩
    have loop : ∀ (R P : List (Nat × Nat)) (σ1 : Sg) (B1 : Nat → Nat) (r : Option Nat), P ++ R = k_es (a_c α) → CH ad (fr σ 25) (R.map (·.1)) r → CI (P.foldl k_h1 (k_h0 (a_c α) tn pn)) → XB ad (p 0) (p 1) σ1 B1 (P.foldl k_h1 (k_h0 (a_c α) tn pn)) → XO ad (p 0) σ1 (k_es (a_c α)) → XP p σ1 (psQ false (a_ps α) (a_c α)) → FG [1, 5, 6, 12, 23, 42] [26, 27, 28, 29, 40, 41, 60] [p 1, p 3] σ σ1 → Zj (wX D) Y σ1 (13 + 257 * P.length) (324 + 900 * P.length) 55 [some (.ref (p 0)), some (.int (nI tn)), some (.int (nI pn)), some (.int (nI P.length)), some (va_rf r)] [] := by
      intro R
      induction R with
      | nil =>
        intro P σ1 B1 r hPR hc hIP hB1 hO1 hP1 hF1
        have hc : r = none := hc
        subst hc
        rw [List.append_nil] at hPR
        subst hPR
        have n0 : kd σ (p 0) ≠ 0 := by omega
        have hfo := fold_es (k_es (a_c α)) (k_h0 (a_c α) tn pn)
        have hes : k_es (k_hash (a_c α) tn pn) = k_es (a_c α) := hfo.1
        have hC1 : XC ad (p 0) (p 1) σ1 B1 (k_hash (a_c α) tn pn) := ⟨by rw [hes]; exact hO1, hB1, by rw [hF1.gi n0 (by simp), show k_n (k_hash (a_c α) tn pn) 4 = k_n (a_c α) 4 from hfo.2.2 4 (by decide)]; exact hC.2.2.1, by rw [hF1.gi n0 (by simp), show k_n (k_hash (a_c α) tn pn) 5 = k_n (a_c α) 5 from hfo.2.2 5 (by decide)]; exact hC.2.2.2⟩
        have hg := fin σ1 B1 (some (.int (nI (k_es (a_c α)).length))) (some .null) hC1 hP1 (hF1.up (by simp) (by simp) (by simp)) (by rw [hF1.gi n0 (by simp)]; exact h9)
        show Zj _ _ _ _ _ _ [some (.ref (p 0)), some (.int (nI tn)), some (.int (nI pn)), some (.int (nI (k_es (a_c α)).length)), some .null] []
        first | refine z_al4 (q := 57) C dX0_hashes_55 rfl ?_ | refine z_al4q (q := 57) C dX0_hashes_55 rfl ?_ | refine z_al4u (q := 57) C dX0_hashes_55 rfl ?_
        refine z_ifnull_u (tgt := 80) C dX0_hashes_57 (by decide) ?_
        exact z_widen (by omega) (by omega) hg
      | cons e R ih =>
        intro P σ1 B1 r hPR hc hIP hB1 hO1 hP1 hF1
        obtain ⟨rfl, hc⟩ := hc
        have hX1 := hX.keep hF1 (by simp) (by simp; exact ⟨hs.2.2.2.2.2.1.symm, hs.2.1.symm⟩)
        have hM1 := hX1.1
        have ho1 := hM1.1
        have hem : e ∈ k_es (a_c α) := by rw [← hPR]; simp
        have hEC := hO1.2.2 e hem
        have hkd : kd σ1 (ad e.1) = 2 := hEC.1
        have n0 : kd σ (ad e.1) ≠ 0 := by have := (hC.1.2.2 e hem).1; omega
        have hfo := fold_es P (k_h0 (a_c α) tn pn)
        have hes : k_es (P.foldl k_h1 (k_h0 (a_c α) tn pn)) = P := hfo.1
        have hnd : (P.map (·.1) ++ e.1 :: R.map (·.1)).Nodup := by
          have := hI.1
          unfold k_ks at this
          rw [← hPR, List.map_append] at this
          exact this
        have hnm : e.1 ∉ P.map (·.1) := fun z => (List.nodup_append.mp hnd).2.2 e.1 z e.1 (by simp) rfl
        have hnk : e.1 ∉ k_ks (P.foldl k_h1 (k_h0 (a_c α) tn pn)) := by unfold k_ks; rw [hes]; exact hnm
        have hnc : e.1 ∉ k_cs (P.foldl k_h1 (k_h0 (a_c α) tn pn)) := fun z => hnk (hIP.2.2.1.mem_iff.mp z)
        have hPl : P.length + 1 ≤ 48 := by
          have := congrArg List.length hPR
          rw [List.length_append, List.length_cons] at this
          omega
        have hstep : (P ++ [e]).foldl k_h1 (k_h0 (a_c α) tn pn) = k_fit (k_add (P.foldl k_h1 (k_h0 (a_c α) tn pn)) e.1 e.2) (k_b (P.foldl k_h1 (k_h0 (a_c α) tn pn)) e.1) (P.length + 1) := by
          rw [List.foldl_append]
          exact congrArg (fun n => k_fit (k_add (P.foldl k_h1 (k_h0 (a_c α) tn pn)) e.1 e.2) (k_b (P.foldl k_h1 (k_h0 (a_c α) tn pn)) e.1) (n + 1)) (congrArg List.length hes)
        have hci : CI ((P ++ [e]).foldl k_h1 (k_h0 (a_c α) tn pn)) := by
          rw [hstep]
          exact (hIP.add hEC.2.2.2.2.1 hEC.2.2.2.2.2 hnk (by rw [hes]; omega)).fit (k_b_lt hIP _)
        have hcc := cx_comesIn (D := D) (v := e.2) (all := P.length + 1) hM1 hB1 hIP hkd hEC.2.1 hEC.2.2.2.1 hEC.2.2.2.2.1 hEC.2.2.2.2.2 hnc (by rw [hes]; omega) (by omega)
        rw [← hstep] at hcc
        show Zj _ _ _ _ _ _ [some (.ref (p 0)), some (.int (nI tn)), some (.int (nI pn)), some (.int (nI P.length)), some (.ref (ad e.1))] []
        first | refine z_al4 (q := 57) C dX0_hashes_55 rfl ?_ | refine z_al4q (q := 57) C dX0_hashes_55 rfl ?_ | refine z_al4u (q := 57) C dX0_hashes_55 rfl ?_
        refine z_ifnull_r (q := 60) C dX0_hashes_57 rfl ?_
        first | refine z_iinc3N (q := 63) C dX0_hashes_60 rfl (by first | exact loC_i | exact loC_r | exact loC_n | exact loC_q | exact loC_u) ?_ | refine z_iinc3 (q := 63) C dX0_hashes_60 rfl rfl (by first | exact loC_i | exact loC_r | exact loC_n | exact loC_q | exact loC_u) ?_
        first | refine z_al0 (q := 64) C dX0_hashes_63 rfl ?_ | refine z_al0q (q := 64) C dX0_hashes_63 rfl ?_ | refine z_al0u (q := 64) C dX0_hashes_63 rfl ?_
        first | refine z_al4 (q := 66) C dX0_hashes_64 rfl ?_ | refine z_al4q (q := 66) C dX0_hashes_64 rfl ?_ | refine z_al4u (q := 66) C dX0_hashes_64 rfl ?_
        refine z_il3 (q := 67) C dX0_hashes_66 rfl ?_
        refine xc_X0_162 (q := 70) C hcc (by exact ho1) dX0_hashes_67 rfl rfl rfl (Nat.le_of_ble_eq_true rfl) (by first | decide | omega) (by omega) (by omega) (kkV fun σ67 h67 => ?_)
        obtain ⟨⟨B2, hB2⟩, hF2⟩ := h67
        have hkd2 : kd σ67 (ad e.1) = 2 := hF2.ek hkd
        have hF12 := hF1.tr (hF2.up (by simp) (by simp) (by simp))
        have h25 : fr σ67 25 (ad e.1) = fr σ 25 (ad e.1) := hF12.gr n0 (by simp)
        have hg := ih (P ++ [e]) σ67 B2 (fr σ 25 (ad e.1)) (by rw [← hPR]; simp) hc hci hB2 (hO1.keep ho1 hF2 (by simp) (by simp)) (hP1.keep hX1 hF2 (by simp) (by simp) (by simp; exact hs.1) (by simp)) hF12
        rw [List.length_append] at hg
        have hg : Zj (wX D) Y σ67 (13 + 257 * (P.length + 1)) (324 + 900 * (P.length + 1)) 55 [some (.ref (p 0)), some (.int (nI tn)), some (.int (nI pn)), some (.int (nI (P.length + 1))), some (va_rf (fr σ 25 (ad e.1)))] [] := hg
        first | refine z_al4 (q := 72) C dX0_hashes_70 rfl ?_ | refine z_al4q (q := 72) C dX0_hashes_70 rfl ?_ | refine z_al4u (q := 72) C dX0_hashes_70 rfl ?_
        refine xg_X0_137 (q := 75) C (by exact hkd2) dX0_hashes_72 rfl ?_
        rw [h25]
        first | refine z_as4 (q := 77) C dX0_hashes_75 rfl (by first | exact loC_i | exact loC_r | exact loC_n | exact loC_q | exact loC_u) ?_ | refine z_as4q (q := 77) C dX0_hashes_75 rfl (by first | exact loC_i | exact loC_r | exact loC_n | exact loC_q | exact loC_u) ?_ | refine z_asu4 (q := 77) C dX0_hashes_75 rfl (by first | exact loC_i | exact loC_r | exact loC_n | exact loC_q | exact loC_u) ?_
        refine z_goto (tgt := 55) C dX0_hashes_77 (by decide) ?_
        exact z_widen (by omega) (by omega) hg
    refine z_il1 (q := 1) C dX0_hashes_0 rfl ?_
    refine z_i2l (q := 2) C dX0_hashes_1 rfl ?_
    refine z_lconst (q := 3) (v := 0) C dX0_hashes_2 rfl rfl ?_
    refine z_ldc2 (q := 6) C dX0_hashes_3 rfl q523 ?_
    refine xc_X0_214 (q := 9) C (cx_inB (d := 0) σ _ (nI 0) (nI 999)) dX0_hashes_6 rfl rfl rfl (Nat.le_of_ble_eq_true rfl) (by first | decide | omega) (by omega) (by omega) (kkE ?_)
    refine z_if_eqB (tgt := 24) (q := 12) C dX0_hashes_9 (by decide) rfl (fun c9 => by rw [g1] at c9; cases c9) (fun c9 => ?_)
    refine z_il2 (q := 13) C dX0_hashes_12 rfl ?_
    refine z_i2l (q := 14) C dX0_hashes_13 rfl ?_
    refine z_lconst (q := 15) (v := 0) C dX0_hashes_14 rfl rfl ?_
    refine z_ldc2 (q := 18) C dX0_hashes_15 rfl q523 ?_
    refine xc_X0_214 (q := 21) C (cx_inB (d := 0) σ _ (nI 0) (nI 999)) dX0_hashes_18 rfl rfl rfl (Nat.le_of_ble_eq_true rfl) (by first | decide | omega) (by omega) (by omega) (kkE ?_)
    refine z_if_neB (tgt := 29) (q := 24) C dX0_hashes_21 (by decide) rfl (fun c21 => ?_) (fun c21 => by rw [g2] at c21; cases c21)
    first | refine z_al0 (q := 30) C dX0_hashes_29 rfl ?_ | refine z_al0q (q := 30) C dX0_hashes_29 rfl ?_ | refine z_al0u (q := 30) C dX0_hashes_29 rfl ?_
    refine xc_X0_237 (q := 33) C (cx_lv hX hC hI hP hq) (by first | exact ho | exact hk | exact hb | exact he | assumption | exact Or.inl (by assumption) | exact Or.inr (by assumption)) dX0_hashes_30 rfl rfl rfl (Nat.le_of_ble_eq_true rfl) (by first | decide | omega) (by omega) (by omega) (kkV fun σ30 h30 => ?_)
    obtain ⟨hP1, hF1⟩ := h30
    have hX1 := hX.keep hF1 (by simp) (by simp; exact hs.2.1.symm)
    have ho1 := hX1.1.1
    have hC1 := hC.keep hM hF1 (by simp) (by simp) (by simp; exact hs.1.symm)
    have hF2 : FG [5, 6] [] [] σ30 (sI 6 (p 0) (nI pn) (sI 5 (p 0) (nI tn) σ30)) := (FR.rf.wI (fun _ => by simp)).wI (fun _ => by simp)
    have g5 : fi (sI 6 (p 0) (nI pn) (sI 5 (p 0) (nI tn) σ30)) 5 (p 0) = nI (k_n (k_h0 (a_c α) tn pn) 2) := by rw [fi_sI, if_neg (fun z => by cases z.1), fi_sI, if_pos ⟨rfl, rfl⟩]; rfl
    have g6 : fi (sI 6 (p 0) (nI pn) (sI 5 (p 0) (nI tn) σ30)) 6 (p 0) = nI (k_n (k_h0 (a_c α) tn pn) 3) := by rw [fi_sI, if_pos ⟨rfl, rfl⟩]; rfl
    first | refine z_al0 (q := 34) C dX0_hashes_33 rfl ?_ | refine z_al0q (q := 34) C dX0_hashes_33 rfl ?_ | refine z_al0u (q := 34) C dX0_hashes_33 rfl ?_
    refine z_il1 (q := 35) C dX0_hashes_34 rfl ?_
    refine xp_X0_18 (q := 38) C (by exact ho1) dX0_hashes_35 rfl ?_
    first | refine z_al0 (q := 39) C dX0_hashes_38 rfl ?_ | refine z_al0q (q := 39) C dX0_hashes_38 rfl ?_ | refine z_al0u (q := 39) C dX0_hashes_38 rfl ?_
    refine z_il2 (q := 40) C dX0_hashes_39 rfl ?_
    refine xp_X0_68 (q := 43) C (by exact ho1) dX0_hashes_40 rfl ?_
    generalize sI 6 (p 0) (nI pn) (sI 5 (p 0) (nI tn) σ30) = σ2 at *
    have hX2 := hX1.keep hF2 (by simp) (by simp)
    have ho2 := hX2.1.1
    first | refine z_al0 (q := 44) C dX0_hashes_43 rfl ?_ | refine z_al0q (q := 44) C dX0_hashes_43 rfl ?_ | refine z_al0u (q := 44) C dX0_hashes_43 rfl ?_
    refine xc_X0_55 (q := 47) C (cx_empties (ad := ad) (d := 0) (c := k_h0 (a_c α) tn pn) hX2.1 g5 g6 rfl rfl (fun b => rfl)) (by exact ho2) dX0_hashes_44 rfl rfl rfl (Nat.le_of_ble_eq_true rfl) (by first | decide | omega) (by omega) (by omega) (kkV fun σ44 h44 => ?_)
    obtain ⟨⟨B3, hB3⟩, hF3⟩ := h44
    have hF : FG [1, 5, 6, 12, 23, 42] [26, 27, 28, 29, 40, 41, 60] [p 1, p 3] σ σ44 := (hF1.up (by simp) (by simp) (by simp)).tr ((hF2.up (by simp) (by simp) (by simp)).tr (hF3.up (by simp) (by simp) (by simp)))
    have hO3 := ((hC1.1.keep ho1 hF2 (by simp) (by simp)).keep ho2 hF3 (by simp) (by simp))
    have hP3 := (hP1.keep hX1 hF2 (by simp) (by simp) (by simp) (by simp)).keep hX2 hF3 (by simp) (by simp) (by simp; exact hs.1) (by simp)
    have ho3 : kd σ44 (p 0) = 1 := hF3.ek ho2
    have h2o : fr σ44 2 (p 0) = fr σ 2 (p 0) := hF.gr (by omega) (by simp)
    have hg := loop (k_es (a_c α)) [] σ44 B3 (fr σ 2 (p 0)) rfl hC.1.1.ch (hI.h0 ht hpl) hB3 hO3 hP3 hF
    refine z_iconst (q := 48) (v := nI 0) C dX0_hashes_47 rfl (by decide) ?_
    refine z_is3 (q := 49) C dX0_hashes_48 rfl (by first | exact loC_i | exact loC_r | exact loC_n | exact loC_q | exact loC_u) ?_
    first | refine z_al0 (q := 50) C dX0_hashes_49 rfl ?_ | refine z_al0q (q := 50) C dX0_hashes_49 rfl ?_ | refine z_al0u (q := 50) C dX0_hashes_49 rfl ?_
    refine xg_X0_140 (q := 53) C (by exact ho3) dX0_hashes_50 rfl ?_
    rw [h2o]
    first | refine z_as4 (q := 55) C dX0_hashes_53 rfl (by first | exact loC_i | exact loC_r | exact loC_n | exact loC_q | exact loC_u) ?_ | refine z_as4q (q := 55) C dX0_hashes_53 rfl (by first | exact loC_i | exact loC_r | exact loC_n | exact loC_q | exact loC_u) ?_ | refine z_asu4 (q := 55) C dX0_hashes_53 rfl (by first | exact loC_i | exact loC_r | exact loC_n | exact loC_q | exact loC_u) ?_
    exact z_widen (by omega) (by omega) hg
end T75
