/-! THE CLASS: what is made -/
set_option maxRecDepth 10000
def pC (o bs cs ps tx rf ct rd : Nat) (u : Nat → Nat) : Nat → Nat
  | 0 => o
  | 1 => bs
  | 2 => cs
  | 3 => ps
  | 4 => tx
  | 5 => rf
  | 6 => ct
  | 7 => rd
  | 8 => u 0
  | 9 => u 1
  | 10 => u 2
  | _ => 0
theorem pC_u {o bs cs ps tx rf ct rd : Nat} {u : Nat → Nat} {i : Nat} (hi : i < 3) : pC o bs cs ps tx rf ct rd u (8 + i) = u i := by
  rcases (show i = 0 ∨ i = 1 ∨ i = 2 by omega) with rfl | rfl | rfl <;> rfl
theorem pC_z {o bs cs ps tx rf ct rd : Nat} {u : Nat → Nat} {i : Nat} (hi : i < 4) : pC o bs cs ps tx rf ct rd u (12 + i) = 0 := by
  rcases (show i = 0 ∨ i = 1 ∨ i = 2 ∨ i = 3 by omega) with rfl | rfl | rfl | rfl <;> rfl
theorem ar_sQ {a i a' j : Nat} {x : Option Nat} {σ : Sg} : ar (sQ a i x σ) a' j = if a' = a ∧ j = i then x else ar σ a' j := by
  show up2 (ar σ) a i x a' j = _
  unfold up2
  by_cases h : a' = a
  · by_cases k : j = i
    · rw [if_pos h, if_pos k, if_pos ⟨h, k⟩]
    · rw [if_pos h, if_neg k, if_neg (fun z => k z.2)]
  · rw [if_neg h, if_neg (fun z => h z.1)]
section T92
variable {D : Dx} {σ : Sg} {d : Nat}
theorem cx_initU {a : Nat} (hk : kd σ a = 5) : Ct (wX D) yX1_init cX1_init 1 none [.ref a] σ (PE none (sI 82 a (-1) σ)) d 0 0 := by
  refine Ct.of KXok (by decide) (Nat.le_of_ble_eq_true rfl) rfl fun Y C hQ hNm => ?_
  first | refine z_al0 (q := 1) C dX1_init_0 rfl ?_ | refine z_al0q (q := 1) C dX1_init_0 rfl ?_ | refine z_al0u (q := 1) C dX1_init_0 rfl ?_
  refine z_objInit (q := 4) C dX1_init_1 rfl q114 (Nat.le_of_ble_eq_true rfl) ?_
  first | refine z_al0 (q := 5) C dX1_init_4 rfl ?_ | refine z_al0q (q := 5) C dX1_init_4 rfl ?_ | refine z_al0u (q := 5) C dX1_init_4 rfl ?_
  refine z_iconst (q := 6) (v := -1) C dX1_init_5 rfl (by decide) ?_
  refine xp_X1_9 (q := 9) C (by first | exact ho | exact hk | exact hb | exact he | assumption) dX1_init_6 rfl ?_
  refine z_vret C hQ dX1_init_9 (by omega) (by omega) ?_
  exact ⟨rfl, rfl⟩
theorem cx_initR {a o : Nat} (hk : kd σ a = 7) : Ct (wX D) yX2_init cX2_init 2 none [.ref a, .ref o] σ (PE none (sR 121 a (some o) σ)) d 0 0 := by
  refine Ct.of KXok (by decide) (Nat.le_of_ble_eq_true rfl) rfl fun Y C hQ hNm => ?_
  first | refine z_al0 (q := 1) C dX2_init_0 rfl ?_ | refine z_al0q (q := 1) C dX2_init_0 rfl ?_ | refine z_al0u (q := 1) C dX2_init_0 rfl ?_
  first | refine z_al1 (q := 2) C dX2_init_1 rfl ?_ | refine z_al1q (q := 2) C dX2_init_1 rfl ?_ | refine z_al1u (q := 2) C dX2_init_1 rfl ?_
  first | refine xpr_X2_3 (q := 5) C (by first | exact ho | exact hk | exact hb | exact he | assumption) hNm dX2_init_2 rfl ?_ | refine xpn_X2_3 (q := 5) C (by first | exact ho | exact hk | exact hb | exact he | assumption) hNm dX2_init_2 rfl ?_ | refine xp_X2_3 (q := 5) C (by first | exact ho | exact hk | exact hb | exact he | assumption) hNm dX2_init_2 rfl ?_
  first | refine z_al0 (q := 6) C dX2_init_5 rfl ?_ | refine z_al0q (q := 6) C dX2_init_5 rfl ?_ | refine z_al0u (q := 6) C dX2_init_5 rfl ?_
  refine z_objInit (q := 9) C dX2_init_6 rfl q136 (Nat.le_of_ble_eq_true rfl) ?_
  refine z_vret C hQ dX2_init_9 (by omega) (by omega) ?_
  exact ⟨rfl, rfl⟩
theorem cx_cursors : Ct (wX D) yX0_cursors cX0_cursors 2 (some (.array (.object "CrowdedBins$Cursor"))) [] σ (PQ (fun r σ' => ∃ (cs : Nat) (u : Nat → Nat), r = some cs ∧ kd σ cs = 0 ∧ (kd σ' cs = 15 ∧ ln σ' cs = 3 ∧ ∀ j, j < 3 → ar σ' cs j = some (u j) ∧ kd σ' (u j) = 5 ∧ fr σ' 80 (u j) = none) ∧ (∀ i j, i < 3 → j < 3 → u i = u j → i = j) ∧ FG [] [] [] σ σ')) (d + 1) 4 15 := by
  refine Ct.of KXok (by decide) (Nat.le_of_ble_eq_true rfl) rfl fun Y C hQ hNm => ?_
  refine z_iconst (q := 1) (v := nI 3) C dX0_cursors_0 rfl (by decide) ?_
  refine x_anew (q := 4) C 4 (by decide) (by decide) q108 q109 (by decide) (by omega) (by omega) dX0_cursors_1 rfl (fun cs fc => ?_)
  have loop : ∀ m i, i + m = 3 → ∀ (σ1 : Sg) (u : Nat → Nat), kd σ1 cs = 15 → ln σ1 cs = 3 → (∀ j, j < i → ar σ1 cs j = some (u j) ∧ kd σ1 (u j) = 5 ∧ fr σ1 80 (u j) = none) → (∀ i' j, i' < i → j < i → u i' = u j → i' = j) → FG [] [] [] σ σ1 → Zj (wX D) Y σ1 (1 + i) (3 + 4 * i) 7 [some (.ref cs), some (.int (nI i))] [] := by
    intro m
    induction m with
    | zero =>
      intro i hi σ1 u h1 h2 h3 h4 hF
      have hi : i = 3 := hi
      subst hi
      refine z_il1 (q := 8) C dX0_cursors_7 rfl ?_
      refine z_iconst (q := 9) (v := nI 3) C dX0_cursors_8 rfl (by decide) ?_
      first | refine z_icmp_geN (tgt := 28) (q := 12) C dX0_cursors_9 (by decide) rfl (by omega) (by omega) (fun c9 => ?_) (fun c9 => ?_) | refine z_icmp_ge (tgt := 28) (q := 12) C dX0_cursors_9 (by decide) rfl (fun c9 => ?_) (fun c9 => ?_)
      · first | refine z_al0 (q := 29) C dX0_cursors_28 rfl ?_ | refine z_al0q (q := 29) C dX0_cursors_28 rfl ?_ | refine z_al0u (q := 29) C dX0_cursors_28 rfl ?_
        first | refine z_aret C hQ (Or.inr ⟨_, rfl⟩) dX0_cursors_29 (by omega) (by omega) ?_ | refine z_aret (r := some _) C hQ (Or.inr ⟨_, rfl⟩) dX0_cursors_29 (by omega) (by omega) ?_ | refine z_aret (r := none) C hQ (Or.inr ⟨_, rfl⟩) dX0_cursors_29 (by omega) (by omega) ?_
        exact ⟨some cs, rfl, cs, u, rfl, fc, ⟨h1, h2, h3⟩, h4, hF⟩
      · exact absurd c9 (by omega)
    | succ m ih =>
      intro i hi σ1 u h1 h2 h3 h4 hF
      refine z_il1 (q := 8) C dX0_cursors_7 rfl ?_
      refine z_iconst (q := 9) (v := nI 3) C dX0_cursors_8 rfl (by decide) ?_
      first | refine z_icmp_geN (tgt := 28) (q := 12) C dX0_cursors_9 (by decide) rfl (by omega) (by omega) (fun c9 => ?_) (fun c9 => ?_) | refine z_icmp_ge (tgt := 28) (q := 12) C dX0_cursors_9 (by decide) rfl (fun c9 => ?_) (fun c9 => ?_)
      · omega
      first | refine z_al0 (q := 13) C dX0_cursors_12 rfl ?_ | refine z_al0q (q := 13) C dX0_cursors_12 rfl ?_ | refine z_al0u (q := 13) C dX0_cursors_12 rfl ?_
      refine z_il1 (q := 14) C dX0_cursors_13 rfl ?_
      refine x_newN (q := 17) (m := 4) C rfl KC4 q108 q110 q82 (by decide) (by omega) (by omega) dX0_cursors_14 rfl (fun a14 f14 => ?_)
      refine z_dup (q := 18) C dX0_cursors_17 rfl rfl ?_
      have hkn : kd (nO 5 a14 σ1) a14 = 5 := if_pos rfl
      have hFo : FG [] [] [] σ1 (nO 5 a14 σ1) := FR.rf.wO f14
      have hne : cs ≠ a14 := fun z => by rw [← z] at f14; omega
      have ha : kd σ a14 = 0 := hF.z f14
      have h1' : kd (sI 82 a14 (-1) (nO 5 a14 σ1)) cs = 15 := hFo.ek h1
      have h2' : ln (sI 82 a14 (-1) (nO 5 a14 σ1)) cs = 3 := h2
      have hkn' : kd (sI 82 a14 (-1) (nO 5 a14 σ1)) a14 = 5 := hkn
      have hFF : FG [] [] [] σ (sQ cs i (some a14) (sI 82 a14 (-1) (nO 5 a14 σ1))) := ((hF.wO f14).wI (fun z => absurd ha z)).wQ (fun z => absurd fc z)
      have hg := ih (i + 1) (by omega) (sQ cs i (some a14) (sI 82 a14 (-1) (nO 5 a14 σ1))) (fun x => if x = i then a14 else u x) h1' h2' (fun j hj => ?_) (fun i' j hi' hj hu => ?_) hFF
      · refine xc_X0_5 (q := 21) C (cx_initU (d := 0) hkn) dX0_cursors_18 rfl rfl rfl (Nat.le_of_ble_eq_true rfl) (by first | decide | omega) (by omega) (by omega) (kkN ?_)
        refine x_aast (q := 22) C 4 (by decide) (by decide) (by assumption) KC4 (by assumption) (by first | exact Or.inl rfl | exact Or.inr q1191 | exact Or.inr q1192) (by rw [h2']; omega) (by omega) dX0_cursors_21 rfl ?_
        first | refine z_iinc1N (q := 25) C dX0_cursors_22 rfl (by first | exact loC_i | exact loC_r | exact loC_n | exact loC_q | exact loC_u) ?_ | refine z_iinc1 (q := 25) C dX0_cursors_22 rfl rfl (by first | exact loC_i | exact loC_r | exact loC_n | exact loC_q | exact loC_u) ?_
        refine z_goto (tgt := 7) C dX0_cursors_25 (by decide) ?_
        exact hg
      · by_cases e : j = i
        · rw [if_pos e]
          refine ⟨by rw [ar_sQ, if_pos ⟨rfl, e⟩], hkn, ?_⟩
          show (if a14 = a14 then none else fr σ1 80 a14) = none
          rw [if_pos rfl]
        · obtain ⟨b1, b2, b3⟩ := h3 j (by omega)
          rw [if_neg e]
          have hn : kd σ1 (u j) ≠ 0 := by omega
          refine ⟨?_, hFo.ek b2, ?_⟩
          · rw [ar_sQ, if_neg (fun z => e z.2)]; exact b1
          · show fr (nO 5 a14 σ1) 80 (u j) = none
            rw [hFo.gr hn (by simp)]; exact b3
      · have hux : ∀ x, x < i → u x ≠ a14 := fun x hx z => by have := (h3 x hx).2.1; rw [z] at this; omega
        have hu : (if i' = i then a14 else u i') = (if j = i then a14 else u j) := hu
        by_cases e1 : i' = i
        · by_cases e2 : j = i
          · omega
          · rw [if_pos e1, if_neg e2] at hu
            exact absurd hu.symm (hux j (by omega))
        · by_cases e2 : j = i
          · rw [if_neg e1, if_pos e2] at hu
            exact absurd hu (hux i' (by omega))
          · rw [if_neg e1, if_neg e2] at hu
            exact h4 i' j (by omega) (by omega) hu
  first | refine z_as0 (q := 5) C dX0_cursors_4 rfl ?_ | refine z_as0q (q := 5) C dX0_cursors_4 rfl ?_ | refine z_asu0 (q := 5) C dX0_cursors_4 rfl ?_
  refine z_iconst (q := 6) (v := nI 0) C dX0_cursors_5 rfl (by decide) ?_
  refine z_is1 (q := 7) C dX0_cursors_6 rfl (by first | exact loC_i | exact loC_r | exact loC_n | exact loC_q | exact loC_u) ?_
  exact loop 3 0 rfl _ (fun _ => 0) (if_pos rfl) (if_pos rfl) (fun j hj => by omega) (fun i j hi => by omega) (FR.rf.wB fc)
/-- what stands behind the walk -/
def S1 (o bs : Nat) (σ : Sg) : Sg := sI 5 o (nI 1) (sR 0 o (some bs) (nA 14 64 bs σ))
def S4 (o g t L a : Nat) (σ : Sg) : Sg := sR g o (some a) (nA t L a σ)
def S8 (o rd : Nat) (σ : Sg) : Sg := sR 18 o (some rd) (sR 121 rd (some o) (nO 7 rd σ))
theorem S4_fg {o g t L a : Nat} (f : kd σ a = 0) : FG [] [g] [] σ (S4 o g t L a σ) := FR.wR (FR.rf.wB f) (fun _ => by simp)
theorem S4_at {o g t L a : Nat} : fr (S4 o g t L a σ) g o = some a ∧ kd (S4 o g t L a σ) a = t ∧ ln (S4 o g t L a σ) a = L ∧ ∀ i, ai (S4 o g t L a σ) a i = 0 := ⟨by unfold S4; rw [fr_sR, if_pos ⟨rfl, rfl⟩], if_pos rfl, if_pos rfl, fun i => congrFun (show va_up (ai σ) a (fun _ => 0) a = fun _ => 0 from if_pos rfl) i⟩
set_option maxHeartbeats 1000000 in
theorem ctor_XA {o bs cs ps tx rf ct rd : Nat} {u : Nat → Nat} {σ2 σ9 : Sg} (ho : kd σ o = 1) (z1 : ∀ g, fi σ g o = 0) (z2 : ∀ g, fr σ g o = none) (f1 : kd σ bs = 0)
    (hcs : kd σ2 cs = 15 ∧ ln σ2 cs = 3 ∧ ∀ j, j < 3 → ar σ2 cs j = some (u j) ∧ kd σ2 (u j) = 5 ∧ fr σ2 80 (u j) = none) (hu : ∀ i j, i < 3 → j < 3 → u i = u j → i = j) (G2 : FG [] [] [] (S1 o bs σ) σ2)
    (f4 : kd (sR 10 o (some cs) σ2) ps = 0) (f5 : kd (S4 o 11 16 6 ps (sR 10 o (some cs) σ2)) tx = 0) (f6 : kd (S4 o 14 12 120 tx (S4 o 11 16 6 ps (sR 10 o (some cs) σ2))) rf = 0) (f7 : kd (S4 o 16 11 4 rf (S4 o 14 12 120 tx (S4 o 11 16 6 ps (sR 10 o (some cs) σ2)))) ct = 0)
    (f8 : kd (S4 o 17 11 4 ct (S4 o 16 11 4 rf (S4 o 14 12 120 tx (S4 o 11 16 6 ps (sR 10 o (some cs) σ2))))) rd = 0) :
    (MO o bs (S8 o rd (S4 o 17 11 4 ct (S4 o 16 11 4 rf (S4 o 14 12 120 tx (S4 o 11 16 6 ps (sR 10 o (some cs) σ2)))))) ∧ fi (S8 o rd (S4 o 17 11 4 ct (S4 o 16 11 4 rf (S4 o 14 12 120 tx (S4 o 11 16 6 ps (sR 10 o (some cs) σ2)))))) 5 o = nI 1 ∧ fi (S8 o rd (S4 o 17 11 4 ct (S4 o 16 11 4 rf (S4 o 14 12 120 tx (S4 o 11 16 6 ps (sR 10 o (some cs) σ2)))))) 6 o = nI 0) ∧
    (∀ (ad B : Nat → Nat), FG [1] [] [bs] (S8 o rd (S4 o 17 11 4 ct (S4 o 16 11 4 rf (S4 o 14 12 120 tx (S4 o 11 16 6 ps (sR 10 o (some cs) σ2)))))) σ9 → XB ad o bs σ9 B (a_c al5) → XA false D (pC o bs cs ps tx rf ct rd u) σ9 al5) := by
  have G1 : FG [5] [0] [] σ (S1 o bs σ) := FR.wI (FR.wR (FR.rf.wB f1) (fun _ => by simp)) (fun _ => by simp)
  have G3 : FG [] [10] [] σ2 (sR 10 o (some cs) σ2) := FR.wR FR.rf (fun _ => by simp)
  have b1 : kd (S1 o bs σ) bs = 14 ∧ ln (S1 o bs σ) bs = 64 ∧ fr (S1 o bs σ) 0 o = some bs ∧ fi (S1 o bs σ) 5 o = nI 1 := ⟨if_pos rfl, if_pos rfl, by show fr (sR 0 o (some bs) (nA 14 64 bs σ)) 0 o = _; rw [fr_sR, if_pos ⟨rfl, rfl⟩], by unfold S1; rw [fi_sI, if_pos ⟨rfl, rfl⟩]⟩
  have b3 : fr (sR 10 o (some cs) σ2) 10 o = some cs := by rw [fr_sR, if_pos ⟨rfl, rfl⟩]
  have ho1 : kd (S1 o bs σ) o = 1 := G1.ek ho
  have ho2 : kd σ2 o = 1 := G2.ek ho1
  generalize hs3 : sR 10 o (some cs) σ2 = s3 at *
  have G4 := S4_fg (o := o) (g := 11) (t := 16) (L := 6) f4
  have b4 := S4_at (σ := s3) (o := o) (g := 11) (t := 16) (L := 6) (a := ps)
  generalize S4 o 11 16 6 ps s3 = s4 at *
  have G5 := S4_fg (o := o) (g := 14) (t := 12) (L := 120) f5
  have b5 := S4_at (σ := s4) (o := o) (g := 14) (t := 12) (L := 120) (a := tx)
  generalize S4 o 14 12 120 tx s4 = s5 at *
  have G6 := S4_fg (o := o) (g := 16) (t := 11) (L := 4) f6
  have b6 := S4_at (σ := s5) (o := o) (g := 16) (t := 11) (L := 4) (a := rf)
  generalize S4 o 16 11 4 rf s5 = s6 at *
  have G7 := S4_fg (o := o) (g := 17) (t := 11) (L := 4) f7
  have b7 := S4_at (σ := s6) (o := o) (g := 17) (t := 11) (L := 4) (a := ct)
  generalize S4 o 17 11 4 ct s6 = s7 at *
  have G8 : FG [] [18, 121] [] s7 (S8 o rd s7) := FR.wR (FR.wR (FR.rf.wO f8) (fun _ => by simp)) (fun _ => by simp)
  have ho3 : kd s3 o = 1 := G3.ek ho2
  have ho4 : kd s4 o = 1 := G4.ek ho3
  have ho5 : kd s5 o = 1 := G5.ek ho4
  have ho6 : kd s6 o = 1 := G6.ek ho5
  have ho7 : kd s7 o = 1 := G7.ek ho6
  have hrd : o ≠ rd := fun z => by rw [← z] at f8; omega
  have b8 : fr (S8 o rd s7) 18 o = some rd ∧ kd (S8 o rd s7) rd = 7 ∧ fr (S8 o rd s7) 121 rd = some o ∧ fi (S8 o rd s7) 120 rd = 0 := ⟨by unfold S8; rw [fr_sR, if_pos ⟨rfl, rfl⟩], if_pos rfl, by unfold S8; rw [fr_sR, if_neg (fun z => by cases z.1), fr_sR, if_pos ⟨rfl, rfl⟩], if_pos rfl⟩
  generalize S8 o rd s7 = s8 at *
  have ho8 : kd s8 o = 1 := G8.ek ho7
  have K7 := G8
  have K6 : FG [] [17, 18, 121] [] s6 s8 := (G7.up (by simp) (by simp) (by simp)).tr (K7.up (by simp) (by simp) (by simp))
  have K5 : FG [] [16, 17, 18, 121] [] s5 s8 := (G6.up (by simp) (by simp) (by simp)).tr (K6.up (by simp) (by simp) (by simp))
  have K4 : FG [] [14, 16, 17, 18, 121] [] s4 s8 := (G5.up (by simp) (by simp) (by simp)).tr (K5.up (by simp) (by simp) (by simp))
  have K3 : FG [] [11, 14, 16, 17, 18, 121] [] s3 s8 := (G4.up (by simp) (by simp) (by simp)).tr (K4.up (by simp) (by simp) (by simp))
  have K2 : FG [] [10, 11, 14, 16, 17, 18, 121] [] σ2 s8 := (G3.up (by simp) (by simp) (by simp)).tr (K3.up (by simp) (by simp) (by simp))
  have K1 : FG [] [10, 11, 14, 16, 17, 18, 121] [] (S1 o bs σ) s8 := (G2.up (by simp) (by simp) (by simp)).tr K2
  have K0 : FG [5] [0, 10, 11, 14, 16, 17, 18, 121] [] σ s8 := (G1.up (by simp) (by simp) (by simp)).tr (K1.up (by simp) (by simp) (by simp))
  have n0 : kd σ o ≠ 0 := by omega
  have hMO : MO o bs s8 := ⟨ho8, by rw [K1.gr (by omega) (by simp)]; exact b1.2.2.1, K1.ek b1.1, by rw [(K1.1 bs (by omega)).2]; exact b1.2.1⟩
  refine ⟨⟨hMO, by rw [K1.gi (by omega) (by simp)]; exact b1.2.2.2, by rw [K0.gi n0 (by simp), z1]; rfl⟩, fun ad B G9 hXB => ?_⟩
  have nbs : ∀ {x t : Nat}, kd s8 x = t → t ≠ 14 → x ∉ [bs] := fun {x t} h ht z => by
    rw [List.mem_singleton.mp z, hMO.2.2.1] at h
    exact ht h.symm
  have c2 : kd s8 cs = 15 := K2.ek hcs.1
  have c3 : kd s8 ps = 16 := K4.ek b4.2.1
  have c4 : kd s8 tx = 12 := K5.ek b5.2.1
  have c5 : kd s8 rf = 11 := K6.ek b6.2.1
  have c6 : kd s8 ct = 11 := K7.ek b7.2.1
  have zi : ∀ g, g ∉ [1, 5] → fi σ9 g o = nI 0 := fun g hg => by
    rw [G9.gi (by omega) (fun z => hg (by simp at z; simp [z])), K0.gi n0 (fun z => hg (by simp at z; simp [z])), z1]; rfl
  have zr : ∀ g, g ∉ [0, 10, 11, 14, 16, 17, 18, 121] → fr σ9 g o = none := fun g hg => by
    rw [G9.gr (by omega) (by simp), K0.gr n0 hg, z2]
  refine ⟨⟨⟨G9.ek ho8, by show fr σ9 0 o = _; rw [G9.gr (by omega) (by simp)]; exact hMO.2.1, G9.ek hMO.2.2.1, by show ln σ9 bs = 64; rw [(G9.1 bs (by have := hMO.2.2.1; omega)).2]; exact hMO.2.2.2⟩, ⟨?_, G9.ek c2, ?_⟩, ⟨?_, G9.ek c3, ?_⟩, ⟨?_, G9.ek c4, ?_⟩, ⟨?_, G9.ek c5, ?_⟩, ⟨?_, G9.ek c6, ?_⟩, ⟨?_, G9.ek b8.2.1, ?_⟩, fun i hi => ?_, ?_, fun i j hi hj => ?_⟩, zi 13 (by simp), ⟨ad, B, ⟨XO.nil (zr 2 (by simp)) (zr 3 (by simp)) (zi 4 (by simp)), hXB, zi 7 (by simp), zi 8 (by simp)⟩, fun i hi => ⟨fun _ => ?_, fun w hw => by cases hw⟩⟩, ⟨(fun j c hj => by cases hj), zi 12 (by simp), by decide⟩, zi 9 (by simp), fun i hi => ?_, zi 15 (by simp), (fun j x hj => by cases hj), ?_, fun i hi => ?_⟩
  · show fr σ9 10 o = some cs
    rw [G9.gr (by omega) (by simp), K3.gr (by omega) (by simp)]; exact b3
  · show ln σ9 cs = 3
    rw [(G9.1 cs (by omega)).2, (K2.1 cs (by have := hcs.1; omega)).2]; exact hcs.2.1
  · show fr σ9 11 o = some ps
    rw [G9.gr (by omega) (by simp), K4.gr (by omega) (by simp)]; exact b4.1
  · show ln σ9 ps = 6
    rw [(G9.1 ps (by omega)).2, (K4.1 ps (by have := b4.2.1; omega)).2]; exact b4.2.2.1
  · show fr σ9 14 o = some tx
    rw [G9.gr (by omega) (by simp), K5.gr (by omega) (by simp)]; exact b5.1
  · show ln σ9 tx = 120
    rw [(G9.1 tx (by omega)).2, (K5.1 tx (by have := b5.2.1; omega)).2]; exact b5.2.2.1
  · show fr σ9 16 o = some rf
    rw [G9.gr (by omega) (by simp), K6.gr (by omega) (by simp)]; exact b6.1
  · show ln σ9 rf = 4
    rw [(G9.1 rf (by omega)).2, (K6.1 rf (by have := b6.2.1; omega)).2]; exact b6.2.2.1
  · show fr σ9 17 o = some ct
    rw [G9.gr (by omega) (by simp), K7.gr (by omega) (by simp)]; exact b7.1
  · show ln σ9 ct = 4
    rw [(G9.1 ct (by omega)).2, (K7.1 ct (by have := b7.2.1; omega)).2]; exact b7.2.2.1
  · show fr σ9 18 o = some rd
    rw [G9.gr (by omega) (by simp)]; exact b8.1
  · show fr σ9 121 rd = some o
    rw [G9.gr (by have := b8.2.1; omega) (by simp)]; exact b8.2.2.1
  · rw [pC_u hi]
    obtain ⟨g1, g2, g3⟩ := hcs.2.2 i hi
    refine ⟨?_, G9.ek (K2.ek g2)⟩
    show ar σ9 cs i = _
    rw [(G9.2.2.2 cs (by omega) (nbs c2 (by decide))).2, (K2.2.2.2 cs (by have := hcs.1; omega) (by simp)).2]; exact g1
  · show rf ≠ ct
    intro z
    rw [← z] at f7
    have := b6.2.1
    omega
  · rw [pC_u hi, pC_u hj]; exact hu i j hi hj
  · rw [pC_u hi]
    obtain ⟨g1, g2, g3⟩ := hcs.2.2 i hi
    rw [G9.gr (by have := K2.ek g2; omega) (by simp), K2.gr (by omega) (by simp)]; exact g3
  · show ai σ9 rf i = _
    rw [(G9.2.2.2 rf (by omega) (nbs c5 (by decide))).1, (K6.2.2.2 rf (by have := b6.2.1; omega) (by simp)).1]; exact b6.2.2.2 i
  · show fi σ9 120 rd = nI 0
    rw [G9.gi (by have := b8.2.1; omega) (by simp)]; exact b8.2.2.2
  · rw [pC_z hi]
    show ai σ9 ct i = _
    rw [(G9.2.2.2 ct (by omega) (nbs c6 (by decide))).1, (K7.2.2.2 ct (by have := b7.2.1; omega) (by simp)).1]; exact b7.2.2.2 i
set_option maxHeartbeats 1000000 in
theorem cx_ctor {o : Nat} (ho : kd σ o = 1) (z1 : ∀ g, fi σ g o = 0) (z2 : ∀ g, fr σ g o = none) : Ct (wX D) yX0_init cX0_init 1 none [.ref o] σ (PV (fun σ' => ∃ p, p 0 = o ∧ XA false D p σ' al5)) 4 18 239 := by
  refine Ct.of KXok (by decide) (Nat.le_of_ble_eq_true rfl) rfl fun Y C hQ hNm => ?_
  first | refine z_al0 (q := 1) C dX0_init_0 rfl ?_ | refine z_al0q (q := 1) C dX0_init_0 rfl ?_ | refine z_al0u (q := 1) C dX0_init_0 rfl ?_
  refine z_objInit (q := 4) C dX0_init_1 rfl q100 (Nat.le_of_ble_eq_true rfl) ?_
  first | refine z_al0 (q := 5) C dX0_init_4 rfl ?_ | refine z_al0q (q := 5) C dX0_init_4 rfl ?_ | refine z_al0u (q := 5) C dX0_init_4 rfl ?_
  refine z_bipush (q := 7) (v := nI 64) C dX0_init_5 rfl (by decide) ?_
  refine x_anew (q := 10) C 3 (by decide) (by decide) q103 q104 (by decide) (by omega) (by omega) dX0_init_7 rfl (fun bs f1 => ?_)
  have G1 : FG [5] [0] [] σ (S1 o bs σ) := FR.wI (FR.wR (FR.rf.wB f1) (fun _ => by simp)) (fun _ => by simp)
  have ho1 : kd (S1 o bs σ) o = 1 := G1.ek ho
  have ho0 : kd (nA 14 64 bs σ) o = 1 := ho1
  first | refine xpr_X0_14 (q := 13) C (by exact ho0) hNm dX0_init_10 rfl ?_ | refine xpn_X0_14 (q := 13) C (by exact ho0) hNm dX0_init_10 rfl ?_ | refine xp_X0_14 (q := 13) C (by exact ho0) hNm dX0_init_10 rfl ?_
  first | refine z_al0 (q := 14) C dX0_init_13 rfl ?_ | refine z_al0q (q := 14) C dX0_init_13 rfl ?_ | refine z_al0u (q := 14) C dX0_init_13 rfl ?_
  refine z_iconst (q := 15) (v := nI 1) C dX0_init_14 rfl (by decide) ?_
  refine xp_X0_18 (q := 18) C (by exact ho0) dX0_init_15 rfl ?_
  show Zj (wX D) Y (S1 o bs σ) _ _ _ _ _
  first | refine z_al0 (q := 19) C dX0_init_18 rfl ?_ | refine z_al0q (q := 19) C dX0_init_18 rfl ?_ | refine z_al0u (q := 19) C dX0_init_18 rfl ?_
  refine xc_X0_22 (q := 22) C (cx_cursors (d := 0)) dX0_init_19 rfl rfl rfl (Nat.le_of_ble_eq_true rfl) (by first | decide | omega) (by omega) (by omega) (kkQ fun r19 σ19 h19 => ?_)
  obtain ⟨cs, u, rfl, fcs, hcs, hu, G2⟩ := h19
  have ho2 : kd σ19 o = 1 := G2.ek ho1
  have ho3 : kd (sR 10 o (some cs) σ19) o = 1 := ho2
  first | refine xpr_X0_26 (q := 25) C (by exact ho2) hNm dX0_init_22 rfl ?_ | refine xpn_X0_26 (q := 25) C (by exact ho2) hNm dX0_init_22 rfl ?_ | refine xp_X0_26 (q := 25) C (by exact ho2) hNm dX0_init_22 rfl ?_
  first | refine z_al0 (q := 26) C dX0_init_25 rfl ?_ | refine z_al0q (q := 26) C dX0_init_25 rfl ?_ | refine z_al0u (q := 26) C dX0_init_25 rfl ?_
  refine z_bipush (q := 28) (v := nI 6) C dX0_init_26 rfl (by decide) ?_
  refine x_anew (q := 31) C 5 (by decide) (by decide) q129 q130 (by decide) (by omega) (by omega) dX0_init_28 rfl (fun ps f4 => ?_)
  have ho4 : kd (S4 o 11 16 6 ps (sR 10 o (some cs) σ19)) o = 1 := (S4_fg f4).ek ho3
  have ho4' : kd (nA 16 6 ps (sR 10 o (some cs) σ19)) o = 1 := ho4
  first | refine xpr_X0_31 (q := 34) C (by exact ho4') hNm dX0_init_31 rfl ?_ | refine xpn_X0_31 (q := 34) C (by exact ho4') hNm dX0_init_31 rfl ?_ | refine xp_X0_31 (q := 34) C (by exact ho4') hNm dX0_init_31 rfl ?_
  show Zj (wX D) Y (S4 o 11 16 6 ps (sR 10 o (some cs) σ19)) _ _ _ _ _
  first | refine z_al0 (q := 35) C dX0_init_34 rfl ?_ | refine z_al0q (q := 35) C dX0_init_34 rfl ?_ | refine z_al0u (q := 35) C dX0_init_34 rfl ?_
  refine z_bipush (q := 37) (v := nI 120) C dX0_init_35 rfl (by decide) ?_
  refine x_newa (q := 39) C 1 (by decide) (at' := .byte) (ty := .byte) rfl q144 rfl rfl (by decide) (fun U cA h => va_nm_byte h) (by decide) (by omega) (by omega) dX0_init_37 rfl (fun tx f5 => ?_)
  have ho5 : kd (S4 o 14 12 120 tx (S4 o 11 16 6 ps (sR 10 o (some cs) σ19))) o = 1 := (S4_fg f5).ek ho4
  have ho5' : kd (nA 12 120 tx (S4 o 11 16 6 ps (sR 10 o (some cs) σ19))) o = 1 := ho5
  first | refine xpr_X0_35 (q := 42) C (by exact ho5') hNm dX0_init_39 rfl ?_ | refine xpn_X0_35 (q := 42) C (by exact ho5') hNm dX0_init_39 rfl ?_ | refine xp_X0_35 (q := 42) C (by exact ho5') hNm dX0_init_39 rfl ?_
  show Zj (wX D) Y (S4 o 14 12 120 tx (S4 o 11 16 6 ps (sR 10 o (some cs) σ19))) _ _ _ _ _
  first | refine z_al0 (q := 43) C dX0_init_42 rfl ?_ | refine z_al0q (q := 43) C dX0_init_42 rfl ?_ | refine z_al0u (q := 43) C dX0_init_42 rfl ?_
  refine z_iconst (q := 44) (v := nI 4) C dX0_init_43 rfl (by decide) ?_
  refine x_newa (q := 46) C 0 (by decide) (at' := .int) (ty := .int) rfl q145 rfl rfl (by decide) (fun U cA h => va_nm_int h) (by decide) (by omega) (by omega) dX0_init_44 rfl (fun rf f6 => ?_)
  have ho6 : kd (S4 o 16 11 4 rf (S4 o 14 12 120 tx (S4 o 11 16 6 ps (sR 10 o (some cs) σ19)))) o = 1 := (S4_fg f6).ek ho5
  have ho6' : kd (nA 11 4 rf (S4 o 14 12 120 tx (S4 o 11 16 6 ps (sR 10 o (some cs) σ19)))) o = 1 := ho6
  first | refine xpr_X0_39 (q := 49) C (by exact ho6') hNm dX0_init_46 rfl ?_ | refine xpn_X0_39 (q := 49) C (by exact ho6') hNm dX0_init_46 rfl ?_ | refine xp_X0_39 (q := 49) C (by exact ho6') hNm dX0_init_46 rfl ?_
  show Zj (wX D) Y (S4 o 16 11 4 rf (S4 o 14 12 120 tx (S4 o 11 16 6 ps (sR 10 o (some cs) σ19)))) _ _ _ _ _
  first | refine z_al0 (q := 50) C dX0_init_49 rfl ?_ | refine z_al0q (q := 50) C dX0_init_49 rfl ?_ | refine z_al0u (q := 50) C dX0_init_49 rfl ?_
  refine z_iconst (q := 51) (v := nI 4) C dX0_init_50 rfl (by decide) ?_
  refine x_newa (q := 53) C 0 (by decide) (at' := .int) (ty := .int) rfl q145 rfl rfl (by decide) (fun U cA h => va_nm_int h) (by decide) (by omega) (by omega) dX0_init_51 rfl (fun ct f7 => ?_)
  have ho7 : kd (S4 o 17 11 4 ct (S4 o 16 11 4 rf (S4 o 14 12 120 tx (S4 o 11 16 6 ps (sR 10 o (some cs) σ19))))) o = 1 := (S4_fg f7).ek ho6
  have ho7' : kd (nA 11 4 ct (S4 o 16 11 4 rf (S4 o 14 12 120 tx (S4 o 11 16 6 ps (sR 10 o (some cs) σ19))))) o = 1 := ho7
  first | refine xpr_X0_43 (q := 56) C (by exact ho7') hNm dX0_init_53 rfl ?_ | refine xpn_X0_43 (q := 56) C (by exact ho7') hNm dX0_init_53 rfl ?_ | refine xp_X0_43 (q := 56) C (by exact ho7') hNm dX0_init_53 rfl ?_
  show Zj (wX D) Y (S4 o 17 11 4 ct (S4 o 16 11 4 rf (S4 o 14 12 120 tx (S4 o 11 16 6 ps (sR 10 o (some cs) σ19))))) _ _ _ _ _
  first | refine z_al0 (q := 57) C dX0_init_56 rfl ?_ | refine z_al0q (q := 57) C dX0_init_56 rfl ?_ | refine z_al0u (q := 57) C dX0_init_56 rfl ?_
  refine x_newN (q := 60) (m := 2) C rfl KC6 q131 q132 q83 (by decide) (by omega) (by omega) dX0_init_57 rfl (fun a57 f57 => ?_)
  have hX := fun σ9 => ctor_XA (D := D) (σ9 := σ9) ho z1 z2 f1 hcs hu G2 f4 f5 f6 f7 f57
  generalize hs7 : S4 o 17 11 4 ct (S4 o 16 11 4 rf (S4 o 14 12 120 tx (S4 o 11 16 6 ps (sR 10 o (some cs) σ19)))) = s7 at *
  have hkr : kd (nO 7 a57 s7) a57 = 7 := if_pos rfl
  have ho8 : kd (nO 7 a57 s7) o = 1 := (show FG [] [] [] s7 (nO 7 a57 s7) from FR.rf.wO f57).ek ho7
  have ho8' : kd (sR 121 a57 (some o) (nO 7 a57 s7)) o = 1 := ho8
  refine z_dup (q := 61) C dX0_init_60 rfl rfl ?_
  first | refine z_al0 (q := 62) C dX0_init_61 rfl ?_ | refine z_al0q (q := 62) C dX0_init_61 rfl ?_ | refine z_al0u (q := 62) C dX0_init_61 rfl ?_
  refine xc_X0_48 (q := 65) C (cx_initR (d := 0) hkr) dX0_init_62 rfl rfl rfl (Nat.le_of_ble_eq_true rfl) (by first | decide | omega) (by omega) (by omega) (kkN ?_)
  first | refine xpr_X0_51 (q := 68) C (by exact ho8') hNm dX0_init_65 rfl ?_ | refine xpn_X0_51 (q := 68) C (by exact ho8') hNm dX0_init_65 rfl ?_ | refine xp_X0_51 (q := 68) C (by exact ho8') hNm dX0_init_65 rfl ?_
  show Zj (wX D) Y (S8 o a57 s7) _ _ _ _ _
  obtain ⟨⟨hMO, h5, h6⟩, -⟩ := hX s7
  first | refine z_al0 (q := 69) C dX0_init_68 rfl ?_ | refine z_al0q (q := 69) C dX0_init_68 rfl ?_ | refine z_al0u (q := 69) C dX0_init_68 rfl ?_
  refine xc_X0_55 (q := 72) C (cx_empties (d := 0) (ad := fun _ => 0) (c := a_c al5) hMO h5 h6 rfl rfl (fun _ => rfl)) (by exact hMO.1) dX0_init_69 rfl rfl rfl (Nat.le_of_ble_eq_true rfl) (by first | decide | omega) (by omega) (by omega) (kkV fun σ69 h69 => ?_)
  refine z_vret C hQ dX0_init_72 (by omega) (by omega) ?_
  obtain ⟨⟨B', hXB⟩, G9⟩ := h69
  exact ⟨rfl, pC o bs cs ps tx rf ct a57 u, rfl, (hX σ69).2 _ _ G9 hXB⟩
end T92
