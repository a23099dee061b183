/-! THE CLASS: State state() -/
set_option maxRecDepth 10000
section T70
variable {D : Dx} {ad : Nat → Nat} {o bs : Nat} {σ : Sg} {B : Nat → Nat} {c : Co} {d : Nat}
theorem CH.es {es : List (Nat × Nat)} {nx : Nat → Option Nat} {k v : Nat} {r : Option Nat} (h : CH ad nx (((k, v) :: es).map (·.1)) r) : r = some (ad k) ∧ CH ad nx (es.map (·.1)) (nx (ad k)) := h
theorem drop_hd {α : Type} {l : List α} {n : Nat} {x : α} {t : List α} (h : l.drop n = x :: t) : l[n]? = some x ∧ n < l.length ∧ l.drop (n + 1) = t := by
  have h1 : l[n]? = some x := by
    have := congrArg (fun q => q[0]?) h
    simp only [List.getElem?_drop, Nat.add_zero] at this
    rw [this]; rfl
  refine ⟨h1, (List.getElem?_eq_some_iff.mp h1).1, ?_⟩
  have : l.drop (n + 1) = (l.drop n).drop 1 := by rw [List.drop_drop]
  rw [this, h]
  rfl
set_option maxHeartbeats 2000000 in
theorem cx_state {ex : List Nat} (hM : MO o bs σ) (hX : XC ad o bs σ B c) (hI : CI c) (hex : ∀ x ∈ ex, kd σ x ≠ 0) : Ct (wX D) yX0_state cX0_state 5 (some (.object "CrowdedBins$State")) [.ref o] σ (PQ (fun r σ' => ∃ s, r = some s ∧ ST ex σ' s c ∧ FG [] [] [] σ σ')) 3 5 300 := by
  have ho := hM.1
  have hl := hI.2.2.2.1
  have hw := hI.w
  have e4 := hX.1.2.1
  have e1 := hX.2.1.2.2.2.1
  refine Ct.of KXok (by decide) (Nat.le_of_ble_eq_true rfl) rfl fun Y C hQ hNm => ?_
  have fin : ∀ (σ1 : Sg) (s a1 a2 a3 a4 : Nat) (x2 x3 x4 : Option Value), SH σ (k_es c).length (k_n c 1) s a1 a2 a3 a4 σ1 → (∀ i x, (k_es c)[i]? = some x → ai σ1 a1 (2 * i) = nI x.1 ∧ ai σ1 a1 (2 * i + 1) = nI x.2) → (∀ j k, (k_by c 2)[j]? = some k → ai σ1 a2 j = nI k) → (∀ b, b < k_n c 1 → ai σ1 a3 b = nI (k_mi c b)) → (∀ b, b < k_n c 1 → ai σ1 a4 b = bI (k_tr c b)) → Zj (wX D) Y σ1 5 300 185 [some (.ref o), some (.ref s), x2, x3, x4] [] := by
    intro σ1 s a1 a2 a3 a4 x2 x3 x4 hS p1 p2 p3 p4
    obtain ⟨⟨s1, s2, s3, s4, s5⟩, ⟨k1, k2, k3, k4⟩, ⟨l1, l2, l3, l4⟩, ⟨z0, z1, z2, z3, z4⟩, ⟨d1, d2, d3⟩, hF⟩ := hS
    have hX1 := hX.keep hM hF (by simp) (by simp) (by simp)
    have ho1 : kd σ1 o = 1 := hF.ek ho
    have hso : o ≠ s := fun z => by rw [z, z0] at ho; cases ho
    have g5 : fi σ1 5 o = nI (k_n c 2) := hX1.2.1.2.2.2.2.1
    have g6 : fi σ1 6 o = nI (k_n c 3) := hX1.2.1.2.2.2.2.2
    have g7 := hX1.2.2.1
    have g8 := hX1.2.2.2
    have hex' : ∀ a, kd σ a = 0 → a ∉ ex := fun a ha z => hex a z ha
    first | refine z_al1 (q := 186) C dX0_state_185 rfl ?_ | refine z_al1q (q := 186) C dX0_state_185 rfl ?_ | refine z_al1u (q := 186) C dX0_state_185 rfl ?_
    first | refine z_al0 (q := 187) C dX0_state_186 rfl ?_ | refine z_al0q (q := 187) C dX0_state_186 rfl ?_ | refine z_al0u (q := 187) C dX0_state_186 rfl ?_
    refine xg_X0_18 (q := 190) C (by exact ho1) dX0_state_187 rfl ?_
    rw [g5]
    refine xp_X0_204 (q := 193) C (by exact s1) dX0_state_190 rfl ?_
    first | refine z_al1 (q := 194) C dX0_state_193 rfl ?_ | refine z_al1q (q := 194) C dX0_state_193 rfl ?_ | refine z_al1u (q := 194) C dX0_state_193 rfl ?_
    first | refine z_al0 (q := 195) C dX0_state_194 rfl ?_ | refine z_al0q (q := 195) C dX0_state_194 rfl ?_ | refine z_al0u (q := 195) C dX0_state_194 rfl ?_
    refine xg_X0_68 (q := 198) C (by exact ho1) dX0_state_195 rfl ?_
    rw [show fi (sI 104 s (nI (k_n c 2)) σ1) 6 o = nI (k_n c 3) from by rw [fi_sI, if_neg (fun z => hso z.2)]; exact g6]
    refine xp_X0_205 (q := 201) C (by exact s1) dX0_state_198 rfl ?_
    first | refine z_al1 (q := 202) C dX0_state_201 rfl ?_ | refine z_al1q (q := 202) C dX0_state_201 rfl ?_ | refine z_al1u (q := 202) C dX0_state_201 rfl ?_
    first | refine z_al0 (q := 203) C dX0_state_202 rfl ?_ | refine z_al0q (q := 203) C dX0_state_202 rfl ?_ | refine z_al0u (q := 203) C dX0_state_202 rfl ?_
    refine xg_X0_144 (q := 206) C (by exact ho1) dX0_state_203 rfl ?_
    rw [show fi (sI 105 s (nI (k_n c 3)) (sI 104 s (nI (k_n c 2)) σ1)) 7 o = nI (k_n c 4) from by rw [fi_sI, if_neg (fun z => hso z.2), fi_sI, if_neg (fun z => hso z.2)]; exact g7]
    refine xp_X0_206 (q := 209) C (by exact s1) dX0_state_206 rfl ?_
    first | refine z_al1 (q := 210) C dX0_state_209 rfl ?_ | refine z_al1q (q := 210) C dX0_state_209 rfl ?_ | refine z_al1u (q := 210) C dX0_state_209 rfl ?_
    first | refine z_al0 (q := 211) C dX0_state_210 rfl ?_ | refine z_al0q (q := 211) C dX0_state_210 rfl ?_ | refine z_al0u (q := 211) C dX0_state_210 rfl ?_
    refine xg_X0_166 (q := 214) C (by exact ho1) dX0_state_211 rfl ?_
    rw [show fi (sI 106 s (nI (k_n c 4)) (sI 105 s (nI (k_n c 3)) (sI 104 s (nI (k_n c 2)) σ1))) 8 o = nI (k_n c 5) from by rw [fi_sI, if_neg (fun z => hso z.2), fi_sI, if_neg (fun z => hso z.2), fi_sI, if_neg (fun z => hso z.2)]; exact g8]
    refine xp_X0_207 (q := 217) C (by exact s1) dX0_state_214 rfl ?_
    first | refine z_al1 (q := 218) C dX0_state_217 rfl ?_ | refine z_al1q (q := 218) C dX0_state_217 rfl ?_ | refine z_al1u (q := 218) C dX0_state_217 rfl ?_
    first | refine z_aret C hQ (Or.inl ⟨_, rfl⟩) dX0_state_218 (by omega) (by omega) ?_ | refine z_aret (r := some _) C hQ (Or.inl ⟨_, rfl⟩) dX0_state_218 (by omega) (by omega) ?_ | refine z_aret (r := none) C hQ (Or.inl ⟨_, rfl⟩) dX0_state_218 (by omega) (by omega) ?_
    refine ⟨some s, rfl, s, rfl, ⟨s1, ⟨a1, s2, k1, hex' a1 z1, l1, p1⟩, ⟨a2, s3, k2, hex' a2 z2, l2, p2⟩, ⟨a3, s4, k3, hex' a3 z3, l3, p3⟩, ⟨a4, s5, k4, hex' a4 z4, l4, p4⟩, ?_, ?_, ?_, ?_⟩, (((hF.wI (fun z => absurd z0 z)).wI (fun z => absurd z0 z)).wI (fun z => absurd z0 z)).wI (fun z => absurd z0 z)⟩
    · rw [fi_sI, if_neg (fun z => by cases z.1), fi_sI, if_neg (fun z => by cases z.1), fi_sI, if_neg (fun z => by cases z.1), fi_sI, if_pos ⟨rfl, rfl⟩]
    · rw [fi_sI, if_neg (fun z => by cases z.1), fi_sI, if_neg (fun z => by cases z.1), fi_sI, if_pos ⟨rfl, rfl⟩]
    · rw [fi_sI, if_neg (fun z => by cases z.1), fi_sI, if_pos ⟨rfl, rfl⟩]
    · rw [fi_sI, if_pos ⟨rfl, rfl⟩]
  have loop2 : ∀ m b, b + m = k_n c 1 → ∀ (n : Nat) (σ1 : Sg) (s a1 a2 a3 a4 : Nat) (x4 : Option Value), loC x4 → SH σ (k_es c).length (k_n c 1) s a1 a2 a3 a4 σ1 → (k_by c 2).drop n = tb c b m → (∀ i x, (k_es c)[i]? = some x → ai σ1 a1 (2 * i) = nI x.1 ∧ ai σ1 a1 (2 * i + 1) = nI x.2) → (∀ j k, j < n → (k_by c 2)[j]? = some k → ai σ1 a2 j = nI k) → (∀ x, x < b → ai σ1 a3 x = nI (k_mi c x)) → (∀ x, x < b → ai σ1 a4 x = bI (k_tr c x)) → Zj (wX D) Y σ1 5 300 101 [some (.ref o), some (.ref s), some (.int (nI n)), some (.int (nI b)), x4] [] := by
    intro m
    induction m with
    | zero =>
      intro b hb n σ1 s a1 a2 a3 a4 x4 hx4 hS hd p1 p2 p3 p4
      have hb : b = k_n c 1 := hb
      subst hb
      have hF := hS.2.2.2.2.2
      have ho1 : kd σ1 o = 1 := hF.ek ho
      have f1 : fi σ1 1 o = nI (k_n c 1) := by rw [hF.gi (by omega) (by simp)]; exact e1
      have hn : (k_by c 2).length ≤ n := by
        have hd : (k_by c 2).drop n = [] := hd
        simpa using hd
      refine z_il3 (q := 102) C dX0_state_101 rfl ?_
      first | refine z_al0 (q := 103) C dX0_state_102 rfl ?_ | refine z_al0q (q := 103) C dX0_state_102 rfl ?_ | refine z_al0u (q := 103) C dX0_state_102 rfl ?_
      refine xg_X0_62 (q := 106) C (by exact ho1) dX0_state_103 rfl ?_
      rw [f1]
      refine z_icmp_geN (tgt := 185) (q := 109) C dX0_state_106 (by decide) rfl (by omega) (by omega) (fun c106 => ?_) (fun c106 => absurd c106 (by omega))
      exact fin σ1 s a1 a2 a3 a4 _ _ _ hS p1 (fun j k hj => p2 j k (by have := (List.getElem?_eq_some_iff.mp hj).1; omega) hj) p3 p4
    | succ m ih =>
      intro b hb n σ1 s a1 a2 a3 a4 x4 hx4 hS hd p1 p2 p3 p4
      have hF := hS.2.2.2.2.2
      have hbn : b < k_n c 1 := by omega
      have hM1 := hM.keep hF (by simp)
      obtain ⟨ho1, h01, hbk1, hln1⟩ := id hM1
      have hX1 := hX.keep hM hF (by simp) (by simp) (by simp)
      have f1 : fi σ1 1 o = nI (k_n c 1) := hX1.2.1.2.2.2.1
      obtain ⟨-, hab, hrw⟩ := hX1.2.1.2.1.1 b hbn
      have hk34 := hrw.k34
      have h42 := hrw.2.1
      obtain ⟨⟨s1, s2, s3, s4, s5⟩, ⟨k1, k2, k3, k4⟩, ⟨l1, l2, l3, l4⟩, ⟨z0, z1, z2, z3, z4⟩, ⟨d1, d2, d3⟩, -⟩ := id hS
      have n43 : a4 ≠ a3 := fun z => by rw [z, k3] at k4; cases k4
      have n41 : a4 ≠ a1 := fun z => by rw [z, k1] at k4; cases k4
      have n42 : a4 ≠ a2 := fun z => by rw [z, k2] at k4; cases k4
      refine z_il3 (q := 102) C dX0_state_101 rfl ?_
      first | refine z_al0 (q := 103) C dX0_state_102 rfl ?_ | refine z_al0q (q := 103) C dX0_state_102 rfl ?_ | refine z_al0u (q := 103) C dX0_state_102 rfl ?_
      refine xg_X0_62 (q := 106) C (by exact ho1) dX0_state_103 rfl ?_
      rw [f1]
      refine z_icmp_geN (tgt := 185) (q := 109) C dX0_state_106 (by decide) rfl (by omega) (by omega) (fun c106 => absurd c106 (by omega)) (fun c106 => ?_)
      first | refine z_al1 (q := 110) C dX0_state_109 rfl ?_ | refine z_al1q (q := 110) C dX0_state_109 rfl ?_ | refine z_al1u (q := 110) C dX0_state_109 rfl ?_
      first | refine xr_X0_194 (q := 113) C (by exact s1) s4 dX0_state_110 rfl ?_ | refine xn_X0_194 (q := 113) C (by exact s1) s4 dX0_state_110 rfl ?_
      refine z_il3 (q := 114) C dX0_state_113 rfl ?_
      first | refine z_al0 (q := 115) C dX0_state_114 rfl ?_ | refine z_al0q (q := 115) C dX0_state_114 rfl ?_ | refine z_al0u (q := 115) C dX0_state_114 rfl ?_
      first | refine xr_X0_14 (q := 118) C (by exact ho1) (by assumption) dX0_state_115 rfl ?_ | refine xn_X0_14 (q := 118) C (by exact ho1) (by assumption) dX0_state_115 rfl ?_ | refine xg_X0_14 (q := 118) C (by exact ho1) dX0_state_115 rfl ?_
      refine z_il3 (q := 119) C dX0_state_118 rfl ?_
      refine x_aald (q := 120) C 3 (by decide) (by decide) (by assumption) (by rw [hln1]; omega) (by omega) dX0_state_119 rfl ?_
      rw [hab]
      refine xc_X0_124 (q := 123) C (fun _ => cx_size (d := 0) hk34) (fun _ => cx_size (d := 0) hk34) (by exact hk34) dX0_state_120 rfl rfl rfl (Nat.le_of_ble_eq_true rfl) (by first | decide | omega) (by omega) (by omega) (kkE ?_)
      rw [h42]
      refine x_iast (q := 124) C (by exact k3) (by rw [l3]; omega) (by omega) dX0_state_123 rfl ?_
      first | refine z_al1 (q := 125) C dX0_state_124 rfl ?_ | refine z_al1q (q := 125) C dX0_state_124 rfl ?_ | refine z_al1u (q := 125) C dX0_state_124 rfl ?_
      first | refine xr_X0_197 (q := 128) C (by exact s1) (by exact s5) dX0_state_125 rfl ?_ | refine xn_X0_197 (q := 128) C (by exact s1) (by exact s5) dX0_state_125 rfl ?_
      refine z_il3 (q := 129) C dX0_state_128 rfl ?_
      first | refine z_al0 (q := 130) C dX0_state_129 rfl ?_ | refine z_al0q (q := 130) C dX0_state_129 rfl ?_ | refine z_al0u (q := 130) C dX0_state_129 rfl ?_
      first | refine xr_X0_14 (q := 133) C (by exact ho1) (by exact h01) dX0_state_130 rfl ?_ | refine xn_X0_14 (q := 133) C (by exact ho1) (by exact h01) dX0_state_130 rfl ?_
      refine z_il3 (q := 134) C dX0_state_133 rfl ?_
      refine x_aald (q := 135) C 3 (by decide) (by decide) (by assumption) (by show b < ln σ1 bs; rw [hln1]; omega) (by omega) dX0_state_134 rfl ?_
      rw [show ar (sA a3 b (nI (k_row c b).length) σ1) bs b = some (B b) from hab]
      refine x_isT (q := 138) C hrw.1 q343 dX0_state_135 rfl ?_
      first | refine x_bast (q := 139) C (by exact k4) (by show b < ln σ1 a4; rw [l4]; omega) (by omega) (by first | rfl | assumption) dX0_state_138 rfl ?_ | refine x_zast (q := 139) C (by exact k4) (by show b < ln σ1 a4; rw [l4]; omega) (by omega) (by first | rfl | exact bI_nar _) dX0_state_138 rfl ?_
      have hS2 : SH σ (k_es c).length (k_n c 1) s a1 a2 a3 a4 (sA a4 b (bI (k_tr c b)) (sA a3 b (nI (k_row c b).length) σ1)) := (hS.st z3).st z4
      have q1 : ∀ i x, (k_es c)[i]? = some x → ai (sA a4 b (bI (k_tr c b)) (sA a3 b (nI (k_row c b).length) σ1)) a1 (2 * i) = nI x.1 ∧ ai (sA a4 b (bI (k_tr c b)) (sA a3 b (nI (k_row c b).length) σ1)) a1 (2 * i + 1) = nI x.2 := fun i x hi => by
        rw [ai_sA, if_neg (fun z => n41 z.1.symm), ai_sA, if_neg (fun z => d2 z.1), ai_sA, if_neg (fun z => n41 z.1.symm), ai_sA, if_neg (fun z => d2 z.1)]
        exact p1 i x hi
      have q2 : ∀ j k, j < n → (k_by c 2)[j]? = some k → ai (sA a4 b (bI (k_tr c b)) (sA a3 b (nI (k_row c b).length) σ1)) a2 j = nI k := fun j k hj hk => by
        rw [ai_sA, if_neg (fun z => n42 z.1.symm), ai_sA, if_neg (fun z => d3 z.1)]
        exact p2 j k hj hk
      have q3 : ∀ x, x < b + 1 → ai (sA a4 b (bI (k_tr c b)) (sA a3 b (nI (k_row c b).length) σ1)) a3 x = nI (k_mi c x) := fun x hx => by
        rw [ai_sA, if_neg (fun z => n43 z.1.symm), ai_sA]
        by_cases e : x = b
        · rw [if_pos ⟨rfl, e⟩, e]; rfl
        · rw [if_neg (fun z => e z.2)]; exact p3 x (by omega)
      have q4 : ∀ x, x < b + 1 → ai (sA a4 b (bI (k_tr c b)) (sA a3 b (nI (k_row c b).length) σ1)) a4 x = bI (k_tr c x) := fun x hx => by
        rw [ai_sA]
        by_cases e : x = b
        · rw [if_pos ⟨rfl, e⟩, e]
        · rw [if_neg (fun z => e z.2), ai_sA, if_neg (fun z => n43 z.1)]; exact p4 x (by omega)
      have hab2 : ar (sA a4 b (bI (k_tr c b)) (sA a3 b (nI (k_row c b).length) σ1)) bs b = some (B b) := hab
      have hc40 : CH ad (fr σ 27) (k_row c b) (fr σ 40 (B b)) := (hX.2.1.2.1.1 b hbn).2.2.2.2.1.ch
      have hbz : kd σ (B b) ≠ 0 := (hX.2.1.2.1.1 b hbn).2.2.nz
      generalize sA a4 b (bI (k_tr c b)) (sA a3 b (nI (k_row c b).length) σ1) = σ2 at *
      have hF2 := hS2.2.2.2.2.2
      have hM2 := hM.keep hF2 (by simp)
      have hX2 := hX.keep hM hF2 (by simp) (by simp) (by simp)
      obtain ⟨ho2, h02, hbk2, hln2⟩ := id hM2
      have hk342 := (hX2.2.1.2.1.1 b hbn).2.2.k34
      have inner : ∀ (R : List Nat) (n : Nat) (σ3 : Sg) (r : Option Nat), (∀ k ∈ R, k ∈ k_cs c) → CH ad (fr σ 27) R r → (k_by c 2).drop n = R ++ tb c (b + 1) m → SH σ (k_es c).length (k_n c 1) s a1 a2 a3 a4 σ3 → (∀ i x, (k_es c)[i]? = some x → ai σ3 a1 (2 * i) = nI x.1 ∧ ai σ3 a1 (2 * i + 1) = nI x.2) → (∀ j k, j < n → (k_by c 2)[j]? = some k → ai σ3 a2 j = nI k) → (∀ x, x < b + 1 → ai σ3 a3 x = nI (k_mi c x)) → (∀ x, x < b + 1 → ai σ3 a4 x = bI (k_tr c x)) → Zj (wX D) Y σ3 5 300 150 [some (.ref o), some (.ref s), some (.int (nI n)), some (.int (nI b)), some (va_rf r)] [] := by
        intro R
        induction R with
        | nil =>
          intro n σ3 r hR hc hd hS3 r1 r2 r3 r4
          have hc : r = none := hc
          subst hc
          have hg := ih (b + 1) (by omega) n σ3 s a1 a2 a3 a4 (some .null) loC_u hS3 hd r1 r2 r3 r4
          show Zj _ _ _ _ _ _ [some (.ref o), some (.ref s), some (.int (nI n)), some (.int (nI b)), some .null] []
          first | refine z_al4 (q := 152) C dX0_state_150 rfl ?_ | refine z_al4q (q := 152) C dX0_state_150 rfl ?_ | refine z_al4u (q := 152) C dX0_state_150 rfl ?_
          refine z_ifnull_u (tgt := 179) C dX0_state_152 (by decide) ?_
          first | refine z_iinc3N (q := 182) C dX0_state_179 rfl (by first | exact loC_i | exact loC_r | exact loC_n | exact loC_q | exact loC_u) ?_ | refine z_iinc3 (q := 182) C dX0_state_179 rfl rfl (by first | exact loC_i | exact loC_r | exact loC_n | exact loC_q | exact loC_u) ?_
          refine z_goto (tgt := 101) C dX0_state_182 (by decide) ?_
          exact hg
        | cons k R ihR =>
          intro n σ3 r hR hc hd hS3 r1 r2 r3 r4
          obtain ⟨rfl, hc⟩ := hc
          obtain ⟨hn1, hn2, hn3⟩ := drop_hd hd
          rw [tb_len hI] at hn2
          obtain ⟨⟨u1, u2, u3, u4, u5⟩, ⟨v1, v2, v3, v4⟩, ⟨w1, w2, w3, w4⟩, -, -, hF3⟩ := id hS3
          have hEN := hX.2.1.1 k (hR k (by simp))
          have hEk : kd σ (ad k) ≠ 0 := by have := hEN.1; omega
          have hkd : kd σ3 (ad k) = 2 := hF3.ek hEN.1
          have hk20 : fi σ3 20 (ad k) = nI k := by rw [hF3.gi hEk (by simp)]; exact hEN.2.1
          have hk27 : fr (sA a2 n (nI k) σ3) 27 (ad k) = fr σ 27 (ad k) := hF3.gr hEk (by simp)
          have hg := ihR (n + 1) (sA a2 n (nI k) σ3) (fr σ 27 (ad k)) (fun x hx => hR x (by simp [hx])) hc hn3 (hS3.st z2) (fun i x hi => by
            rw [ai_sA, if_neg (fun z => d1 z.1), ai_sA, if_neg (fun z => d1 z.1)]; exact r1 i x hi) (fun j x hj hx => by
            rw [ai_sA]
            by_cases e : j = n
            · rw [if_pos ⟨rfl, e⟩]
              rw [e, hn1] at hx
              cases hx
              rfl
            · rw [if_neg (fun z => e z.2)]; exact r2 j x (by omega) hx) (fun x hx => by rw [ai_sA, if_neg (fun z => d3 z.1.symm)]; exact r3 x hx) (fun x hx => by rw [ai_sA, if_neg (fun z => n42 z.1)]; exact r4 x hx)
          show Zj _ _ _ _ _ _ [some (.ref o), some (.ref s), some (.int (nI n)), some (.int (nI b)), some (.ref (ad k))] []
          first | refine z_al4 (q := 152) C dX0_state_150 rfl ?_ | refine z_al4q (q := 152) C dX0_state_150 rfl ?_ | refine z_al4u (q := 152) C dX0_state_150 rfl ?_
          refine z_ifnull_r (q := 155) C dX0_state_152 rfl ?_
          first | refine z_al1 (q := 156) C dX0_state_155 rfl ?_ | refine z_al1q (q := 156) C dX0_state_155 rfl ?_ | refine z_al1u (q := 156) C dX0_state_155 rfl ?_
          first | refine xr_X0_191 (q := 159) C (by exact u1) u3 dX0_state_156 rfl ?_ | refine xn_X0_191 (q := 159) C (by exact u1) u3 dX0_state_156 rfl ?_
          refine z_il2 (q := 160) C dX0_state_159 rfl ?_
          first | refine z_al4 (q := 162) C dX0_state_160 rfl ?_ | refine z_al4q (q := 162) C dX0_state_160 rfl ?_ | refine z_al4u (q := 162) C dX0_state_160 rfl ?_
          refine xg_X0_120 (q := 165) C (by exact hkd) dX0_state_162 rfl ?_
          rw [hk20]
          refine x_iast (q := 166) C (by exact v2) (by rw [w2]; omega) (by omega) dX0_state_165 rfl ?_
          first | refine z_iinc2N (q := 169) C dX0_state_166 rfl (by first | exact loC_i | exact loC_r | exact loC_n | exact loC_q | exact loC_u) ?_ | refine z_iinc2 (q := 169) C dX0_state_166 rfl rfl (by first | exact loC_i | exact loC_r | exact loC_n | exact loC_q | exact loC_u) ?_
          first | refine z_al4 (q := 171) C dX0_state_169 rfl ?_ | refine z_al4q (q := 171) C dX0_state_169 rfl ?_ | refine z_al4u (q := 171) C dX0_state_169 rfl ?_
          refine xg_X0_99 (q := 174) C (by exact hkd) dX0_state_171 rfl ?_
          rw [hk27]
          first | refine z_as4 (q := 176) C dX0_state_174 rfl (by first | exact loC_i | exact loC_r | exact loC_n | exact loC_q | exact loC_u) ?_ | refine z_as4q (q := 176) C dX0_state_174 rfl (by first | exact loC_i | exact loC_r | exact loC_n | exact loC_q | exact loC_u) ?_ | refine z_asu4 (q := 176) C dX0_state_174 rfl (by first | exact loC_i | exact loC_r | exact loC_n | exact loC_q | exact loC_u) ?_
          refine z_goto (tgt := 150) C dX0_state_176 (by decide) ?_
          exact hg
      have h40 : fr σ2 40 (B b) = fr σ 40 (B b) := hF2.gr hbz (by simp)
      first | refine z_al0 (q := 140) C dX0_state_139 rfl ?_ | refine z_al0q (q := 140) C dX0_state_139 rfl ?_ | refine z_al0u (q := 140) C dX0_state_139 rfl ?_
      first | refine xr_X0_14 (q := 143) C (by exact ho2) (by assumption) dX0_state_140 rfl ?_ | refine xn_X0_14 (q := 143) C (by exact ho2) (by assumption) dX0_state_140 rfl ?_ | refine xg_X0_14 (q := 143) C (by exact ho2) dX0_state_140 rfl ?_
      refine z_il3 (q := 144) C dX0_state_143 rfl ?_
      refine x_aald (q := 145) C 3 (by decide) (by decide) (by assumption) (by rw [hln2]; omega) (by omega) dX0_state_144 rfl ?_
      rw [hab2]
      refine xc_X0_95 (q := 148) C (fun _ => cx_first (d := 0) hk342) (fun _ => cx_first (d := 0) hk342) (by exact hk342) dX0_state_145 rfl rfl rfl (Nat.le_of_ble_eq_true rfl) (by first | decide | omega) (by omega) (by omega) (kkE ?_)
      rw [h40]
      first | refine z_as4 (q := 150) C dX0_state_148 rfl (by first | exact loC_i | exact loC_r | exact loC_n | exact loC_q | exact loC_u) ?_ | refine z_as4q (q := 150) C dX0_state_148 rfl (by first | exact loC_i | exact loC_r | exact loC_n | exact loC_q | exact loC_u) ?_ | refine z_asu4 (q := 150) C dX0_state_148 rfl (by first | exact loC_i | exact loC_r | exact loC_n | exact loC_q | exact loC_u) ?_
      exact inner (k_row c b) n σ2 _ (fun k hk => (k_b_row hk).1) hc40 hd hS2 q1 q2 q3 q4
  have loop1 : ∀ (R : List (Nat × Nat)) (i : Nat) (σ1 : Sg) (r : Option Nat) (s a1 a2 a3 a4 : Nat) (x4 : Option Value), loC x4 → (k_es c).drop i = R → CH ad (fr σ 25) (R.map (·.1)) r → SH σ (k_es c).length (k_n c 1) s a1 a2 a3 a4 σ1 → (∀ j x, j < i → (k_es c)[j]? = some x → ai σ1 a1 (2 * j) = nI x.1 ∧ ai σ1 a1 (2 * j + 1) = nI x.2) → Zj (wX D) Y σ1 5 300 60 [some (.ref o), some (.ref s), some (.int (nI (2 * i))), some (va_rf r), x4] [] := by
    intro R
    induction R with
    | nil =>
      intro i σ1 r s a1 a2 a3 a4 x4 hx4 hd hc hS p1
      have hc : r = none := hc
      subst hc
      have hi : (k_es c).length ≤ i := by simpa using hd
      have hg := loop2 (k_n c 1) 0 (by omega) 0 σ1 s a1 a2 a3 a4 x4 hx4 hS rfl (fun j x hj => p1 j x (by have := (List.getElem?_eq_some_iff.mp hj).1; omega) hj) (fun j k hj => by omega) (fun x hx => by omega) (fun x hx => by omega)
      show Zj _ _ _ _ _ _ [some (.ref o), some (.ref s), some (.int (nI (2 * i))), some .null, x4] []
      first | refine z_al3 (q := 61) C dX0_state_60 rfl ?_ | refine z_al3q (q := 61) C dX0_state_60 rfl ?_ | refine z_al3u (q := 61) C dX0_state_60 rfl ?_
      refine z_ifnull_u (tgt := 97) C dX0_state_61 (by decide) ?_
      refine z_iconst (q := 98) (v := nI 0) C dX0_state_97 rfl (by decide) ?_
      refine z_is2 (q := 99) C dX0_state_98 rfl (by first | exact loC_i | exact loC_r | exact loC_n | exact loC_q | exact loC_u) ?_
      refine z_iconst (q := 100) (v := nI 0) C dX0_state_99 rfl (by decide) ?_
      refine z_is3 (q := 101) C dX0_state_100 rfl (by first | exact loC_i | exact loC_r | exact loC_n | exact loC_q | exact loC_u) ?_
      exact hg
    | cons e R ih =>
      intro i σ1 r s a1 a2 a3 a4 x4 hx4 hd hc hS p1
      obtain ⟨rfl, hc⟩ := hc
      obtain ⟨hn1, hn2, hn3⟩ := drop_hd hd
      obtain ⟨⟨u1, u2, u3, u4, u5⟩, ⟨v1, v2, v3, v4⟩, ⟨w1, w2, w3, w4⟩, ⟨z0, z1, z2, z3, z4⟩, -, hF⟩ := id hS
      have hEC := hX.1.2.2 e (List.mem_of_getElem? hn1)
      have hEC1 := hEC.keep hF (fun g hg => by simp)
      have hEk : kd σ (ad e.1) ≠ 0 := by have := hEC.1; omega
      have hkd := hEC1.1
      have h25 : fr (sA a1 (2 * i + 1) (nI e.2) (sA a1 (2 * i) (nI e.1) σ1)) 25 (ad e.1) = fr σ 25 (ad e.1) := hF.gr hEk (by simp)
      have hg := ih (i + 1) (sA a1 (2 * i + 1) (nI e.2) (sA a1 (2 * i) (nI e.1) σ1)) (fr σ 25 (ad e.1)) s a1 a2 a3 a4 x4 hx4 hn3 hc ((hS.st z1).st z1) (fun j x hj hx => by
        rw [ai_sA, ai_sA, ai_sA, ai_sA]
        by_cases q : j = i
        · rw [q, hn1] at hx
          cases hx
          rw [if_neg (fun z => by omega), if_pos ⟨rfl, by omega⟩, if_pos ⟨rfl, by omega⟩]
          exact ⟨rfl, rfl⟩
        · rw [if_neg (fun z => by omega), if_neg (fun z => by omega), if_neg (fun z => by omega), if_neg (fun z => by omega)]
          exact p1 j x (by omega) hx)
      show Zj _ _ _ _ _ _ [some (.ref o), some (.ref s), some (.int (nI (2 * i))), some (.ref (ad e.1)), x4] []
      first | refine z_al3 (q := 61) C dX0_state_60 rfl ?_ | refine z_al3q (q := 61) C dX0_state_60 rfl ?_ | refine z_al3u (q := 61) C dX0_state_60 rfl ?_
      refine z_ifnull_r (q := 64) C dX0_state_61 rfl ?_
      first | refine z_al1 (q := 65) C dX0_state_64 rfl ?_ | refine z_al1q (q := 65) C dX0_state_64 rfl ?_ | refine z_al1u (q := 65) C dX0_state_64 rfl ?_
      first | refine xr_X0_188 (q := 68) C (by exact u1) u2 dX0_state_65 rfl ?_ | refine xn_X0_188 (q := 68) C (by exact u1) u2 dX0_state_65 rfl ?_
      refine z_il2 (q := 69) C dX0_state_68 rfl ?_
      first | refine z_al3 (q := 70) C dX0_state_69 rfl ?_ | refine z_al3q (q := 70) C dX0_state_69 rfl ?_ | refine z_al3u (q := 70) C dX0_state_69 rfl ?_
      refine xg_X0_120 (q := 73) C (by exact hkd) dX0_state_70 rfl ?_
      rw [hEC1.2.1]
      refine x_iast (q := 74) C (by exact v1) (by rw [w1]; omega) (by omega) dX0_state_73 rfl ?_
      first | refine z_al1 (q := 75) C dX0_state_74 rfl ?_ | refine z_al1q (q := 75) C dX0_state_74 rfl ?_ | refine z_al1u (q := 75) C dX0_state_74 rfl ?_
      first | refine xr_X0_188 (q := 78) C (by exact u1) (by exact u2) dX0_state_75 rfl ?_ | refine xn_X0_188 (q := 78) C (by exact u1) (by exact u2) dX0_state_75 rfl ?_
      refine z_il2 (q := 79) C dX0_state_78 rfl ?_
      refine z_iconst (q := 80) (v := nI 1) C dX0_state_79 rfl (by decide) ?_
      first | refine z_iaddN (q := 81) C dX0_state_80 rfl ?_ | refine z_iadd (q := 81) C dX0_state_80 rfl ?_
      first | refine z_al3 (q := 82) C dX0_state_81 rfl ?_ | refine z_al3q (q := 82) C dX0_state_81 rfl ?_ | refine z_al3u (q := 82) C dX0_state_81 rfl ?_
      refine xg_X0_201 (q := 85) C (by exact hkd) dX0_state_82 rfl ?_
      rw [show fi (sA a1 (2 * i) (nI e.1) σ1) 21 (ad e.1) = nI e.2 from hEC1.2.2.1]
      refine x_iast (q := 86) C (by exact v1) (by show 2 * i + 1 < ln σ1 a1; rw [w1]; omega) (by omega) dX0_state_85 rfl ?_
      refine z_iinc2 (q := 89) C dX0_state_86 rfl (show nI (2 * i) + Int32.ofInt 2 = nI (2 * (i + 1)) from nI_add (2 * i) 2) (by first | exact loC_i | exact loC_r | exact loC_n | exact loC_q | exact loC_u) ?_
      first | refine z_al3 (q := 90) C dX0_state_89 rfl ?_ | refine z_al3q (q := 90) C dX0_state_89 rfl ?_ | refine z_al3u (q := 90) C dX0_state_89 rfl ?_
      refine xg_X0_137 (q := 93) C (by exact hkd) dX0_state_90 rfl ?_
      rw [h25]
      first | refine z_as3 (q := 94) C dX0_state_93 rfl (by first | exact loC_i | exact loC_r | exact loC_n | exact loC_q | exact loC_u) ?_ | refine z_as3q (q := 94) C dX0_state_93 rfl (by first | exact loC_i | exact loC_r | exact loC_n | exact loC_q | exact loC_u) ?_ | refine z_asu3 (q := 94) C dX0_state_93 rfl (by first | exact loC_i | exact loC_r | exact loC_n | exact loC_q | exact loC_u) ?_
      refine z_goto (tgt := 60) C dX0_state_94 (by decide) ?_
      exact hg
  refine x_newN (q := 3) (m := 8) C rfl KC5 q129 q304 q87 (by decide) (by omega) (by omega) dX0_state_0 rfl (fun a0 f0 => ?_)
  refine z_dup (q := 4) C dX0_state_3 rfl rfl ?_
  refine xc_X0_183 (q := 7) C (cx_initS (d := 0)) dX0_state_4 rfl rfl rfl (Nat.le_of_ble_eq_true rfl) (by first | decide | omega) (by omega) (by omega) (kkN ?_)
  first | refine z_as1 (q := 8) C dX0_state_7 rfl (by first | exact loC_i | exact loC_r | exact loC_n | exact loC_q | exact loC_u) ?_ | refine z_as1q (q := 8) C dX0_state_7 rfl (by first | exact loC_i | exact loC_r | exact loC_n | exact loC_q | exact loC_u) ?_ | refine z_asu1 (q := 8) C dX0_state_7 rfl (by first | exact loC_i | exact loC_r | exact loC_n | exact loC_q | exact loC_u) ?_
  have hF1 : FG [] [] [] σ (nO 6 a0 σ) := FR.rf.wO f0
  have ho1 : kd (nO 6 a0 σ) o = 1 := hF1.ek ho
  have e41 : fi (nO 6 a0 σ) 4 o = nI (k_es c).length := by rw [hF1.gi (by omega) (by simp)]; exact e4
  have s0 : kd (nO 6 a0 σ) a0 = 6 := if_pos rfl
  first | refine z_al1 (q := 9) C dX0_state_8 rfl ?_ | refine z_al1q (q := 9) C dX0_state_8 rfl ?_ | refine z_al1u (q := 9) C dX0_state_8 rfl ?_
  refine z_iconst (q := 10) (v := nI 2) C dX0_state_9 rfl (by decide) ?_
  first | refine z_al0 (q := 11) C dX0_state_10 rfl ?_ | refine z_al0q (q := 11) C dX0_state_10 rfl ?_ | refine z_al0u (q := 11) C dX0_state_10 rfl ?_
  refine xg_X0_142 (q := 14) C (by exact ho1) dX0_state_11 rfl ?_
  rw [e41]
  first | refine z_imulN (q := 15) C dX0_state_14 rfl ?_ | refine z_imul (q := 15) C dX0_state_14 rfl ?_
  refine xc_X0_184 (q := 18) C (cx_sized (d := 0) (n := 2 * (k_es c).length) (by omega)) dX0_state_15 rfl rfl rfl (Nat.le_of_ble_eq_true rfl) (by first | decide | omega) (by omega) (by omega) (kkQ fun r15 σ15 h15 => ?_)
  obtain ⟨a1, rfl, g1, rfl⟩ := h15
  have hs2 : FG [] [100] [] (nO 6 a0 σ) (sR 100 a0 (some a1) (nA 11 (2 * (k_es c).length) a1 (nO 6 a0 σ))) := (FR.rf.wB g1).wR (fun _ => by simp)
  have hF2 : FG [] [] [] σ (sR 100 a0 (some a1) (nA 11 (2 * (k_es c).length) a1 (nO 6 a0 σ))) := (hF1.wB g1).wR (fun z => absurd f0 z)
  have n01 : a0 ≠ a1 := fun z => by rw [← z, s0] at g1; cases g1
  have k1 : kd (sR 100 a0 (some a1) (nA 11 (2 * (k_es c).length) a1 (nO 6 a0 σ))) a1 = 11 := if_pos rfl
  have l1 : ln (sR 100 a0 (some a1) (nA 11 (2 * (k_es c).length) a1 (nO 6 a0 σ))) a1 = 2 * (k_es c).length := if_pos rfl
  have s2 : fr (sR 100 a0 (some a1) (nA 11 (2 * (k_es c).length) a1 (nO 6 a0 σ))) 100 a0 = some a1 := by rw [fr_sR, if_pos ⟨rfl, rfl⟩]
  have s20 : kd (nA 11 (2 * (k_es c).length) a1 (nO 6 a0 σ)) a0 = 6 := (if_neg n01).trans s0
  first | refine xpr_X0_188 (q := 21) C (by exact s20) dX0_state_18 rfl ?_ | refine xpn_X0_188 (q := 21) C (by exact s20) dX0_state_18 rfl ?_ | refine xp_X0_188 (q := 21) C (by exact s20) dX0_state_18 rfl ?_
  have g1' := hF1.z g1
  have z0 := hs2.ek s0
  generalize sR 100 a0 (some a1) (nA 11 (2 * (k_es c).length) a1 (nO 6 a0 σ)) = σ2 at *
  have ho2 : kd σ2 o = 1 := hF2.ek ho
  have e42 : fi σ2 4 o = nI (k_es c).length := by rw [hF2.gi (by omega) (by simp)]; exact e4
  first | refine z_al1 (q := 22) C dX0_state_21 rfl ?_ | refine z_al1q (q := 22) C dX0_state_21 rfl ?_ | refine z_al1u (q := 22) C dX0_state_21 rfl ?_
  first | refine z_al0 (q := 23) C dX0_state_22 rfl ?_ | refine z_al0q (q := 23) C dX0_state_22 rfl ?_ | refine z_al0u (q := 23) C dX0_state_22 rfl ?_
  refine xg_X0_142 (q := 26) C (by exact ho2) dX0_state_23 rfl ?_
  rw [e42]
  refine xc_X0_184 (q := 29) C (cx_sized (d := 0) (n := (k_es c).length) (by omega)) dX0_state_26 rfl rfl rfl (Nat.le_of_ble_eq_true rfl) (by first | decide | omega) (by omega) (by omega) (kkQ fun r26 σ26 h26 => ?_)
  obtain ⟨a2, rfl, g2, rfl⟩ := h26
  have hs3 : FG [] [101] [] σ2 (sR 101 a0 (some a2) (nA 11 (k_es c).length a2 σ2)) := (FR.rf.wB g2).wR (fun _ => by simp)
  have hF3 : FG [] [] [] σ (sR 101 a0 (some a2) (nA 11 (k_es c).length a2 σ2)) := (hF2.wB g2).wR (fun z => absurd f0 z)
  have n02 : a0 ≠ a2 := fun z => by rw [← z, z0] at g2; cases g2
  have n12 : a1 ≠ a2 := fun z => by rw [← z, k1] at g2; cases g2
  have k2 : kd (sR 101 a0 (some a2) (nA 11 (k_es c).length a2 σ2)) a2 = 11 := if_pos rfl
  have l2 : ln (sR 101 a0 (some a2) (nA 11 (k_es c).length a2 σ2)) a2 = (k_es c).length := if_pos rfl
  have s3 : fr (sR 101 a0 (some a2) (nA 11 (k_es c).length a2 σ2)) 101 a0 = some a2 := by rw [fr_sR, if_pos ⟨rfl, rfl⟩]
  have s30 : kd (nA 11 (k_es c).length a2 σ2) a0 = 6 := (if_neg n02).trans z0
  first | refine xpr_X0_191 (q := 32) C (by exact s30) dX0_state_29 rfl ?_ | refine xpn_X0_191 (q := 32) C (by exact s30) dX0_state_29 rfl ?_ | refine xp_X0_191 (q := 32) C (by exact s30) dX0_state_29 rfl ?_
  have g2' := hF2.z g2
  have l1 := ((hs3.1 a1 (by omega)).2).trans l1
  have k1 := hs3.ek k1
  have s2 := (hs3.gr (g := 100) (x := a0) (by omega) (by simp)).trans s2
  have z0 := hs3.ek z0
  generalize sR 101 a0 (some a2) (nA 11 (k_es c).length a2 σ2) = σ3 at *
  have ho3 : kd σ3 o = 1 := hF3.ek ho
  have e13 : fi σ3 1 o = nI (k_n c 1) := by rw [hF3.gi (by omega) (by simp)]; exact e1
  first | refine z_al1 (q := 33) C dX0_state_32 rfl ?_ | refine z_al1q (q := 33) C dX0_state_32 rfl ?_ | refine z_al1u (q := 33) C dX0_state_32 rfl ?_
  first | refine z_al0 (q := 34) C dX0_state_33 rfl ?_ | refine z_al0q (q := 34) C dX0_state_33 rfl ?_ | refine z_al0u (q := 34) C dX0_state_33 rfl ?_
  refine xg_X0_62 (q := 37) C (by exact ho3) dX0_state_34 rfl ?_
  rw [e13]
  refine xc_X0_184 (q := 40) C (cx_sized (d := 0) (n := k_n c 1) (by omega)) dX0_state_37 rfl rfl rfl (Nat.le_of_ble_eq_true rfl) (by first | decide | omega) (by omega) (by omega) (kkQ fun r37 σ37 h37 => ?_)
  obtain ⟨a3, rfl, g3, rfl⟩ := h37
  have hs4 : FG [] [102] [] σ3 (sR 102 a0 (some a3) (nA 11 (k_n c 1) a3 σ3)) := (FR.rf.wB g3).wR (fun _ => by simp)
  have hF4 : FG [] [] [] σ (sR 102 a0 (some a3) (nA 11 (k_n c 1) a3 σ3)) := (hF3.wB g3).wR (fun z => absurd f0 z)
  have n03 : a0 ≠ a3 := fun z => by rw [← z, z0] at g3; cases g3
  have n13 : a1 ≠ a3 := fun z => by rw [← z, k1] at g3; cases g3
  have n23 : a2 ≠ a3 := fun z => by rw [← z, k2] at g3; cases g3
  have k3 : kd (sR 102 a0 (some a3) (nA 11 (k_n c 1) a3 σ3)) a3 = 11 := if_pos rfl
  have l3 : ln (sR 102 a0 (some a3) (nA 11 (k_n c 1) a3 σ3)) a3 = k_n c 1 := if_pos rfl
  have s4 : fr (sR 102 a0 (some a3) (nA 11 (k_n c 1) a3 σ3)) 102 a0 = some a3 := by rw [fr_sR, if_pos ⟨rfl, rfl⟩]
  have s40 : kd (nA 11 (k_n c 1) a3 σ3) a0 = 6 := (if_neg n03).trans z0
  first | refine xpr_X0_194 (q := 43) C (by exact s40) dX0_state_40 rfl ?_ | refine xpn_X0_194 (q := 43) C (by exact s40) dX0_state_40 rfl ?_ | refine xp_X0_194 (q := 43) C (by exact s40) dX0_state_40 rfl ?_
  have g3' := hF3.z g3
  have l1 := ((hs4.1 a1 (by omega)).2).trans l1
  have l2 := ((hs4.1 a2 (by omega)).2).trans l2
  have k1 := hs4.ek k1
  have k2 := hs4.ek k2
  have s2 := (hs4.gr (g := 100) (x := a0) (by omega) (by simp)).trans s2
  have s3 := (hs4.gr (g := 101) (x := a0) (by omega) (by simp)).trans s3
  have z0 := hs4.ek z0
  generalize sR 102 a0 (some a3) (nA 11 (k_n c 1) a3 σ3) = σ4 at *
  have ho4 : kd σ4 o = 1 := hF4.ek ho
  have e14 : fi σ4 1 o = nI (k_n c 1) := by rw [hF4.gi (by omega) (by simp)]; exact e1
  first | refine z_al1 (q := 44) C dX0_state_43 rfl ?_ | refine z_al1q (q := 44) C dX0_state_43 rfl ?_ | refine z_al1u (q := 44) C dX0_state_43 rfl ?_
  first | refine z_al0 (q := 45) C dX0_state_44 rfl ?_ | refine z_al0q (q := 45) C dX0_state_44 rfl ?_ | refine z_al0u (q := 45) C dX0_state_44 rfl ?_
  refine xg_X0_62 (q := 48) C (by exact ho4) dX0_state_45 rfl ?_
  rw [e14]
  refine x_newa (q := 50) C 2 (by decide) (at' := .boolean) (ty := .boolean) rfl q403 rfl rfl (by decide) (fun U cA h => va_nm_boolean h) (by omega) (by omega) (by omega) dX0_state_48 rfl (fun a4 g4 => ?_)
  have hs5 : FG [] [103] [] σ4 (sR 103 a0 (some a4) (nA 13 (k_n c 1) a4 σ4)) := (FR.rf.wB g4).wR (fun _ => by simp)
  have hF5 : FG [] [] [] σ (sR 103 a0 (some a4) (nA 13 (k_n c 1) a4 σ4)) := (hF4.wB g4).wR (fun z => absurd f0 z)
  have n04 : a0 ≠ a4 := fun z => by rw [← z, z0] at g4; cases g4
  have k4 : kd (sR 103 a0 (some a4) (nA 13 (k_n c 1) a4 σ4)) a4 = 13 := if_pos rfl
  have l4 : ln (sR 103 a0 (some a4) (nA 13 (k_n c 1) a4 σ4)) a4 = k_n c 1 := if_pos rfl
  have s5 : fr (sR 103 a0 (some a4) (nA 13 (k_n c 1) a4 σ4)) 103 a0 = some a4 := by rw [fr_sR, if_pos ⟨rfl, rfl⟩]
  have s50 : kd (nA 13 (k_n c 1) a4 σ4) a0 = 6 := (if_neg n04).trans z0
  first | refine xpr_X0_197 (q := 53) C (by exact s50) dX0_state_50 rfl ?_ | refine xpn_X0_197 (q := 53) C (by exact s50) dX0_state_50 rfl ?_ | refine xp_X0_197 (q := 53) C (by exact s50) dX0_state_50 rfl ?_
  have g4' := hF4.z g4
  have l1 := ((hs5.1 a1 (by omega)).2).trans l1
  have l2 := ((hs5.1 a2 (by omega)).2).trans l2
  have l3 := ((hs5.1 a3 (by omega)).2).trans l3
  have k1 := hs5.ek k1
  have k2 := hs5.ek k2
  have k3 := hs5.ek k3
  have s2 := (hs5.gr (g := 100) (x := a0) (by omega) (by simp)).trans s2
  have s3 := (hs5.gr (g := 101) (x := a0) (by omega) (by simp)).trans s3
  have s4 := (hs5.gr (g := 102) (x := a0) (by omega) (by simp)).trans s4
  have z0 := hs5.ek z0
  generalize sR 103 a0 (some a4) (nA 13 (k_n c 1) a4 σ4) = σ5 at *
  have ho5 : kd σ5 o = 1 := hF5.ek ho
  have h2o : fr σ5 2 o = fr σ 2 o := hF5.gr (by omega) (by simp)
  have hg := loop1 (k_es c) 0 σ5 (fr σ 2 o) a0 a1 a2 a3 a4 none loC_n rfl hX.1.1.ch ⟨⟨z0, s2, s3, s4, s5⟩, ⟨k1, k2, k3, k4⟩, ⟨l1, l2, l3, l4⟩, ⟨f0, g1', g2', g3', g4'⟩, ⟨n12, n13, n23⟩, hF5⟩ (fun j x hj => by omega)
  refine z_iconst (q := 54) (v := nI 0) C dX0_state_53 rfl (by decide) ?_
  refine z_is2 (q := 55) C dX0_state_54 rfl (by first | exact loC_i | exact loC_r | exact loC_n | exact loC_q | exact loC_u) ?_
  first | refine z_al0 (q := 56) C dX0_state_55 rfl ?_ | refine z_al0q (q := 56) C dX0_state_55 rfl ?_ | refine z_al0u (q := 56) C dX0_state_55 rfl ?_
  refine xg_X0_140 (q := 59) C (by exact ho5) dX0_state_56 rfl ?_
  rw [h2o]
  first | refine z_as3 (q := 60) C dX0_state_59 rfl (by first | exact loC_i | exact loC_r | exact loC_n | exact loC_q | exact loC_u) ?_ | refine z_as3q (q := 60) C dX0_state_59 rfl (by first | exact loC_i | exact loC_r | exact loC_n | exact loC_q | exact loC_u) ?_ | refine z_asu3 (q := 60) C dX0_state_59 rfl (by first | exact loC_i | exact loC_r | exact loC_n | exact loC_q | exact loC_u) ?_
  exact z_widen (by omega) (by omega) hg
end T70
