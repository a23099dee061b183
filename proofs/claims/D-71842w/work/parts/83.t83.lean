/-! THE CLASS: a state is taken back -/
set_option maxRecDepth 10000
theorem FR.then {pi pr pi2 pr2 : Nat → Nat → Prop} {pa pa2 : Nat → Prop} {σ σ1 σ2 : Sg} (h : FR pi pr pa σ σ1) (h2 : FR pi2 pr2 pa2 σ1 σ2) (a : ∀ g x, kd σ x ≠ 0 → pi2 g x → pi g x) (b : ∀ g x, kd σ x ≠ 0 → pr2 g x → pr g x) (c : ∀ x, kd σ x ≠ 0 → pa2 x → pa x) : FR pi pr pa σ σ2 :=
  ⟨fun x hx => ⟨(h2.1 x (h.nz hx)).1.trans (h.1 x hx).1, (h2.1 x (h.nz hx)).2.trans (h.1 x hx).2⟩, fun g x hx hp => (h2.2.1 g x (h.nz hx) (fun z => hp (a g x hx z))).trans (h.2.1 g x hx hp), fun g x hx hp => (h2.2.2.1 g x (h.nz hx) (fun z => hp (b g x hx z))).trans (h.2.2.1 g x hx hp), fun x hx hp => ⟨(h2.2.2.2 x (h.nz hx) (fun z => hp (c x hx z))).1.trans (h.2.2.2 x hx hp).1, (h2.2.2.2 x (h.nz hx) (fun z => hp (c x hx z))).2.trans (h.2.2.2 x hx hp).2⟩⟩
section T83
variable {D : Dx} {p : Nat → Nat} {σ : Sg} {α : Al} {N : Nat} {d : Nat} {o bs : Nat} {c : Co}
theorem cx_ordered {ad : Nat → Nat} (ho : kd σ o = 1) (hO : XO ad o σ (k_es c)) {key : Nat} (hk : key ∈ k_ks c) : Ct (wX D) yX0_ordered cX0_ordered 3 (some (.object "CrowdedBins$Entry")) [.ref o, .int (nI key)] σ (PE (some (.ref (ad key))) σ) d 0 0 := by
  obtain ⟨x, hx, hxk⟩ := List.mem_map.mp hk
  have hk9 : key ≤ 999999 := by have := (hO.2.2 x hx).2.2.2.2.1; omega
  refine Ct.of KXok (by decide) (Nat.le_of_ble_eq_true rfl) rfl fun Y C hQ hNm => ?_
  have loop : ∀ (R : List Nat) (r : Option Nat), key ∈ R → (∀ y ∈ R, y ∈ k_ks c) → CH ad (fr σ 25) R r → Zj (wX D) Y σ 0 0 5 [some (.ref o), some (.int (nI key)), some (va_rf r)] [] := by
    intro R
    induction R with
    | nil => intro r h1; simp at h1
    | cons k R ih =>
      intro r h1 h2 hc
      obtain ⟨rfl, hc⟩ := hc
      obtain ⟨y, hy, hyk⟩ := List.mem_map.mp (h2 k (by simp))
      obtain ⟨hkd, e20, -, -, e5, -⟩ := hO.2.2 y hy
      rw [hyk] at hkd e20 e5
      show Zj _ _ _ _ _ _ [some (.ref o), some (.int (nI key)), some (.ref (ad k))] []
      first | refine z_al2 (q := 6) C dX0_ordered_5 rfl ?_ | refine z_al2q (q := 6) C dX0_ordered_5 rfl ?_ | refine z_al2u (q := 6) C dX0_ordered_5 rfl ?_
      refine xg_X0_120 (q := 9) C (by exact hkd) dX0_ordered_6 rfl ?_
      rw [e20]
      refine z_il1 (q := 10) C dX0_ordered_9 rfl ?_
      refine z_icmp_eqN (tgt := 21) (q := 13) C dX0_ordered_10 (by decide) rfl (by omega) (by omega) (fun c10 => ?_) (fun c10 => ?_)
      · subst c10
        first | refine z_al2 (q := 22) C dX0_ordered_21 rfl ?_ | refine z_al2q (q := 22) C dX0_ordered_21 rfl ?_ | refine z_al2u (q := 22) C dX0_ordered_21 rfl ?_
        first | refine z_aret C hQ (Or.inl ⟨_, rfl⟩) dX0_ordered_22 (by omega) (by omega) ?_ | refine z_aret (r := some _) C hQ (Or.inl ⟨_, rfl⟩) dX0_ordered_22 (by omega) (by omega) ?_ | refine z_aret (r := none) C hQ (Or.inl ⟨_, rfl⟩) dX0_ordered_22 (by omega) (by omega) ?_
        exact ⟨rfl, rfl⟩
      · have hg := ih (fr σ 25 (ad k)) (by
          rcases List.mem_cons.mp h1 with z | z
          · exact absurd z.symm c10
          · exact z) (fun y hy => h2 y (by simp [hy])) hc
        first | refine z_al2 (q := 14) C dX0_ordered_13 rfl ?_ | refine z_al2q (q := 14) C dX0_ordered_13 rfl ?_ | refine z_al2u (q := 14) C dX0_ordered_13 rfl ?_
        refine xg_X0_137 (q := 17) C (by exact hkd) dX0_ordered_14 rfl ?_
        first | refine z_as2 (q := 18) C dX0_ordered_17 rfl (by first | exact loC_i | exact loC_r | exact loC_n | exact loC_q | exact loC_u) ?_ | refine z_as2q (q := 18) C dX0_ordered_17 rfl (by first | exact loC_i | exact loC_r | exact loC_n | exact loC_q | exact loC_u) ?_ | refine z_asu2 (q := 18) C dX0_ordered_17 rfl (by first | exact loC_i | exact loC_r | exact loC_n | exact loC_q | exact loC_u) ?_
        refine z_goto (tgt := 5) C dX0_ordered_18 (by decide) ?_
        exact hg
  first | refine z_al0 (q := 1) C dX0_ordered_0 rfl ?_ | refine z_al0q (q := 1) C dX0_ordered_0 rfl ?_ | refine z_al0u (q := 1) C dX0_ordered_0 rfl ?_
  refine xg_X0_140 (q := 4) C (by first | exact ho | exact hk | exact hb | exact he | assumption) dX0_ordered_1 rfl ?_
  first | refine z_as2 (q := 5) C dX0_ordered_4 rfl (by first | exact loC_i | exact loC_r | exact loC_n | exact loC_q | exact loC_u) ?_ | refine z_as2q (q := 5) C dX0_ordered_4 rfl (by first | exact loC_i | exact loC_r | exact loC_n | exact loC_q | exact loC_u) ?_ | refine z_asu2 (q := 5) C dX0_ordered_4 rfl (by first | exact loC_i | exact loC_r | exact loC_n | exact loC_q | exact loC_u) ?_
  exact loop (k_ks c) _ hk (fun y hy => hy) hO.1.ch
set_option maxHeartbeats 4000000 in
theorem cx_takesS (hX : FX p σ) {s : Nat} (hS : ST [p 5, p 6] σ s c) (hI : CI c) (h48 : (k_es c).length ≤ 48) : Ct (wX D) yX0_takes cX0_takes 5 none [.ref (p 0), .ref s] σ (PV (fun σ' => (∃ ad B, XC ad (p 0) (p 1) σ' B c) ∧ FG [1, 4, 5, 6, 7, 8] [2, 3, 24, 25] [p 1] σ σ')) 61 120 800 := by
  have hM := hX.1
  have ho := hM.1
  have hs := hX.sep
  have hw := hI.w
  obtain ⟨ks, ⟨a1, b1, b2, b3, b4, b5⟩, ⟨a2, c1, c2, c3, c4, c5⟩, ⟨a3, d1, d2, d3, d4, d5⟩, ⟨a4, e1, e2, e3, e4, e5⟩, f1, f2, f3, f4⟩ := id hS
  have hso : s ≠ p 0 := fun z => by rw [z, ho] at ks; cases ks
  have hcsl : (k_cs c).length ≤ 49 := by rw [hI.cslen]; omega
  have hT48 : (k_by c 2).length = (k_es c).length := tb_len hI
  refine Ct.of KXok (by decide) (Nat.le_of_ble_eq_true rfl) rfl fun Y C hQ hNm => ?_
  -- the bins
  have loop2 : ∀ m b, b + m = 64 → ∀ (n : Nat) (σ1 : Sg) (ad B : Nat → Nat) (x4 : Option Value), loC x4 → XO ad (p 0) σ1 (k_es c) → EN ad (k_h c) σ1 (k_cs c) → (∀ k ∈ k_ks c, kd σ (ad k) = 0) → FG [1, 4, 5, 6, 7, 8] [2, 3, 24, 25] [p 1] σ σ1 → (fi σ1 1 (p 0) = nI (k_n c 1) ∧ fi σ1 5 (p 0) = nI (k_n c 2) ∧ fi σ1 6 (p 0) = nI (k_n c 3) ∧ fi σ1 7 (p 0) = nI (k_n c 4) ∧ fi σ1 8 (p 0) = nI (k_n c 5)) → BX ad (k_h c) (p 1) σ1 B (fun x => x < b ∧ x < k_n c 1) (k_row c) (k_tr c) → (∀ x, x < b → kd σ (B x) = 0 ∨ k_n c 1 ≤ x) → (∀ x, x < b → k_n c 1 ≤ x → ar σ1 (p 1) x = none) → (b < k_n c 1 → (k_by c 2).drop n = tb c b (k_n c 1 - b)) → Zj (wX D) Y σ1 (48 + min b 64) (480 + 4 * min b 64) 116 [some (.ref (p 0)), some (.ref s), some (.int (nI n)), some (.int (nI b)), x4] [] := by
    intro m
    induction m with
    | zero =>
      intro b hb n σ1 ad B x4 hx4 hO1 hE1 hfr hF1 hnum hB1 hBf hN1 hd
      have hb : b = 64 := hb
      subst hb
      refine z_il3 (q := 117) C dX0_takes_116 rfl ?_
      refine z_bipush (q := 119) (v := nI 64) C dX0_takes_117 rfl (by decide) ?_
      refine z_icmp_geN (tgt := 222) (q := 122) C dX0_takes_119 (by decide) rfl (by omega) (by omega) (fun c119 => ?_) (fun c119 => absurd c119 (by omega))
      refine z_vret C hQ dX0_takes_222 (by omega) (by omega) ?_
      exact ⟨rfl, ⟨ad, B, hO1, ⟨hE1, hB1.sub (fun x hx => ⟨by omega, hx⟩), fun x hx hx2 => hN1 x hx2 hx, hnum.1, hnum.2.1, hnum.2.2.1⟩, hnum.2.2.2.1, hnum.2.2.2.2⟩, hF1⟩
    | succ m ih =>
      intro b hb n σ1 ad B x4 hx4 hO1 hE1 hfr hF1 hnum hB1 hBf hN1 hd
      have hX1 := hX.keep hF1 (by simp) (by simp; exact hs.2.2.2.2.2.1.symm)
      have hM1 := hX1.1
      obtain ⟨ho1, h01, hbk1, hln1⟩ := id hM1
      have hS1 := hS.keep hF1 (by simp) (by simp) (fun x hx => Or.inr (by simp at hx; rw [hx]; have := hM.2.2.1; omega))
      have g1 := hnum.1
      refine z_il3 (q := 117) C dX0_takes_116 rfl ?_
      refine z_bipush (q := 119) (v := nI 64) C dX0_takes_117 rfl (by decide) ?_
      refine z_icmp_geN (tgt := 222) (q := 122) C dX0_takes_119 (by decide) rfl (by omega) (by omega) (fun c119 => absurd c119 (by omega)) (fun c119 => ?_)
      first | refine z_al0 (q := 123) C dX0_takes_122 rfl ?_ | refine z_al0q (q := 123) C dX0_takes_122 rfl ?_ | refine z_al0u (q := 123) C dX0_takes_122 rfl ?_
      first | refine xr_X0_14 (q := 126) C (by exact ho1) (by assumption) dX0_takes_123 rfl ?_ | refine xn_X0_14 (q := 126) C (by exact ho1) (by assumption) dX0_takes_123 rfl ?_ | refine xg_X0_14 (q := 126) C (by exact ho1) dX0_takes_123 rfl ?_
      refine z_il3 (q := 127) C dX0_takes_126 rfl ?_
      refine z_il3 (q := 128) C dX0_takes_127 rfl ?_
      first | refine z_al0 (q := 129) C dX0_takes_128 rfl ?_ | refine z_al0q (q := 129) C dX0_takes_128 rfl ?_ | refine z_al0u (q := 129) C dX0_takes_128 rfl ?_
      refine xg_X0_62 (q := 132) C (by exact ho1) dX0_takes_129 rfl ?_
      rw [g1]
      refine z_icmp_ltN (tgt := 139) (q := 135) C dX0_takes_132 (by decide) rfl (by omega) (by omega) (fun c132 => ?_) (fun c132 => ?_)
      · -- a bin that lives
        have hd := hd c132
        have htb : tb c b (k_n c 1 - b) = k_row c b ++ tb c (b + 1) (k_n c 1 - (b + 1)) := by
          rw [show k_n c 1 - b = (k_n c 1 - (b + 1)) + 1 by omega]
          rfl
        rw [htb] at hd
        -- with the bin made: at the store
        have ph : ∀ (a : Nat) (σ2 : Sg), kd σ1 a = 0 → σ2 = nO (if k_tr c b = true then 4 else 3) a σ1 → Zj (wX D) Y σ2 (48 + min b 64 + 1) (480 + 4 * min b 64 + 4) 165 [some (.ref (p 0)), some (.ref s), some (.int (nI n)), some (.int (nI b)), x4] [.ref a, .int (nI b), .ref (p 1)] := by
          intro a σ2 ha hσ2
          have hFe : FG [] [] [] σ1 σ2 := by rw [hσ2]; exact FR.rf.wO ha
          have hw0 : RW ad (k_h c) σ2 a [] (k_tr c b) := by rw [hσ2]; exact RW.new (k_tr c b)
          have hFq : FG [] [] [p 1] σ1 (sQ (p 1) b (some a) σ2) := (hFe.up (by simp) (by simp) (by simp)).wQ (fun _ => by simp)
          have ha0 : kd σ a = 0 := hF1.z ha
          have hbk2 : kd σ2 (p 1) = 14 := hFe.ek hbk1
          have hln2 : ln σ2 (p 1) = 64 := by rw [(hFe.1 _ (by omega)).2]; exact hln1
          have hB2 : BX ad (k_h c) (p 1) σ2 B (fun x => x < b ∧ x < k_n c 1) (k_row c) (k_tr c) := hB1.keep hFe hbk1 (by simp) (fun x hx => ⟨by simp, fun g hg => by simp⟩) (fun x hx k hk => ⟨hE1.nz k (k_b_row hk).1, fun g g1 g2 => by simp⟩)
          have hB3 := hB2.sq (x := b) (r := some a) (fun z => by omega)
          have har3 : ar (sQ (p 1) b (some a) σ2) (p 1) b = some a := up2_s
          have hE3 : EN ad (k_h c) (sQ (p 1) b (some a) σ2) (k_cs c) := hE1.keep hFq (fun k hk g hg => by simp)
          have hO3 : XO ad (p 0) (sQ (p 1) b (some a) σ2) (k_es c) := hO1.keep ho1 hFq (by simp) (by simp)
          have hw3 : RW ad (k_h c) (sQ (p 1) b (some a) σ2) a [] (k_tr c b) := hw0
          have hF3 : FG [1, 4, 5, 6, 7, 8] [2, 3, 24, 25] [p 1] σ (sQ (p 1) b (some a) σ2) := hF1.tr (hFq.up (by simp) (by simp) (by simp))
          have hnum3 : fi (sQ (p 1) b (some a) σ2) 1 (p 0) = nI (k_n c 1) ∧ fi (sQ (p 1) b (some a) σ2) 5 (p 0) = nI (k_n c 2) ∧ fi (sQ (p 1) b (some a) σ2) 6 (p 0) = nI (k_n c 3) ∧ fi (sQ (p 1) b (some a) σ2) 7 (p 0) = nI (k_n c 4) ∧ fi (sQ (p 1) b (some a) σ2) 8 (p 0) = nI (k_n c 5) := by
            have hz : ∀ g, fi (sQ (p 1) b (some a) σ2) g (p 0) = fi σ1 g (p 0) := fun g => hFq.gi (by omega) (by simp)
            rw [hz, hz, hz, hz, hz]; exact hnum
          have hN3 : ∀ x, x < b → k_n c 1 ≤ x → ar (sQ (p 1) b (some a) σ2) (p 1) x = none := fun x hx hx2 => by omega
          have hnB : ∀ x, x < b ∧ x < k_n c 1 → B x ≠ a := fun x hx z => (hB1.1 x hx).2.2.nz (by rw [z]; exact ha)
          have inner : ∀ (R P : List Nat) (n : Nat) (σ4 : Sg), P ++ R = k_row c b → (k_by c 2).drop n = R ++ tb c (b + 1) (k_n c 1 - (b + 1)) → XO ad (p 0) σ4 (k_es c) → EN ad (k_h c) σ4 (k_cs c) → FG [1, 4, 5, 6, 7, 8] [2, 3, 24, 25] [p 1] σ σ4 → (fi σ4 1 (p 0) = nI (k_n c 1) ∧ fi σ4 5 (p 0) = nI (k_n c 2) ∧ fi σ4 6 (p 0) = nI (k_n c 3) ∧ fi σ4 7 (p 0) = nI (k_n c 4) ∧ fi σ4 8 (p 0) = nI (k_n c 5)) → BX ad (k_h c) (p 1) σ4 B (fun x => x < b ∧ x < k_n c 1) (k_row c) (k_tr c) → RW ad (k_h c) σ4 a P (k_tr c b) → ar σ4 (p 1) b = some a → Zj (wX D) Y σ4 (48 + min b 64 + 1) (480 + 4 * min b 64 + 4) 169 [some (.ref (p 0)), some (.ref s), some (.int (nI n)), some (.int (nI b)), some (.int (nI P.length))] [] := by
            intro R
            induction R with
            | nil =>
              intro P n σ4 hP hd4 hO4 hE4 hF4 hnum4 hB4 hw4 har4
              rw [List.append_nil] at hP
              subst hP
              have hX4 := hX.keep hF4 (by simp) (by simp; exact hs.2.2.2.2.2.1.symm)
              obtain ⟨ho4, h04, hbk4, hln4⟩ := id hX4.1
              have hS4 := hS.keep hF4 (by simp) (by simp) (fun x hx => Or.inr (by simp at hx; rw [hx]; have := hM.2.2.1; omega))
              obtain ⟨ks4, -, -, ⟨a3', q1, q2, q3, q4, q5⟩, -⟩ := hS4
              have h5 := q5 b c132
              have hrl : (k_row c b).length ≤ 49 := row49 hI b
              have hg := ih (b + 1) (by omega) n σ4 ad (fun y => if y = b then a else B y) (some (.int (nI (k_row c b).length))) loC_i hO4 hE4 hfr hF4 hnum4 (hB4.add (x := b) (by omega) (by rw [if_pos rfl]; exact har4) (by rw [if_pos rfl]; exact hw4) (fun y hy => ⟨if_neg (by omega), rfl, rfl⟩) (fun y hy hyx => by rw [if_pos rfl]; exact hnB y hy) (fun y hy hyx k hk z => hyx ((k_b_row z).2.symm.trans (k_b_row hk).2)) (fun y hy => by omega)) (fun x hx => by
                by_cases e : x = b
                · rw [if_pos e]; exact Or.inl ha0
                · rw [if_neg e]; exact hBf x (by omega)) (fun x hx hx2 => by omega) (fun _ => hd4)
              refine z_il3 (q := 170) C dX0_takes_169 rfl ?_
              first | refine z_al0 (q := 171) C dX0_takes_170 rfl ?_ | refine z_al0q (q := 171) C dX0_takes_170 rfl ?_ | refine z_al0u (q := 171) C dX0_takes_170 rfl ?_
              refine xg_X0_62 (q := 174) C (by exact ho4) dX0_takes_171 rfl ?_
              rw [hnum4.1]
              refine z_icmp_geN (tgt := 216) (q := 177) C dX0_takes_174 (by decide) rfl (by omega) (by omega) (fun c174 => absurd c174 (by omega)) (fun c174 => ?_)
              refine z_il4 (q := 179) C dX0_takes_177 rfl ?_
              first | refine z_al1 (q := 180) C dX0_takes_179 rfl ?_ | refine z_al1q (q := 180) C dX0_takes_179 rfl ?_ | refine z_al1u (q := 180) C dX0_takes_179 rfl ?_
              first | refine xr_X0_194 (q := 183) C (by exact ks4) q1 dX0_takes_180 rfl ?_ | refine xn_X0_194 (q := 183) C (by exact ks4) q1 dX0_takes_180 rfl ?_
              refine z_il3 (q := 184) C dX0_takes_183 rfl ?_
              refine x_iald (q := 185) C (by exact q2) (by rw [q4]; omega) (by omega) dX0_takes_184 rfl ?_
              rw [h5]
              refine z_icmp_geN (tgt := 216) (q := 188) C dX0_takes_185 (by decide) rfl (by omega) (by show (k_row c b).length < _; omega) (fun c185 => ?_) (fun c185 => absurd c185 (by show ¬ (k_row c b).length < (k_row c b).length; omega))
              first | refine z_iinc3N (q := 219) C dX0_takes_216 rfl (by first | exact loC_i | exact loC_r | exact loC_n | exact loC_q | exact loC_u) ?_ | refine z_iinc3 (q := 219) C dX0_takes_216 rfl rfl (by first | exact loC_i | exact loC_r | exact loC_n | exact loC_q | exact loC_u) ?_
              refine z_goto (tgt := 116) C dX0_takes_219 (by decide) ?_
              exact z_widen (by omega) (by omega) hg
            | cons k R ihR =>
              intro P n σ4 hP hd4 hO4 hE4 hF4 hnum4 hB4 hw4 har4
              have hX4 := hX.keep hF4 (by simp) (by simp; exact hs.2.2.2.2.2.1.symm)
              obtain ⟨ho4, h04, hbk4, hln4⟩ := id hX4.1
              have hS4 := hS.keep hF4 (by simp) (by simp) (fun x hx => Or.inr (by simp at hx; rw [hx]; have := hM.2.2.1; omega))
              obtain ⟨ks4, -, ⟨a2', r1, r2, r3, r4, r5⟩, ⟨a3', q1, q2, q3, q4, q5⟩, -⟩ := hS4
              have h5 : ai σ4 a3' b = nI (k_row c b).length := q5 b c132
              have hrl : (k_row c b).length ≤ 49 := row49 hI b
              obtain ⟨hn1, hn2, hn3⟩ := drop_hd hd4
              have hr5 := r5 n k hn1
              have hkr : k ∈ k_row c b := by rw [← hP]; simp
              have hkc := (k_b_row hkr).1
              have hkk : k ∈ k_ks c := hI.2.2.1.mem_iff.mp hkc
              have hN1' := hI.rownd b
              rw [← hP, List.nodup_append, List.nodup_cons] at hN1'
              have hkP : k ∉ P := fun z => hN1'.2.2 k z k (by simp) rfl
              have hsP : ∀ x ∈ k :: P, x ∈ k_row c b := fun x hx => by
                rcases List.mem_cons.mp hx with rfl | hx
                · exact hkr
                · rw [← hP]; simp [hx]
              have hPl : P.length < (k_row c b).length := by rw [← hP, List.length_append, List.length_cons]; omega
              have hk34 := hw4.k34
              refine z_il3 (q := 170) C dX0_takes_169 rfl ?_
              first | refine z_al0 (q := 171) C dX0_takes_170 rfl ?_ | refine z_al0q (q := 171) C dX0_takes_170 rfl ?_ | refine z_al0u (q := 171) C dX0_takes_170 rfl ?_
              refine xg_X0_62 (q := 174) C (by exact ho4) dX0_takes_171 rfl ?_
              rw [hnum4.1]
              refine z_icmp_geN (tgt := 216) (q := 177) C dX0_takes_174 (by decide) rfl (by omega) (by omega) (fun c174 => absurd c174 (by omega)) (fun c174 => ?_)
              refine z_il4 (q := 179) C dX0_takes_177 rfl ?_
              first | refine z_al1 (q := 180) C dX0_takes_179 rfl ?_ | refine z_al1q (q := 180) C dX0_takes_179 rfl ?_ | refine z_al1u (q := 180) C dX0_takes_179 rfl ?_
              first | refine xr_X0_194 (q := 183) C (by exact ks4) q1 dX0_takes_180 rfl ?_ | refine xn_X0_194 (q := 183) C (by exact ks4) q1 dX0_takes_180 rfl ?_
              refine z_il3 (q := 184) C dX0_takes_183 rfl ?_
              refine x_iald (q := 185) C (by exact q2) (by rw [q4]; omega) (by omega) dX0_takes_184 rfl ?_
              rw [h5]
              refine z_icmp_geN (tgt := 216) (q := 188) C dX0_takes_185 (by decide) rfl (by omega) (by omega) (fun c185 => absurd c185 (by omega)) (fun c185 => ?_)
              first | refine z_al0 (q := 189) C dX0_takes_188 rfl ?_ | refine z_al0q (q := 189) C dX0_takes_188 rfl ?_ | refine z_al0u (q := 189) C dX0_takes_188 rfl ?_
              first | refine xr_X0_14 (q := 192) C (by exact ho4) (by assumption) dX0_takes_189 rfl ?_ | refine xn_X0_14 (q := 192) C (by exact ho4) (by assumption) dX0_takes_189 rfl ?_ | refine xg_X0_14 (q := 192) C (by exact ho4) dX0_takes_189 rfl ?_
              refine z_il3 (q := 193) C dX0_takes_192 rfl ?_
              refine x_aald (q := 194) C 3 (by decide) (by decide) (by assumption) (by rw [hln4]; omega) (by omega) dX0_takes_193 rfl ?_
              rw [har4]
              first | refine z_al0 (q := 195) C dX0_takes_194 rfl ?_ | refine z_al0q (q := 195) C dX0_takes_194 rfl ?_ | refine z_al0u (q := 195) C dX0_takes_194 rfl ?_
              first | refine z_al1 (q := 196) C dX0_takes_195 rfl ?_ | refine z_al1q (q := 196) C dX0_takes_195 rfl ?_ | refine z_al1u (q := 196) C dX0_takes_195 rfl ?_
              first | refine xr_X0_191 (q := 199) C (by exact ks4) r1 dX0_takes_196 rfl ?_ | refine xn_X0_191 (q := 199) C (by exact ks4) r1 dX0_takes_196 rfl ?_
              refine z_il2 (q := 200) C dX0_takes_199 rfl ?_
              refine x_iald (q := 201) C (by exact r2) (by rw [r4]; omega) (by omega) dX0_takes_200 rfl ?_
              rw [hr5]
              refine xc_X0_208 (q := 204) C (cx_ordered (d := 0) ho4 hO4 hkk) (by exact ho4) dX0_takes_201 rfl rfl rfl (Nat.le_of_ble_eq_true rfl) (by first | decide | omega) (by omega) (by omega) (kkE ?_)
              refine xc_X0_123 (q := 207) C (fun h => cx_comes3 (d := 60) hw4 (hE4.sub fun x hx => (k_b_row (hsP x hx)).1) hkP h) (fun h => cx_comes4 hw4 (hE4.sub fun x hx => (k_b_row (hsP x hx)).1) hkP (by omega) h (by decide)) (by exact hk34) dX0_takes_204 rfl rfl rfl (Nat.le_of_ble_eq_true rfl) (by first | decide | omega) (by omega) (by omega) (kkV fun σ204 h204 => ?_)
              obtain ⟨hw5, hF5⟩ := h204
              have hFb : FG [42] [26, 27, 28, 29, 40, 41, 60] [] σ4 σ204 := FR.fbg hF5 (by simp) (by simp)
              have hF45 : FG [1, 4, 5, 6, 7, 8] [2, 3, 24, 25] [p 1] σ σ204 := FR.then hF4 hF5 (fun g x hx z => absurd ha0 (by rw [← z.2]; exact hx)) (fun g x hx z => by
                rcases z with ⟨-, z⟩ | ⟨-, y, hy, z⟩
                · exact absurd ha0 (by rw [← z]; exact hx)
                · exact absurd (hfr y (hI.2.2.1.mem_iff.mp (k_b_row (hsP y hy)).1)) (by rw [← z]; exact hx)) (fun x hx z => z.elim)
              have n4 : kd σ4 (p 0) ≠ 0 := by omega
              have hg := ihR (P ++ [k]) (n + 1) σ204 (by rw [← hP]; simp) hn3 (hO4.keep ho4 hFb (by simp) (by simp)) (EN.fb (S := []) hE4 hF5) hF45 ⟨by rw [hFb.gi n4 (by simp)]; exact hnum4.1, by rw [hFb.gi n4 (by simp)]; exact hnum4.2.1, by rw [hFb.gi n4 (by simp)]; exact hnum4.2.2.1, by rw [hFb.gi n4 (by simp)]; exact hnum4.2.2.2.1, by rw [hFb.gi n4 (by simp)]; exact hnum4.2.2.2.2⟩ (hB4.fb hF5 hbk4 hE4 (fun x hx => (k_b_row (hsP x hx)).1) (fun x hx y hy => ⟨(k_b_row hy).1, fun z => by
                have h1 := (k_b_row hy).2
                have h2 := (k_b_row (hsP y z)).2
                omega⟩) (fun x hx => hnB x hx)) hw5 (by rw [(hFb.2.2.2 (p 1) (by omega) (by simp)).2]; exact har4)
              rw [List.length_append] at hg
              have hg : Zj (wX D) Y σ204 (48 + min b 64 + 1) (480 + 4 * min b 64 + 4) 169 [some (.ref (p 0)), some (.ref s), some (.int (nI (n + 1))), some (.int (nI b)), some (.int (nI (P.length + 1)))] [] := hg
              first | refine z_iinc2N (q := 210) C dX0_takes_207 rfl (by first | exact loC_i | exact loC_r | exact loC_n | exact loC_q | exact loC_u) ?_ | refine z_iinc2 (q := 210) C dX0_takes_207 rfl rfl (by first | exact loC_i | exact loC_r | exact loC_n | exact loC_q | exact loC_u) ?_
              first | refine z_iinc4N (q := 213) C dX0_takes_210 rfl (by first | exact loC_i | exact loC_r | exact loC_n | exact loC_q | exact loC_u) ?_ | refine z_iinc4 (q := 213) C dX0_takes_210 rfl rfl (by first | exact loC_i | exact loC_r | exact loC_n | exact loC_q | exact loC_u) ?_
              refine z_goto (tgt := 169) C dX0_takes_213 (by decide) ?_
              exact hg
          have hg := inner (k_row c b) [] n (sQ (p 1) b (some a) σ2) rfl hd hO3 hE3 hF3 hnum3 hB3 hw3 har3
          refine x_aastB (q := 166) C (by assumption) hw0.k34 (by rw [hln2]; omega) (by omega) dX0_takes_165 rfl ?_
          refine z_iconst (q := 167) (v := nI 0) C dX0_takes_166 rfl (by decide) ?_
          refine z_is4 (q := 169) C dX0_takes_167 rfl (by first | exact loC_i | exact loC_r | exact loC_n | exact loC_q | exact loC_u) ?_
          exact hg
        obtain ⟨ks1, -, -, -, ⟨a4', q1, q2, q3, q4, q5⟩, -⟩ := hS1
        have h5 := q5 b c132
        first | refine z_al1 (q := 140) C dX0_takes_139 rfl ?_ | refine z_al1q (q := 140) C dX0_takes_139 rfl ?_ | refine z_al1u (q := 140) C dX0_takes_139 rfl ?_
        first | refine xr_X0_197 (q := 143) C (by exact ks1) q1 dX0_takes_140 rfl ?_ | refine xn_X0_197 (q := 143) C (by exact ks1) q1 dX0_takes_140 rfl ?_
        refine z_il3 (q := 144) C dX0_takes_143 rfl ?_
        first | refine x_bald (q := 145) C (by exact q2) (by rw [q4]; omega) (by omega) dX0_takes_144 rfl ?_ | refine x_zald (q := 145) C (by exact q2) (by rw [q4]; omega) (by omega) dX0_takes_144 rfl ?_
        rw [h5]
        refine z_if_eqB (tgt := 158) (q := 148) C dX0_takes_145 (by decide) rfl (fun c145 => ?_) (fun c145 => ?_)
        · rw [c145] at ph
          refine x_newN (q := 161) (m := 3) C rfl KC2 q150 q151 q85 (by decide) (by omega) (by omega) dX0_takes_158 rfl (fun a158 f158 => ?_)
          refine z_dup (q := 162) C dX0_takes_161 rfl rfl ?_
          refine xc_X0_67 (q := 165) C (cx_initL (d := 0)) dX0_takes_162 rfl rfl rfl (Nat.le_of_ble_eq_true rfl) (by first | decide | omega) (by omega) (by omega) (kkN ?_)
          exact z_widen (by omega) (by omega) (ph a158 _ f158 rfl)
        · rw [c145] at ph
          refine x_newN (q := 151) (m := 4) C rfl KC3 q343 q447 q89 (by decide) (by omega) (by omega) dX0_takes_148 rfl (fun a148 f148 => ?_)
          refine z_dup (q := 152) C dX0_takes_151 rfl rfl ?_
          refine xc_X0_90 (q := 155) C (cx_initT (d := 0)) dX0_takes_152 rfl rfl rfl (Nat.le_of_ble_eq_true rfl) (by first | decide | omega) (by omega) (by omega) (kkN ?_)
          refine z_goto (tgt := 165) C dX0_takes_155 (by decide) ?_
          exact z_widen (by omega) (by omega) (ph a148 _ f148 rfl)
      · have hFq : FG [] [] [p 1] σ1 (sQ (p 1) b none σ1) := FR.rf.wQ (fun _ => by simp)
        have ho2 : kd (sQ (p 1) b none σ1) (p 0) = 1 := ho1
        have hg := ih (b + 1) (by omega) n (sQ (p 1) b none σ1) ad B (some (.int (nI 0))) loC_i (hO1.keep ho1 hFq (by simp) (by simp)) (hE1.keep hFq (fun k hk g hg => by simp)) hfr (hF1.tr (hFq.up (by simp) (by simp) (by simp))) hnum ((hB1.sq (fun z => by omega)).sub (fun x hx => ⟨by omega, hx.2⟩)) (fun x hx => by
          by_cases e : x = b
          · exact Or.inr (by omega)
          · exact hBf x (by omega)) (fun x hx hx2 => by
          by_cases e : x = b
          · rw [e]; exact up2_s
          · exact (up2_a e).trans (hN1 x (by omega) hx2)) (fun z => by omega)
        have g12 : fi (sQ (p 1) b none σ1) 1 (p 0) = nI (k_n c 1) := g1
        refine z_null (q := 136) C dX0_takes_135 rfl ?_
        refine z_goto (tgt := 165) C dX0_takes_136 (by decide) ?_
        refine x_aastN (q := 166) C 3 (by decide) (by decide) (by assumption) (by rw [hln1]; omega) (by omega) dX0_takes_165 rfl ?_
        refine z_iconst (q := 167) (v := nI 0) C dX0_takes_166 rfl (by decide) ?_
        refine z_is4 (q := 169) C dX0_takes_167 rfl (by first | exact loC_i | exact loC_r | exact loC_n | exact loC_q | exact loC_u) ?_
        refine z_il3 (q := 170) C dX0_takes_169 rfl ?_
        first | refine z_al0 (q := 171) C dX0_takes_170 rfl ?_ | refine z_al0q (q := 171) C dX0_takes_170 rfl ?_ | refine z_al0u (q := 171) C dX0_takes_170 rfl ?_
        refine xg_X0_62 (q := 174) C (by exact ho2) dX0_takes_171 rfl ?_
        rw [g12]
        refine z_icmp_geN (tgt := 216) (q := 177) C dX0_takes_174 (by decide) rfl (by omega) (by omega) (fun c174 => ?_) (fun c174 => absurd c174 (by omega))
        first | refine z_iinc3N (q := 219) C dX0_takes_216 rfl (by first | exact loC_i | exact loC_r | exact loC_n | exact loC_q | exact loC_u) ?_ | refine z_iinc3 (q := 219) C dX0_takes_216 rfl rfl (by first | exact loC_i | exact loC_r | exact loC_n | exact loC_q | exact loC_u) ?_
        refine z_goto (tgt := 116) C dX0_takes_219 (by decide) ?_
        exact z_widen (by omega) (by omega) hg
  -- the entries
  have loop1 : ∀ (R P : List (Nat × Nat)) (σ1 : Sg) (ad : Nat → Nat) (x3 : Option Value), P ++ R = k_es c → loC x3 → XO ad (p 0) σ1 P → (∀ e ∈ P, fi σ1 23 (ad e.1) = nI (k_h c e.1) ∧ kd σ (ad e.1) = 0) → FG [4, 5, 6, 7, 8] [2, 3, 24, 25] [] σ σ1 → (fi σ1 5 (p 0) = nI (k_n c 2) ∧ fi σ1 6 (p 0) = nI (k_n c 3) ∧ fi σ1 7 (p 0) = nI (k_n c 4) ∧ fi σ1 8 (p 0) = nI (k_n c 5)) → Zj (wX D) Y σ1 P.length (10 * P.length) 49 [some (.ref (p 0)), some (.ref s), some (.int (nI (2 * P.length))), x3, none] [] := by
    intro R
    induction R with
    | nil =>
      intro P σ1 ad x3 hPR hx3 hO1 h23 hF1 hnum
      rw [List.append_nil] at hPR
      subst hPR
      have hX1 := hX.keep hF1 (by simp) (by simp)
      have ho1 := hX1.1.1
      have hS1 := hS.keep hF1 (by simp) (by simp) (by simp)
      obtain ⟨ks1, ⟨a1', q1, q2, q3, q4, q5⟩, -, ⟨a3', r1, r2, r3, r4, r5⟩, -⟩ := hS1
      have hFw : FG [1] [] [] σ1 (sI 1 (p 0) (nI (k_n c 1)) σ1) := FR.rf.wI (fun _ => by simp)
      have n1 : kd σ1 (p 0) ≠ 0 := by omega
      have hE1 : EN ad (k_h c) (sI 1 (p 0) (nI (k_n c 1)) σ1) (k_cs c) := fun k hk => by
        obtain ⟨x, hx, hxk⟩ := List.mem_map.mp (hI.2.2.1.mem_iff.mp hk)
        have hEC := (hO1.2.2 x hx).keep hFw (fun g hg => by rcases hg with rfl | rfl | rfl <;> simp)
        have h2 := (h23 x hx).1
        unfold EC at hEC
        rw [hxk] at hEC h2
        refine ⟨hEC.1, hEC.2.1, hEC.2.2.2.1, ?_, hEC.2.2.2.2.1, k_h_lt c k⟩
        rw [fi_sI, if_neg (fun z => by cases z.1)]
        exact h2
      have hg := loop2 64 0 rfl 0 (sI 1 (p 0) (nI (k_n c 1)) σ1) ad (fun _ => 0) none loC_n (hO1.keep ho1 hFw (by simp) (by simp)) hE1 (fun k hk => by
        obtain ⟨x, hx, hxk⟩ := List.mem_map.mp hk
        have := (h23 x hx).2
        rw [hxk] at this
        exact this) ((hF1.up (by simp) (by simp) (by simp)).tr (hFw.up (by simp) (by simp) (by simp))) ⟨by rw [fi_sI, if_pos ⟨rfl, rfl⟩], by rw [hFw.gi n1 (by simp)]; exact hnum.1, by rw [hFw.gi n1 (by simp)]; exact hnum.2.1, by rw [hFw.gi n1 (by simp)]; exact hnum.2.2.1, by rw [hFw.gi n1 (by simp)]; exact hnum.2.2.2⟩ ⟨fun x hx => by omega, fun x y hx => by omega, fun x y hx => by omega⟩ (fun x hx => by omega) (fun x hx => by omega) (fun _ => rfl)
      refine z_il2 (q := 50) C dX0_takes_49 rfl ?_
      first | refine z_al1 (q := 51) C dX0_takes_50 rfl ?_ | refine z_al1q (q := 51) C dX0_takes_50 rfl ?_ | refine z_al1u (q := 51) C dX0_takes_50 rfl ?_
      first | refine xr_X0_188 (q := 54) C (by exact ks1) q1 dX0_takes_51 rfl ?_ | refine xn_X0_188 (q := 54) C (by exact ks1) q1 dX0_takes_51 rfl ?_
      first | refine x_wlen (q := 55) C dX0_takes_54 rfl ?_ | refine x_alen (q := 55) C (by assumption) dX0_takes_54 rfl ?_
      rw [q4]
      refine z_icmp_geN (tgt := 103) (q := 58) C dX0_takes_55 (by decide) rfl (by omega) (by omega) (fun c55 => ?_) (fun c55 => absurd c55 (by omega))
      first | refine z_al0 (q := 104) C dX0_takes_103 rfl ?_ | refine z_al0q (q := 104) C dX0_takes_103 rfl ?_ | refine z_al0u (q := 104) C dX0_takes_103 rfl ?_
      first | refine z_al1 (q := 105) C dX0_takes_104 rfl ?_ | refine z_al1q (q := 105) C dX0_takes_104 rfl ?_ | refine z_al1u (q := 105) C dX0_takes_104 rfl ?_
      first | refine xr_X0_194 (q := 108) C (by exact ks1) r1 dX0_takes_105 rfl ?_ | refine xn_X0_194 (q := 108) C (by exact ks1) r1 dX0_takes_105 rfl ?_
      first | refine x_wlen (q := 109) C dX0_takes_108 rfl ?_ | refine x_alen (q := 109) C (by assumption) dX0_takes_108 rfl ?_
      rw [r4]
      refine xp_X0_62 (q := 112) C (by exact ho1) dX0_takes_109 rfl ?_
      refine z_iconst (q := 113) (v := nI 0) C dX0_takes_112 rfl (by decide) ?_
      refine z_is2 (q := 114) C dX0_takes_113 rfl (by first | exact loC_i | exact loC_r | exact loC_n | exact loC_q | exact loC_u) ?_
      refine z_iconst (q := 115) (v := nI 0) C dX0_takes_114 rfl (by decide) ?_
      refine z_is3 (q := 116) C dX0_takes_115 rfl (by first | exact loC_i | exact loC_r | exact loC_n | exact loC_q | exact loC_u) ?_
      exact z_widen (by omega) (by omega) hg
    | cons e R ih =>
      intro P σ1 ad x3 hPR hx3 hO1 h23 hF1 hnum
      have hX1 := hX.keep hF1 (by simp) (by simp)
      have ho1 := hX1.1.1
      have hS1 := hS.keep hF1 (by simp) (by simp) (by simp)
      obtain ⟨ks1, ⟨a1', q1, q2, q3, q4, q5⟩, -⟩ := hS1
      have hat : (k_es c)[P.length]? = some e := by rw [← hPR, List.getElem?_append_right (by omega), Nat.sub_self]; rfl
      obtain ⟨qa, qb⟩ := q5 _ _ hat
      have hPl : P.length < (k_es c).length := (List.getElem?_eq_some_iff.mp hat).1
      obtain ⟨hk, hv⟩ := hI.2.1 e (List.mem_of_getElem? hat)
      have hnd : (P.map (·.1) ++ e.1 :: R.map (·.1)).Nodup := by
        have := hI.1
        unfold k_ks at this
        rw [← hPR, List.map_append] at this
        exact this
      have hnm : e.1 ∉ P.map (·.1) := fun z => (List.nodup_append.mp hnd).2.2 e.1 z e.1 (by simp) rfl
      refine z_il2 (q := 50) C dX0_takes_49 rfl ?_
      first | refine z_al1 (q := 51) C dX0_takes_50 rfl ?_ | refine z_al1q (q := 51) C dX0_takes_50 rfl ?_ | refine z_al1u (q := 51) C dX0_takes_50 rfl ?_
      first | refine xr_X0_188 (q := 54) C (by exact ks1) q1 dX0_takes_51 rfl ?_ | refine xn_X0_188 (q := 54) C (by exact ks1) q1 dX0_takes_51 rfl ?_
      first | refine x_wlen (q := 55) C dX0_takes_54 rfl ?_ | refine x_alen (q := 55) C (by assumption) dX0_takes_54 rfl ?_
      rw [q4]
      refine z_icmp_geN (tgt := 103) (q := 58) C dX0_takes_55 (by decide) rfl (by omega) (by omega) (fun c55 => absurd c55 (by omega)) (fun c55 => ?_)
      refine x_newN (q := 61) (m := 10) C rfl KC1 q349 q350 q88 (by decide) (by omega) (by omega) dX0_takes_58 rfl (fun a58 f58 => ?_)
      have hFo : FG [] [] [] σ1 (nO 2 a58 σ1) := FR.rf.wO f58
      have nk : kd σ1 a1' ≠ 0 := by omega
      have ks2 : kd (nO 2 a58 σ1) s = 6 := hFo.ek ks1
      have q12 : fr (nO 2 a58 σ1) 100 s = some a1' := by rw [hFo.gr (by omega) (by simp)]; exact q1
      have q22 : kd (nO 2 a58 σ1) a1' = 11 := hFo.ek q2
      have q42 : ln (nO 2 a58 σ1) a1' = 2 * (k_es c).length := q4
      have qa2 : ai (nO 2 a58 σ1) a1' (2 * P.length) = nI e.1 := qa
      have qb2 : ai (nO 2 a58 σ1) a1' (2 * P.length + 1) = nI e.2 := qb
      refine z_dup (q := 62) C dX0_takes_61 rfl rfl ?_
      first | refine z_al1 (q := 63) C dX0_takes_62 rfl ?_ | refine z_al1q (q := 63) C dX0_takes_62 rfl ?_ | refine z_al1u (q := 63) C dX0_takes_62 rfl ?_
      first | refine xr_X0_188 (q := 66) C (by exact ks2) q12 dX0_takes_63 rfl ?_ | refine xn_X0_188 (q := 66) C (by exact ks2) q12 dX0_takes_63 rfl ?_
      refine z_il2 (q := 67) C dX0_takes_66 rfl ?_
      refine x_iald (q := 68) C (by exact q22) (by rw [q42]; omega) (by omega) dX0_takes_67 rfl ?_
      rw [qa2]
      first | refine z_al1 (q := 69) C dX0_takes_68 rfl ?_ | refine z_al1q (q := 69) C dX0_takes_68 rfl ?_ | refine z_al1u (q := 69) C dX0_takes_68 rfl ?_
      first | refine xr_X0_188 (q := 72) C (by exact ks2) q12 dX0_takes_69 rfl ?_ | refine xn_X0_188 (q := 72) C (by exact ks2) q12 dX0_takes_69 rfl ?_
      refine z_il2 (q := 73) C dX0_takes_72 rfl ?_
      refine z_iconst (q := 74) (v := nI 1) C dX0_takes_73 rfl (by decide) ?_
      first | refine z_iaddN (q := 75) C dX0_takes_74 rfl ?_ | refine z_iadd (q := 75) C dX0_takes_74 rfl ?_
      refine x_iald (q := 76) C (by exact q22) (by rw [q42]; omega) (by omega) dX0_takes_75 rfl ?_
      rw [qb2]
      refine xc_X0_159 (q := 79) C (cx_entry (d := 0) (σ := nO 2 a58 σ1) (a := a58) (k := e.1) (v := e.2) (if_pos rfl) hk) dX0_takes_76 rfl rfl rfl (Nat.le_of_ble_eq_true rfl) (by first | decide | omega) (by omega) (by omega) (kkN ?_)
      have hadk : (fun x => if x = e.1 then a58 else ad x) e.1 = a58 := if_pos rfl
      have hado : ∀ x, x ≠ e.1 → (fun x => if x = e.1 then a58 else ad x) x = ad x := fun x hx => if_neg hx
      generalize hadd : (fun x => if x = e.1 then a58 else ad x) = ad' at hadk hado
      obtain ⟨hEC, hFn⟩ := new_entry (σ := σ1) (ad := ad') (k := e.1) (v := e.2) hk hv f58 hadk
      have hkn : kd (sI 22 a58 (nI (prio e.1)) (sI 21 a58 (nI e.2) (sI 20 a58 (nI e.1) (nO 2 a58 σ1)))) a58 = 2 := if_pos rfl
      have h20 : fi (sI 22 a58 (nI (prio e.1)) (sI 21 a58 (nI e.2) (sI 20 a58 (nI e.1) (nO 2 a58 σ1)))) 20 a58 = nI e.1 := by have := hEC.2.1; rw [hadk] at this; exact this
      generalize sI 22 a58 (nI (prio e.1)) (sI 21 a58 (nI e.2) (sI 20 a58 (nI e.1) (nO 2 a58 σ1))) = σ2 at *
      have ho2 : kd σ2 (p 0) = 1 := hFn.ek ho1
      have n1 : kd σ1 (p 0) ≠ 0 := by omega
      have g5 : fi σ2 5 (p 0) = nI (k_n c 2) := by rw [hFn.gi n1 (by simp)]; exact hnum.1
      have g6 : fi σ2 6 (p 0) = nI (k_n c 3) := by rw [hFn.gi n1 (by simp)]; exact hnum.2.1
      have ha0 : kd σ a58 = 0 := hF1.z f58
      first | refine z_as3 (q := 80) C dX0_takes_79 rfl (by first | exact loC_i | exact loC_r | exact loC_n | exact loC_q | exact loC_u) ?_ | refine z_as3q (q := 80) C dX0_takes_79 rfl (by first | exact loC_i | exact loC_r | exact loC_n | exact loC_q | exact loC_u) ?_ | refine z_asu3 (q := 80) C dX0_takes_79 rfl (by first | exact loC_i | exact loC_r | exact loC_n | exact loC_q | exact loC_u) ?_
      first | refine z_al3 (q := 81) C dX0_takes_80 rfl ?_ | refine z_al3q (q := 81) C dX0_takes_80 rfl ?_ | refine z_al3u (q := 81) C dX0_takes_80 rfl ?_
      first | refine z_al0 (q := 82) C dX0_takes_81 rfl ?_ | refine z_al0q (q := 82) C dX0_takes_81 rfl ?_ | refine z_al0u (q := 82) C dX0_takes_81 rfl ?_
      first | refine z_al3 (q := 83) C dX0_takes_82 rfl ?_ | refine z_al3q (q := 83) C dX0_takes_82 rfl ?_ | refine z_al3u (q := 83) C dX0_takes_82 rfl ?_
      refine xg_X0_120 (q := 86) C (by exact hkn) dX0_takes_83 rfl ?_
      rw [h20]
      refine xc_X0_73 (q := 89) C (cx_hashOf (d := 0) ho2 g5 g6 hI.2.2.2.2.2.1 hI.2.2.2.2.2.2.1 e.1 hk) (by exact ho2) dX0_takes_86 rfl rfl rfl (Nat.le_of_ble_eq_true rfl) (by first | decide | omega) (by omega) (by omega) (kkE ?_)
      refine xp_X0_105 (q := 92) C (by exact hkn) dX0_takes_89 rfl ?_
      show Zj (wX D) Y (sI 23 a58 (nI (k_h c e.1)) σ2) _ _ _ _ _
      have hFh : FG [23] [] [] σ2 (sI 23 a58 (nI (k_h c e.1)) σ2) := FR.rf.wI (fun _ => by simp)
      have hEC3 := hEC.keep hFh (fun g hg => by rcases hg with rfl | rfl | rfl <;> simp)
      have hO3 : XO ad' (p 0) (sI 23 a58 (nI (k_h c e.1)) σ2) P := ((hO1.keep ho1 hFn (by simp) (by simp)).keep ho2 hFh (by simp) (by simp)).cong (fun x hx => hado _ (fun z => hnm (List.mem_map.mpr ⟨x, hx, z⟩)))
      have ho3 : kd (sI 23 a58 (nI (k_h c e.1)) σ2) (p 0) = 1 := ho2
      have hl := cx_lnk (D := D) (d := 0) (x := e) hO3 ho3 hEC3 hnm (by omega)
      rw [hadk] at hl
      first | refine z_al0 (q := 93) C dX0_takes_92 rfl ?_ | refine z_al0q (q := 93) C dX0_takes_92 rfl ?_ | refine z_al0u (q := 93) C dX0_takes_92 rfl ?_
      first | refine z_al3 (q := 94) C dX0_takes_93 rfl ?_ | refine z_al3q (q := 94) C dX0_takes_93 rfl ?_ | refine z_al3u (q := 94) C dX0_takes_93 rfl ?_
      refine xc_X0_150 (q := 97) C hl (by exact ho3) dX0_takes_94 rfl rfl rfl (Nat.le_of_ble_eq_true rfl) (by first | decide | omega) (by omega) (by omega) (kkV fun σ94 h94 => ?_)
      obtain ⟨hO4, hF4⟩ := h94
      have hFF : FG [4, 5, 6, 7, 8] [2, 3, 24, 25] [] σ σ94 := by
        refine FR.then (FR.then (FR.then hF1 hFn (fun g x hx z => by simp at z) (fun g x hx z => by simp at z) (fun x hx z => by simp at z)) (show FR (fun g x => g = 23 ∧ x = a58) (fun _ _ => False) (fun _ => False) σ2 (sI 23 a58 (nI (k_h c e.1)) σ2) from FR.rf.wI (fun _ => ⟨rfl, rfl⟩)) (fun g x hx z => absurd ha0 (by rw [← z.2]; exact hx)) (fun g x hx z => z.elim) (fun x hx z => z.elim)) hF4 (fun g x hx z => ?_) (fun g x hx z => ?_) (fun x hx z => by simp at z)
        · simp at z; rw [z]; simp
        · exact z
      have hF34 : FG [4, 23] [2, 3, 24, 25] [] σ2 σ94 := (hFh.up (by simp) (by simp) (by simp)).tr (hF4.up (by simp) (by simp) (by simp))
      have n2 : kd σ2 (p 0) ≠ 0 := by omega
      have hg := ih (P ++ [e]) σ94 ad' (some (.ref a58)) (by rw [← hPR]; simp) loC_r hO4 (fun x hx => by
        rcases List.mem_append.mp hx with h | h
        · have hne : ad' x.1 = ad x.1 := hado _ (fun z => hnm (List.mem_map.mpr ⟨x, h, z⟩))
          have hxz : kd σ1 (ad x.1) ≠ 0 := by have := (hO1.2.2 x h).1; omega
          have hxa : ad x.1 ≠ a58 := fun z => hxz (by rw [z]; exact f58)
          refine ⟨?_, by rw [hne]; exact (h23 x h).2⟩
          rw [hne, hF4.gi (by show kd σ2 (ad x.1) ≠ 0; exact hFn.nz hxz) (by simp), fi_sI, if_neg (fun z => hxa z.2), hFn.gi hxz (by simp)]
          exact (h23 x h).1
        · simp at h
          subst h
          refine ⟨?_, by rw [hadk]; exact ha0⟩
          rw [hadk, hF4.gi (by show kd σ2 a58 ≠ 0; omega) (by simp), fi_sI, if_pos ⟨rfl, rfl⟩]) hFF ⟨by rw [hF34.gi n2 (by simp)]; exact g5, by rw [hF34.gi n2 (by simp)]; exact g6, by rw [hF34.gi n2 (by simp), hFn.gi n1 (by simp)]; exact hnum.2.2.1, by rw [hF34.gi n2 (by simp), hFn.gi n1 (by simp)]; exact hnum.2.2.2⟩
      rw [List.length_append] at hg
      have hg : Zj (wX D) Y σ94 (P.length + 1) (10 * (P.length + 1)) 49 [some (.ref (p 0)), some (.ref s), some (.int (nI (2 * (P.length + 1)))), some (.ref a58), none] [] := hg
      refine z_iinc2 (q := 100) C dX0_takes_97 rfl (show nI (2 * P.length) + Int32.ofInt 2 = nI (2 * (P.length + 1)) from nI_add (2 * P.length) 2) (by first | exact loC_i | exact loC_r | exact loC_n | exact loC_q | exact loC_u) ?_
      refine z_goto (tgt := 49) C dX0_takes_100 (by decide) ?_
      exact z_widen (by omega) (by omega) hg
  have hF0 : FG [4, 5, 6, 7, 8] [2, 3, 24, 25] [] σ (sI 4 (p 0) (nI 0) (sR 3 (p 0) none (sR 2 (p 0) none (sI 8 (p 0) (nI (k_n c 5)) (sI 7 (p 0) (nI (k_n c 4)) (sI 6 (p 0) (nI (k_n c 3)) (sI 5 (p 0) (nI (k_n c 2)) σ))))))) := ((((((FR.rf.wI (fun _ => by simp)).wI (fun _ => by simp)).wI (fun _ => by simp)).wI (fun _ => by simp)).wR (fun _ => by simp)).wR (fun _ => by simp)).wI (fun _ => by simp)
  have hO0 : XO (fun _ => 0) (p 0) (sI 4 (p 0) (nI 0) (sR 3 (p 0) none (sR 2 (p 0) none (sI 8 (p 0) (nI (k_n c 5)) (sI 7 (p 0) (nI (k_n c 4)) (sI 6 (p 0) (nI (k_n c 3)) (sI 5 (p 0) (nI (k_n c 2)) σ))))))) [] := XO.nil (by rw [fr_sI, fr_sR, if_neg (fun z => by cases z.1), fr_sR, if_pos ⟨rfl, rfl⟩]) (by rw [fr_sI, fr_sR, if_pos ⟨rfl, rfl⟩]) (by rw [fi_sI, if_pos ⟨rfl, rfl⟩])
  have hg := loop1 (k_es c) [] _ (fun _ => 0) none rfl loC_n hO0 (fun e he => by simp at he) hF0 ⟨by rw [fi_sI, if_neg (fun z => by cases z.1), fi_sR, fi_sR, fi_sI, if_neg (fun z => by cases z.1), fi_sI, if_neg (fun z => by cases z.1), fi_sI, if_neg (fun z => by cases z.1), fi_sI, if_pos ⟨rfl, rfl⟩], by rw [fi_sI, if_neg (fun z => by cases z.1), fi_sR, fi_sR, fi_sI, if_neg (fun z => by cases z.1), fi_sI, if_neg (fun z => by cases z.1), fi_sI, if_pos ⟨rfl, rfl⟩], by rw [fi_sI, if_neg (fun z => by cases z.1), fi_sR, fi_sR, fi_sI, if_neg (fun z => by cases z.1), fi_sI, if_pos ⟨rfl, rfl⟩], by rw [fi_sI, if_neg (fun z => by cases z.1), fi_sR, fi_sR, fi_sI, if_pos ⟨rfl, rfl⟩]⟩
  have hs1 : ∀ g x y, fi (sI g (p 0) y σ) x s = fi σ x s := fun g x y => by rw [fi_sI, if_neg (fun z => hso z.2)]
  first | refine z_al0 (q := 1) C dX0_takes_0 rfl ?_ | refine z_al0q (q := 1) C dX0_takes_0 rfl ?_ | refine z_al0u (q := 1) C dX0_takes_0 rfl ?_
  first | refine z_al1 (q := 2) C dX0_takes_1 rfl ?_ | refine z_al1q (q := 2) C dX0_takes_1 rfl ?_ | refine z_al1u (q := 2) C dX0_takes_1 rfl ?_
  refine xg_X0_204 (q := 5) C (by exact ks) dX0_takes_2 rfl ?_
  rw [f1]
  refine xp_X0_18 (q := 8) C (by exact ho) dX0_takes_5 rfl ?_
  first | refine z_al0 (q := 9) C dX0_takes_8 rfl ?_ | refine z_al0q (q := 9) C dX0_takes_8 rfl ?_ | refine z_al0u (q := 9) C dX0_takes_8 rfl ?_
  first | refine z_al1 (q := 10) C dX0_takes_9 rfl ?_ | refine z_al1q (q := 10) C dX0_takes_9 rfl ?_ | refine z_al1u (q := 10) C dX0_takes_9 rfl ?_
  refine xg_X0_205 (q := 13) C (by exact ks) dX0_takes_10 rfl ?_
  rw [show fi (sI 5 (p 0) (nI (k_n c 2)) σ) 105 s = nI (k_n c 3) from by rw [fi_sI, if_neg (fun z => hso z.2)]; exact f2]
  refine xp_X0_68 (q := 16) C (by exact ho) dX0_takes_13 rfl ?_
  first | refine z_al0 (q := 17) C dX0_takes_16 rfl ?_ | refine z_al0q (q := 17) C dX0_takes_16 rfl ?_ | refine z_al0u (q := 17) C dX0_takes_16 rfl ?_
  first | refine z_al1 (q := 18) C dX0_takes_17 rfl ?_ | refine z_al1q (q := 18) C dX0_takes_17 rfl ?_ | refine z_al1u (q := 18) C dX0_takes_17 rfl ?_
  refine xg_X0_206 (q := 21) C (by exact ks) dX0_takes_18 rfl ?_
  rw [show fi (sI 6 (p 0) (nI (k_n c 3)) (sI 5 (p 0) (nI (k_n c 2)) σ)) 106 s = nI (k_n c 4) from by rw [fi_sI, if_neg (fun z => hso z.2), fi_sI, if_neg (fun z => hso z.2)]; exact f3]
  refine xp_X0_144 (q := 24) C (by exact ho) dX0_takes_21 rfl ?_
  first | refine z_al0 (q := 25) C dX0_takes_24 rfl ?_ | refine z_al0q (q := 25) C dX0_takes_24 rfl ?_ | refine z_al0u (q := 25) C dX0_takes_24 rfl ?_
  first | refine z_al1 (q := 26) C dX0_takes_25 rfl ?_ | refine z_al1q (q := 26) C dX0_takes_25 rfl ?_ | refine z_al1u (q := 26) C dX0_takes_25 rfl ?_
  refine xg_X0_207 (q := 29) C (by exact ks) dX0_takes_26 rfl ?_
  rw [show fi (sI 7 (p 0) (nI (k_n c 4)) (sI 6 (p 0) (nI (k_n c 3)) (sI 5 (p 0) (nI (k_n c 2)) σ))) 107 s = nI (k_n c 5) from by rw [fi_sI, if_neg (fun z => hso z.2), fi_sI, if_neg (fun z => hso z.2), fi_sI, if_neg (fun z => hso z.2)]; exact f4]
  refine xp_X0_166 (q := 32) C (by exact ho) dX0_takes_29 rfl ?_
  first | refine z_al0 (q := 33) C dX0_takes_32 rfl ?_ | refine z_al0q (q := 33) C dX0_takes_32 rfl ?_ | refine z_al0u (q := 33) C dX0_takes_32 rfl ?_
  refine z_null (q := 34) C dX0_takes_33 rfl ?_
  first | refine xpr_X0_140 (q := 37) C (by exact ho) dX0_takes_34 rfl ?_ | refine xpn_X0_140 (q := 37) C (by exact ho) dX0_takes_34 rfl ?_ | refine xp_X0_140 (q := 37) C (by exact ho) dX0_takes_34 rfl ?_
  first | refine z_al0 (q := 38) C dX0_takes_37 rfl ?_ | refine z_al0q (q := 38) C dX0_takes_37 rfl ?_ | refine z_al0u (q := 38) C dX0_takes_37 rfl ?_
  refine z_null (q := 39) C dX0_takes_38 rfl ?_
  first | refine xpr_X0_131 (q := 42) C (by exact ho) dX0_takes_39 rfl ?_ | refine xpn_X0_131 (q := 42) C (by exact ho) dX0_takes_39 rfl ?_ | refine xp_X0_131 (q := 42) C (by exact ho) dX0_takes_39 rfl ?_
  first | refine z_al0 (q := 43) C dX0_takes_42 rfl ?_ | refine z_al0q (q := 43) C dX0_takes_42 rfl ?_ | refine z_al0u (q := 43) C dX0_takes_42 rfl ?_
  refine z_iconst (q := 44) (v := nI 0) C dX0_takes_43 rfl (by decide) ?_
  refine xp_X0_142 (q := 47) C (by exact ho) dX0_takes_44 rfl ?_
  refine z_iconst (q := 48) (v := nI 0) C dX0_takes_47 rfl (by decide) ?_
  refine z_is2 (q := 49) C dX0_takes_48 rfl (by first | exact loC_i | exact loC_r | exact loC_n | exact loC_q | exact loC_u) ?_
  exact hg
set_option maxHeartbeats 1000000 in
theorem cx_back (h : XA false D p σ α) (hA : AI N α) : Ct (wX D) yX0_back cX0_back 1 (some .int) [.ref (p 0)] σ (PI (fun r σ' => r = (a_back α).1 ∧ XA false D p σ' (a_back α).2)) 64 300 1500 := by
  obtain ⟨ad, B, hX, hq, hC, hU, hP, h9, hR⟩ := h.num
  have hM := hX.1
  have ho := hX.1.1
  have hs := hX.sep
  obtain ⟨r16, k5, l5⟩ := hX.2.2.2.2.1
  obtain ⟨r11, kpa, lpa⟩ := hX.2.2.1
  have e12 := hP.2.1
  have h6 := hP.2.2
  refine Ct.of KXok (by decide) (Nat.le_of_ble_eq_true rfl) rfl fun Y C hQ hNm => ?_
  cases hl : (a_ps α).getLast? with
  | none =>
    have e0 : a_back α = (-3, a_rfs α 1) := by unfold a_back; rw [hl]
    rw [e0] at hQ
    have hz : a_ps α = [] := by simpa using hl
    rw [hz] at e12
    have hb := h.rfs hA (i := 1) (by decide)
    have e12 : fi σ 12 (p 0) = nI 0 := e12
    first | refine z_al0 (q := 1) C dX0_back_0 rfl ?_ | refine z_al0q (q := 1) C dX0_back_0 rfl ?_ | refine z_al0u (q := 1) C dX0_back_0 rfl ?_
    refine xg_X0_176 (q := 4) C (by first | exact ho | exact hk | exact hb | exact he | assumption) dX0_back_1 rfl ?_
    rw [e12]
    first | refine z_if_neB (tgt := 12) (q := 7) C dX0_back_4 (by decide) rfl (fun c4 => ?_) (fun c4 => ?_) | refine z_if_ne (tgt := 12) (q := 7) C dX0_back_4 (by decide) rfl (fun c4 => ?_) (fun c4 => ?_)
    · exact absurd rfl c4
    · first | refine z_al0 (q := 8) C dX0_back_7 rfl ?_ | refine z_al0q (q := 8) C dX0_back_7 rfl ?_ | refine z_al0u (q := 8) C dX0_back_7 rfl ?_
      refine xc_X0_290 (q := 11) C (cx_no (d := 0) ho r16 k5 l5) (by first | exact ho | exact hk | exact hb | exact he | assumption | exact Or.inl (by assumption) | exact Or.inr (by assumption)) dX0_back_8 rfl rfl rfl (Nat.le_of_ble_eq_true rfl) (by first | decide | omega) (by omega) (by omega) (kkE ?_)
      refine z_iret C hQ dX0_back_11 (by omega) (by omega) ?_
      exact ⟨_, rfl, rfl, hb⟩
  | some c =>
    have e0 : a_back α = (nI ((a_ps α).length - 1), (c, (a_ps α).dropLast, a_rf α, a_ch α + 1, a_tx α, a_cu α)) := by unfold a_back; rw [hl]
    rw [e0] at hQ
    have hlen : 1 ≤ (a_ps α).length := by
      rcases Nat.eq_zero_or_pos (a_ps α).length with z | z
      · rw [List.eq_nil_of_length_eq_zero z] at hl; cases hl
      · exact z
    have hat : (a_ps α)[(a_ps α).length - 1]? = some c := by rw [← List.getLast?_eq_getElem?]; exact hl
    obtain ⟨hcI, hc48⟩ := hA.2.2.1 c (List.mem_of_getElem? hat)
    obtain ⟨s, har, hS⟩ := hP.1 _ _ hat
    have hF1 : FG [12] [] [] σ (sI 12 (p 0) (nI ((a_ps α).length - 1)) σ) := FR.rf.wI (fun _ => by simp)
    have hX1 := hX.keep hF1 (by simp) (by simp)
    have hS1 := hS.keep hF1 (by simp) (by simp) (by simp)
    have e121 : fi (sI 12 (p 0) (nI ((a_ps α).length - 1)) σ) 12 (p 0) = nI ((a_ps α).length - 1) := by rw [fi_sI, if_pos ⟨rfl, rfl⟩]
    have hP1 : XP p (sI 12 (p 0) (nI ((a_ps α).length - 1)) σ) (a_ps α).dropLast := by
      refine ⟨fun j c' hj => ?_, by rw [e121, List.length_dropLast], by rw [List.length_dropLast]; omega⟩
      have hjl := (List.getElem?_eq_some_iff.mp hj).1
      rw [List.length_dropLast] at hjl
      rw [List.getElem?_dropLast, if_pos hjl] at hj
      obtain ⟨s', hs', hS'⟩ := hP.1 j c' hj
      exact ⟨s', hs', hS'.keep hF1 (by simp) (by simp) (by simp)⟩
    have n0 : kd σ (p 0) ≠ 0 := by omega
    first | refine z_al0 (q := 1) C dX0_back_0 rfl ?_ | refine z_al0q (q := 1) C dX0_back_0 rfl ?_ | refine z_al0u (q := 1) C dX0_back_0 rfl ?_
    refine xg_X0_176 (q := 4) C (by first | exact ho | exact hk | exact hb | exact he | assumption) dX0_back_1 rfl ?_
    rw [e12]
    refine z_if_ne (tgt := 12) (q := 7) C dX0_back_4 (by decide) rfl (fun c4 => ?_) (fun c4 => ?_)
    · first | refine z_al0 (q := 13) C dX0_back_12 rfl ?_ | refine z_al0q (q := 13) C dX0_back_12 rfl ?_ | refine z_al0u (q := 13) C dX0_back_12 rfl ?_
      refine z_dup (q := 14) C dX0_back_13 rfl rfl ?_
      refine xg_X0_176 (q := 17) C (by first | exact ho | exact hk | exact hb | exact he | assumption) dX0_back_14 rfl ?_
      rw [e12]
      refine z_iconst (q := 18) (v := nI 1) C dX0_back_17 rfl (by decide) ?_
      refine z_isubN (q := 19) C dX0_back_18 rfl hlen ?_
      refine xp_X0_176 (q := 22) C (by first | exact ho | exact hk | exact hb | exact he | assumption) dX0_back_19 rfl ?_
      generalize hσ1 : sI 12 (p 0) (nI ((a_ps α).length - 1)) σ = σ1 at *
      have ho1 := hX1.1.1
      have har1 : ar σ1 (p 3) ((a_ps α).length - 1) = some s := by rw [← hσ1]; exact har
      have r111 := hX1.2.2.1.1
      have kpa1 := hX1.2.2.1.2.1
      have lpa1 := hX1.2.2.1.2.2
      first | refine z_al0 (q := 23) C dX0_back_22 rfl ?_ | refine z_al0q (q := 23) C dX0_back_22 rfl ?_ | refine z_al0u (q := 23) C dX0_back_22 rfl ?_
      first | refine z_al0 (q := 24) C dX0_back_23 rfl ?_ | refine z_al0q (q := 24) C dX0_back_23 rfl ?_ | refine z_al0u (q := 24) C dX0_back_23 rfl ?_
      first | refine xr_X0_31 (q := 27) C (by exact ho1) (by assumption) dX0_back_24 rfl ?_ | refine xn_X0_31 (q := 27) C (by exact ho1) (by assumption) dX0_back_24 rfl ?_ | refine xg_X0_31 (q := 27) C (by exact ho1) dX0_back_24 rfl ?_
      first | refine z_al0 (q := 28) C dX0_back_27 rfl ?_ | refine z_al0q (q := 28) C dX0_back_27 rfl ?_ | refine z_al0u (q := 28) C dX0_back_27 rfl ?_
      refine xg_X0_176 (q := 31) C (by exact ho1) dX0_back_28 rfl ?_
      rw [e121]
      refine x_aald (q := 32) C 5 (by decide) (by decide) (by assumption) (by rw [lpa1]; omega) (by omega) dX0_back_31 rfl ?_
      rw [har1]
      refine xc_X0_359 (q := 35) C (cx_takesS hX1 hS1 hcI hc48) (by exact ho1) dX0_back_32 rfl rfl rfl (Nat.le_of_ble_eq_true rfl) (by first | decide | omega) (by omega) (by omega) (kkV fun σ32 h32 => ?_)
      obtain ⟨⟨ad2, B2, hC2⟩, hF2⟩ := h32
      have hX2 := hX1.keep hF2 (by simp) (by simp; exact hs.2.2.2.2.2.1.symm)
      have ho2 := hX2.1.1
      have n1 : kd σ1 (p 0) ≠ 0 := by omega
      have h92 : fi σ32 9 (p 0) = nI (a_ch α) := by rw [hF2.gi n1 (by simp), hF1.gi n0 (by simp)]; exact h9
      have hF3 : FG [9] [] [] σ32 (sI 9 (p 0) (nI (a_ch α + 1)) σ32) := FR.rf.wI (fun _ => by simp)
      have e123 : fi (sI 9 (p 0) (nI (a_ch α + 1)) σ32) 12 (p 0) = nI ((a_ps α).length - 1) := by rw [fi_sI, if_neg (fun z => by cases z.1), hF2.gi n1 (by simp)]; exact e121
      first | refine z_al0 (q := 36) C dX0_back_35 rfl ?_ | refine z_al0q (q := 36) C dX0_back_35 rfl ?_ | refine z_al0u (q := 36) C dX0_back_35 rfl ?_
      refine z_dup (q := 37) C dX0_back_36 rfl rfl ?_
      refine xg_X0_153 (q := 40) C (by exact ho2) dX0_back_37 rfl ?_
      rw [h92]
      refine z_iconst (q := 41) (v := nI 1) C dX0_back_40 rfl (by decide) ?_
      first | refine z_iaddN (q := 42) C dX0_back_41 rfl ?_ | refine z_iadd (q := 42) C dX0_back_41 rfl ?_
      refine xp_X0_153 (q := 45) C (by exact ho2) dX0_back_42 rfl ?_
      first | refine z_al0 (q := 46) C dX0_back_45 rfl ?_ | refine z_al0q (q := 46) C dX0_back_45 rfl ?_ | refine z_al0u (q := 46) C dX0_back_45 rfl ?_
      refine xg_X0_176 (q := 49) C (by exact ho2) dX0_back_46 rfl ?_
      rw [e123]
      refine z_iret C hQ dX0_back_49 (by omega) (by omega) ?_
      exact ⟨_, rfl, rfl, XA.core hX hq hU hR hA ((hF1.up (by simp) (by simp) (by simp)).tr ((hF2.up (by simp) (by simp) (by simp)).tr (hF3.up (by simp) (by simp) (by simp)))) (hC2.keep hX2.1 hF3 (by simp) (by simp) (by simp)) ((hP1.keep hX1 hF2 (by simp) (by simp) (by simp; exact hs.1) (by simp)).keep hX2 hF3 (by simp) (by simp) (by simp) (by simp)) (by rw [fi_sI, if_pos ⟨rfl, rfl⟩]) (Or.inl (by decide))⟩
    · exact absurd c4 (fun z => by
        have := congrArg Int32.toInt z
        rw [nI_toInt (by omega)] at this
        have h2 : (0 : Int32).toInt = 0 := by decide
        omega)
end T83
