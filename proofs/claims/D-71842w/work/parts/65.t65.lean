/-! THE CLASS: keys are looked for; bins become empty -/
set_option maxRecDepth 10000
def fnd (ad : Nat → Nat) (L : List Nat) (k : Nat) : Option Nat := if k ∈ L then some (ad k) else none
theorem XB.keep {ad : Nat → Nat} {o bs : Nat} {σ σ' : Sg} {B : Nat → Nat} {c : Co} {li lr la : List Nat} (h : XB ad o bs σ B c) (hM : MO o bs σ) (hF : FG li lr la σ σ') (h1 : ∀ g ∈ [1, 5, 6, 20, 22, 23, 42], g ∉ li) (h2 : ∀ g ∈ [26, 27, 28, 29, 40, 41, 60], g ∉ lr) (h3 : bs ∉ la) : XB ad o bs σ' B c := by
  obtain ⟨a1, a2, a3, a4, a5, a6⟩ := h
  have hn : kd σ o ≠ 0 := by have := hM.1; omega
  refine ⟨a1.keep hF (fun k hk g hg => h1 g (by rcases hg with rfl | rfl | rfl <;> simp)), a2.keep hF hM.2.2.1 h3 (fun x hx => ⟨h1 42 (by simp), fun g hg => h2 g (by rcases hg with rfl | rfl | rfl <;> simp)⟩) (fun x hx k hk => ⟨a1.nz k (List.mem_filter.mp hk).1, fun g g1 g2 => h2 g (by simp; omega)⟩), fun x hx hx2 => ?_, ?_, ?_, ?_⟩
  · rw [(hF.2.2.2 bs (by have := hM.2.2.1; omega) h3).2]; exact a3 x hx hx2
  · rw [hF.gi hn (h1 1 (by simp))]; exact a4
  · rw [hF.gi hn (h1 5 (by simp))]; exact a5
  · rw [hF.gi hn (h1 6 (by simp))]; exact a6
theorem XB.row {ad : Nat → Nat} {o bs : Nat} {σ : Sg} {B : Nat → Nat} {c : Co} (h : XB ad o bs σ B c) (b : Nat) : EN ad (k_h c) σ (k_row c b) := h.1.sub fun k hk => (List.mem_filter.mp hk).1
theorem row_mem {c : Co} {k : Nat} : k ∈ k_row c (k_b c k) ↔ k ∈ k_cs c := by
  unfold k_row
  rw [List.mem_filter]
  simp
section T65
variable {D : Dx} {ad hs : Nat → Nat} {σ : Sg} {b : Nat} {L : List Nat} {t : Bool} {d : Nat}
theorem cx_finds3 {x : Int32} {key : Nat} (hw : RW ad hs σ b L t) (hE : EN ad hs σ L) (hk : key ≤ 999999) (h3 : kd σ b = 3) : Ct (wX D) yX4_finds cX4_finds 4 (some (.object "CrowdedBins$Entry")) [.ref b, .int x, .int (nI key)] σ (PE (some (va_rf (fnd ad L key))) σ) (d + 1) 0 0 := by
  refine Ct.of KXok (by decide) (Nat.le_of_ble_eq_true rfl) rfl fun Y C hQ hNm => ?_
  have loop : ∀ (R : List Nat) (r : Option Nat), (∀ x ∈ R, x ∈ L) → CH ad (fr σ 27) R r → fnd ad R key = fnd ad L key → Zj (wX D) Y σ 0 0 5 [some (.ref b), some (.int x), some (.int (nI key)), some (va_rf r)] [] := by
    intro R
    induction R with
    | nil =>
      intro r hs' hc hf
      have hc : r = none := hc
      subst hc
      show Zj _ _ _ _ _ _ [some (.ref b), some (.int x), some (.int (nI key)), some .null] []
      first | refine z_al3 (q := 6) C dX4_finds_5 rfl ?_ | refine z_al3q (q := 6) C dX4_finds_5 rfl ?_ | refine z_al3u (q := 6) C dX4_finds_5 rfl ?_
      refine z_ifnull_u (tgt := 25) C dX4_finds_6 (by decide) ?_
      first | refine z_al3 (q := 26) C dX4_finds_25 rfl ?_ | refine z_al3q (q := 26) C dX4_finds_25 rfl ?_ | refine z_al3u (q := 26) C dX4_finds_25 rfl ?_
      first | refine z_aret C hQ (Or.inl ⟨_, rfl⟩) dX4_finds_26 (by omega) (by omega) ?_ | refine z_aret (r := some _) C hQ (Or.inl ⟨_, rfl⟩) dX4_finds_26 (by omega) (by omega) ?_ | refine z_aret (r := none) C hQ (Or.inl ⟨_, rfl⟩) dX4_finds_26 (by omega) (by omega) ?_
      exact ⟨by rw [← hf]; rfl, rfl⟩
    | cons k R ih =>
      intro r hs' hc hf
      obtain ⟨rfl, hc⟩ := hc
      obtain ⟨hkd, e20, -, -, e5, -⟩ := hE k (hs' k (by simp))
      show Zj _ _ _ _ _ _ [some (.ref b), some (.int x), some (.int (nI key)), some (.ref (ad k))] []
      first | refine z_al3 (q := 6) C dX4_finds_5 rfl ?_ | refine z_al3q (q := 6) C dX4_finds_5 rfl ?_ | refine z_al3u (q := 6) C dX4_finds_5 rfl ?_
      refine z_ifnull_r (q := 9) C dX4_finds_6 rfl ?_
      first | refine z_al3 (q := 10) C dX4_finds_9 rfl ?_ | refine z_al3q (q := 10) C dX4_finds_9 rfl ?_ | refine z_al3u (q := 10) C dX4_finds_9 rfl ?_
      refine xg_X4_13 (q := 13) C (by exact hkd) dX4_finds_10 rfl ?_
      rw [e20]
      refine z_il2 (q := 14) C dX4_finds_13 rfl ?_
      refine z_icmp_eqN (tgt := 25) (q := 17) C dX4_finds_14 (by decide) rfl (by omega) (by omega) (fun c14 => ?_) (fun c14 => ?_)
      · subst c14
        first | refine z_al3 (q := 26) C dX4_finds_25 rfl ?_ | refine z_al3q (q := 26) C dX4_finds_25 rfl ?_ | refine z_al3u (q := 26) C dX4_finds_25 rfl ?_
        first | refine z_aret C hQ (Or.inl ⟨_, rfl⟩) dX4_finds_26 (by omega) (by omega) ?_ | refine z_aret (r := some _) C hQ (Or.inl ⟨_, rfl⟩) dX4_finds_26 (by omega) (by omega) ?_ | refine z_aret (r := none) C hQ (Or.inl ⟨_, rfl⟩) dX4_finds_26 (by omega) (by omega) ?_
        exact ⟨by rw [← hf]; unfold fnd; rw [if_pos (by simp)], rfl⟩
      · have hg := ih (fr σ 27 (ad k)) (fun x hx => hs' x (by simp [hx])) hc (by rw [← hf]; unfold fnd; simp [Ne.symm c14])
        first | refine z_al3 (q := 18) C dX4_finds_17 rfl ?_ | refine z_al3q (q := 18) C dX4_finds_17 rfl ?_ | refine z_al3u (q := 18) C dX4_finds_17 rfl ?_
        refine xg_X4_19 (q := 21) C (by exact hkd) dX4_finds_18 rfl ?_
        first | refine z_as3 (q := 22) C dX4_finds_21 rfl (by first | exact loC_i | exact loC_r | exact loC_n | exact loC_q | exact loC_u) ?_ | refine z_as3q (q := 22) C dX4_finds_21 rfl (by first | exact loC_i | exact loC_r | exact loC_n | exact loC_q | exact loC_u) ?_ | refine z_asu3 (q := 22) C dX4_finds_21 rfl (by first | exact loC_i | exact loC_r | exact loC_n | exact loC_q | exact loC_u) ?_
        refine z_goto (tgt := 5) C dX4_finds_22 (by decide) ?_
        exact hg
  first | refine z_al0 (q := 1) C dX4_finds_0 rfl ?_ | refine z_al0q (q := 1) C dX4_finds_0 rfl ?_ | refine z_al0u (q := 1) C dX4_finds_0 rfl ?_
  refine xc_X4_7 (q := 4) C (cx_first (d := d) (Or.inl h3)) (by exact h3) dX4_finds_1 rfl rfl rfl (Nat.le_of_ble_eq_true rfl) (by first | decide | omega) (by omega) (by omega) (kkE ?_)
  first | refine z_as3 (q := 5) C dX4_finds_4 rfl (by first | exact loC_i | exact loC_r | exact loC_n | exact loC_q | exact loC_u) ?_ | refine z_as3q (q := 5) C dX4_finds_4 rfl (by first | exact loC_i | exact loC_r | exact loC_n | exact loC_q | exact loC_u) ?_ | refine z_asu3 (q := 5) C dX4_finds_4 rfl (by first | exact loC_i | exact loC_r | exact loC_n | exact loC_q | exact loC_u) ?_
  exact loop L _ (fun x hx => hx) hw.2.2.1.ch rfl
theorem cx_finds4 {key : Nat} (hw : RW ad hs σ b L t) (hE : EN ad hs σ L) (hk : key ≤ 999999) (hh : hs key < 65536) (h4 : kd σ b = 4) : Ct (wX D) yX8_finds cX8_finds 4 (some (.object "CrowdedBins$Entry")) [.ref b, .int (nI (hs key)), .int (nI key)] σ (PE (some (va_rf (fnd ad L key))) σ) (d + 1) 0 0 := by
  have ht : t = true := by
    have := hw.1
    cases t
    · rw [h4] at this; cases this
    · rfl
  subst ht
  obtain ⟨M, m1, m2, m3⟩ := hw.2.2.2 rfl
  refine Ct.of KXok (by decide) (Nat.le_of_ble_eq_true rfl) rfl fun Y C hQ hNm => ?_
  have loop : ∀ (n : Nat) (R : List Nat) (r : Option Nat), (∀ x ∈ R, x ∈ L) → R.Pairwise (tlt hs) → TT ad (fr σ 28) (fr σ 29) n R r → fnd ad R key = fnd ad L key → Zj (wX D) Y σ 0 0 5 [some (.ref b), some (.int (nI (hs key))), some (.int (nI key)), some (va_rf r)] [] := by
    intro n
    induction n with
    | zero =>
      intro R r hs' hp hT hf
      obtain ⟨rfl, rfl⟩ := hT
      show Zj _ _ _ _ _ _ [some (.ref b), some (.int (nI (hs key))), some (.int (nI key)), some .null] []
      first | refine z_al3 (q := 6) C dX8_finds_5 rfl ?_ | refine z_al3q (q := 6) C dX8_finds_5 rfl ?_ | refine z_al3u (q := 6) C dX8_finds_5 rfl ?_
      refine z_ifnull_u (tgt := 41) C dX8_finds_6 (by decide) ?_
      first | refine z_al3 (q := 42) C dX8_finds_41 rfl ?_ | refine z_al3q (q := 42) C dX8_finds_41 rfl ?_ | refine z_al3u (q := 42) C dX8_finds_41 rfl ?_
      first | refine z_aret C hQ (Or.inl ⟨_, rfl⟩) dX8_finds_42 (by omega) (by omega) ?_ | refine z_aret (r := some _) C hQ (Or.inl ⟨_, rfl⟩) dX8_finds_42 (by omega) (by omega) ?_ | refine z_aret (r := none) C hQ (Or.inl ⟨_, rfl⟩) dX8_finds_42 (by omega) (by omega) ?_
      exact ⟨by rw [← hf]; rfl, rfl⟩
    | succ n ih =>
      intro R r hs' hp hT hf
      cases r with
      | none =>
        obtain rfl := hT.of_none
        show Zj _ _ _ _ _ _ [some (.ref b), some (.int (nI (hs key))), some (.int (nI key)), some .null] []
        first | refine z_al3 (q := 6) C dX8_finds_5 rfl ?_ | refine z_al3q (q := 6) C dX8_finds_5 rfl ?_ | refine z_al3u (q := 6) C dX8_finds_5 rfl ?_
        refine z_ifnull_u (tgt := 41) C dX8_finds_6 (by decide) ?_
        first | refine z_al3 (q := 42) C dX8_finds_41 rfl ?_ | refine z_al3q (q := 42) C dX8_finds_41 rfl ?_ | refine z_al3u (q := 42) C dX8_finds_41 rfl ?_
        first | refine z_aret C hQ (Or.inl ⟨_, rfl⟩) dX8_finds_42 (by omega) (by omega) ?_ | refine z_aret (r := some _) C hQ (Or.inl ⟨_, rfl⟩) dX8_finds_42 (by omega) (by omega) ?_ | refine z_aret (r := none) C hQ (Or.inl ⟨_, rfl⟩) dX8_finds_42 (by omega) (by omega) ?_
        exact ⟨by rw [← hf]; rfl, rfl⟩
      | some a =>
        obtain ⟨m, A, k, B, hm, rfl, rfl, -, -, t1, t2⟩ := hT.of_some
        obtain rfl : n = m := by omega
        obtain ⟨hkd, e20, -, e23, e5, e6⟩ := hE k (hs' k (by simp))
        have hpp := List.pairwise_append.mp hp
        have hpc := List.pairwise_cons.mp hpp.2.1
        show Zj _ _ _ _ _ _ [some (.ref b), some (.int (nI (hs key))), some (.int (nI key)), some (.ref (ad k))] []
        first | refine z_al3 (q := 6) C dX8_finds_5 rfl ?_ | refine z_al3q (q := 6) C dX8_finds_5 rfl ?_ | refine z_al3u (q := 6) C dX8_finds_5 rfl ?_
        refine z_ifnull_r (q := 9) C dX8_finds_6 rfl ?_
        first | refine z_al3 (q := 10) C dX8_finds_9 rfl ?_ | refine z_al3q (q := 10) C dX8_finds_9 rfl ?_ | refine z_al3u (q := 10) C dX8_finds_9 rfl ?_
        refine xg_X8_41 (q := 13) C (by exact hkd) dX8_finds_10 rfl ?_
        rw [e20]
        refine z_il2 (q := 14) C dX8_finds_13 rfl ?_
        refine z_icmp_eqN (tgt := 41) (q := 17) C dX8_finds_14 (by decide) rfl (by omega) (by omega) (fun c14 => ?_) (fun c14 => ?_)
        · subst c14
          first | refine z_al3 (q := 42) C dX8_finds_41 rfl ?_ | refine z_al3q (q := 42) C dX8_finds_41 rfl ?_ | refine z_al3u (q := 42) C dX8_finds_41 rfl ?_
          first | refine z_aret C hQ (Or.inl ⟨_, rfl⟩) dX8_finds_42 (by omega) (by omega) ?_ | refine z_aret (r := some _) C hQ (Or.inl ⟨_, rfl⟩) dX8_finds_42 (by omega) (by omega) ?_ | refine z_aret (r := none) C hQ (Or.inl ⟨_, rfl⟩) dX8_finds_42 (by omega) (by omega) ?_
          exact ⟨by rw [← hf]; unfold fnd; rw [if_pos (by simp)], rfl⟩
        · first | refine z_al3 (q := 18) C dX8_finds_17 rfl ?_ | refine z_al3q (q := 18) C dX8_finds_17 rfl ?_ | refine z_al3u (q := 18) C dX8_finds_17 rfl ?_
          refine z_il1 (q := 19) C dX8_finds_18 rfl ?_
          refine z_il2 (q := 20) C dX8_finds_19 rfl ?_
          refine xc_X8_44 (q := 23) C (cx_place (d := d) hkd e23 e20 e6 hh (by omega) (by omega)) (by exact hkd) dX8_finds_20 rfl rfl rfl (Nat.le_of_ble_eq_true rfl) (by first | decide | omega) (by omega) (by omega) (kkI fun r20 σ20 h20 => ?_)
          obtain ⟨e20', hpl⟩ := h20
          rw [e20']
          refine z_if_ge (tgt := 33) (q := 26) C dX8_finds_23 (by decide) rfl (fun c23 => ?_) (fun c23 => ?_)
          · have hnl : ¬ tlt hs key k := fun z => absurd (hpl.mpr z) (Int32.not_lt.mpr c23)
            have hg := ih B (fr σ 29 (ad k)) (fun x hx => hs' x (by simp [hx])) hpc.2 t2 (by
              rw [← hf]
              unfold fnd
              have : key ∉ A := fun z => hnl (hpp.2.2 key z k (by simp))
              simp [this, Ne.symm c14])
            first | refine z_al3 (q := 34) C dX8_finds_33 rfl ?_ | refine z_al3q (q := 34) C dX8_finds_33 rfl ?_ | refine z_al3u (q := 34) C dX8_finds_33 rfl ?_
            refine xg_X8_51 (q := 37) C (by exact hkd) dX8_finds_34 rfl ?_
            first | refine z_as3 (q := 38) C dX8_finds_37 rfl (by first | exact loC_i | exact loC_r | exact loC_n | exact loC_q | exact loC_u) ?_ | refine z_as3q (q := 38) C dX8_finds_37 rfl (by first | exact loC_i | exact loC_r | exact loC_n | exact loC_q | exact loC_u) ?_ | refine z_asu3 (q := 38) C dX8_finds_37 rfl (by first | exact loC_i | exact loC_r | exact loC_n | exact loC_q | exact loC_u) ?_
            refine z_goto (tgt := 5) C dX8_finds_38 (by decide) ?_
            exact hg
          · have hlt : tlt hs key k := hpl.mp (Int32.not_le.mp c23)
            have hg := ih A (fr σ 28 (ad k)) (fun x hx => hs' x (by simp [hx])) hpp.1 t1 (by
              rw [← hf]
              unfold fnd
              have : key ∉ B := fun z => by
                have := hpc.1 key z
                unfold tlt at this hlt
                omega
              simp [this, Ne.symm c14])
            first | refine z_al3 (q := 27) C dX8_finds_26 rfl ?_ | refine z_al3q (q := 27) C dX8_finds_26 rfl ?_ | refine z_al3u (q := 27) C dX8_finds_26 rfl ?_
            refine xg_X8_48 (q := 30) C (by exact hkd) dX8_finds_27 rfl ?_
            refine z_goto (tgt := 37) C dX8_finds_30 (by decide) ?_
            first | refine z_as3 (q := 38) C dX8_finds_37 rfl (by first | exact loC_i | exact loC_r | exact loC_n | exact loC_q | exact loC_u) ?_ | refine z_as3q (q := 38) C dX8_finds_37 rfl (by first | exact loC_i | exact loC_r | exact loC_n | exact loC_q | exact loC_u) ?_ | refine z_asu3 (q := 38) C dX8_finds_37 rfl (by first | exact loC_i | exact loC_r | exact loC_n | exact loC_q | exact loC_u) ?_
            refine z_goto (tgt := 5) C dX8_finds_38 (by decide) ?_
            exact hg
  first | refine z_al0 (q := 1) C dX8_finds_0 rfl ?_ | refine z_al0q (q := 1) C dX8_finds_0 rfl ?_ | refine z_al0u (q := 1) C dX8_finds_0 rfl ?_
  refine xg_X8_11 (q := 4) C (by exact h4) dX8_finds_1 rfl ?_
  first | refine z_as3 (q := 5) C dX8_finds_4 rfl (by first | exact loC_i | exact loC_r | exact loC_n | exact loC_q | exact loC_u) ?_ | refine z_as3q (q := 5) C dX8_finds_4 rfl (by first | exact loC_i | exact loC_r | exact loC_n | exact loC_q | exact loC_u) ?_ | refine z_asu3 (q := 5) C dX8_finds_4 rfl (by first | exact loC_i | exact loC_r | exact loC_n | exact loC_q | exact loC_u) ?_
  exact loop M.length M _ (fun x hx => m1.mem_iff.mp hx) m2 m3 (by unfold fnd; simp only [m1.mem_iff])
variable {o bs : Nat} {B : Nat → Nat} {c : Co}
theorem cx_binWith (hM : MO o bs σ) (hX : XB ad o bs σ B c) (hI : CI c) {k : Nat} (hk : k ≤ 999999) : Ct (wX D) yX0_binWith cX0_binWith 2 (some (.object "CrowdedBins$Bin")) [.ref o, .int (nI k)] σ (PE (some (.ref (B (k_b c k)))) σ) (d + 1) 0 0 := by
  obtain ⟨j, hj3, hj6, hjn⟩ := hI.2.2.2.2.1
  obtain ⟨ho, h0, hbk, hln⟩ := id hM
  have hb := k_b_lt hI k
  have hw := hI.w
  have e1 : fi σ 1 o = nI (2 ^ j) := by rw [← hjn]; exact hX.2.2.2.1
  have hab := (hX.2.1.1 _ hb).2.1
  have hbe : k_b c k = hsh (k_n c 2) (k_n c 3) k % 2 ^ j := by rw [← hjn]; rfl
  refine Ct.of KXok (by decide) (Nat.le_of_ble_eq_true rfl) rfl fun Y C hQ hNm => ?_
  first | refine z_al0 (q := 1) C dX0_binWith_0 rfl ?_ | refine z_al0q (q := 1) C dX0_binWith_0 rfl ?_ | refine z_al0u (q := 1) C dX0_binWith_0 rfl ?_
  first | refine xr_X0_14 (q := 4) C (by first | exact ho | exact hk | exact hb | exact he | assumption) (by assumption) dX0_binWith_1 rfl ?_ | refine xn_X0_14 (q := 4) C (by first | exact ho | exact hk | exact hb | exact he | assumption) (by assumption) dX0_binWith_1 rfl ?_ | refine xg_X0_14 (q := 4) C (by first | exact ho | exact hk | exact hb | exact he | assumption) dX0_binWith_1 rfl ?_
  first | refine z_al0 (q := 5) C dX0_binWith_4 rfl ?_ | refine z_al0q (q := 5) C dX0_binWith_4 rfl ?_ | refine z_al0u (q := 5) C dX0_binWith_4 rfl ?_
  first | refine z_al0 (q := 6) C dX0_binWith_5 rfl ?_ | refine z_al0q (q := 6) C dX0_binWith_5 rfl ?_ | refine z_al0u (q := 6) C dX0_binWith_5 rfl ?_
  refine z_il1 (q := 7) C dX0_binWith_6 rfl ?_
  refine xc_X0_73 (q := 10) C (cx_hashOf (d := d) ho hX.2.2.2.2.1 hX.2.2.2.2.2 hI.2.2.2.2.2.1 hI.2.2.2.2.2.2.1 k hk) (by first | exact ho | exact hk | exact hb | exact he | assumption | exact Or.inl (by assumption) | exact Or.inr (by assumption)) dX0_binWith_7 rfl rfl rfl (Nat.le_of_ble_eq_true rfl) (by first | decide | omega) (by omega) (by omega) (kkE ?_)
  refine xc_X0_77 (q := 13) C (cx_binOf (d := d) ho e1 hj6 _ (hsh_lt _ _ _)) (by first | exact ho | exact hk | exact hb | exact he | assumption | exact Or.inl (by assumption) | exact Or.inr (by assumption)) dX0_binWith_10 rfl rfl rfl (Nat.le_of_ble_eq_true rfl) (by first | decide | omega) (by omega) (by omega) (kkE ?_)
  rw [← hbe]
  refine x_aald (q := 14) C 3 (by decide) (by decide) (by assumption) (by rw [hln]; omega) (by omega) dX0_binWith_13 rfl ?_
  rw [hab]
  first | refine z_aret C hQ (Or.inl ⟨_, rfl⟩) dX0_binWith_14 (by omega) (by omega) ?_ | refine z_aret (r := some _) C hQ (Or.inl ⟨_, rfl⟩) dX0_binWith_14 (by omega) (by omega) ?_ | refine z_aret (r := none) C hQ (Or.inl ⟨_, rfl⟩) dX0_binWith_14 (by omega) (by omega) ?_
  exact ⟨rfl, rfl⟩
theorem cx_found (hM : MO o bs σ) (hX : XB ad o bs σ B c) (hI : CI c) {k : Nat} (hk : k ≤ 999999) : Ct (wX D) yX0_found cX0_found 2 (some (.object "CrowdedBins$Entry")) [.ref o, .int (nI k)] σ (PE (some (va_rf (fnd ad (k_cs c) k))) σ) (d + 2) 0 0 := by
  have ho := hM.1
  have hb := k_b_lt hI k
  have hw := (hX.2.1.1 _ hb).2.2
  have hf : fnd ad (k_cs c) k = fnd ad (k_row c (k_b c k)) k := by unfold fnd; simp only [row_mem]
  have hk34 := hw.k34
  rw [hf]
  refine Ct.of KXok (by decide) (Nat.le_of_ble_eq_true rfl) rfl fun Y C hQ hNm => ?_
  first | refine z_al0 (q := 1) C dX0_found_0 rfl ?_ | refine z_al0q (q := 1) C dX0_found_0 rfl ?_ | refine z_al0u (q := 1) C dX0_found_0 rfl ?_
  refine z_il1 (q := 2) C dX0_found_1 rfl ?_
  refine xc_X0_80 (q := 5) C (cx_binWith (d := d) hM hX hI hk) (by first | exact ho | exact hk | exact hb | exact he | assumption | exact Or.inl (by assumption) | exact Or.inr (by assumption)) dX0_found_2 rfl rfl rfl (Nat.le_of_ble_eq_true rfl) (by first | decide | omega) (by omega) (by omega) (kkE ?_)
  first | refine z_al0 (q := 6) C dX0_found_5 rfl ?_ | refine z_al0q (q := 6) C dX0_found_5 rfl ?_ | refine z_al0u (q := 6) C dX0_found_5 rfl ?_
  refine z_il1 (q := 7) C dX0_found_6 rfl ?_
  refine xc_X0_73 (q := 10) C (cx_hashOf (d := d) ho hX.2.2.2.2.1 hX.2.2.2.2.2 hI.2.2.2.2.2.1 hI.2.2.2.2.2.2.1 k hk) (by first | exact ho | exact hk | exact hb | exact he | assumption | exact Or.inl (by assumption) | exact Or.inr (by assumption)) dX0_found_7 rfl rfl rfl (Nat.le_of_ble_eq_true rfl) (by first | decide | omega) (by omega) (by omega) (kkE ?_)
  refine z_il1 (q := 11) C dX0_found_10 rfl ?_
  refine xc_X0_84 (q := 14) C (fun h => cx_finds3 (d := d) hw (hX.row _) hk h) (fun h => cx_finds4 (d := d) hw (hX.row _) hk (k_h_lt c k) h) (by exact hk34) dX0_found_11 rfl rfl rfl (Nat.le_of_ble_eq_true rfl) (by first | decide | omega) (by omega) (by omega) (kkE ?_)
  first | refine z_aret C hQ (Or.inl ⟨_, rfl⟩) dX0_found_14 (by omega) (by omega) ?_ | refine z_aret (r := some _) C hQ (Or.inl ⟨_, rfl⟩) dX0_found_14 (by omega) (by omega) ?_ | refine z_aret (r := none) C hQ (Or.inl ⟨_, rfl⟩) dX0_found_14 (by omega) (by omega) ?_
  exact ⟨rfl, rfl⟩
theorem cx_empties (hM : MO o bs σ) (h5 : fi σ 5 o = nI (k_n c 2)) (h6 : fi σ 6 o = nI (k_n c 3)) (hc : k_cs c = []) (hn : k_n c 1 = 8) (ht : ∀ b, k_tr c b = false) : Ct (wX D) yX0_empties cX0_empties 2 none [.ref o] σ (PV (fun σ' => (∃ B', XB ad o bs σ' B' c) ∧ FG [1] [] [bs] σ σ')) (d + 2) 8 24 := by
  obtain ⟨ho, h0, hbk, hln⟩ := id hM
  refine Ct.of KXok (by decide) (Nat.le_of_ble_eq_true rfl) rfl fun Y C hQ hNm => ?_
  have loop : ∀ m b, b + m = 64 → ∀ (σ1 : Sg) (B : Nat → Nat), MO o bs σ1 → fi σ1 1 o = nI 8 → BX ad (k_h c) bs σ1 B (fun x => x < b ∧ x < 8) (fun _ => []) (fun _ => false) → (∀ x, x < b → 8 ≤ x → ar σ1 bs x = none) → FG [1] [] [bs] σ σ1 → Zj (wX D) Y σ1 (min b 8) (3 * min b 8) 8 [some (.ref o), some (.int (nI b))] [] := by
    intro m
    induction m with
    | zero =>
      intro b hb σ1 B hM1 f1 hB1 hN1 hF1
      have hb : b = 64 := hb
      subst hb
      refine z_il1 (q := 9) C dX0_empties_8 rfl ?_
      refine z_bipush (q := 11) (v := nI 64) C dX0_empties_9 rfl (by decide) ?_
      refine z_icmp_geN (tgt := 45) (q := 14) C dX0_empties_11 (by decide) rfl (by omega) (by omega) (fun c11 => ?_) (fun c11 => absurd c11 (by omega))
      refine z_vret C hQ dX0_empties_45 (by omega) (by omega) ?_
      refine ⟨rfl, ⟨B, ?_, (hB1.sub (fun x hx => ?_)).eq (fun x hx => ⟨?_, ht x⟩), fun x hx hx2 => hN1 x hx2 (by omega), by rw [hn]; exact f1, ?_, ?_⟩, hF1⟩
      · rw [hc]; intro k hk; simp at hk
      · have hx : x < k_n c 1 := hx
        omega
      · unfold k_row; rw [hc]; rfl
      · rw [hF1.gi (by omega) (by decide)]; exact h5
      · rw [hF1.gi (by omega) (by decide)]; exact h6
    | succ m ih =>
      intro b hb σ1 B hM1 f1 hB1 hN1 hF1
      obtain ⟨ho1, h01, hbk1, hln1⟩ := id hM1
      refine z_il1 (q := 9) C dX0_empties_8 rfl ?_
      refine z_bipush (q := 11) (v := nI 64) C dX0_empties_9 rfl (by decide) ?_
      refine z_icmp_geN (tgt := 45) (q := 14) C dX0_empties_11 (by decide) rfl (by omega) (by omega) (fun c11 => absurd c11 (by omega)) (fun c11 => ?_)
      first | refine z_al0 (q := 15) C dX0_empties_14 rfl ?_ | refine z_al0q (q := 15) C dX0_empties_14 rfl ?_ | refine z_al0u (q := 15) C dX0_empties_14 rfl ?_
      first | refine xr_X0_14 (q := 18) C (by first | exact ho | exact hk | exact hb | exact he | assumption) (by assumption) dX0_empties_15 rfl ?_ | refine xn_X0_14 (q := 18) C (by first | exact ho | exact hk | exact hb | exact he | assumption) (by assumption) dX0_empties_15 rfl ?_ | refine xg_X0_14 (q := 18) C (by first | exact ho | exact hk | exact hb | exact he | assumption) dX0_empties_15 rfl ?_
      refine z_il1 (q := 19) C dX0_empties_18 rfl ?_
      refine z_il1 (q := 20) C dX0_empties_19 rfl ?_
      first | refine z_al0 (q := 21) C dX0_empties_20 rfl ?_ | refine z_al0q (q := 21) C dX0_empties_20 rfl ?_ | refine z_al0u (q := 21) C dX0_empties_20 rfl ?_
      refine xg_X0_62 (q := 24) C (by first | exact ho | exact hk | exact hb | exact he | assumption) dX0_empties_21 rfl ?_
      rw [f1]
      refine z_icmp_geN (tgt := 37) (q := 27) C dX0_empties_24 (by decide) rfl (by omega) (by omega) (fun c24 => ?_) (fun c24 => ?_)
      · have hF2 : FG [1] [] [bs] σ1 (sQ bs b none σ1) := FR.rf.wQ (fun _ => by simp)
        have hg := ih (b + 1) (by omega) (sQ bs b none σ1) B (hM1.keep hF2 (by simp)) f1 ((hB1.sq (fun z => by omega)).sub (fun x hx => by omega)) (fun x hx hx8 => by
          by_cases e : x = b
          · rw [e]; exact up2_s
          · exact (up2_a e).trans (hN1 x (by omega) hx8)) (hF1.tr hF2)
        refine z_null (q := 38) C dX0_empties_37 rfl ?_
        refine x_aastN (q := 39) C 3 (by decide) (by decide) (by assumption) (by rw [hln1]; omega) (by omega) dX0_empties_38 rfl ?_
        first | refine z_iinc1N (q := 42) C dX0_empties_39 rfl (by first | exact loC_i | exact loC_r | exact loC_n | exact loC_q | exact loC_u) ?_ | refine z_iinc1 (q := 42) C dX0_empties_39 rfl rfl (by first | exact loC_i | exact loC_r | exact loC_n | exact loC_q | exact loC_u) ?_
        refine z_goto (tgt := 8) C dX0_empties_42 (by decide) ?_
        exact z_widen (by omega) (by omega) hg
      · refine x_newN (q := 30) (m := 3) C rfl KC2 q150 q151 q85 (by decide) (by omega) (by omega) dX0_empties_27 rfl (fun a27 f27 => ?_)
        refine z_dup (q := 31) C dX0_empties_30 rfl rfl ?_
        refine xc_X0_67 (q := 34) C (cx_initL (d := d)) dX0_empties_31 rfl rfl rfl (Nat.le_of_ble_eq_true rfl) (by first | decide | omega) (by omega) (by omega) (kkN ?_)
        refine z_goto (tgt := 38) C dX0_empties_34 (by decide) ?_
        have hF2 : FG [1] [] [bs] σ1 (nO 3 a27 σ1) := FR.rf.wO f27
        have hF3 : FG [1] [] [bs] σ1 (sQ bs b (some a27) (nO 3 a27 σ1)) := hF2.wQ (fun _ => by simp)
        have hbk2 : kd (nO 3 a27 σ1) bs = 14 := hF2.ek hbk1
        have hln2 : ln (nO 3 a27 σ1) bs = 64 := hln1
        have hka : kd (nO 3 a27 σ1) a27 = 3 := if_pos rfl
        have hFe : FG [] [] [] σ1 (nO 3 a27 σ1) := FR.rf.wO f27
        have hB2 : BX ad (k_h c) bs (nO 3 a27 σ1) B (fun x => x < b ∧ x < 8) (fun _ => []) (fun _ => false) := hB1.keep hFe hbk1 (by simp) (fun x hx => ⟨by simp, fun g hg => by simp⟩) (fun x hx k hk => by simp at hk)
        have hg := ih (b + 1) (by omega) (sQ bs b (some a27) (nO 3 a27 σ1)) (fun y => if y = b then a27 else B y) (hM1.keep hF3 (by simp)) (by rw [show fi (sQ bs b (some a27) (nO 3 a27 σ1)) 1 o = fi σ1 1 o from hFe.gi (by omega) (by simp)]; exact f1) ((hB2.sq (x := b) (r := some a27) (fun z => by omega)).add (x := b) (by omega) (by rw [if_pos rfl]; exact up2_s) (by rw [if_pos rfl]; exact RW.new (ad := ad) (hs := k_h c) (a := a27) (σ := σ1) false) (fun y hy => ⟨if_neg (by omega), rfl, rfl⟩) (fun y hy hyx z => (hB1.1 y hy).2.2.nz (by rw [z, if_pos rfl]; exact f27)) (fun y hy hyx k hk => by simp at hk) (fun y hy => by omega)) (fun x hx hx8 => by
          rw [show ar (sQ bs b (some a27) (nO 3 a27 σ1)) bs x = ar σ1 bs x from up2_a (by omega)]
          exact hN1 x (by omega) hx8) (hF1.tr hF3)
        refine x_aastB (q := 39) C (by assumption) (Or.inl hka) (by rw [hln2]; omega) (by omega) dX0_empties_38 rfl ?_
        first | refine z_iinc1N (q := 42) C dX0_empties_39 rfl (by first | exact loC_i | exact loC_r | exact loC_n | exact loC_q | exact loC_u) ?_ | refine z_iinc1 (q := 42) C dX0_empties_39 rfl rfl (by first | exact loC_i | exact loC_r | exact loC_n | exact loC_q | exact loC_u) ?_
        refine z_goto (tgt := 8) C dX0_empties_42 (by decide) ?_
        exact z_widen (by omega) (by omega) hg
  first | refine z_al0 (q := 1) C dX0_empties_0 rfl ?_ | refine z_al0q (q := 1) C dX0_empties_0 rfl ?_ | refine z_al0u (q := 1) C dX0_empties_0 rfl ?_
  refine z_bipush (q := 3) (v := nI 8) C dX0_empties_1 rfl (by decide) ?_
  refine xp_X0_62 (q := 6) C (by first | exact ho | exact hk | exact hb | exact he | assumption) dX0_empties_3 rfl ?_
  refine z_iconst (q := 7) (v := nI 0) C dX0_empties_6 rfl (by decide) ?_
  refine z_is1 (q := 8) C dX0_empties_7 rfl (by first | exact loC_i | exact loC_r | exact loC_n | exact loC_q | exact loC_u) ?_
  have hF0 : FG [1] [] [bs] σ (sI 1 o (nI 8) σ) := FR.rf.wI (fun _ => by simp)
  exact loop 64 0 rfl _ (fun _ => 0) (hM.keep hF0 (by simp)) (by rw [fi_sI, if_pos ⟨rfl, rfl⟩]) ⟨fun x hx => by omega, fun x y hx => by omega, fun x y hx => by omega⟩ (fun x hx => by omega) hF0
end T65
