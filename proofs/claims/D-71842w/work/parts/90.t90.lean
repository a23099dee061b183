/-! THE CLASS: the reader reads the text -/
set_option maxRecDepth 10000
theorem stp_stp {p : Nat → Nat} {a b : Nat} : stp (stp p a) b = stp p b := by
  funext i
  unfold stp
  split <;> rfl
theorem nI_any (x : Int32) : ∃ n, x = nI n := ⟨x.toUInt32.toNat, by
  show x = Int32.ofNat x.toUInt32.toNat
  apply Int32.toBitVec_inj.1
  rw [Int32.toBitVec_ofNat']
  simp⟩
theorem pso_sk {tx : List Nat} {f a : Nat} (hf : 0 < f) (h : a ≤ tx.length) : pso tx f (sk tx a) = pso tx f a := by
  cases f with
  | zero => omega
  | succ f => unfold pso; rw [show ord tx (sk tx a) = ord tx a from by unfold ord; rw [sk_sk h]]
section T90
variable {D : Dx} {p : Nat → Nat} {σ σ' : Sg} {α : Al} {N : Nat} {d : Nat} {q : Bool} {tx : List Nat}
theorem AI.run {c : Co} {δ : Nat} {rf : Nat → Int32} (h : AI N α) (hI : CI c) (hl : (k_es c).length ≤ 48) (hN : N + δ ≤ 1000000) : AI (N + δ) (c, a_ps α, rf, a_ch α + δ, a_tx α, a_cu α) := by
  obtain ⟨-, -, h3, h4, h5, h6, h7, h8⟩ := h
  exact ⟨hI, hl, h3, Nat.add_le_add_right h4 δ, hN, h6, h7, fun i hi => ⟨(h8 i hi).1, (h8 i hi).2.1, (h8 i hi).2.2.1, Nat.le_trans (h8 i hi).2.2.2 (Nat.le_add_right _ _)⟩⟩
set_option maxHeartbeats 1000000 in
theorem cx_readsF (hR : RD p tx σ) : CtX (wX D) yX2_reads cX2_reads 4 (some .int) [.ref (p 7), .int (nI 0)] σ (PI (fun _ σ' => (∃ l, pso tx (tx.length + 1) 0 = .inr l) ∧ FG [120] [] [] σ σ')) (fun q σ' => ∃ a, pso tx (tx.length + 1) 0 = .inl a ∧ kd σ' q = 8 ∧ fi σ' 146 q = nI a ∧ FG [120] [] [] σ σ') 8 400 2600 := by
  have hk7 : kd σ (p 7) = 7 := hR.1.2.2.2.2.2.2.1.2.1
  have hlen := hR.2.2.2.1
  have keep : ∀ σ1 : Sg, FG [120] [] [] σ σ1 → RD p tx σ1 := fun σ1 hF => hR.keep hF (by simp) (by simp) (by simp) (by simp)
  refine CtX.of KXok (by decide) (Nat.le_of_ble_eq_true rfl) rfl fun Y C hQ hNm => ?_
  have loop : ∀ f i, i ≤ tx.length → tx.length < i + f → (∀ y, pso tx f i = .inl y → pso tx (tx.length + 1) 0 = .inl y) → (∀ l, pso tx f i = .inr l → ∃ l0, pso tx (tx.length + 1) 0 = .inr l0) → ∀ (σ1 : Sg) (v : Int32) (w : Option (Value)) (k1 n1 : Nat), k1 ≤ 3 * i → n1 ≤ 21 * i → FG [120] [] [] σ σ1 → fi σ1 120 (p 7) = nI i → (w = none ∨ ∃ z, w = some (.int z)) → Zj (wX D) Y σ1 k1 n1 7 [some (.ref (p 7)), some (.int (nI 0)), some (.int v), w] [] := by
    intro f
    induction f with
    | zero => intro i hi hf; omega
    | succ f ih =>
      intro i hi hf hl hr σ1 v w k1 n1 hk1 hn1 hF h1 hw
      have hpo : pso tx (f + 1) i = match ord tx i with
        | (none, a) => .inl a
        | (some x, a) => if tx[sk tx a]? = none then .inr [x] else match pso tx f a with
          | .inl y => .inl y
          | .inr l => .inr (x :: l) := rfl
      have hk71 : kd σ1 (p 7) = 7 := hF.ek hk7
      first | refine z_al0 (q := 8) C dX2_reads_7 rfl ?_ | refine z_al0q (q := 8) C dX2_reads_7 rfl ?_ | refine z_al0u (q := 8) C dX2_reads_7 rfl ?_
      refine z_il1 (q := 9) C dX2_reads_8 rfl ?_
      refine z_callVX (q := 12) C (cx_orderF (keep σ1 hF) hi h1) g_X2_64 (x_rcv KC6 hk71) dX2_reads_9 rfl rfl rfl (Nat.le_of_ble_eq_true rfl) (by first | decide | omega) (by omega) (by omega) (kkI fun r9 σ9 h9 => ?_) (fun q9 σ9 h9 => ?_)
      · obtain ⟨⟨x, hx⟩, rfl, hF2, e2⟩ := h9
        generalize (ord tx i).2 = a at hx e2
        rw [hx] at hpo
        have hin := ord_in hi hx
        have hF3 := hF.tr hF2
        have hk72 : kd σ9 (p 7) = 7 := hF3.ek hk7
        have hpo : pso tx (f + 1) i = if tx[sk tx a]? = none then .inr [x] else match pso tx f a with
            | .inl y => .inl y
            | .inr l => .inr (x :: l) := hpo
        have hs := sk_in hin.2.1
        have tail : ∀ z : Int32, Zj (wX D) Y σ9 (k1 + 3) (n1 + 21) 26 [some (.ref (p 7)), some (.int (nI 0)), some (.int z), some (.int (nI 0))] [] := by
          intro z
          first | refine z_al0 (q := 27) C dX2_reads_26 rfl ?_ | refine z_al0q (q := 27) C dX2_reads_26 rfl ?_ | refine z_al0u (q := 27) C dX2_reads_26 rfl ?_
          refine xc_X2_34 (q := 30) C (cx_here (d := 0) (keep σ9 hF3) hin.2.1 e2) (by exact hk72) dX2_reads_27 rfl rfl rfl (Nat.le_of_ble_eq_true rfl) (by first | decide | omega) (by omega) (by omega) (kkI fun r27 σ27 h27 => ?_)
          refine z_iconst (q := 31) (v := -1) C dX2_reads_30 rfl (by decide) ?_
          obtain ⟨er, hF4, e4⟩ := h27
          subst er
          cases hc : tx[sk tx a]? with
          | none =>
            rw [if_pos hc] at hpo
            obtain ⟨l0, hl0⟩ := hr _ hpo
            refine z_icmp_ne (tgt := 7) (q := 34) C dX2_reads_31 (by decide) rfl (fun c31 => absurd rfl c31) (fun c31 => ?_)
            refine z_il2 (q := 35) C dX2_reads_34 rfl ?_
            refine zx_iret C hQ dX2_reads_35 (by omega) (by omega) ?_
            exact ⟨_, rfl, ⟨l0, hl0⟩, hF3.tr hF4⟩
          | some ch =>
            have hch := hR.2.2.2.2 ch (List.mem_of_getElem? hc)
            rw [if_neg (by rw [hc]; simp)] at hpo
            refine z_icmp_ne (tgt := 7) (q := 34) C dX2_reads_31 (by decide) rfl (fun c31 => ?_) (fun c31 => absurd c31 (nI_nm1 (by omega)))
            have hsl := (List.getElem?_eq_some_iff.mp hc).1
            have hfp : 0 < f := by omega
            refine ih (sk tx a) hs.2 (by omega) (fun y hy => ?_) (fun l hy => ?_) _ _ _ _ _ (by omega) (by omega) (hF3.tr hF4) e4 (Or.inr ⟨_, rfl⟩)
            · rw [pso_sk hfp hin.2.1] at hy; exact hl y (by rw [hpo, hy])
            · rw [pso_sk hfp hin.2.1] at hy; exact hr (x :: l) (by rw [hpo, hy])
        rcases hw with rfl | ⟨w, rfl⟩
        · refine z_is3 (q := 13) C dX2_reads_12 rfl (by first | exact loC_i | exact loC_r | exact loC_n | exact loC_q | exact loC_u) ?_
          refine z_il2 (q := 14) C dX2_reads_13 rfl ?_
          refine z_il3 (q := 15) C dX2_reads_14 rfl ?_
          refine z_iconst (q := 16) (v := -1) C dX2_reads_15 rfl (by decide) ?_
          refine z_icmp_ge (tgt := 23) (q := 19) C dX2_reads_16 (by decide) rfl (fun c16 => ?_) (fun c16 => ?_)
          · refine z_iconst (q := 24) (v := nI 1) C dX2_reads_23 rfl (by decide) ?_
            first | refine z_iaddN (q := 25) C dX2_reads_24 rfl ?_ | refine z_iadd (q := 25) C dX2_reads_24 rfl ?_
            refine z_is2 (q := 26) C dX2_reads_25 rfl (by first | exact loC_i | exact loC_r | exact loC_n | exact loC_q | exact loC_u) ?_
            exact tail _
          · exact absurd (show (-1 : Int32) ≤ nI 0 by decide) c16
        · refine z_is3 (q := 13) C dX2_reads_12 rfl (by first | exact loC_i | exact loC_r | exact loC_n | exact loC_q | exact loC_u) ?_
          refine z_il2 (q := 14) C dX2_reads_13 rfl ?_
          refine z_il3 (q := 15) C dX2_reads_14 rfl ?_
          refine z_iconst (q := 16) (v := -1) C dX2_reads_15 rfl (by decide) ?_
          refine z_icmp_ge (tgt := 23) (q := 19) C dX2_reads_16 (by decide) rfl (fun c16 => ?_) (fun c16 => ?_)
          · refine z_iconst (q := 24) (v := nI 1) C dX2_reads_23 rfl (by decide) ?_
            first | refine z_iaddN (q := 25) C dX2_reads_24 rfl ?_ | refine z_iadd (q := 25) C dX2_reads_24 rfl ?_
            refine z_is2 (q := 26) C dX2_reads_25 rfl (by first | exact loC_i | exact loC_r | exact loC_n | exact loC_q | exact loC_u) ?_
            exact tail _
          · exact absurd (show (-1 : Int32) ≤ nI 0 by decide) c16
      · obtain ⟨hn, g1, g2, hF2⟩ := h9
        cases ho : ord tx i with
        | mk x a =>
          rw [ho] at hn g2 hpo
          have hn : x = none := hn
          subst hn
          exact zt_out C hQ g1 ⟨a, hl a hpo, g1, g2, hF.tr hF2⟩ (by omega) (by omega)
  first | refine z_al0 (q := 1) C dX2_reads_0 rfl ?_ | refine z_al0q (q := 1) C dX2_reads_0 rfl ?_ | refine z_al0u (q := 1) C dX2_reads_0 rfl ?_
  refine z_iconst (q := 2) (v := nI 0) C dX2_reads_1 rfl (by decide) ?_
  refine xp_X2_15 (q := 5) C (by first | exact ho | exact hk | exact hb | exact he | assumption) dX2_reads_2 rfl ?_
  refine z_iconst (q := 6) (v := nI 0) C dX2_reads_5 rfl (by decide) ?_
  refine z_is2 (q := 7) C dX2_reads_6 rfl (by first | exact loC_i | exact loC_r | exact loC_n | exact loC_q | exact loC_u) ?_
  exact loop (tx.length + 1) 0 (Nat.zero_le _) (by omega) (fun y hy => hy) (fun l hl => ⟨l, hl⟩) _ _ _ _ _ (by omega) (by omega) (FR.rf.wI (fun _ => by simp)) (by rw [fi_sI, if_pos ⟨rfl, rfl⟩]) (Or.inl rfl)
set_option maxHeartbeats 1000000 in
theorem cx_readsT (h : XA true D p σ α) (hA : AI N α) (hN : N + 200 ≤ 1000000) {l0 : List Cm} (hl0 : pso (a_tx α) ((a_tx α).length + 1) 0 = .inr l0) : CtX (wX D) yX2_reads cX2_reads 4 (some .int) [.ref (p 7), .int (nI 1)] σ (PI (fun r σ' => r = nI (k_run l0 0 (a_c α) 0).1 ∧ ∃ a rf, XA true D (stp p a) σ' ((k_run l0 0 (a_c α) 0).2.1, a_ps α, rf, a_ch α + (k_run l0 0 (a_c α) 0).2.2, a_tx α, a_cu α))) (fun _ _ => False) 67 8200 37300 := by
  have hk7 : kd σ (p 7) = 7 := h.1.2.2.2.2.2.2.1.2.1
  have hlen := hA.2.2.2.2.2.1
  have h127 := hA.2.2.2.2.2.2.1
  have hlen0 := pso_len _ 0 l0 (Nat.zero_le _) hl0
  refine CtX.of KXok (by decide) (Nat.le_of_ble_eq_true rfl) rfl fun Y C hQ hNm => ?_
  have loop : ∀ f i l, i ≤ (a_tx α).length → pso (a_tx α) f i = .inr l → ∀ (σ1 : Sg) (n δ m : Nat) (c : Co) (rf : Nat → Int32) (w : Option (Value)) (k1 n1 : Nat), k1 ≤ 67 * i → n1 ≤ 310 * i → m + l.length ≤ 60 → δ ≤ 2 * m → k_run l n c δ = k_run l0 0 (a_c α) 0 → CI c → (k_es c).length ≤ 48 → XA true D (stp p i) σ1 (c, a_ps α, rf, a_ch α + δ, a_tx α, a_cu α) → (w = none ∨ ∃ z, w = some (.int z)) → Zj (wX D) Y σ1 k1 n1 7 [some (.ref (p 7)), some (.int (nI 1)), some (.int (nI n)), w] [] := by
    intro f
    induction f with
    | zero => intro i l hi hp; cases hp
    | succ f ih =>
      intro i l hi hp σ1 n δ m c rf w k1 n1 hk1 hn1 hm hδ hr hI hle hX1 hw
      unfold pso at hp
      have hA1 : AI (N + δ) (c, a_ps α, rf, a_ch α + δ, a_tx α, a_cu α) := hA.run hI hle (by cases l <;> omega)
      have hk71 : kd σ1 (p 7) = 7 := hX1.1.2.2.2.2.2.2.1.2.1
      cases ho : ord (a_tx α) i with
      | mk x a =>
        rw [ho] at hp
        cases x with
        | none => cases hp
        | some x =>
          have hin := ord_in hi ho
          have hdl := k_do_len hI hle x
          have hdi := hI.do hle hin.2.2.1
          have hpt := ord_put hi ho
          have hp : (if (a_tx α)[sk (a_tx α) a]? = none then Sum.inr [x] else match pso (a_tx α) f a with
              | .inl y => .inl y
              | .inr l => .inr (x :: l)) = .inr l := hp
          have hs := sk_in hin.2.1
          first | refine z_al0 (q := 8) C dX2_reads_7 rfl ?_ | refine z_al0q (q := 8) C dX2_reads_7 rfl ?_ | refine z_al0u (q := 8) C dX2_reads_7 rfl ?_
          refine z_il1 (q := 9) C dX2_reads_8 rfl ?_
          refine z_callVX (q := 12) C ((cx_orderT (p := stp p i) (mc := 67 * (a - i)) (ms := 310 * (a - i)) hX1 hA1 hi ho (by split <;> omega) (by split <;> omega))) g_X2_64 (x_rcv KC6 hk71) dX2_reads_9 rfl rfl rfl (Nat.le_of_ble_eq_true rfl) (by first | decide | omega) (by omega) (by omega) (kkI fun r9 σ9 h9 => ?_) (fun q9 σ9 h9 => ?_)
          · obtain ⟨er, hX2⟩ := h9
            rw [stp_stp] at hX2
            obtain ⟨b1, b2, b3⟩ := b_do_eq (α := (c, a_ps α, rf, a_ch α + δ, a_tx α, a_cu α)) hI hle hin.2.2.1 hin.2.2.2
            rw [b1] at hX2
            generalize a_rf (b_do (c, a_ps α, rf, a_ch α + δ, a_tx α, a_cu α) x).2 = rf2 at hX2
            have hX2 : XA true D (stp p a) σ9 ((k_do c x).2.1, a_ps α, rf2, a_ch α + δ + (k_do c x).2.2, a_tx α, a_cu α) := hX2
            rw [Nat.add_assoc] at hX2
            rw [← er] at b2 b3
            have b2 : (-1 : Int32) ≤ r9 → (k_do c x).1 = 1 := b2
            have b3 : ¬ (-1 : Int32) ≤ r9 → (k_do c x).1 = 0 := b3
            have hk72 : kd σ9 (p 7) = 7 := hX2.1.2.2.2.2.2.2.1.2.1
            have hm1 : m + 1 ≤ 60 := by
              split at hp
              · cases hp; exact hm
              · split at hp
                · cases hp
                · cases hp; rw [List.length_cons] at hm; omega
            have hA2 : AI (N + (δ + (k_do c x).2.2)) ((k_do c x).2.1, a_ps α, rf2, a_ch α + (δ + (k_do c x).2.2), a_tx α, a_cu α) := hA.run hdi hdl.1 (by omega)
            have tail : Zj (wX D) Y σ9 (k1 + 67 * (a - i)) (n1 + 310 * (a - i)) 26 [some (.ref (p 7)), some (.int (nI 1)), some (.int (nI (n + (k_do c x).1))), some (.int r9)] [] := by
              first | refine z_al0 (q := 27) C dX2_reads_26 rfl ?_ | refine z_al0q (q := 27) C dX2_reads_26 rfl ?_ | refine z_al0u (q := 27) C dX2_reads_26 rfl ?_
              refine xc_X2_34 (q := 30) C (cx_here (d := 0) (p := stp p a) (hX2.rd hA2) hin.2.1 hX2.2.2.2.2.2.2.2.2.1) (by exact hk72) dX2_reads_27 rfl rfl rfl (Nat.le_of_ble_eq_true rfl) (by first | decide | omega) (by omega) (by omega) (kkI fun r27 σ27 h27 => ?_)
              refine z_iconst (q := 31) (v := -1) C dX2_reads_30 rfl (by decide) ?_
              obtain ⟨er4, hF4, e4⟩ := h27
              subst er4
              have hX4 := hX2.plc hA2 hF4 e4
              rw [stp_stp] at hX4
              split at hp
              · rename_i hz
                cases hp
                have hr2 : k_run l0 0 (a_c α) 0 = (n + (k_do c x).1, (k_do c x).2.1, δ + (k_do c x).2.2) := hr.symm
                rw [hr2] at hQ
                have hz : (a_tx α)[sk (a_tx α) a]? = none := hz
                show Zj _ _ _ _ _ _ _ [Value.int (-1), Value.int (oI ((a_tx α)[sk (a_tx α) a]?))]
                rw [hz]
                refine z_icmp_ne (tgt := 7) (q := 34) C dX2_reads_31 (by decide) rfl (fun c31 => absurd rfl c31) (fun c31 => ?_)
                refine z_il2 (q := 35) C dX2_reads_34 rfl ?_
                refine zx_iret C hQ dX2_reads_35 (by omega) (by omega) ?_
                exact ⟨_, rfl, rfl, _, _, hX4⟩
              · rename_i hz
                split at hp
                · cases hp
                · rename_i l' hl'
                  cases hp
                  rw [List.length_cons] at hm
                  cases hc : (a_tx α)[sk (a_tx α) a]? with
                  | none => exact absurd hc hz
                  | some ch =>
                    have hch := h127 ch (List.mem_of_getElem? hc)
                    refine z_icmp_ne (tgt := 7) (q := 34) C dX2_reads_31 (by decide) rfl (fun c31 => ?_) (fun c31 => absurd c31 (nI_nm1 (by omega)))
                    exact ih (sk (a_tx α) a) l' hs.2 (by rw [pso_sk (by cases f with | zero => cases hl' | succ f => omega) hin.2.1]; exact hl') _ _ _ (m + 1) _ _ _ _ _ (by omega) (by omega) (by omega) (by omega) hr hdi hdl.1 hX4 (Or.inr ⟨_, rfl⟩)
            by_cases z16 : (-1 : Int32) ≤ r9
            · rw [b2 z16] at tail
              rcases hw with rfl | ⟨w, rfl⟩
              · refine z_is3 (q := 13) C dX2_reads_12 rfl (by first | exact loC_i | exact loC_r | exact loC_n | exact loC_q | exact loC_u) ?_
                refine z_il2 (q := 14) C dX2_reads_13 rfl ?_
                refine z_il3 (q := 15) C dX2_reads_14 rfl ?_
                refine z_iconst (q := 16) (v := -1) C dX2_reads_15 rfl (by decide) ?_
                refine z_icmp_ge (tgt := 23) (q := 19) C dX2_reads_16 (by decide) rfl (fun c16 => ?_) (fun c16 => ?_)
                · refine z_iconst (q := 24) (v := nI 1) C dX2_reads_23 rfl (by decide) ?_
                  first | refine z_iaddN (q := 25) C dX2_reads_24 rfl ?_ | refine z_iadd (q := 25) C dX2_reads_24 rfl ?_
                  refine z_is2 (q := 26) C dX2_reads_25 rfl (by first | exact loC_i | exact loC_r | exact loC_n | exact loC_q | exact loC_u) ?_
                  exact tail
                · exact absurd z16 c16
              · refine z_is3 (q := 13) C dX2_reads_12 rfl (by first | exact loC_i | exact loC_r | exact loC_n | exact loC_q | exact loC_u) ?_
                refine z_il2 (q := 14) C dX2_reads_13 rfl ?_
                refine z_il3 (q := 15) C dX2_reads_14 rfl ?_
                refine z_iconst (q := 16) (v := -1) C dX2_reads_15 rfl (by decide) ?_
                refine z_icmp_ge (tgt := 23) (q := 19) C dX2_reads_16 (by decide) rfl (fun c16 => ?_) (fun c16 => ?_)
                · refine z_iconst (q := 24) (v := nI 1) C dX2_reads_23 rfl (by decide) ?_
                  first | refine z_iaddN (q := 25) C dX2_reads_24 rfl ?_ | refine z_iadd (q := 25) C dX2_reads_24 rfl ?_
                  refine z_is2 (q := 26) C dX2_reads_25 rfl (by first | exact loC_i | exact loC_r | exact loC_n | exact loC_q | exact loC_u) ?_
                  exact tail
                · exact absurd z16 c16
            · rw [b3 z16] at tail
              rcases hw with rfl | ⟨w, rfl⟩
              · refine z_is3 (q := 13) C dX2_reads_12 rfl (by first | exact loC_i | exact loC_r | exact loC_n | exact loC_q | exact loC_u) ?_
                refine z_il2 (q := 14) C dX2_reads_13 rfl ?_
                refine z_il3 (q := 15) C dX2_reads_14 rfl ?_
                refine z_iconst (q := 16) (v := -1) C dX2_reads_15 rfl (by decide) ?_
                refine z_icmp_ge (tgt := 23) (q := 19) C dX2_reads_16 (by decide) rfl (fun c16 => ?_) (fun c16 => ?_)
                · exact absurd c16 z16
                · refine z_iconst (q := 20) (v := nI 0) C dX2_reads_19 rfl (by decide) ?_
                  refine z_goto (tgt := 24) C dX2_reads_20 (by decide) ?_
                  first | refine z_iaddN (q := 25) C dX2_reads_24 rfl ?_ | refine z_iadd (q := 25) C dX2_reads_24 rfl ?_
                  refine z_is2 (q := 26) C dX2_reads_25 rfl (by first | exact loC_i | exact loC_r | exact loC_n | exact loC_q | exact loC_u) ?_
                  exact tail
              · refine z_is3 (q := 13) C dX2_reads_12 rfl (by first | exact loC_i | exact loC_r | exact loC_n | exact loC_q | exact loC_u) ?_
                refine z_il2 (q := 14) C dX2_reads_13 rfl ?_
                refine z_il3 (q := 15) C dX2_reads_14 rfl ?_
                refine z_iconst (q := 16) (v := -1) C dX2_reads_15 rfl (by decide) ?_
                refine z_icmp_ge (tgt := 23) (q := 19) C dX2_reads_16 (by decide) rfl (fun c16 => ?_) (fun c16 => ?_)
                · exact absurd c16 z16
                · refine z_iconst (q := 20) (v := nI 0) C dX2_reads_19 rfl (by decide) ?_
                  refine z_goto (tgt := 24) C dX2_reads_20 (by decide) ?_
                  first | refine z_iaddN (q := 25) C dX2_reads_24 rfl ?_ | refine z_iadd (q := 25) C dX2_reads_24 rfl ?_
                  refine z_is2 (q := 26) C dX2_reads_25 rfl (by first | exact loC_i | exact loC_r | exact loC_n | exact loC_q | exact loC_u) ?_
                  exact tail
          · exact h9.elim
  have h0 := h.plc hA (a := 0) (σ' := sI 120 (p 7) (nI 0) σ) (FR.rf.wI (fun _ => by simp)) (by rw [fi_sI, if_pos ⟨rfl, rfl⟩])
  first | refine z_al0 (q := 1) C dX2_reads_0 rfl ?_ | refine z_al0q (q := 1) C dX2_reads_0 rfl ?_ | refine z_al0u (q := 1) C dX2_reads_0 rfl ?_
  refine z_iconst (q := 2) (v := nI 0) C dX2_reads_1 rfl (by decide) ?_
  refine xp_X2_15 (q := 5) C (by first | exact ho | exact hk | exact hb | exact he | assumption) dX2_reads_2 rfl ?_
  refine z_iconst (q := 6) (v := nI 0) C dX2_reads_5 rfl (by decide) ?_
  refine z_is2 (q := 7) C dX2_reads_6 rfl (by first | exact loC_i | exact loC_r | exact loC_n | exact loC_q | exact loC_u) ?_
  exact loop ((a_tx α).length + 1) 0 l0 (Nat.zero_le _) hl0 _ 0 0 0 (a_c α) (a_rf α) _ _ _ (by omega) (by omega) (by omega) (by omega) rfl hA.1 hA.2.1 h0 (Or.inl rfl)
end T90
