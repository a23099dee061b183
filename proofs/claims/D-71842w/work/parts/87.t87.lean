/-! THE CLASS: the reader's leaves -/
set_option maxRecDepth 10000
/-- the text that the reader reads -/
def RD (p : Nat → Nat) (tx : List Nat) (σ : Sg) : Prop := FX p σ ∧ fi σ 15 (p 0) = nI tx.length ∧ (∀ j x, tx[j]? = some x → ai σ (p 4) j = nI x) ∧ tx.length ≤ 120 ∧ ∀ x ∈ tx, x ≤ 127
theorem RD.keep {p : Nat → Nat} {tx : List Nat} {σ σ' : Sg} {li lr la : List Nat} (h : RD p tx σ) (hF : FG li lr la σ σ') (h1 : 15 ∉ li) (h2 : ∀ g ∈ [0, 10, 11, 14, 16, 17, 18, 121], g ∉ lr) (h3 : p 2 ∉ la) (h4 : p 4 ∉ la) : RD p tx σ' := by
  have k4 := h.1.2.2.2.1.2.1
  exact ⟨h.1.keep hF h2 h3, by rw [hF.gi (by have := h.1.1.1; omega) h1]; exact h.2.1, fun j x hj => by rw [(hF.2.2.2 (p 4) (by omega) h4).1]; exact h.2.2.1 j x hj, h.2.2.2⟩
theorem FN.fg {a : Nat} {σ σ1 σ2 : Sg} {li lr la : List Nat} (h : FN a σ1 σ2) (hF : FG li lr la σ σ1) (ha : kd σ a = 0) : FG li lr la σ σ2 := by
  obtain ⟨h1, h2, h3, h4, h5, h6⟩ := h
  refine hF.then (σ1 := σ1) (pi2 := fun _ _ => False) (pr2 := fun _ x => x = a) (pa2 := fun _ => False) ⟨fun x _ => by rw [h1, h3]; exact ⟨rfl, rfl⟩, fun g x _ _ => by rw [h2], fun g x _ hn => h6 g x hn, fun x _ _ => by rw [h4, h5]; exact ⟨rfl, rfl⟩⟩ (fun _ _ _ z => z.elim) (fun g x hx z => absurd ha (by rw [← z]; exact hx)) (fun _ _ z => z.elim)
theorem inB_N {x a b : Nat} (hx : x < 2 ^ 31) (ha : a < 2 ^ 31) (hb : b < 2 ^ 31) : inB (nI x) (nI a) (nI b) = (decide (a ≤ x) && decide (x ≤ b)) := by
  unfold inB
  rw [decide_eq_decide.mpr (nI_leI ha hx), decide_eq_decide.mpr (nI_leI hx hb)]
section T87
variable {D : Dx} {p : Nat → Nat} {σ : Sg} {tx : List Nat} {d : Nat}
section TH
variable {Y : Fz} {cc : ByteArray} {mc ms k n pc : Nat} {t : Lo} {Post : Option Value → Sg → Prop} {PX : Nat → Sg → Prop} {rd a : Nat}
/-- throw new Fault(at) -/
theorem x_throwF (C : Cx (wX D) Y cc RX2 (some .int) d mc ms) (hQ : QxX (wX D) Y Post PX mc ms) (d0 : decode cc pc = .ok (.new 42, 3)) (d3 : decode cc (pc + 3) = .ok (.dup, 1)) (d4 : decode cc (pc + 4) = .ok (.aload_n 0, 1)) (d5 : decode cc (pc + 5) = .ok (.getfield 15, 3)) (d8 : decode cc (pc + 8) = .ok (.invokespecial 44, 3)) (d11 : decode cc (pc + 11) = .ok (.athrow, 1)) (hrd : kd σ rd = 7) (h120 : fi σ 120 rd = nI a) (hPX : ∀ q σ', kd σ' q = 8 → fi σ' 146 q = nI a → FG [] [] [] σ σ' → PX q σ') (hk : k + 1 ≤ mc) (hn : n + 7 ≤ ms) (hd3 : 3 < d) : Zj (wX D) Y σ k n pc (some (.ref rd) :: t) [] := by
  refine x_newN (q := pc + 3) (m := 7) C rfl KC7 q713 q714 q94 (by decide) hk hn d0 rfl (fun q f => ?_)
  have hFe : FG [] [] [] σ (nO 8 q σ) := FR.rf.wO f
  have hkq : kd (nO 8 q σ) q = 8 := if_pos rfl
  have hrd' : kd (nO 8 q σ) rd = 7 := hFe.ek hrd
  have h120' : fi (nO 8 q σ) 120 rd = nI a := by rw [hFe.gi (by omega) (by simp)]; exact h120
  refine z_dup (q := pc + 4) C d3 rfl rfl ?_
  refine z_al0 (q := pc + 5) C d4 rfl ?_
  refine xg_X2_15 (q := pc + 8) C hrd' d5 rfl ?_
  rw [h120']
  refine xc_X2_44 (q := pc + 11) C (cx_fault (d := 0) hkq) d8 rfl rfl rfl (Nat.le_of_ble_eq_true rfl) (by omega) (by omega) (by omega) (kkV fun σ2 h2 => ?_)
  obtain ⟨σ1, hN, rfl⟩ := h2
  have hF1 : FG [] [] [] σ σ1 := hN.fg hFe f
  refine z_athrow C hQ d11 (by show kd σ1 q = 8; rw [hN.1]; exact hkq) (hPX q _ (by show kd σ1 q = 8; rw [hN.1]; exact hkq) (by rw [fi_sI, if_pos ⟨rfl, rfl⟩]) (hF1.wI (fun z => absurd f z))) (by omega) (by omega)
end TH
theorem cx_here (hR : RD p tx σ) {i : Nat} (hi : i ≤ tx.length) (h120 : fi σ 120 (p 7) = nI i) : Ct (wX D) yX2_here cX2_here 1 (some .int) [.ref (p 7)] σ (PI (fun r σ' => r = oI (tx[sk tx i]?) ∧ FG [120] [] [] σ σ' ∧ fi σ' 120 (p 7) = nI (sk tx i))) d 0 0 := by
  refine Ct.of KXok (by decide) (Nat.le_of_ble_eq_true rfl) rfl fun Y C hQ hNm => ?_
  have loop : ∀ m j, j + m = tx.length → ∀ σ1 : Sg, sk tx j = sk tx i → FG [120] [] [] σ σ1 → fi σ1 120 (p 7) = nI j → Zj (wX D) Y σ1 0 0 0 [some (.ref (p 7))] [] := by
    intro m
    induction m with
    | zero =>
      intro j hj σ1 hsk hF h1
      have hj : j = tx.length := hj
      subst hj
      obtain ⟨hX1, e15, htx, hlen, h127⟩ := hR.keep hF (by simp) (by simp) (by simp) (by simp)
      obtain ⟨ho, -⟩ := hX1.1
      obtain ⟨r18, k7, r121⟩ := hX1.2.2.2.2.2.2.1
      have hn : tx[tx.length]? = none := List.getElem?_eq_none (by omega)
      have hsk2 : sk tx tx.length = tx.length := sk_stop (by rw [hn]; simp)
      first | refine z_al0 (q := 1) C dX2_here_0 rfl ?_ | refine z_al0q (q := 1) C dX2_here_0 rfl ?_ | refine z_al0u (q := 1) C dX2_here_0 rfl ?_
      refine xg_X2_15 (q := 4) C (by exact k7) dX2_here_1 rfl ?_
      rw [h1]
      first | refine z_al0 (q := 5) C dX2_here_4 rfl ?_ | refine z_al0q (q := 5) C dX2_here_4 rfl ?_ | refine z_al0u (q := 5) C dX2_here_4 rfl ?_
      first | refine xr_X2_3 (q := 8) C (by exact k7) r121 dX2_here_5 rfl ?_ | refine xn_X2_3 (q := 8) C (by exact k7) r121 dX2_here_5 rfl ?_
      refine xg_X2_19 (q := 11) C (by exact ho) dX2_here_8 rfl ?_
      rw [e15]
      first | refine z_icmp_geN (tgt := 44) (q := 14) C dX2_here_11 (by decide) rfl (by omega) (by omega) (fun c11 => ?_) (fun c11 => ?_) | refine z_icmp_ge (tgt := 44) (q := 14) C dX2_here_11 (by decide) rfl (fun c11 => ?_) (fun c11 => ?_)
      · first | refine z_al0 (q := 45) C dX2_here_44 rfl ?_ | refine z_al0q (q := 45) C dX2_here_44 rfl ?_ | refine z_al0u (q := 45) C dX2_here_44 rfl ?_
        refine xg_X2_15 (q := 48) C (by exact k7) dX2_here_45 rfl ?_
        rw [h1]
        first | refine z_al0 (q := 49) C dX2_here_48 rfl ?_ | refine z_al0q (q := 49) C dX2_here_48 rfl ?_ | refine z_al0u (q := 49) C dX2_here_48 rfl ?_
        first | refine xr_X2_3 (q := 52) C (by exact k7) r121 dX2_here_49 rfl ?_ | refine xn_X2_3 (q := 52) C (by exact k7) r121 dX2_here_49 rfl ?_
        refine xg_X2_19 (q := 55) C (by exact ho) dX2_here_52 rfl ?_
        rw [e15]
        first | refine z_icmp_geN (tgt := 73) (q := 58) C dX2_here_55 (by decide) rfl (by omega) (by omega) (fun c55 => ?_) (fun c55 => ?_) | refine z_icmp_ge (tgt := 73) (q := 58) C dX2_here_55 (by decide) rfl (fun c55 => ?_) (fun c55 => ?_)
        · refine z_iconst (q := 74) (v := -1) C dX2_here_73 rfl (by decide) ?_
          refine z_iret C hQ dX2_here_74 (by omega) (by omega) ?_
          exact ⟨_, rfl, by rw [← hsk, hsk2, hn]; rfl, hF, by rw [h1, ← hsk, hsk2]⟩
        · exact absurd c55 (by omega)
      · exact absurd c11 (by omega)
    | succ m ih =>
      intro j hj σ1 hsk hF h1
      obtain ⟨hX1, e15, htx, hlen, h127⟩ := hR.keep hF (by simp) (by simp) (by simp) (by simp)
      obtain ⟨ho, -⟩ := hX1.1
      obtain ⟨r18, k7, r121⟩ := hX1.2.2.2.2.2.2.1
      obtain ⟨r14, k4, l4⟩ := hX1.2.2.2.1
      obtain ⟨x, hx⟩ := at_lt (show j < tx.length by omega)
      have hai := htx j x hx
      have hx127 := h127 x (List.mem_of_getElem? hx)
      first | refine z_al0 (q := 1) C dX2_here_0 rfl ?_ | refine z_al0q (q := 1) C dX2_here_0 rfl ?_ | refine z_al0u (q := 1) C dX2_here_0 rfl ?_
      refine xg_X2_15 (q := 4) C (by exact k7) dX2_here_1 rfl ?_
      rw [h1]
      first | refine z_al0 (q := 5) C dX2_here_4 rfl ?_ | refine z_al0q (q := 5) C dX2_here_4 rfl ?_ | refine z_al0u (q := 5) C dX2_here_4 rfl ?_
      first | refine xr_X2_3 (q := 8) C (by exact k7) r121 dX2_here_5 rfl ?_ | refine xn_X2_3 (q := 8) C (by exact k7) r121 dX2_here_5 rfl ?_
      refine xg_X2_19 (q := 11) C (by exact ho) dX2_here_8 rfl ?_
      rw [e15]
      refine z_icmp_geN (tgt := 44) (q := 14) C dX2_here_11 (by decide) rfl (by omega) (by omega) (fun c11 => absurd c11 (by omega)) (fun c11 => ?_)
      first | refine z_al0 (q := 15) C dX2_here_14 rfl ?_ | refine z_al0q (q := 15) C dX2_here_14 rfl ?_ | refine z_al0u (q := 15) C dX2_here_14 rfl ?_
      first | refine xr_X2_3 (q := 18) C (by exact k7) r121 dX2_here_15 rfl ?_ | refine xn_X2_3 (q := 18) C (by exact k7) r121 dX2_here_15 rfl ?_
      first | refine xr_X2_22 (q := 21) C (by exact ho) r14 dX2_here_18 rfl ?_ | refine xn_X2_22 (q := 21) C (by exact ho) r14 dX2_here_18 rfl ?_
      first | refine z_al0 (q := 22) C dX2_here_21 rfl ?_ | refine z_al0q (q := 22) C dX2_here_21 rfl ?_ | refine z_al0u (q := 22) C dX2_here_21 rfl ?_
      refine xg_X2_15 (q := 25) C (by exact k7) dX2_here_22 rfl ?_
      rw [h1]
      first | refine x_bald (q := 26) C (by exact k4) (by rw [l4]; omega) (by omega) dX2_here_25 rfl ?_ | refine x_zald (q := 26) C (by exact k4) (by rw [l4]; omega) (by omega) dX2_here_25 rfl ?_
      rw [hai]
      refine z_bipush (q := 28) (v := nI 32) C dX2_here_26 rfl (by decide) ?_
      refine z_icmp_neN (tgt := 44) (q := 31) C dX2_here_28 (by decide) rfl (by omega) (by omega) (fun c28 => ?_) (fun c28 => ?_)
      · have hsk2 : sk tx j = j := sk_stop (by rw [hx]; simp; exact c28)
        first | refine z_al0 (q := 45) C dX2_here_44 rfl ?_ | refine z_al0q (q := 45) C dX2_here_44 rfl ?_ | refine z_al0u (q := 45) C dX2_here_44 rfl ?_
        refine xg_X2_15 (q := 48) C (by exact k7) dX2_here_45 rfl ?_
        rw [h1]
        first | refine z_al0 (q := 49) C dX2_here_48 rfl ?_ | refine z_al0q (q := 49) C dX2_here_48 rfl ?_ | refine z_al0u (q := 49) C dX2_here_48 rfl ?_
        first | refine xr_X2_3 (q := 52) C (by exact k7) r121 dX2_here_49 rfl ?_ | refine xn_X2_3 (q := 52) C (by exact k7) r121 dX2_here_49 rfl ?_
        refine xg_X2_19 (q := 55) C (by exact ho) dX2_here_52 rfl ?_
        rw [e15]
        first | refine z_icmp_geN (tgt := 73) (q := 58) C dX2_here_55 (by decide) rfl (by omega) (by omega) (fun c55 => ?_) (fun c55 => ?_) | refine z_icmp_ge (tgt := 73) (q := 58) C dX2_here_55 (by decide) rfl (fun c55 => ?_) (fun c55 => ?_)
        · exact absurd c55 (by omega)
        · first | refine z_al0 (q := 59) C dX2_here_58 rfl ?_ | refine z_al0q (q := 59) C dX2_here_58 rfl ?_ | refine z_al0u (q := 59) C dX2_here_58 rfl ?_
          first | refine xr_X2_3 (q := 62) C (by exact k7) r121 dX2_here_59 rfl ?_ | refine xn_X2_3 (q := 62) C (by exact k7) r121 dX2_here_59 rfl ?_
          first | refine xr_X2_22 (q := 65) C (by exact ho) r14 dX2_here_62 rfl ?_ | refine xn_X2_22 (q := 65) C (by exact ho) r14 dX2_here_62 rfl ?_
          first | refine z_al0 (q := 66) C dX2_here_65 rfl ?_ | refine z_al0q (q := 66) C dX2_here_65 rfl ?_ | refine z_al0u (q := 66) C dX2_here_65 rfl ?_
          refine xg_X2_15 (q := 69) C (by exact k7) dX2_here_66 rfl ?_
          rw [h1]
          first | refine x_bald (q := 70) C (by exact k4) (by rw [l4]; omega) (by omega) dX2_here_69 rfl ?_ | refine x_zald (q := 70) C (by exact k4) (by rw [l4]; omega) (by omega) dX2_here_69 rfl ?_
          rw [hai]
          refine z_goto (tgt := 74) C dX2_here_70 (by decide) ?_
          refine z_iret C hQ dX2_here_74 (by omega) (by omega) ?_
          exact ⟨_, rfl, by rw [← hsk, hsk2, hx]; rfl, hF, by rw [h1, ← hsk, hsk2]⟩
      · subst c28
        have hF2 : FG [120] [] [] σ (sI 120 (p 7) (nI (j + 1)) σ1) := hF.wI (fun _ => by simp)
        have hg := ih (j + 1) (by omega) (sI 120 (p 7) (nI (j + 1)) σ1) (by rw [← hsk]; exact (sk_step hx).symm) hF2 (by rw [fi_sI, if_pos ⟨rfl, rfl⟩])
        first | refine z_al0 (q := 32) C dX2_here_31 rfl ?_ | refine z_al0q (q := 32) C dX2_here_31 rfl ?_ | refine z_al0u (q := 32) C dX2_here_31 rfl ?_
        refine z_dup (q := 33) C dX2_here_32 rfl rfl ?_
        refine xg_X2_15 (q := 36) C (by exact k7) dX2_here_33 rfl ?_
        rw [h1]
        refine z_iconst (q := 37) (v := nI 1) C dX2_here_36 rfl (by decide) ?_
        first | refine z_iaddN (q := 38) C dX2_here_37 rfl ?_ | refine z_iadd (q := 38) C dX2_here_37 rfl ?_
        refine xp_X2_15 (q := 41) C (by exact k7) dX2_here_38 rfl ?_
        refine z_goto (tgt := 0) C dX2_here_41 (by decide) ?_
        exact hg
  exact loop (tx.length - i) i (by omega) σ rfl FR.rf h120
theorem cx_isFigure (hR : RD p tx σ) {i : Nat} (hi : i ≤ tx.length) (h120 : fi σ 120 (p 7) = nI i) : Ct (wX D) yX2_isFigure cX2_isFigure 1 (some .boolean) [.ref (p 7)] σ (PE (some (.int (bI (fig tx i)))) σ) (d + 1) 0 0 := by
  obtain ⟨hX1, e15, htx, hlen, h127⟩ := hR
  obtain ⟨ho, -⟩ := hX1.1
  obtain ⟨r18, k7, r121⟩ := hX1.2.2.2.2.2.2.1
  obtain ⟨r14, k4, l4⟩ := hX1.2.2.2.1
  refine Ct.of KXok (by decide) (Nat.le_of_ble_eq_true rfl) rfl fun Y C hQ hNm => ?_
  first | refine z_al0 (q := 1) C dX2_isFigure_0 rfl ?_ | refine z_al0q (q := 1) C dX2_isFigure_0 rfl ?_ | refine z_al0u (q := 1) C dX2_isFigure_0 rfl ?_
  refine xg_X2_15 (q := 4) C (by exact k7) dX2_isFigure_1 rfl ?_
  rw [h120]
  first | refine z_al0 (q := 5) C dX2_isFigure_4 rfl ?_ | refine z_al0q (q := 5) C dX2_isFigure_4 rfl ?_ | refine z_al0u (q := 5) C dX2_isFigure_4 rfl ?_
  first | refine xr_X2_3 (q := 8) C (by exact k7) r121 dX2_isFigure_5 rfl ?_ | refine xn_X2_3 (q := 8) C (by exact k7) r121 dX2_isFigure_5 rfl ?_
  refine xg_X2_19 (q := 11) C (by exact ho) dX2_isFigure_8 rfl ?_
  rw [e15]
  refine z_icmp_geN (tgt := 43) (q := 14) C dX2_isFigure_11 (by decide) rfl (by omega) (by omega) (fun c11 => ?_) (fun c11 => ?_)
  · have hf : fig tx i = false := by unfold fig; rw [List.getElem?_eq_none (by omega)]
    rw [hf] at hQ
    refine z_iconst (q := 44) (v := nI 0) C dX2_isFigure_43 rfl (by decide) ?_
    refine z_zret C hQ dX2_isFigure_44 (by omega) (by omega) (by first | rfl | exact bI_nar _) ?_
    exact ⟨rfl, rfl⟩
  · obtain ⟨x, hx⟩ := at_lt c11
    have hai := htx i x hx
    have hx127 := h127 x (List.mem_of_getElem? hx)
    have hf : fig tx i = inB (nI x) (nI 48) (nI 57) := by unfold fig; rw [hx, inB_N (by omega) (by omega) (by omega)]
    rw [hf] at hQ
    first | refine z_al0 (q := 15) C dX2_isFigure_14 rfl ?_ | refine z_al0q (q := 15) C dX2_isFigure_14 rfl ?_ | refine z_al0u (q := 15) C dX2_isFigure_14 rfl ?_
    first | refine xr_X2_3 (q := 18) C (by exact k7) r121 dX2_isFigure_15 rfl ?_ | refine xn_X2_3 (q := 18) C (by exact k7) r121 dX2_isFigure_15 rfl ?_
    first | refine xr_X2_22 (q := 21) C (by exact ho) r14 dX2_isFigure_18 rfl ?_ | refine xn_X2_22 (q := 21) C (by exact ho) r14 dX2_isFigure_18 rfl ?_
    first | refine z_al0 (q := 22) C dX2_isFigure_21 rfl ?_ | refine z_al0q (q := 22) C dX2_isFigure_21 rfl ?_ | refine z_al0u (q := 22) C dX2_isFigure_21 rfl ?_
    refine xg_X2_15 (q := 25) C (by exact k7) dX2_isFigure_22 rfl ?_
    rw [h120]
    first | refine x_bald (q := 26) C (by exact k4) (by rw [l4]; omega) (by omega) dX2_isFigure_25 rfl ?_ | refine x_zald (q := 26) C (by exact k4) (by rw [l4]; omega) (by omega) dX2_isFigure_25 rfl ?_
    rw [hai]
    refine z_i2l (q := 27) C dX2_isFigure_26 rfl ?_
    refine z_ldc2 (q := 30) C dX2_isFigure_27 rfl q784 ?_
    refine z_ldc2 (q := 33) C dX2_isFigure_30 rfl q785 ?_
    refine xc_X2_30 (q := 36) C (cx_inB (d := d) σ (nI x) (nI 48) (nI 57)) dX2_isFigure_33 rfl rfl rfl (Nat.le_of_ble_eq_true rfl) (by first | decide | omega) (by omega) (by omega) (kkE ?_)
    refine z_if_eqB (tgt := 43) (q := 39) C dX2_isFigure_36 (by decide) rfl (fun c36 => ?_) (fun c36 => ?_)
    · rw [c36] at hQ
      refine z_iconst (q := 44) (v := nI 0) C dX2_isFigure_43 rfl (by decide) ?_
      refine z_zret C hQ dX2_isFigure_44 (by omega) (by omega) (by first | rfl | exact bI_nar _) ?_
      exact ⟨rfl, rfl⟩
    · rw [c36] at hQ
      refine z_iconst (q := 40) (v := nI 1) C dX2_isFigure_39 rfl (by decide) ?_
      refine z_goto (tgt := 44) C dX2_isFigure_40 (by decide) ?_
      refine z_zret C hQ dX2_isFigure_44 (by omega) (by omega) (by first | rfl | exact bI_nar _) ?_
      exact ⟨rfl, rfl⟩
set_option maxHeartbeats 1000000 in
theorem cx_number (hR : RD p tx σ) {i : Nat} (hi : i ≤ tx.length) (h120 : fi σ 120 (p 7) = nI i) : CtX (wX D) yX2_number cX2_number 4 (some .int) [.ref (p 7)] σ (PI (fun r σ' => (num tx i).1 = true ∧ r = nI (num tx i).2.2 ∧ FG [120] [] [] σ σ' ∧ fi σ' 120 (p 7) = nI (num tx i).2.1)) (fun q σ' => (num tx i).1 = false ∧ kd σ' q = 8 ∧ fi σ' 146 q = nI (num tx i).2.1 ∧ FG [120] [] [] σ σ') 6 1 7 := by
  have hk7 : kd σ (p 7) = 7 := hR.1.2.2.2.2.2.2.1.2.1
  have hlen := hR.2.2.2.1
  have hsk := sk_in hi
  refine CtX.of KXok (by decide) (Nat.le_of_ble_eq_true rfl) rfl fun Y C hQ hNm => ?_
  first | refine z_al0 (q := 1) C dX2_number_0 rfl ?_ | refine z_al0q (q := 1) C dX2_number_0 rfl ?_ | refine z_al0u (q := 1) C dX2_number_0 rfl ?_
  refine xc_X2_34 (q := 4) C (cx_here (d := 0) hR hi h120) (by exact hk7) dX2_number_1 rfl rfl rfl (Nat.le_of_ble_eq_true rfl) (by first | decide | omega) (by omega) (by omega) (kkI fun r1 σ1 h1 => ?_)
  refine z_is1 (q := 5) C dX2_number_4 rfl (by first | exact loC_i | exact loC_r | exact loC_n | exact loC_q | exact loC_u) ?_
  refine z_iconst (q := 6) (v := nI 0) C dX2_number_5 rfl (by decide) ?_
  refine z_is2 (q := 7) C dX2_number_6 rfl (by first | exact loC_i | exact loC_r | exact loC_n | exact loC_q | exact loC_u) ?_
  refine z_iconst (q := 8) (v := nI 0) C dX2_number_7 rfl (by decide) ?_
  refine z_is3 (q := 9) C dX2_number_8 rfl (by first | exact loC_i | exact loC_r | exact loC_n | exact loC_q | exact loC_u) ?_
  obtain ⟨er, hF1, h1⟩ := h1
  subst er
  have hnum : num tx i = (decide (0 < (nm tx 6 (sk tx i) 0 0).2.2) && !fig tx (nm tx 6 (sk tx i) 0 0).1, (nm tx 6 (sk tx i) 0 0).1, (nm tx 6 (sk tx i) 0 0).2.1) := rfl
  have hnin := nm_in tx 6 (sk tx i) 0 0 hsk.2 (by decide)
  -- behind the figures
  have fin : ∀ (σ2 : Sg), FG [120] [] [] σ σ2 → fi σ2 120 (p 7) = nI (nm tx 6 (sk tx i) 0 0).1 → Zj (wX D) Y σ2 0 0 59 [some (.ref (p 7)), some (.int (oI (tx[sk tx i]?))), some (.int (nI (nm tx 6 (sk tx i) 0 0).2.1)), some (.int (nI (nm tx 6 (sk tx i) 0 0).2.2))] [] := by
    intro σ2 hF2 h2
    have hR2 := hR.keep hF2 (by simp) (by simp) (by simp) (by simp)
    have hk72 : kd σ2 (p 7) = 7 := hF2.ek hk7
    have hfg := cx_isFigure (D := D) (d := 0) hR2 hnin.2.1 h2
    have thr : (num tx i).1 = false → Zj (wX D) Y σ2 0 0 75 [some (.ref (p 7)), some (.int (oI (tx[sk tx i]?))), some (.int (nI (nm tx 6 (sk tx i) 0 0).2.1)), some (.int (nI (nm tx 6 (sk tx i) 0 0).2.2))] [] := fun hz => x_throwF C hQ dX2_number_75 dX2_number_78 dX2_number_79 dX2_number_80 dX2_number_83 dX2_number_86 hk72 h2 (fun q σ' g1 g2 g3 => ⟨hz, g1, g2, hF2.tr (g3.up (by simp) (by simp) (by simp))⟩) (by omega) (by omega) (by decide)
    refine z_il1 (q := 60) C dX2_number_59 rfl ?_
    refine z_iconst (q := 61) (v := -1) C dX2_number_60 rfl (by decide) ?_
    refine z_icmp_eq (tgt := 75) (q := 64) C dX2_number_61 (by decide) rfl (fun c61 => ?_) (fun c61 => ?_)
    · refine thr ?_
      have hnn : tx[sk tx i]? = none := (oI_m1 (fun n hn => by have := hR.2.2.2.2 n (List.mem_of_getElem? hn); omega)).mp c61
      have hf : fig tx (sk tx i) = false := by unfold fig; rw [hnn]
      have hz : nm tx 6 (sk tx i) 0 0 = (sk tx i, 0, 0) := by
        show (if fig tx (sk tx i) = true then _ else _) = _
        rw [if_neg (by rw [hf]; decide)]
      rw [hnum, hz]
      rfl
    · refine z_il3 (q := 65) C dX2_number_64 rfl ?_
      refine z_if_eq (tgt := 75) (q := 68) C dX2_number_65 (by decide) rfl (fun c65 => ?_) (fun c65 => ?_)
      · refine thr ?_
        have hz : (nm tx 6 (sk tx i) 0 0).2.2 = 0 := by
          have := congrArg Int32.toInt c65
          rw [nI_toInt (by omega)] at this
          have h2 : (0 : Int32).toInt = 0 := by decide
          omega
        rw [hnum]
        show (decide (0 < (nm tx 6 (sk tx i) 0 0).2.2) && _) = false
        rw [hz]
        rfl
      · have hpos : 0 < (nm tx 6 (sk tx i) 0 0).2.2 := by
          rcases Nat.eq_zero_or_pos (nm tx 6 (sk tx i) 0 0).2.2 with z | z
          · exact absurd (by rw [z]; rfl) c65
          · exact z
        first | refine z_al0 (q := 69) C dX2_number_68 rfl ?_ | refine z_al0q (q := 69) C dX2_number_68 rfl ?_ | refine z_al0u (q := 69) C dX2_number_68 rfl ?_
        refine xc_X2_38 (q := 72) C hfg (by exact hk72) dX2_number_69 rfl rfl rfl (Nat.le_of_ble_eq_true rfl) (by first | decide | omega) (by omega) (by omega) (kkE ?_)
        refine z_if_eqB (tgt := 87) (q := 75) C dX2_number_72 (by decide) rfl (fun c72 => ?_) (fun c72 => ?_)
        · refine z_il2 (q := 88) C dX2_number_87 rfl ?_
          refine zx_iret C hQ dX2_number_88 (by omega) (by omega) ?_
          exact ⟨_, rfl, by rw [hnum]; show (decide _ && !fig tx _) = true; rw [c72, decide_eq_true hpos]; rfl, rfl, hF2, h2⟩
        · refine thr ?_
          rw [hnum]
          show (decide _ && !fig tx _) = false
          rw [c72, Bool.not_true, Bool.and_false]
  have loop : ∀ f j v n, n + f = 6 → j ≤ tx.length → v < 10 ^ n → ∀ σ2 : Sg, nm tx f j v n = nm tx 6 (sk tx i) 0 0 → FG [120] [] [] σ σ2 → fi σ2 120 (p 7) = nI j → Zj (wX D) Y σ2 0 0 9 [some (.ref (p 7)), some (.int (oI (tx[sk tx i]?))), some (.int (nI v)), some (.int (nI n))] [] := by
    intro f
    induction f with
    | zero =>
      intro j v n hn hj hv σ2 hnm hF2 h2
      have hn : n = 6 := hn
      subst hn
      have hR2 := hR.keep hF2 (by simp) (by simp) (by simp) (by simp)
      have hk72 : kd σ2 (p 7) = 7 := hF2.ek hk7
      have hnm : (j, v, 6) = nm tx 6 (sk tx i) 0 0 := hnm
      have hg := fin σ2 hF2 (by rw [← hnm]; exact h2)
      rw [← hnm] at hg
      first | refine z_al0 (q := 10) C dX2_number_9 rfl ?_ | refine z_al0q (q := 10) C dX2_number_9 rfl ?_ | refine z_al0u (q := 10) C dX2_number_9 rfl ?_
      refine xc_X2_38 (q := 13) C (cx_isFigure (d := 0) hR2 hj h2) (by exact hk72) dX2_number_10 rfl rfl rfl (Nat.le_of_ble_eq_true rfl) (by first | decide | omega) (by omega) (by omega) (kkE ?_)
      refine z_if_eqB (tgt := 59) (q := 16) C dX2_number_13 (by decide) rfl (fun c13 => hg) (fun c13 => ?_)
      refine z_il3 (q := 17) C dX2_number_16 rfl ?_
      refine z_bipush (q := 19) (v := nI 6) C dX2_number_17 rfl (by decide) ?_
      refine z_icmp_geN (tgt := 59) (q := 22) C dX2_number_19 (by decide) rfl (by omega) (by omega) (fun c19 => hg) (fun c19 => absurd c19 (by omega))
    | succ f ih =>
      intro j v n hn hj hv σ2 hnm hF2 h2
      have hR2 := hR.keep hF2 (by simp) (by simp) (by simp) (by simp)
      obtain ⟨hX2, e15, htx, hlen2, h127⟩ := id hR2
      obtain ⟨ho, -⟩ := hX2.1
      obtain ⟨r18, k7, r121⟩ := hX2.2.2.2.2.2.2.1
      obtain ⟨r14, k4, l4⟩ := hX2.2.2.2.1
      first | refine z_al0 (q := 10) C dX2_number_9 rfl ?_ | refine z_al0q (q := 10) C dX2_number_9 rfl ?_ | refine z_al0u (q := 10) C dX2_number_9 rfl ?_
      refine xc_X2_38 (q := 13) C (cx_isFigure (d := 0) hR2 hj h2) (by exact k7) dX2_number_10 rfl rfl rfl (Nat.le_of_ble_eq_true rfl) (by first | decide | omega) (by omega) (by omega) (kkE ?_)
      refine z_if_eqB (tgt := 59) (q := 16) C dX2_number_13 (by decide) rfl (fun c13 => ?_) (fun c13 => ?_)
      · have hnm : (j, v, n) = nm tx 6 (sk tx i) 0 0 := by
          rw [← hnm]
          show _ = (if fig tx j = true then _ else _)
          rw [if_neg (by rw [c13]; decide)]
        have hg := fin σ2 hF2 (by rw [← hnm]; exact h2)
        rw [← hnm] at hg
        exact hg
      · have hnm : nm tx f (j + 1) (10 * v + tx.getD j 0 - 48) (n + 1) = nm tx 6 (sk tx i) 0 0 := by
          rw [← hnm]
          show _ = (if fig tx j = true then _ else _)
          rw [if_pos c13]
        obtain ⟨hjl, g48, g57⟩ := fig_in c13
        have hai := htx j _ (getD_of hjl)
        have hpow : 10 ^ (n + 1) = 10 * 10 ^ n := by rw [Nat.pow_succ, Nat.mul_comm]
        have hg := ih (j + 1) (10 * v + tx.getD j 0 - 48) (n + 1) (by omega) (by omega) (by rw [hpow]; omega) (sI 120 (p 7) (nI (j + 1)) σ2) hnm (hF2.wI (fun _ => by simp)) (by rw [fi_sI, if_pos ⟨rfl, rfl⟩])
        refine z_il3 (q := 17) C dX2_number_16 rfl ?_
        refine z_bipush (q := 19) (v := nI 6) C dX2_number_17 rfl (by decide) ?_
        refine z_icmp_geN (tgt := 59) (q := 22) C dX2_number_19 (by decide) rfl (by omega) (by omega) (fun c19 => absurd c19 (by omega)) (fun c19 => ?_)
        refine z_bipush (q := 24) (v := nI 10) C dX2_number_22 rfl (by decide) ?_
        refine z_il2 (q := 25) C dX2_number_24 rfl ?_
        first | refine z_imulN (q := 26) C dX2_number_25 rfl ?_ | refine z_imul (q := 26) C dX2_number_25 rfl ?_
        first | refine z_al0 (q := 27) C dX2_number_26 rfl ?_ | refine z_al0q (q := 27) C dX2_number_26 rfl ?_ | refine z_al0u (q := 27) C dX2_number_26 rfl ?_
        first | refine xr_X2_3 (q := 30) C (by exact k7) r121 dX2_number_27 rfl ?_ | refine xn_X2_3 (q := 30) C (by exact k7) r121 dX2_number_27 rfl ?_
        first | refine xr_X2_22 (q := 33) C (by exact ho) r14 dX2_number_30 rfl ?_ | refine xn_X2_22 (q := 33) C (by exact ho) r14 dX2_number_30 rfl ?_
        first | refine z_al0 (q := 34) C dX2_number_33 rfl ?_ | refine z_al0q (q := 34) C dX2_number_33 rfl ?_ | refine z_al0u (q := 34) C dX2_number_33 rfl ?_
        refine xg_X2_15 (q := 37) C (by exact k7) dX2_number_34 rfl ?_
        rw [h2]
        first | refine x_bald (q := 38) C (by exact k4) (by rw [l4]; omega) (by omega) dX2_number_37 rfl ?_ | refine x_zald (q := 38) C (by exact k4) (by rw [l4]; omega) (by omega) dX2_number_37 rfl ?_
        rw [hai]
        first | refine z_iaddN (q := 39) C dX2_number_38 rfl ?_ | refine z_iadd (q := 39) C dX2_number_38 rfl ?_
        refine z_bipush (q := 41) (v := nI 48) C dX2_number_39 rfl (by decide) ?_
        refine z_isubN (q := 42) C dX2_number_41 rfl (by omega) ?_
        refine z_is2 (q := 43) C dX2_number_42 rfl (by first | exact loC_i | exact loC_r | exact loC_n | exact loC_q | exact loC_u) ?_
        first | refine z_al0 (q := 44) C dX2_number_43 rfl ?_ | refine z_al0q (q := 44) C dX2_number_43 rfl ?_ | refine z_al0u (q := 44) C dX2_number_43 rfl ?_
        refine z_dup (q := 45) C dX2_number_44 rfl rfl ?_
        refine xg_X2_15 (q := 48) C (by exact k7) dX2_number_45 rfl ?_
        rw [h2]
        refine z_iconst (q := 49) (v := nI 1) C dX2_number_48 rfl (by decide) ?_
        first | refine z_iaddN (q := 50) C dX2_number_49 rfl ?_ | refine z_iadd (q := 50) C dX2_number_49 rfl ?_
        refine xp_X2_15 (q := 53) C (by exact k7) dX2_number_50 rfl ?_
        first | refine z_iinc3N (q := 56) C dX2_number_53 rfl (by first | exact loC_i | exact loC_r | exact loC_n | exact loC_q | exact loC_u) ?_ | refine z_iinc3 (q := 56) C dX2_number_53 rfl rfl (by first | exact loC_i | exact loC_r | exact loC_n | exact loC_q | exact loC_u) ?_
        refine z_goto (tgt := 9) C dX2_number_56 (by decide) ?_
        exact hg
  exact loop 6 (sk tx i) 0 0 rfl hsk.2 (by decide) σ1 rfl hF1 h1
end T87
