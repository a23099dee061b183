/-! THE CLASS: entries come, go, move -/
set_option maxRecDepth 10000
/-- order, bins and numbers hold what the core says -/
def XC (ad : Nat → Nat) (o bs : Nat) (σ : Sg) (B : Nat → Nat) (c : Co) : Prop := XO ad o σ (k_es c) ∧ XB ad o bs σ B c ∧ fi σ 7 o = nI (k_n c 4) ∧ fi σ 8 o = nI (k_n c 5)
theorem k_mov_last {c : Co} {e : Nat} (he : e + 1 = (k_es c).length) : k_mov c e = c := by
  unfold k_mov
  have : (k_es c).eraseIdx e ++ ((k_es c)[e]?).toList = k_es c := by
    refine List.ext_getElem? fun j => ?_
    obtain ⟨x, hx⟩ := at_lt (show e < (k_es c).length by omega)
    rw [hx]
    by_cases hj : j < e
    · rw [List.getElem?_append_left (by rw [List.length_eraseIdx_of_lt (by omega)]; omega), List.getElem?_eraseIdx, if_pos hj]
    · rw [List.getElem?_append_right (by rw [List.length_eraseIdx_of_lt (by omega)]; omega), List.length_eraseIdx_of_lt (by omega)]
      by_cases hj2 : j = e
      · subst hj2
        rw [hx, show j - ((k_es c).length - 1) = 0 by omega]
        rfl
      · rw [List.getElem?_eq_none (l := k_es c) (by omega), List.getElem?_eq_none (by simp; omega)]
  rw [this]
theorem ks_at {c : Co} {e : Nat} (he : e < (k_es c).length) : (k_ks c)[e]? = some (kAt c e) := by
  obtain ⟨v, hv⟩ := kAt_lt he
  unfold k_ks
  rw [List.getElem?_map, hv]
  rfl
theorem kAt_mem {c : Co} {e : Nat} (he : e < (k_es c).length) : kAt c e ∈ k_ks c := List.mem_of_getElem? (ks_at he)
section T68
variable {D : Dx} {ad : Nat → Nat} {o bs : Nat} {σ : Sg} {B : Nat → Nat} {c : Co} {d : Nat}
theorem XC.keep {σ' : Sg} {li lr la : List Nat} (h : XC ad o bs σ B c) (hM : MO o bs σ) (hF : FG li lr la σ σ') (h1 : ∀ g ∈ [1, 4, 5, 6, 7, 8, 20, 21, 22, 23, 42], g ∉ li) (h2 : ∀ g ∈ [2, 3, 24, 25, 26, 27, 28, 29, 40, 41, 60], g ∉ lr) (h3 : bs ∉ la) : XC ad o bs σ' B c := by
  have hn : kd σ o ≠ 0 := by have := hM.1; omega
  exact ⟨h.1.keep hM.1 hF (fun g hg => h1 g (by simp at hg ⊢; omega)) (fun g hg => h2 g (by simp at hg ⊢; omega)), h.2.1.keep hM hF (fun g hg => h1 g (by simp at hg ⊢; omega)) (fun g hg => h2 g (by simp at hg ⊢; omega)) h3, by rw [hF.gi hn (h1 7 (by simp))]; exact h.2.2.1, by rw [hF.gi hn (h1 8 (by simp))]; exact h.2.2.2⟩
theorem XO.at (h : XO ad o σ (k_es c)) {e : Nat} (he : e < (k_es c).length) : ∃ v, (k_es c)[e]? = some (kAt c e, v) ∧ EC ad σ (kAt c e, v) := by
  obtain ⟨v, hv⟩ := kAt_lt he
  exact ⟨v, hv, h.2.2 _ (List.mem_of_getElem? hv)⟩
theorem XO.lst (h : XO ad o σ (k_es c)) (hI : CI c) {e : Nat} (he : e < (k_es c).length) : some (ad (kAt c e)) = fr σ 3 o ↔ e + 1 = (k_es c).length := by
  have h3 := h.1.2.2.1
  have hl : ((k_ks c).map ad).length = (k_es c).length := by rw [List.length_map, k_len]
  have h3 : fr σ 3 o = some (ad (kAt c ((k_es c).length - 1))) := by
    rw [h3, show (List.map (fun x => x.fst) (k_es c)).map ad = (k_ks c).map ad from rfl, hl, List.getElem?_map, ks_at (by omega)]
    rfl
  rw [h3]
  have key : ∀ i, i < (k_es c).length → ((k_ks c).map ad)[i]? = some (ad (kAt c i)) := fun i hi => by rw [List.getElem?_map, ks_at hi]; rfl
  constructor
  · intro z
    have := nd_inj h.1.1 (key e he) ((key ((k_es c).length - 1) (by omega)).trans z.symm)
    omega
  · intro z
    rw [show (k_es c).length - 1 = e by omega]
theorem cx_moves (hM : MO o bs σ) (hX : XC ad o bs σ B c) (hI : CI c) {e : Nat} (he : e < (k_es c).length) : Ct (wX D) yX0_moves cX0_moves 2 none [.ref o, .ref (ad (kAt c e))] σ (PV (fun σ' => XC ad o bs σ' B (if k_n c 4 = 1 then k_mov c e else c) ∧ fi σ' 9 o = fi σ 9 o + nI (if k_n c 4 = 1 then (if e + 1 = (k_es c).length then 0 else 1) else 0) ∧ FG [4, 9] [2, 3, 24, 25] [] σ σ')) (d + 1) 0 0 := by
  have ho := hM.1
  have h4 := hI.2.2.2.2.2.2.2.1
  have hes := hI.2.2.2.1
  obtain ⟨v, hv, hEC⟩ := hX.1.at he
  have e7 := hX.2.2.1
  refine Ct.of KXok (by decide) (Nat.le_of_ble_eq_true rfl) rfl fun Y C hQ hNm => ?_
  first | refine z_al0 (q := 1) C dX0_moves_0 rfl ?_ | refine z_al0q (q := 1) C dX0_moves_0 rfl ?_ | refine z_al0u (q := 1) C dX0_moves_0 rfl ?_
  refine xg_X0_144 (q := 4) C (by exact ho) dX0_moves_1 rfl ?_
  rw [e7]
  refine z_iconst (q := 5) (v := nI 1) C dX0_moves_4 rfl (by decide) ?_
  refine z_icmp_neN (tgt := 36) (q := 8) C dX0_moves_5 (by decide) rfl (by omega) (by omega) (fun c5 => ?_) (fun c5 => ?_)
  · refine z_vret C hQ dX0_moves_36 (by omega) (by omega) ?_
    refine ⟨rfl, ?_, ?_, FR.rf⟩
    · rw [if_neg c5]; exact hX
    · rw [if_neg c5, nI_0, Int32.add_zero]
  · have hcu := cx_unl (D := D) (d := d) hX.1 ho hv
    first | refine z_al1 (q := 9) C dX0_moves_8 rfl ?_ | refine z_al1q (q := 9) C dX0_moves_8 rfl ?_ | refine z_al1u (q := 9) C dX0_moves_8 rfl ?_
    first | refine z_al0 (q := 10) C dX0_moves_9 rfl ?_ | refine z_al0q (q := 10) C dX0_moves_9 rfl ?_ | refine z_al0u (q := 10) C dX0_moves_9 rfl ?_
    refine xg_X0_131 (q := 13) C (by exact ho) dX0_moves_10 rfl ?_
    refine z_acmp_eq (rx := some (ad (kAt c e))) (ry := fr σ 3 o) (tgt := 36) (q := 16) C dX0_moves_13 (by decide) rfl (fun c13 => ?_) (fun c13 => ?_)
    · have hlast := (hX.1.lst hI he).mp c13
      refine z_vret C hQ dX0_moves_36 (by omega) (by omega) ?_
      refine ⟨rfl, ?_, ?_, FR.rf⟩
      · rw [if_pos c5, k_mov_last hlast]; exact hX
      · rw [if_pos c5, if_pos hlast, nI_0, Int32.add_zero]
    · have hlast : ¬ e + 1 = (k_es c).length := fun z => c13 ((hX.1.lst hI he).mpr z)
      first | refine z_al0 (q := 17) C dX0_moves_16 rfl ?_ | refine z_al0q (q := 17) C dX0_moves_16 rfl ?_ | refine z_al0u (q := 17) C dX0_moves_16 rfl ?_
      first | refine z_al1 (q := 18) C dX0_moves_17 rfl ?_ | refine z_al1q (q := 18) C dX0_moves_17 rfl ?_ | refine z_al1u (q := 18) C dX0_moves_17 rfl ?_
      refine xc_X0_147 (q := 21) C hcu (by exact ho) dX0_moves_18 rfl rfl rfl (Nat.le_of_ble_eq_true rfl) (by first | decide | omega) (by omega) (by omega) (kkV fun σ18 h18 => ?_)
      obtain ⟨hO2, hF2⟩ := h18
      have ho2 : kd σ18 o = 1 := hF2.ek ho
      have hEC2 := hEC.keep hF2 (fun g hg => by rcases hg with rfl | rfl | rfl <;> simp)
      have hnm : kAt c e ∉ ((k_es c).eraseIdx e).map (·.1) := fun z => by
        have := k_del_perm he
        have := (List.nodup_cons.mp (this.nodup_iff.mp hI.1)).1
        exact this z
      first | refine z_al0 (q := 22) C dX0_moves_21 rfl ?_ | refine z_al0q (q := 22) C dX0_moves_21 rfl ?_ | refine z_al0u (q := 22) C dX0_moves_21 rfl ?_
      first | refine z_al1 (q := 23) C dX0_moves_22 rfl ?_ | refine z_al1q (q := 23) C dX0_moves_22 rfl ?_ | refine z_al1u (q := 23) C dX0_moves_22 rfl ?_
      refine xc_X0_150 (q := 26) C (cx_lnk (d := d) (x := (kAt c e, v)) hO2 ho2 hEC2 hnm (by rw [List.length_eraseIdx_of_lt he]; omega)) (by exact ho2) dX0_moves_23 rfl rfl rfl (Nat.le_of_ble_eq_true rfl) (by first | decide | omega) (by omega) (by omega) (kkV fun σ23 h23 => ?_)
      obtain ⟨hO3, hF3⟩ := h23
      have hF := hF2.tr hF3
      have ho3 : kd σ23 o = 1 := hF3.ek ho2
      have hF4 : FG [4, 9] [2, 3, 24, 25] [] σ (sI 9 o (fi σ23 9 o + nI 1) σ23) := (hF.up (by simp) (by simp) (by simp)).wI (fun _ => by simp)
      first | refine z_al0 (q := 27) C dX0_moves_26 rfl ?_ | refine z_al0q (q := 27) C dX0_moves_26 rfl ?_ | refine z_al0u (q := 27) C dX0_moves_26 rfl ?_
      refine z_dup (q := 28) C dX0_moves_27 rfl rfl ?_
      refine xg_X0_153 (q := 31) C (by exact ho3) dX0_moves_28 rfl ?_
      refine z_iconst (q := 32) (v := nI 1) C dX0_moves_31 rfl (by decide) ?_
      first | refine z_iaddN (q := 33) C dX0_moves_32 rfl ?_ | refine z_iadd (q := 33) C dX0_moves_32 rfl ?_
      refine xp_X0_153 (q := 36) C (by exact ho3) dX0_moves_33 rfl ?_
      refine z_vret C hQ dX0_moves_36 (by omega) (by omega) ?_
      refine ⟨rfl, ?_, ?_, hF4⟩
      · rw [if_pos c5]
        have hn : kd σ o ≠ 0 := by omega
        refine ⟨?_, hX.2.1.keep hM hF4 (by simp) (by simp) (by simp), by rw [hF4.gi hn (by simp)]; exact hX.2.2.1, by rw [hF4.gi hn (by simp)]; exact hX.2.2.2⟩
        have : k_es (k_mov c e) = (k_es c).eraseIdx e ++ [(kAt c e, v)] := by
          show (k_es c).eraseIdx e ++ ((k_es c)[e]?).toList = _
          rw [hv]; rfl
        rw [this]
        exact hO3.keep ho3 (FR.rf.wI (fun _ => by simp) : FG [9] [] [] σ23 (sI 9 o (fi σ23 9 o + nI 1) σ23)) (by simp) (by simp)
      · rw [if_pos c5, if_neg hlast, fi_sI, if_pos ⟨rfl, rfl⟩, hF.gi (by omega) (by simp)]
theorem cx_leavesOne (hM : MO o bs σ) (hX : XC ad o bs σ B c) (hI : CI c) {e : Nat} (he : e < (k_es c).length) : Ct (wX D) yX0_leavesOne cX0_leavesOne 2 none [.ref o, .ref (ad (kAt c e))] σ (PV (fun σ' => (∃ B', XC ad o bs σ' B' (k_go c e)) ∧ fi σ' 9 o = fi σ 9 o + nI 1 ∧ FG [4, 9, 42] [2, 3, 24, 25, 26, 27, 28, 29, 40, 41, 60] [bs] σ σ')) 62 1 4 := by
  have ho := hM.1
  obtain ⟨v, hv, hEC⟩ := hX.1.at he
  refine Ct.of KXok (by decide) (Nat.le_of_ble_eq_true rfl) rfl fun Y C hQ hNm => ?_
  first | refine z_al0 (q := 1) C dX0_leavesOne_0 rfl ?_ | refine z_al0q (q := 1) C dX0_leavesOne_0 rfl ?_ | refine z_al0u (q := 1) C dX0_leavesOne_0 rfl ?_
  first | refine z_al1 (q := 2) C dX0_leavesOne_1 rfl ?_ | refine z_al1q (q := 2) C dX0_leavesOne_1 rfl ?_ | refine z_al1u (q := 2) C dX0_leavesOne_1 rfl ?_
  refine xc_X0_147 (q := 5) C (cx_unl (D := D) (d := 0) hX.1 ho hv) (by exact ho) dX0_leavesOne_2 rfl rfl rfl (Nat.le_of_ble_eq_true rfl) (by first | decide | omega) (by omega) (by omega) (kkV fun σ2 h2 => ?_)
  obtain ⟨hO2, hF2⟩ := h2
  have hM2 := hM.keep hF2 (by simp)
  have hB2 := hX.2.1.keep hM hF2 (by simp) (by simp) (by simp)
  first | refine z_al0 (q := 6) C dX0_leavesOne_5 rfl ?_ | refine z_al0q (q := 6) C dX0_leavesOne_5 rfl ?_ | refine z_al0u (q := 6) C dX0_leavesOne_5 rfl ?_
  first | refine z_al1 (q := 7) C dX0_leavesOne_6 rfl ?_ | refine z_al1q (q := 7) C dX0_leavesOne_6 rfl ?_ | refine z_al1u (q := 7) C dX0_leavesOne_6 rfl ?_
  refine xc_X0_156 (q := 10) C (cx_goesOut hM2 hB2 hI he) (by exact hM2.1) dX0_leavesOne_7 rfl rfl rfl (Nat.le_of_ble_eq_true rfl) (by first | decide | omega) (by omega) (by omega) (kkV fun σ7 h7 => ?_)
  obtain ⟨⟨B', hB3⟩, hF3⟩ := h7
  have hM3 := hM2.keep hF3 (by simp)
  have ho3 := hM3.1
  have hO3 := hO2.keep hM2.1 hF3 (by simp) (by simp)
  have hF : FG [4, 9, 42] [2, 3, 24, 25, 26, 27, 28, 29, 40, 41, 60] [bs] σ σ7 := (hF2.up (by simp) (by simp) (by simp)).tr (hF3.up (by simp) (by simp) (by simp))
  have hn : kd σ o ≠ 0 := by omega
  have e9 : fi σ7 9 o = fi σ 9 o := by rw [hF3.gi (by have := hM2.1; omega) (by simp), hF2.gi hn (by simp)]
  have e7 : fi σ7 7 o = nI (k_n c 4) := by rw [hF.gi hn (by simp)]; exact hX.2.2.1
  have e8 : fi σ7 8 o = nI (k_n c 5) := by rw [hF.gi hn (by simp)]; exact hX.2.2.2
  have hF9 : FG [9] [] [] σ7 (sI 9 o (fi σ7 9 o + nI 1) σ7) := FR.rf.wI (fun _ => by simp)
  have hX9 : XC ad o bs (sI 9 o (fi σ7 9 o + nI 1) σ7) B' (k_go c e) := XC.keep (c := k_go c e) ⟨hO3, hB3, e7, e8⟩ hM3 hF9 (by simp) (by simp) (by simp)
  first | refine z_al0 (q := 11) C dX0_leavesOne_10 rfl ?_ | refine z_al0q (q := 11) C dX0_leavesOne_10 rfl ?_ | refine z_al0u (q := 11) C dX0_leavesOne_10 rfl ?_
  refine z_dup (q := 12) C dX0_leavesOne_11 rfl rfl ?_
  refine xg_X0_153 (q := 15) C (by exact ho3) dX0_leavesOne_12 rfl ?_
  refine z_iconst (q := 16) (v := nI 1) C dX0_leavesOne_15 rfl (by decide) ?_
  first | refine z_iaddN (q := 17) C dX0_leavesOne_16 rfl ?_ | refine z_iadd (q := 17) C dX0_leavesOne_16 rfl ?_
  refine xp_X0_153 (q := 20) C (by exact ho3) dX0_leavesOne_17 rfl ?_
  refine z_vret C hQ dX0_leavesOne_20 (by omega) (by omega) ?_
  exact ⟨rfl, ⟨B', hX9⟩, by rw [fi_sI, if_pos ⟨rfl, rfl⟩, e9], hF.wI (fun _ => by simp)⟩
set_option maxHeartbeats 1000000 in
theorem cx_comesNew (hM : MO o bs σ) (hX : XC ad o bs σ B c) (hI : CI c) {k v : Nat} (hk : k ≤ 999999) (hv : v ≤ 9999) (hn : k ∉ k_ks c) (hl : (k_es c).length ≤ 48) : Ct (wX D) yX0_comesNew cX0_comesNew 4 none [.ref o, .int (nI k), .int (nI v)] σ (PV (fun σ' => (∃ ad' B', (∀ x ∈ k_ks c, ad' x = ad x) ∧ XC ad' o bs σ' B' (k_come c k v)) ∧ fi σ' 9 o = fi σ 9 o + nI (if 0 < k_n c 5 ∧ k_n c 5 < (k_es c).length + 1 then 2 else 1) ∧ FG [1, 4, 9, 23, 42] [2, 3, 24, 25, 26, 27, 28, 29, 40, 41, 60] [bs] σ σ')) 63 260 920 := by
  have ho := hM.1
  have hnc : k ∉ k_cs c := fun z => hn (hI.2.2.1.mem_iff.mp z)
  have h48 := hI.2.2.2.2.2.2.2.2.1
  refine Ct.of KXok (by decide) (Nat.le_of_ble_eq_true rfl) rfl fun Y C hQ hNm => ?_
  refine x_newN (q := 3) (m := 10) C rfl KC1 q349 q350 q88 (by decide) (by omega) (by omega) dX0_comesNew_0 rfl (fun a0 f0 => ?_)
  refine z_dup (q := 4) C dX0_comesNew_3 rfl rfl ?_
  refine z_il1 (q := 5) C dX0_comesNew_4 rfl ?_
  refine z_il2 (q := 6) C dX0_comesNew_5 rfl ?_
  refine xc_X0_159 (q := 9) C (cx_entry (d := 0) (σ := nO 2 a0 σ) (a := a0) (k := k) (v := v) (if_pos rfl) hk) dX0_comesNew_6 rfl rfl rfl (Nat.le_of_ble_eq_true rfl) (by first | decide | omega) (by omega) (by omega) (kkN ?_)
  first | refine z_as3 (q := 10) C dX0_comesNew_9 rfl (by first | exact loC_i | exact loC_r | exact loC_n | exact loC_q | exact loC_u) ?_ | refine z_as3q (q := 10) C dX0_comesNew_9 rfl (by first | exact loC_i | exact loC_r | exact loC_n | exact loC_q | exact loC_u) ?_ | refine z_asu3 (q := 10) C dX0_comesNew_9 rfl (by first | exact loC_i | exact loC_r | exact loC_n | exact loC_q | exact loC_u) ?_
  have hadk : (fun x => if x = k then a0 else ad x) k = a0 := if_pos rfl
  have hado : ∀ x, x ≠ k → (fun x => if x = k then a0 else ad x) x = ad x := fun x hx => if_neg hx
  generalize hadd : (fun x => if x = k then a0 else ad x) = ad' at hadk hado
  obtain ⟨hEC, hF1⟩ := new_entry (σ := σ) (ad := ad') hk hv f0 hadk
  generalize sI 22 a0 (nI (prio k)) (sI 21 a0 (nI v) (sI 20 a0 (nI k) (nO 2 a0 σ))) = σ1 at *
  have hM1 := hM.keep hF1 (by simp)
  have hks : ∀ x ∈ k_ks c, ad' x = ad x := fun x hx => hado x (fun z => hn (z ▸ hx))
  have hX1 : XC ad' o bs σ1 B c := by
    have h0 := hX.keep hM hF1 (by simp) (by simp) (by simp)
    exact ⟨h0.1.cong (fun e he => hks _ (List.mem_map.mpr ⟨e, he, rfl⟩)), h0.2.1.adc (fun x hx => hks x (hI.2.2.1.mem_iff.mp hx)), h0.2.2⟩
  rw [← hadk]
  first | refine z_al0 (q := 11) C dX0_comesNew_10 rfl ?_ | refine z_al0q (q := 11) C dX0_comesNew_10 rfl ?_ | refine z_al0u (q := 11) C dX0_comesNew_10 rfl ?_
  first | refine z_al3 (q := 12) C dX0_comesNew_11 rfl ?_ | refine z_al3q (q := 12) C dX0_comesNew_11 rfl ?_ | refine z_al3u (q := 12) C dX0_comesNew_11 rfl ?_
  refine xc_X0_150 (q := 15) C (cx_lnk (d := 0) (x := (k, v)) hX1.1 hM1.1 hEC hn (by omega)) (by exact hM1.1) dX0_comesNew_12 rfl rfl rfl (Nat.le_of_ble_eq_true rfl) (by first | decide | omega) (by omega) (by omega) (kkV fun σ12 h12 => ?_)
  obtain ⟨hO2, hF2⟩ := h12
  have hM2 := hM1.keep hF2 (by simp)
  have ho2 := hM2.1
  have hB2 := hX1.2.1.keep hM1 hF2 (by simp) (by simp) (by simp)
  have hEC2 := hEC.keep hF2 (fun g hg => by rcases hg with rfl | rfl | rfl <;> simp)
  have e4 := hO2.2.1
  rw [List.length_append] at e4
  have e4 : fi σ12 4 o = nI ((k_es c).length + 1) := e4
  first | refine z_al0 (q := 16) C dX0_comesNew_15 rfl ?_ | refine z_al0q (q := 16) C dX0_comesNew_15 rfl ?_ | refine z_al0u (q := 16) C dX0_comesNew_15 rfl ?_
  first | refine z_al3 (q := 17) C dX0_comesNew_16 rfl ?_ | refine z_al3q (q := 17) C dX0_comesNew_16 rfl ?_ | refine z_al3u (q := 17) C dX0_comesNew_16 rfl ?_
  first | refine z_al0 (q := 18) C dX0_comesNew_17 rfl ?_ | refine z_al0q (q := 18) C dX0_comesNew_17 rfl ?_ | refine z_al0u (q := 18) C dX0_comesNew_17 rfl ?_
  refine xg_X0_142 (q := 21) C (by exact ho2) dX0_comesNew_18 rfl ?_
  rw [e4]
  refine xc_X0_162 (q := 24) C (cx_comesIn (v := v) hM2 hB2 hI hEC2.1 hEC2.2.1 hEC2.2.2.2.1 hk hv hnc hl (by omega)) (by exact ho2) dX0_comesNew_21 rfl rfl rfl (Nat.le_of_ble_eq_true rfl) (by first | decide | omega) (by omega) (by omega) (kkV fun σ21 h21 => ?_)
  obtain ⟨⟨B3, hB3⟩, hF3⟩ := h21
  have hM3 := hM2.keep hF3 (by simp)
  have ho3 := hM3.1
  have hO3 := hO2.keep ho2 hF3 (by simp) (by simp)
  have hF13 : FG [1, 4, 9, 23, 42] [2, 3, 24, 25, 26, 27, 28, 29, 40, 41, 60] [bs] σ σ21 := ((hF1.up (by simp) (by simp) (by simp)).tr (hF2.up (by simp) (by simp) (by simp))).tr (hF3.up (by simp) (by simp) (by simp))
  have hfo := k_fit_o (c := k_add c k v) (b := k_b c k) (all := (k_es c).length + 1)
  have hI4 : CI (k_fit (k_add c k v) (k_b c k) ((k_es c).length + 1)) := (hI.add hk hv hn hl).fit (k_b_lt hI k)
  have hes4 : k_es (k_fit (k_add c k v) (k_b c k) ((k_es c).length + 1)) = k_es c ++ [(k, v)] := hfo.1
  have hcm : k_come c k v = if 0 < k_n c 5 ∧ k_n c 5 < (k_es c).length + 1 then k_go (k_fit (k_add c k v) (k_b c k) ((k_es c).length + 1)) 0 else k_fit (k_add c k v) (k_b c k) ((k_es c).length + 1) := rfl
  have hn4 : ∀ i, i ≠ 1 → k_n (k_fit (k_add c k v) (k_b c k) ((k_es c).length + 1)) i = k_n c i := fun i hi => (hfo.2.2 i hi)
  generalize k_fit (k_add c k v) (k_b c k) ((k_es c).length + 1) = c4 at *
  have hnz : kd σ o ≠ 0 := by omega
  have n1 : kd σ1 o ≠ 0 := by have := hM1.1; omega
  have n2 : kd σ12 o ≠ 0 := by omega
  have e9 : fi σ21 9 o = fi σ 9 o := by rw [hF3.gi n2 (by simp), hF2.gi n1 (by simp), hF1.gi hnz (by simp)]
  have e7 : fi σ21 7 o = nI (k_n c4 4) := by rw [hF13.gi hnz (by simp), hn4 4 (by decide)]; exact hX.2.2.1
  have e8 : fi σ21 8 o = nI (k_n c4 5) := by rw [hF13.gi hnz (by simp), hn4 5 (by decide)]; exact hX.2.2.2
  have hF9 : FG [9] [] [] σ21 (sI 9 o (fi σ21 9 o + nI 1) σ21) := FR.rf.wI (fun _ => by simp)
  have hX9 : XC ad' o bs (sI 9 o (fi σ21 9 o + nI 1) σ21) B3 c4 := XC.keep (c := c4) ⟨by rw [hes4]; exact hO3, hB3, e7, e8⟩ hM3 hF9 (by simp) (by simp) (by simp)
  have hM9 := hM3.keep hF9 (by simp)
  have hF19 : FG [1, 4, 9, 23, 42] [2, 3, 24, 25, 26, 27, 28, 29, 40, 41, 60] [bs] σ (sI 9 o (fi σ21 9 o + nI 1) σ21) := hF13.wI (fun _ => by simp)
  have e99 : fi (sI 9 o (fi σ21 9 o + nI 1) σ21) 9 o = fi σ 9 o + nI 1 := by rw [fi_sI, if_pos ⟨rfl, rfl⟩, e9]
  first | refine z_al0 (q := 25) C dX0_comesNew_24 rfl ?_ | refine z_al0q (q := 25) C dX0_comesNew_24 rfl ?_ | refine z_al0u (q := 25) C dX0_comesNew_24 rfl ?_
  refine z_dup (q := 26) C dX0_comesNew_25 rfl rfl ?_
  refine xg_X0_153 (q := 29) C (by exact ho3) dX0_comesNew_26 rfl ?_
  refine z_iconst (q := 30) (v := nI 1) C dX0_comesNew_29 rfl (by decide) ?_
  first | refine z_iaddN (q := 31) C dX0_comesNew_30 rfl ?_ | refine z_iadd (q := 31) C dX0_comesNew_30 rfl ?_
  refine xp_X0_153 (q := 34) C (by exact ho3) dX0_comesNew_31 rfl ?_
  generalize sI 9 o (fi σ21 9 o + nI 1) σ21 = σ9 at *
  have ho9 := hM9.1
  have e89 : fi σ9 8 o = nI (k_n c 5) := by rw [hX9.2.2.2, hn4 5 (by decide)]
  have e49 : fi σ9 4 o = nI ((k_es c).length + 1) := by rw [hX9.1.2.1, hes4, List.length_append]; rfl
  have stay : ¬ (0 < k_n c 5 ∧ k_n c 5 < (k_es c).length + 1) → ∃ ad' B', (∀ x ∈ k_ks c, ad' x = ad x) ∧ XC ad' o bs σ9 B' (k_come c k v) := fun z => ⟨ad', B3, hks, by rw [hcm, if_neg z]; exact hX9⟩
  first | refine z_al0 (q := 35) C dX0_comesNew_34 rfl ?_ | refine z_al0q (q := 35) C dX0_comesNew_34 rfl ?_ | refine z_al0u (q := 35) C dX0_comesNew_34 rfl ?_
  refine xg_X0_166 (q := 38) C (by exact ho9) dX0_comesNew_35 rfl ?_
  rw [e89]
  refine z_if_le (tgt := 60) (q := 41) C dX0_comesNew_38 (by decide) rfl (fun c38 => ?_) (fun c38 => ?_)
  · have z : ¬ (0 < k_n c 5 ∧ k_n c 5 < (k_es c).length + 1) := fun z => by
      have h1 := Int32.le_iff_toInt_le.mp c38
      rw [nI_toInt (by omega)] at h1
      have h2 : (0 : Int32).toInt = 0 := by decide
      omega
    refine z_vret C hQ dX0_comesNew_60 (by omega) (by omega) ?_
    exact ⟨rfl, stay z, by rw [if_neg z]; exact e99, hF19⟩
  · have h5 : 0 < k_n c 5 := by
      rcases Nat.eq_zero_or_pos (k_n c 5) with h | h
      · rw [h] at c38
        exact absurd (show (nI 0 : Int32) ≤ 0 by decide) c38
      · exact h
    first | refine z_al0 (q := 42) C dX0_comesNew_41 rfl ?_ | refine z_al0q (q := 42) C dX0_comesNew_41 rfl ?_ | refine z_al0u (q := 42) C dX0_comesNew_41 rfl ?_
    refine xg_X0_142 (q := 45) C (by exact ho9) dX0_comesNew_42 rfl ?_
    rw [e49]
    first | refine z_al0 (q := 46) C dX0_comesNew_45 rfl ?_ | refine z_al0q (q := 46) C dX0_comesNew_45 rfl ?_ | refine z_al0u (q := 46) C dX0_comesNew_45 rfl ?_
    refine xg_X0_166 (q := 49) C (by exact ho9) dX0_comesNew_46 rfl ?_
    rw [e89]
    refine z_icmp_leN (tgt := 60) (q := 52) C dX0_comesNew_49 (by decide) rfl (by omega) (by omega) (fun c49 => ?_) (fun c49 => ?_)
    · have z : ¬ (0 < k_n c 5 ∧ k_n c 5 < (k_es c).length + 1) := by omega
      refine z_vret C hQ dX0_comesNew_60 (by omega) (by omega) ?_
      exact ⟨rfl, stay z, by rw [if_neg z]; exact e99, hF19⟩
    · have z : 0 < k_n c 5 ∧ k_n c 5 < (k_es c).length + 1 := by omega
      have h40 : 0 < (k_es c4).length := by rw [hes4]; simp
      have h2o : fr σ9 2 o = some (ad' (kAt c4 0)) := by
        have := hX9.1.1.2.1
        rw [this, show (List.map (fun x => x.fst) (k_es c4)).map ad' = (k_ks c4).map ad' from rfl, List.getElem?_map, ks_at h40]
        rfl
      first | refine z_al0 (q := 53) C dX0_comesNew_52 rfl ?_ | refine z_al0q (q := 53) C dX0_comesNew_52 rfl ?_ | refine z_al0u (q := 53) C dX0_comesNew_52 rfl ?_
      first | refine z_al0 (q := 54) C dX0_comesNew_53 rfl ?_ | refine z_al0q (q := 54) C dX0_comesNew_53 rfl ?_ | refine z_al0u (q := 54) C dX0_comesNew_53 rfl ?_
      first | refine xr_X0_140 (q := 57) C (by exact ho9) h2o dX0_comesNew_54 rfl ?_ | refine xn_X0_140 (q := 57) C (by exact ho9) h2o dX0_comesNew_54 rfl ?_
      refine xc_X0_169 (q := 60) C (cx_leavesOne hM9 hX9 hI4 h40) (by exact ho9) dX0_comesNew_57 rfl rfl rfl (Nat.le_of_ble_eq_true rfl) (by first | decide | omega) (by omega) (by omega) (kkV fun σ57 h57 => ?_)
      refine z_vret C hQ dX0_comesNew_60 (by omega) (by omega) ?_
      obtain ⟨⟨B5, hX5⟩, e95, hF5⟩ := h57
      refine ⟨rfl, ⟨ad', B5, hks, by rw [hcm, if_pos z]; exact hX5⟩, ?_, hF19.tr (hF5.up (by simp) (by simp) (by simp))⟩
      rw [if_pos z, e95, e99, Int32.add_assoc, nI_add]
end T68
