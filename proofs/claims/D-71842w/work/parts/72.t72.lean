/-! THE CLASS: all that it holds -/
set_option maxRecDepth 10000
/-- what is known of all there is, whatever holds it -/
def AI (N : Nat) (α : Al) : Prop := CI (a_c α) ∧ (k_es (a_c α)).length ≤ 48 ∧ (∀ c ∈ a_ps α, CI c ∧ (k_es c).length ≤ 48) ∧ a_ch α ≤ N ∧ N ≤ 1000000 ∧ (a_tx α).length ≤ 120 ∧ (∀ x ∈ a_tx α, x ≤ 127) ∧ ∀ i, i < 3 → (∀ w, (a_cu α i).1 = some w → w < 3) ∧ (∀ k, (a_cu α i).2.1 = some k → k ≤ 999999) ∧ (∀ k, (a_cu α i).2.2.1 = some k → k ≤ 999999) ∧ (a_cu α i).2.2.2 ≤ a_ch α
theorem TA.ai {N : Nat} {τ : Tw} {α : Al} (h : TA N τ α) : AI N α := by
  obtain ⟨⟨h1, h1'⟩, ⟨h2, h2', h2P, h2l⟩, h3, ⟨h4, h4'⟩, ⟨h5, h5', h5A, h5l⟩, h6⟩ := h
  refine ⟨h1.1, h1', fun c hc => ?_, h4', h1.2.1, h5', h5l, fun i hi => (h6 i hi).2⟩
  obtain ⟨j, hj⟩ := List.getElem?_of_mem hc
  exact ⟨(h2P j c hj).1, h2l c hc⟩
/-- the cursors -/
def XU (D : Dx) (p ad : Nat → Nat) (σ : Sg) (ks : List Nat) (ch : Nat) (cu : Nat → Cu) : Prop := ∀ i, i < 3 → ((cu i).1 = none → fr σ 80 (p (8 + i)) = none) ∧ ∀ w, (cu i).1 = some w → fr σ 80 (p (8 + i)) = some (D.2.2.2 w) ∧ fi σ 82 (p (8 + i)) = oI (cu i).2.2.1 ∧ fi σ 83 (p (8 + i)) = nI (cu i).2.2.2 ∧ ((cu i).2.2.2 = ch → fr σ 81 (p (8 + i)) = (cu i).2.1.map ad ∧ (∀ k, (cu i).2.1 = some k → k ∈ ks ∧ (cu i).2.2.1 ≠ some k) ∧ ∀ k, (cu i).2.2.1 = some k → k ∈ ks)
/-- refusals, the text -/
def XR (p : Nat → Nat) (σ : Sg) (rf : Nat → Int32) (tx : List Nat) : Prop := (∀ i, i < 4 → ai σ (p 5) i = rf i) ∧ fi σ 15 (p 0) = nI tx.length ∧ (∀ j x, tx[j]? = some x → ai σ (p 4) j = nI x) ∧ fi σ 120 (p 7) = nI (p 11) ∧ ∀ i, i < 4 → ai σ (p 6) i = nI (p (12 + i))
def XA (q : Bool) (D : Dx) (p : Nat → Nat) (σ : Sg) (α : Al) : Prop := FX p σ ∧ fi σ 13 (p 0) = bI q ∧ (∃ ad B, XC ad (p 0) (p 1) σ B (a_c α) ∧ XU D p ad σ (k_ks (a_c α)) (a_ch α) (a_cu α)) ∧ XP p σ (a_ps α) ∧ fi σ 9 (p 0) = nI (a_ch α) ∧ XR p σ (a_rf α) (a_tx α)
section X72
variable {D : Dx} {p ad ad' : Nat → Nat} {σ σ' : Sg} {B B' : Nat → Nat} {c c' : Co} {ks ks' : List Nat} {ch ch' N δ : Nat} {cu : Nat → Cu} {li lr la : List Nat} {q : Bool} {α : Al} {ps' : List Co}
theorem XU.go (h : XU D p ad σ ks ch cu) (hX : FX p σ) (hF : FG li lr la σ σ') (h1 : ∀ g ∈ [82, 83], g ∉ li) (h2 : ∀ g ∈ [80, 81], g ∉ lr) (hk : ∀ i, i < 3 → (cu i).2.2.2 ≤ ch) (hc : ch < ch' ∨ (ch' = ch ∧ ∀ x ∈ ks, x ∈ ks' ∧ ad' x = ad x)) : XU D p ad' σ' ks' ch' cu := by
  intro i hi
  have hn : kd σ (p (8 + i)) ≠ 0 := by have := (hX.2.2.2.2.2.2.2.1 i hi).2; omega
  refine ⟨fun z => by rw [hF.gr hn (h2 80 (by simp))]; exact (h i hi).1 z, fun w hw => ?_⟩
  obtain ⟨a1, a2, a3, a4⟩ := (h i hi).2 w hw
  refine ⟨by rw [hF.gr hn (h2 80 (by simp))]; exact a1, by rw [hF.gi hn (h1 82 (by simp))]; exact a2, by rw [hF.gi hn (h1 83 (by simp))]; exact a3, fun z => ?_⟩
  rcases hc with hc | ⟨rfl, hc⟩
  · exact absurd (hk i hi) (by omega)
  · obtain ⟨b1, b2, b3⟩ := a4 z
    refine ⟨?_, fun k hk' => ⟨(hc k (b2 k hk').1).1, (b2 k hk').2⟩, fun k hk' => (hc k (b3 k hk')).1⟩
    rw [hF.gr hn (h2 81 (by simp)), b1]
    cases e : (cu i).2.1 with
    | none => rfl
    | some k => exact congrArg some (hc k (b2 k e).1).2.symm
theorem XR.keep {rf : Nat → Int32} {tx : List Nat} (h : XR p σ rf tx) (hX : FX p σ) (hF : FG li lr la σ σ') (h1 : ∀ g ∈ [15, 120], g ∉ li) (h4 : p 4 ∉ la) (h5 : p 5 ∉ la) (h6 : p 6 ∉ la) : XR p σ' rf tx := by
  have k4 := hX.2.2.2.1.2.1
  have k5 := hX.2.2.2.2.1.2.1
  have k6 := hX.2.2.2.2.2.1.2.1
  have k0 := hX.1.1
  exact ⟨fun i hi => by rw [(hF.2.2.2 (p 5) (by omega) h5).1]; exact h.1 i hi, by rw [hF.gi (by omega) (h1 15 (by simp))]; exact h.2.1, fun j x hj => by rw [(hF.2.2.2 (p 4) (by omega) h4).1]; exact h.2.2.1 j x hj, by rw [hF.gi (by have := hX.2.2.2.2.2.2.1.2.1; omega) (h1 120 (by simp))]; exact h.2.2.2.1, fun i hi => by rw [(hF.2.2.2 (p 6) (by omega) h6).1]; exact h.2.2.2.2 i hi⟩
theorem XA.core (hX : FX p σ) (hq : fi σ 13 (p 0) = bI q) (hU : XU D p ad σ (k_ks (a_c α)) (a_ch α) (a_cu α)) (hR : XR p σ (a_rf α) (a_tx α)) (hA : AI N α) (hF : FG [1, 4, 5, 6, 7, 8, 9, 12, 21, 23, 42] [2, 3, 24, 25, 26, 27, 28, 29, 40, 41, 60] [p 1, p 3] σ σ') (hC : XC ad' (p 0) (p 1) σ' B' c') (hP : XP p σ' ps') (h9 : fi σ' 9 (p 0) = nI (a_ch α + δ)) (hδ : 0 < δ ∨ (δ = 0 ∧ ∀ x ∈ k_ks (a_c α), x ∈ k_ks c' ∧ ad' x = ad x)) : XA q D p σ' (c', ps', a_rf α, a_ch α + δ, a_tx α, a_cu α) := by
  have hs := hX.sep
  refine ⟨hX.keep hF (by simp) (by simp; exact ⟨hs.2.2.2.2.2.1.symm, hs.2.1.symm⟩), by rw [hF.gi (by have := hX.1.1; omega) (by simp)]; exact hq, ⟨ad', B', hC, hU.go hX hF (by simp) (by simp) (fun i hi => (hA.2.2.2.2.2.2.2 i hi).2.2.2) ?_⟩, hP, h9, hR.keep hX hF (by simp) (by simp; exact ⟨hs.2.2.2.2.2.2.1.symm, hs.2.2.1.symm⟩) (by simp; exact ⟨hs.2.2.2.2.2.2.2.1.symm, hs.2.2.2.1.symm⟩) (by simp; exact ⟨hs.2.2.2.2.2.2.2.2.1.symm, hs.2.2.2.2.1.symm⟩)⟩
  rcases hδ with h | ⟨h, h2⟩
  · exact Or.inl (by show a_ch α < a_ch α + δ; omega)
  · exact Or.inr ⟨by show a_ch α + δ = a_ch α; omega, h2⟩
theorem XA.rfs (h : XA q D p σ α) (hA : AI N α) {i : Nat} (hi : i < 4) : XA q D p (sA (p 5) i (ai σ (p 5) i + nI 1) σ) (a_rfs α i) := by
  obtain ⟨hX, hq, ⟨ad, B, hC, hU⟩, hP, h9, hR⟩ := h
  have hs := hX.sep
  have hF : FG [] [] [p 5] σ (sA (p 5) i (ai σ (p 5) i + nI 1) σ) := FR.rf.wA (fun _ => by simp)
  refine ⟨hX.keep hF (by simp) (by simp; exact hs.2.2.2.2.2.2.2.2.2.2.1), hq, ⟨ad, B, hC.keep hX.1 hF (by simp) (by simp) (by simp; exact hs.2.2.2.2.2.2.2.1), hU.go hX hF (by simp) (by simp) (fun i hi => (hA.2.2.2.2.2.2.2 i hi).2.2.2) (Or.inr ⟨rfl, fun x hx => ⟨hx, rfl⟩⟩)⟩, hP.keep hX hF (by simp) (by simp) (by simp; exact hs.2.2.2.1) (by simp), h9, fun j hj => ?_, hR.2.1, fun j x hj => ?_, hR.2.2.2.1, fun j hj => ?_⟩
  · rw [ai_sA]
    show _ = upd (a_rf α) i (a_rf α i + nI 1) j
    unfold upd
    by_cases e : j = i
    · rw [if_pos ⟨rfl, e⟩, if_pos e, hR.1 i hi]
    · rw [if_neg (fun z => e z.2), if_neg e]; exact hR.1 j hj
  · rw [ai_sA, if_neg (fun z => hs.2.2.2.2.2.2.2.2.2.2.2.2.1 z.1)]; exact hR.2.2.1 j x hj
  · rw [ai_sA, if_neg (fun z => hX.2.2.2.2.2.2.2.2.1 z.1.symm)]; exact hR.2.2.2.2 j hj
theorem fnd_none (hI : CI c) {k : Nat} (h : k_pl c k = none) : fnd ad (k_cs c) k = none := if_neg fun z => k_pl_none h (hI.2.2.1.mem_iff.mp z)
theorem fnd_some (hI : CI c) {k e : Nat} (h : k_pl c k = some e) : fnd ad (k_cs c) k = some (ad (kAt c e)) := by
  obtain ⟨h1, h2, h3⟩ := k_pl_some h
  unfold fnd
  rw [if_pos (hI.2.2.1.mem_iff.mpr (h3 ▸ kAt_mem h1)), h3]
theorem XC.val (h : XC ad (p 0) (p 1) σ B c) (hM : MO (p 0) (p 1) σ) (hI : CI c) {e v : Nat} (he : e < (k_es c).length) (hv : v ≤ 9999) : XC ad (p 0) (p 1) (sI 21 (ad (kAt c e)) (nI v) σ) B (k_val c e v) ∧ FG [21] [] [] σ (sI 21 (ad (kAt c e)) (nI v) σ) := by
  have hF : FG [21] [] [] σ (sI 21 (ad (kAt c e)) (nI v) σ) := FR.rf.wI (fun _ => by simp)
  have hn : kd σ (p 0) ≠ 0 := by have := hM.1; omega
  obtain ⟨w, hw, hEC⟩ := h.1.at he
  have hks : (k_es (k_val c e v)).map (·.1) = (k_es c).map (·.1) := (hI.val he hv).2
  refine ⟨⟨⟨?_, ?_, fun x hx => ?_⟩, h.2.1.keep hM hF (by simp) (by simp) (by simp), by rw [hF.gi hn (by simp)]; exact h.2.2.1, by rw [hF.gi hn (by simp)]; exact h.2.2.2⟩, hF⟩
  · rw [hks]; exact h.1.1
  · rw [hF.gi hn (by simp), h.1.2.1]
    show _ = nI ((k_es c).set e (kAt c e, v)).length
    rw [List.length_set]
  · obtain ⟨i, hi⟩ := List.getElem?_of_mem hx
    have hi : ((k_es c).set e (kAt c e, v))[i]? = some x := hi
    by_cases q : i = e
    · subst q
      rw [List.getElem?_set_self he] at hi
      cases hi
      obtain ⟨a1, a2, a3, a4, a5, a6⟩ := hEC
      refine ⟨a1, ?_, ?_, ?_, a5, hv⟩
      · rw [fi_sI, if_neg (fun z => by cases z.1)]; exact a2
      · rw [fi_sI, if_pos ⟨rfl, rfl⟩]
      · rw [fi_sI, if_neg (fun z => by cases z.1)]; exact a4
    · rw [List.getElem?_set_ne (Ne.symm q)] at hi
      have hx' := h.1.2.2 x (List.mem_of_getElem? hi)
      have hne : ad x.1 ≠ ad (kAt c e) := fun z => by
        have := h.1.inj (List.mem_of_getElem? hi) (List.mem_of_getElem? hw) z
        have h1 : (k_ks c)[i]? = some x.1 := by unfold k_ks; rw [List.getElem?_map, hi]; rfl
        exact q (nd_inj hI.1 h1 (by rw [this]; exact ks_at he))
      exact ⟨hx'.1, by rw [fi_sI, if_neg (fun z => hne z.2)]; exact hx'.2.1, by rw [fi_sI, if_neg (fun z => hne z.2)]; exact hx'.2.2.1, by rw [fi_sI, if_neg (fun z => hne z.2)]; exact hx'.2.2.2.1, hx'.2.2.2.2⟩
end X72
section T72
variable {D : Dx} {ad p : Nat → Nat} {σ : Sg} {B : Nat → Nat} {c : Co} {ps : List Co} {d : Nat} {q : Bool}
def psQ (q : Bool) (ps : List Co) (c : Co) : List Co := if q = true then ps else a_push ps c
theorem cx_lv (hX : FX p σ) (hC : XC ad (p 0) (p 1) σ B c) (hI : CI c) (hP : XP p σ ps) (hq : fi σ 13 (p 0) = bI q) : Ct (wX D) yX0_leaves cX0_leaves 2 none [.ref (p 0)] σ (PV (fun σ' => XP p σ' (psQ q ps c) ∧ FG [12] [] [p 3] σ σ')) 4 5 300 := by
  cases q with
  | true => exact (cx_leavesQ hX.1.1 hq).weak fun v σ' h => by obtain ⟨rfl, rfl⟩ := h; exact ⟨rfl, hP, FR.rf⟩
  | false => exact cx_leaves hX hC hI hP hq
theorem cx_isFull (ho : kd σ (p 0) = 1) (hC : XC ad (p 0) (p 1) σ B c) (hI : CI c) : Ct (wX D) yX0_isFull cX0_isFull 1 (some .boolean) [.ref (p 0)] σ (PE (some (.int (bI (k_full c)))) σ) d 0 0 := by
  have e4 := hC.1.2.1
  have e8 := hC.2.2.2
  have h1 := hI.2.2.2.1
  have h5 := hI.2.2.2.2.2.2.2.2.1
  refine Ct.of KXok (by decide) (Nat.le_of_ble_eq_true rfl) rfl fun Y C hQ hNm => ?_
  first | refine z_al0 (q := 1) C dX0_isFull_0 rfl ?_ | refine z_al0q (q := 1) C dX0_isFull_0 rfl ?_ | refine z_al0u (q := 1) C dX0_isFull_0 rfl ?_
  refine xg_X0_142 (q := 4) C (by first | exact ho | exact hk | exact hb | exact he | assumption) dX0_isFull_1 rfl ?_
  rw [e4]
  refine z_bipush (q := 6) (v := nI 48) C dX0_isFull_4 rfl (by decide) ?_
  refine z_icmp_neN (tgt := 20) (q := 9) C dX0_isFull_6 (by decide) rfl (by omega) (by omega) (fun c6 => ?_) (fun c6 => ?_)
  · refine z_iconst (q := 21) (v := nI 0) C dX0_isFull_20 rfl (by decide) ?_
    refine z_zret C hQ dX0_isFull_21 (by omega) (by omega) (by first | rfl | exact bI_nar _) ?_
    exact ⟨by unfold k_full; rw [decide_eq_false c6]; rfl, rfl⟩
  · first | refine z_al0 (q := 10) C dX0_isFull_9 rfl ?_ | refine z_al0q (q := 10) C dX0_isFull_9 rfl ?_ | refine z_al0u (q := 10) C dX0_isFull_9 rfl ?_
    refine xg_X0_166 (q := 13) C (by first | exact ho | exact hk | exact hb | exact he | assumption) dX0_isFull_10 rfl ?_
    rw [e8]
    refine z_if_ne (tgt := 20) (q := 16) C dX0_isFull_13 (by decide) rfl (fun c13 => ?_) (fun c13 => ?_)
    · have : ¬ k_n c 5 = 0 := fun z => c13 (by rw [z]; rfl)
      refine z_iconst (q := 21) (v := nI 0) C dX0_isFull_20 rfl (by decide) ?_
      refine z_zret C hQ dX0_isFull_21 (by omega) (by omega) (by first | rfl | exact bI_nar _) ?_
      exact ⟨by unfold k_full; rw [decide_eq_false this, Bool.and_false]; rfl, rfl⟩
    · have : k_n c 5 = 0 := by
        have := congrArg Int32.toInt c13
        rw [nI_toInt (by omega)] at this
        have h2 : (0 : Int32).toInt = 0 := by decide
        omega
      refine z_iconst (q := 17) (v := nI 1) C dX0_isFull_16 rfl (by decide) ?_
      refine z_goto (tgt := 21) C dX0_isFull_17 (by decide) ?_
      refine z_zret C hQ dX0_isFull_21 (by omega) (by omega) (by first | rfl | exact bI_nar _) ?_
      exact ⟨by unfold k_full; rw [decide_eq_true c6, decide_eq_true this]; rfl, rfl⟩
end T72
