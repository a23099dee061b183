/-! the twin: states left, places of keys, what is done to the core by a call -/
theorem TC.cong {N : Nat} {a a' : Nat → Int32} {c : Co} (h : TC N a c) (e : ∀ i, i < 218 → a' i = a i) : TC N a' c := by
  obtain ⟨hc, hN, cm, co, hR, hM⟩ := h
  have hl := hc.2.2.2.1
  refine ⟨hc, hN, cm, co, ⟨by rw [e 0 (by omega)]; exact hR.1, fun i g1 g2 => by rw [e i (by omega)]; exact hR.2.1 i g1 g2, by rw [e 6 (by omega)]; exact hR.2.2.1, fun i x hx => ?_, fun b hb => by rw [e _ (by omega)]; exact hR.2.2.2.2 b hb⟩, hM⟩
  have hi : i < (k_es c).length := (List.getElem?_eq_some_iff.mp hx).1
  rw [e _ (by omega), e _ (by omega), e _ (by omega)]
  exact hR.2.2.2.1 i x hx
theorem TC.mono {N M : Nat} {a : Nat → Int32} {c : Co} (h : TC N a c) (hM : N ≤ M) (h2 : M ≤ 1000000) : TC M a c := by
  obtain ⟨hc, hN, cm, co, hR, g⟩ := h
  exact ⟨hc, h2, cm, co, hR, g.1, g.2.1, Nat.le_trans g.2.2 hM⟩
/-- past states, one behind the other -/
def PS (N : Nat) (f : Nat → Int32) (ps : List Co) : Prop := ∀ (j : Nat) (c : Co), ps[j]? = some c → TC N (fun i => f (218 * j + i)) c
def a_push (ps : List Co) (c : Co) : List Co := (if ps.length = 6 then ps.tail else ps) ++ [c]
/-- the place of a key -/
def k_pl (c : Co) (k : Nat) : Option Nat := (k_ks c).findIdx? (fun x => x == k)
def vAt (c : Co) (e : Nat) : Nat := (((k_es c)[e]?).map (·.2)).getD 0
theorem vAt_of {c : Co} {e : Nat} {x : Nat × Nat} (h : (k_es c)[e]? = some x) : vAt c e = x.2 := by
  unfold vAt
  rw [h]
  rfl
theorem k_pl_some {c : Co} {k e : Nat} (h : k_pl c k = some e) : e < (k_es c).length ∧ (k_es c)[e]? = some (k, vAt c e) ∧ kAt c e = k := by
  unfold k_pl at h
  obtain ⟨h1, h2, -⟩ := List.findIdx?_eq_some_iff_getElem.mp h
  have hl : e < (k_es c).length := by rw [← k_len]; exact h1
  obtain ⟨x, hx⟩ := at_lt hl
  have e1 : (k_ks c)[e] = x.1 := by
    have : (k_ks c)[e]? = some x.1 := by unfold k_ks; rw [List.getElem?_map, hx]; rfl
    exact (List.getElem?_eq_some_iff.mp this).2
  rw [e1] at h2
  have h2 : x.1 = k := by simpa using h2
  refine ⟨hl, ?_, ?_⟩
  · rw [hx, vAt_of hx, ← h2]
  · rw [kAt_of hx, h2]
theorem k_pl_none {c : Co} {k : Nat} (h : k_pl c k = none) : k ∉ k_ks c := by
  unfold k_pl at h
  rw [List.findIdx?_eq_none_iff] at h
  intro z
  have := h k z
  simp at this
theorem k_pl_of {c : Co} (hc : CI c) {k e : Nat} (h : e < (k_es c).length) (hk : kAt c e = k) : k_pl c k = some e := by
  cases hp : k_pl c k with
  | none =>
    have := k_pl_none hp
    obtain ⟨v, hv⟩ := kAt_lt h
    rw [hk] at hv
    exact absurd (List.mem_map.mpr ⟨_, List.mem_of_getElem? hv, rfl⟩) this
  | some i =>
    obtain ⟨h1, h2, h3⟩ := k_pl_some hp
    obtain ⟨v, hv⟩ := kAt_lt h
    rw [hk] at hv
    have a1 : (k_ks c)[i]? = some k := by unfold k_ks; rw [List.getElem?_map, h2]; rfl
    have a2 : (k_ks c)[e]? = some k := by unfold k_ks; rw [List.getElem?_map, hv]; rfl
    rw [(List.getElem?_inj (List.getElem?_eq_some_iff.mp a1).1 hc.1).mp (a1.trans a2.symm)]
theorem lastAt_pl {N : Nat} {a : Nat → Int32} {c : Co} (h : TC N a c) {k : Nat} (hk : k < 2 ^ 31) : lastAt (fun e => a (7 + e)) (nI k) (k_es c).length = oI (k_pl c k) := by
  have key : ∀ n, n ≤ (k_es c).length → (∃ e, e < n ∧ kAt c e = k ∧ lastAt (fun e => a (7 + e)) (nI k) n = nI e) ∨ ((∀ e, e < n → kAt c e ≠ k) ∧ lastAt (fun e => a (7 + e)) (nI k) n = -1) := by
    intro n
    induction n with
    | zero => exact fun _ => Or.inr ⟨fun e he => absurd he (by omega), rfl⟩
    | succ n ih =>
      intro hn
      obtain ⟨v, hv⟩ := kAt_lt (show n < (k_es c).length by omega)
      have hkey := h.key hv
      by_cases q : kAt c n = k
      · refine Or.inl ⟨n, by omega, q, ?_⟩
        show (if a (7 + n) = nI k then nI n else _) = _
        rw [if_pos (by rw [hkey.1, ← q])]
      · have e1 : lastAt (fun e => a (7 + e)) (nI k) (n + 1) = lastAt (fun e => a (7 + e)) (nI k) n := by
          show (if a (7 + n) = nI k then nI n else _) = _
          rw [if_neg]
          rw [hkey.1]
          intro z
          exact q ((nI_eq (Nat.lt_of_le_of_lt hkey.2 (by decide)) hk).mp z)
        rw [e1]
        rcases ih (by omega) with ⟨e, g1, g2, g3⟩ | ⟨g1, g2⟩
        · exact Or.inl ⟨e, by omega, g2, g3⟩
        · refine Or.inr ⟨fun e he => ?_, g2⟩
          rcases Nat.lt_or_ge e n with z | z
          · exact g1 e z
          · have : e = n := by omega
            subst this
            exact q
  rcases key _ (Nat.le_refl _) with ⟨e, g1, g2, g3⟩ | ⟨g1, g2⟩
  · rw [g3, k_pl_of h.1 g1 g2]
    rfl
  · rw [g2]
    cases hp : k_pl c k with
    | none => rfl
    | some e =>
      obtain ⟨q1, -, q3⟩ := k_pl_some hp
      exact absurd q3 (g1 e q1)
def k_val (c : Co) (e v : Nat) : Co := ((k_es c).set e (kAt c e, v), k_cs c, k_n c, k_tr c)
def k_full (c : Co) : Bool := decide ((k_es c).length = 48) && decide (k_n c 5 = 0)
def k_may (c : Co) (k : Nat) : Bool := (k_pl c k).isSome || !k_full c
/-- what a call answers, leaves, how many changes it counts -/
def k_put (c : Co) (k v : Nat) : Option Nat × Co × Nat := match k_pl c k with
  | none => (none, k_come c k v, if 0 < k_n c 5 ∧ k_n c 5 < (k_es c).length + 1 then 2 else 1)
  | some e => (some (vAt c e), if k_n c 4 = 1 then k_mov (k_val c e v) e else k_val c e v, if k_n c 4 = 1 then (if e + 1 = (k_es c).length then 0 else 1) else 0)
def k_get (c : Co) (k : Nat) : Option Nat × Co × Nat := match k_pl c k with
  | none => (none, c, 0)
  | some e => (some (vAt c e), if k_n c 4 = 1 then k_mov c e else c, if k_n c 4 = 1 then (if e + 1 = (k_es c).length then 0 else 1) else 0)
def k_rem (c : Co) (k : Nat) : Option Nat × Co × Nat := match k_pl c k with
  | none => (none, c, 0)
  | some e => (some (vAt c e), k_go c e, 1)
def k_clr (c : Co) : Co := if 0 < (k_es c).length then ([], [], (k_emp c).2.2) else c
theorem CI.val {c : Co} (h : CI c) {e v : Nat} (he : e < (k_es c).length) (hv : v ≤ 9999) : CI (k_val c e v) ∧ k_ks (k_val c e v) = k_ks c := by
  obtain ⟨u, hu⟩ := kAt_lt he
  have hks : k_ks (k_val c e v) = k_ks c := by
    show ((k_es c).set e (kAt c e, v)).map (·.1) = (k_es c).map (·.1)
    rw [List.map_set]
    refine List.ext_getElem? fun i => ?_
    by_cases q : i = e
    · subst q
      rw [List.getElem?_set_self (by rw [List.length_map]; exact he), List.getElem?_map, hu]
      rfl
    · rw [List.getElem?_set_ne (Ne.symm q)]
  refine ⟨⟨by rw [hks]; exact h.1, fun x hx => ?_, by rw [hks]; exact h.2.2.1, ?_, h.2.2.2.2⟩, hks⟩
  · have hx : x ∈ (k_es c).set e (kAt c e, v) := hx
    rcases List.mem_or_eq_of_mem_set hx with g | g
    · exact h.2.1 x g
    · rw [g]
      exact ⟨(h.2.1 _ (List.mem_of_getElem? hu)).1, hv⟩
  · show ((k_es c).set e (kAt c e, v)).length ≤ 49
    rw [List.length_set]
    exact h.2.2.2.1
theorem TC.setv {N : Nat} {a : Nat → Int32} {c : Co} (h : TC N a c) {e v : Nat} (he : e < (k_es c).length) (hv : v ≤ 9999) : TC N (upd a (56 + e) (nI v)) (k_val c e v) := by
  obtain ⟨hc, hN, cm, co, hR, hM⟩ := h
  have hl := hc.2.2.2.1
  obtain ⟨u, hu⟩ := kAt_lt he
  have hlen : (k_es (k_val c e v)).length = (k_es c).length := by
    show ((k_es c).set e (kAt c e, v)).length = _
    rw [List.length_set]
  refine ⟨(hc.val he hv).1, hN, cm, co, ⟨?_, fun i h1 h2 => ?_, ?_, fun i x hx => ?_, fun x hx => ?_⟩, hM⟩
  · rw [pk_un (by omega), hlen]; exact hR.1
  · rw [pk_un (by omega)]; exact hR.2.1 i h1 h2
  · rw [pk_un (by omega)]; exact hR.2.2.1
  · have hil : i < (k_es c).length := by
      have := (List.getElem?_eq_some_iff.mp hx).1
      omega
    have hx : ((k_es c).set e (kAt c e, v))[i]? = some x := hx
    by_cases q : i = e
    · subst q
      rw [List.getElem?_set_self he] at hx
      cases hx
      have := hR.2.2.2.1 i _ hu
      rw [pk_un (by omega), pk_us, pk_un (by omega)]
      exact ⟨this.1, rfl, this.2.2⟩
    · rw [List.getElem?_set_ne (Ne.symm q)] at hx
      rw [pk_un (by omega), pk_un (by omega), pk_un (by omega)]
      exact hR.2.2.2.1 i x hx
  · rw [pk_un (by omega)]
    exact hR.2.2.2.2 x hx
section T27
variable {D : Dt} {o : Nat} {ad : Nat → Nat}
set_option maxHeartbeats 1000000 in
theorem ct_aside (τ : Tw) : Ct (wT D o ad) yX5_aside cX5_aside 2 none [.ref o] τ (PV (fun τ' => TF [] [2] τ τ' ∧ ∀ i, i < 218 → τ'.2 2 i = τ.2 0 i)) 0 0 0 := by
  refine Ct.of KTok (by decide) (Nat.le_of_ble_eq_true rfl) rfl fun Y C hQ hNm => ?_
  have loop : ∀ m k, k + m = 218 → ∀ τ1 : Tw, TF [] [2] τ τ1 → (∀ i, i < k → τ1.2 2 i = τ.2 0 i) → Zj (wT D o ad) Y τ1 0 0 2 [some (.ref o), some (.int (nI k))] [] := by
    intro m
    induction m with
    | zero =>
      intro k hk τ1 hF h
      have hk : k = 218 := hk
      subst hk
      refine z_il1 (q := 3) C dX5_aside_2 rfl ?_
      refine z_sipush (q := 6) (v := nI 218) C dX5_aside_3 rfl (by decide) ?_
      first | refine z_icmp_geN (tgt := 27) (q := 9) C dX5_aside_6 (by decide) rfl (by omega) (by omega) (fun c6 => ?_) (fun c6 => ?_) | refine z_icmp_ge (tgt := 27) (q := 9) C dX5_aside_6 (by decide) rfl (fun c6 => ?_) (fun c6 => ?_)
      · refine z_vret C hQ dX5_aside_27 (Nat.le_refl _) (Nat.le_refl _) ?_
        exact ⟨rfl, hF, h⟩
      · exact absurd c6 (by omega)
    | succ m ih =>
      intro k hk τ1 hF h
      have e0 : τ1.2 0 = τ.2 0 := hF.2 0 (by decide)
      refine z_il1 (q := 3) C dX5_aside_2 rfl ?_
      refine z_sipush (q := 6) (v := nI 218) C dX5_aside_3 rfl (by decide) ?_
      first | refine z_icmp_geN (tgt := 27) (q := 9) C dX5_aside_6 (by decide) rfl (by omega) (by omega) (fun c6 => ?_) (fun c6 => ?_) | refine z_icmp_ge (tgt := 27) (q := 9) C dX5_aside_6 (by decide) rfl (fun c6 => ?_) (fun c6 => ?_)
      · exact absurd c6 (by omega)
      · refine z_al0 (q := 10) C dX5_aside_9 rfl ?_
        refine tg_16 (q := 13) C dX5_aside_10 rfl ?_
        refine z_il1 (q := 14) C dX5_aside_13 rfl ?_
        refine z_al0 (q := 15) C dX5_aside_14 rfl ?_
        refine tg_7 (q := 18) C dX5_aside_15 rfl ?_
        refine z_il1 (q := 19) C dX5_aside_18 rfl ?_
        refine ta_ld0 (q := 20) C dX5_aside_19 rfl (by omega) ?_
        rw [e0]
        refine ta_st2 (q := 21) C dX5_aside_20 rfl (by omega) ?_
        first | refine z_iinc1N (q := 24) C dX5_aside_21 rfl (by first | exact loC_i | exact loC_r | exact loC_n | exact loC_q | exact loC_u) ?_ | refine z_iinc1 (q := 24) C dX5_aside_21 rfl rfl (by first | exact loC_i | exact loC_r | exact loC_n | exact loC_q | exact loC_u) ?_
        refine z_goto (tgt := 2) C dX5_aside_24 (by decide) ?_
        refine ih (k + 1) (by omega) _ (hF.sE (by decide) _ _) (fun i hi => ?_)
        by_cases q : i = k
        · rw [q, sE_s]
        · rw [sE_n q]; exact h i (by omega)
  refine z_iconst (q := 1) (v := nI 0) C dX5_aside_0 rfl (by decide) ?_
  refine z_is1 (q := 2) C dX5_aside_1 rfl (by first | exact loC_i | exact loC_r | exact loC_n | exact loC_q | exact loC_u) ?_
  exact loop 218 0 (by omega) _ TF.rf (fun i hi => absurd hi (by omega))
set_option maxHeartbeats 1000000 in
theorem ct_keeps {N : Nat} {c : Co} (τ : Tw) (ps : List Co) (h3 : τ.1 3 = nI ps.length) (hl : ps.length ≤ 6) (hP : PS N (τ.2 1) ps) (hc : TC N (τ.2 2) c) : Ct (wT D o ad) yX5_keeps cX5_keeps 2 none [.ref o] τ (PV (fun τ' => TF [3] [1] τ τ' ∧ τ'.1 3 = nI (a_push ps c).length ∧ PS N (τ'.2 1) (a_push ps c))) 0 0 0 := by
  refine Ct.of KTok (by decide) (Nat.le_of_ble_eq_true rfl) rfl fun Y C hQ hNm => ?_
  have rest : ∀ (qs : List Co) (τ1 : Tw), a_push ps c = qs ++ [c] → qs.length ≤ 5 → TF [3] [1] τ τ1 → τ1.1 3 = nI qs.length → PS N (τ1.2 1) qs → Zj (wT D o ad) Y τ1 0 0 52 [some (.ref o), some (.int (nI 0))] [] := by
    intro qs τ1 hqs hql hF h3 hP
    have e2 : τ1.2 2 = τ.2 2 := hF.2 2 (by decide)
    have loop : ∀ m k, k + m = 218 → ∀ τ2 : Tw, TF [3] [1] τ τ2 → τ2.1 3 = nI qs.length → PS N (τ2.2 1) qs → (∀ i, i < k → τ2.2 1 (218 * qs.length + i) = τ.2 2 i) → Zj (wT D o ad) Y τ2 0 0 52 [some (.ref o), some (.int (nI k))] [] := by
      intro m
      induction m with
      | zero =>
        intro k hk τ2 hF2 h32 hP2 h
        have hk : k = 218 := hk
        subst hk
        refine z_il1 (q := 53) C dX5_keeps_52 rfl ?_
        refine z_sipush (q := 56) (v := nI 218) C dX5_keeps_53 rfl (by decide) ?_
        first | refine z_icmp_geN (tgt := 86) (q := 59) C dX5_keeps_56 (by decide) rfl (by omega) (by omega) (fun c56 => ?_) (fun c56 => ?_) | refine z_icmp_ge (tgt := 86) (q := 59) C dX5_keeps_56 (by decide) rfl (fun c56 => ?_) (fun c56 => ?_)
        · refine z_al0 (q := 87) C dX5_keeps_86 rfl ?_
          refine z_dup (q := 88) C dX5_keeps_87 rfl rfl ?_
          refine tg_48 (q := 91) C dX5_keeps_88 rfl ?_
          rw [h32]
          refine z_iconst (q := 92) (v := nI 1) C dX5_keeps_91 rfl (by decide) ?_
          first | refine z_iaddN (q := 93) C dX5_keeps_92 rfl ?_ | refine z_iadd (q := 93) C dX5_keeps_92 rfl ?_
          refine tp_48 (q := 96) C dX5_keeps_93 rfl ?_
          refine z_vret C hQ dX5_keeps_96 (Nat.le_refl _) (Nat.le_refl _) ?_
          refine ⟨rfl, hF2.sF (by decide) _, by rw [sF_s, hqs]; congr 1; simp, ?_⟩
          rw [hqs]
          intro j c' hj
          by_cases q : j < qs.length
          · rw [List.getElem?_append_left q] at hj
            exact hP2 j c' hj
          · have hj2 : j = qs.length := by have := (List.getElem?_eq_some_iff.mp hj).1; simp at this; omega
            rw [List.getElem?_append_right (by omega), hj2, Nat.sub_self] at hj
            have hj : some c = some c' := hj
            cases hj
            rw [hj2]
            exact hc.cong h
        · exact absurd c56 (by omega)
      | succ m ih =>
        intro k hk τ2 hF2 h32 hP2 h
        have e22 : τ2.2 2 = τ.2 2 := hF2.2 2 (by decide)
        refine z_il1 (q := 53) C dX5_keeps_52 rfl ?_
        refine z_sipush (q := 56) (v := nI 218) C dX5_keeps_53 rfl (by decide) ?_
        first | refine z_icmp_geN (tgt := 86) (q := 59) C dX5_keeps_56 (by decide) rfl (by omega) (by omega) (fun c56 => ?_) (fun c56 => ?_) | refine z_icmp_ge (tgt := 86) (q := 59) C dX5_keeps_56 (by decide) rfl (fun c56 => ?_) (fun c56 => ?_)
        · exact absurd c56 (by omega)
        · refine z_al0 (q := 60) C dX5_keeps_59 rfl ?_
          refine tg_13 (q := 63) C dX5_keeps_60 rfl ?_
          refine z_sipush (q := 66) (v := nI 218) C dX5_keeps_63 rfl (by decide) ?_
          refine z_al0 (q := 67) C dX5_keeps_66 rfl ?_
          refine tg_48 (q := 70) C dX5_keeps_67 rfl ?_
          rw [h32]
          first | refine z_imulN (q := 71) C dX5_keeps_70 rfl ?_ | refine z_imul (q := 71) C dX5_keeps_70 rfl ?_
          refine z_il1 (q := 72) C dX5_keeps_71 rfl ?_
          first | refine z_iaddN (q := 73) C dX5_keeps_72 rfl ?_ | refine z_iadd (q := 73) C dX5_keeps_72 rfl ?_
          refine z_al0 (q := 74) C dX5_keeps_73 rfl ?_
          refine tg_16 (q := 77) C dX5_keeps_74 rfl ?_
          refine z_il1 (q := 78) C dX5_keeps_77 rfl ?_
          refine ta_ld2 (q := 79) C dX5_keeps_78 rfl (by omega) ?_
          rw [e22]
          refine ta_st1 (q := 80) C dX5_keeps_79 rfl (by omega) ?_
          first | refine z_iinc1N (q := 83) C dX5_keeps_80 rfl (by first | exact loC_i | exact loC_r | exact loC_n | exact loC_q | exact loC_u) ?_ | refine z_iinc1 (q := 83) C dX5_keeps_80 rfl rfl (by first | exact loC_i | exact loC_r | exact loC_n | exact loC_q | exact loC_u) ?_
          refine z_goto (tgt := 52) C dX5_keeps_83 (by decide) ?_
          refine ih (k + 1) (by omega) _ (hF2.sE (by decide) _ _) h32 (fun j c' hj => (hP2 j c' hj).cong (fun i hi => sE_n ?_)) (fun i hi => ?_)
          · have hj : j < qs.length := (List.getElem?_eq_some_iff.mp hj).1; omega
          · by_cases q : i = k
            · rw [q, sE_s]
            · rw [sE_n (by omega)]; exact h i (by omega)
    exact loop 218 0 (by omega) τ1 hF h3 hP (fun i hi => absurd hi (by omega))
  by_cases h6 : ps.length = 6
  · have loop : ∀ m k, k + m = 1090 → ∀ τ1 : Tw, TF [3] [1] τ τ1 → τ1.1 3 = nI 6 → (∀ i, i < k → τ1.2 1 i = τ.2 1 (i + 218)) → (∀ i, k ≤ i → τ1.2 1 i = τ.2 1 i) → Zj (wT D o ad) Y τ1 0 0 11 [some (.ref o), some (.int (nI k))] [] := by
      intro m
      induction m with
      | zero =>
        intro k hk τ1 hF h31 h1 h2
        have hk : k = 1090 := hk
        subst hk
        have hpt : ps.tail.length = 5 := by rw [List.length_tail]; omega
        refine z_il1 (q := 12) C dX5_keeps_11 rfl ?_
        refine z_sipush (q := 15) (v := nI 1090) C dX5_keeps_12 rfl (by decide) ?_
        first | refine z_icmp_geN (tgt := 40) (q := 18) C dX5_keeps_15 (by decide) rfl (by omega) (by omega) (fun c15 => ?_) (fun c15 => ?_) | refine z_icmp_ge (tgt := 40) (q := 18) C dX5_keeps_15 (by decide) rfl (fun c15 => ?_) (fun c15 => ?_)
        · refine z_al0 (q := 41) C dX5_keeps_40 rfl ?_
          refine z_dup (q := 42) C dX5_keeps_41 rfl rfl ?_
          refine tg_48 (q := 45) C dX5_keeps_42 rfl ?_
          rw [h31]
          refine z_iconst (q := 46) (v := nI 1) C dX5_keeps_45 rfl (by decide) ?_
          refine z_isubN (q := 47) C dX5_keeps_46 rfl (by omega) ?_
          refine tp_48 (q := 50) C dX5_keeps_47 rfl ?_
          refine z_iconst (q := 51) (v := nI 0) C dX5_keeps_50 rfl (by decide) ?_
          refine z_is1 (q := 52) C dX5_keeps_51 rfl (by first | exact loC_i | exact loC_r | exact loC_n | exact loC_q | exact loC_u) ?_
          refine rest ps.tail _ (by unfold a_push; rw [if_pos h6]) (by omega) (hF.sF (by decide) _) (by rw [sF_s, hpt]) (fun j c' hj => ?_)
          have hjl : j < 5 := by have := (List.getElem?_eq_some_iff.mp hj).1; omega
          rw [List.getElem?_tail] at hj
          exact (hP (j + 1) c' hj).cong (fun i hi => by show (sF 3 _ τ1).2 1 (218 * j + i) = τ.2 1 (218 * (j + 1) + i); rw [sF_a, h1 _ (by omega), show 218 * (j + 1) + i = 218 * j + i + 218 by omega])
        · exact absurd c15 (by omega)
      | succ m ih =>
        intro k hk τ1 hF h31 h1 h2
        refine z_il1 (q := 12) C dX5_keeps_11 rfl ?_
        refine z_sipush (q := 15) (v := nI 1090) C dX5_keeps_12 rfl (by decide) ?_
        first | refine z_icmp_geN (tgt := 40) (q := 18) C dX5_keeps_15 (by decide) rfl (by omega) (by omega) (fun c15 => ?_) (fun c15 => ?_) | refine z_icmp_ge (tgt := 40) (q := 18) C dX5_keeps_15 (by decide) rfl (fun c15 => ?_) (fun c15 => ?_)
        · exact absurd c15 (by omega)
        · refine z_al0 (q := 19) C dX5_keeps_18 rfl ?_
          refine tg_13 (q := 22) C dX5_keeps_19 rfl ?_
          refine z_il1 (q := 23) C dX5_keeps_22 rfl ?_
          refine z_al0 (q := 24) C dX5_keeps_23 rfl ?_
          refine tg_13 (q := 27) C dX5_keeps_24 rfl ?_
          refine z_il1 (q := 28) C dX5_keeps_27 rfl ?_
          refine z_sipush (q := 31) (v := nI 218) C dX5_keeps_28 rfl (by decide) ?_
          first | refine z_iaddN (q := 32) C dX5_keeps_31 rfl ?_ | refine z_iadd (q := 32) C dX5_keeps_31 rfl ?_
          refine ta_ld1 (q := 33) C dX5_keeps_32 rfl (by omega) ?_
          rw [h2 (k + 218) (by omega)]
          refine ta_st1 (q := 34) C dX5_keeps_33 rfl (by omega) ?_
          first | refine z_iinc1N (q := 37) C dX5_keeps_34 rfl (by first | exact loC_i | exact loC_r | exact loC_n | exact loC_q | exact loC_u) ?_ | refine z_iinc1 (q := 37) C dX5_keeps_34 rfl rfl (by first | exact loC_i | exact loC_r | exact loC_n | exact loC_q | exact loC_u) ?_
          refine z_goto (tgt := 11) C dX5_keeps_37 (by decide) ?_
          refine ih (k + 1) (by omega) _ (hF.sE (by decide) _ _) h31 (fun i hi => ?_) (fun i hi => by rw [sE_n (by omega)]; exact h2 i (by omega))
          by_cases q : i = k
          · rw [q, sE_s]
          · rw [sE_n q]; exact h1 i (by omega)
    rw [h6] at h3
    refine z_al0 (q := 1) C dX5_keeps_0 rfl ?_
    refine tg_48 (q := 4) C dX5_keeps_1 rfl ?_
    rw [h3]
    refine z_bipush (q := 6) (v := nI 6) C dX5_keeps_4 rfl (by decide) ?_
    first | refine z_icmp_neN (tgt := 50) (q := 9) C dX5_keeps_6 (by decide) rfl (by omega) (by omega) (fun c6 => ?_) (fun c6 => ?_) | refine z_icmp_ne (tgt := 50) (q := 9) C dX5_keeps_6 (by decide) rfl (fun c6 => ?_) (fun c6 => ?_)
    · exact absurd c6 (by omega)
    · refine z_iconst (q := 10) (v := nI 0) C dX5_keeps_9 rfl (by decide) ?_
      refine z_is1 (q := 11) C dX5_keeps_10 rfl (by first | exact loC_i | exact loC_r | exact loC_n | exact loC_q | exact loC_u) ?_
      exact loop 1090 0 (by omega) τ TF.rf h3 (fun i hi => absurd hi (by omega)) (fun i hi => rfl)
  · refine z_al0 (q := 1) C dX5_keeps_0 rfl ?_
    refine tg_48 (q := 4) C dX5_keeps_1 rfl ?_
    rw [h3]
    refine z_bipush (q := 6) (v := nI 6) C dX5_keeps_4 rfl (by decide) ?_
    first | refine z_icmp_neN (tgt := 50) (q := 9) C dX5_keeps_6 (by decide) rfl (by omega) (by omega) (fun c6 => ?_) (fun c6 => ?_) | refine z_icmp_ne (tgt := 50) (q := 9) C dX5_keeps_6 (by decide) rfl (fun c6 => ?_) (fun c6 => ?_)
    · refine z_iconst (q := 51) (v := nI 0) C dX5_keeps_50 rfl (by decide) ?_
      refine z_is1 (q := 52) C dX5_keeps_51 rfl (by first | exact loC_i | exact loC_r | exact loC_n | exact loC_q | exact loC_u) ?_
      exact rest ps τ (by unfold a_push; rw [if_neg h6]) (by omega) TF.rf h3 hP
    · exact absurd c6 (by omega)
theorem ct_placeOf' {N : Nat} {c : Co} (τ : Tw) (hT : TC N (τ.2 0) c) (k : Nat) (r : Option Nat) (hk : k < 2 ^ 31) (hr : k_pl c k = r) : Ct (wT D o ad) yX5_placeOf cX5_placeOf 4 (some .int) [.ref o, .int (nI k)] τ (PE (some (.int (oI r))) τ) 0 0 0 := by
  have := ct_placeOf (D := D) (o := o) (ad := ad) τ (nI k) _ hT.len hT.a0
  rw [lastAt_pl hT hk, hr] at this
  exact this
end T27
