/-! arrays as lists; sorting by coming, by a tree's order -/
theorem sE_j {j i : Nat} {x : Int32} {τ : Tw} : (sE j i x τ).2 j = upd (τ.2 j) i x := if_pos rfl
theorem sE_f {j i k : Nat} {x : Int32} {τ : Tw} : (sE j i x τ).1 k = τ.1 k := rfl
theorem sF_a {k j : Nat} {x : Int32} {τ : Tw} : (sF k x τ).2 j = τ.2 j := rfl
/-- the places of f from i on hold l -/
def AR (f : Nat → Int32) (i : Nat) (l : List Nat) : Prop := ∀ (j x : Nat), l[j]? = some x → f (i + j) = nI x
theorem AR.nil {f : Nat → Int32} {i : Nat} : AR f i [] := fun j x h => by simp at h
theorem AR.left {f : Nat → Int32} {i : Nat} {l1 l2 : List Nat} (h : AR f i (l1 ++ l2)) : AR f i l1 := fun j x hx => h j x (by rw [List.getElem?_append_left (List.getElem?_eq_some_iff.mp hx).1]; exact hx)
theorem AR.mid {f : Nat → Int32} {l1 l2 : List Nat} {x : Nat} (h : AR f 0 (l1 ++ x :: l2)) : f l1.length = nI x := by
  have := h l1.length x (by simp)
  rwa [Nat.zero_add] at this
theorem AR.shift {f : Nat → Int32} {l1 l2 : List Nat} {x : Nat} (h1 : AR f 0 (l1 ++ [x])) (h2 : AR f (l1.length + 2) l2) : AR (upd f (l1.length + 1) (nI x)) 0 l1 ∧ AR (upd f (l1.length + 1) (nI x)) (l1.length + 1) (x :: l2) := by
  constructor
  · intro j y hy
    have hl := (List.getElem?_eq_some_iff.mp hy).1
    rw [pk_un (by omega)]
    exact h1.left j y hy
  · intro j y hy
    cases j with
    | zero =>
      cases hy
      exact pk_us
    | succ j =>
      rw [pk_un (by omega), show l1.length + 1 + (j + 1) = l1.length + 2 + j by omega]
      exact h2 j y hy
theorem AR.put {f : Nat → Int32} {l1 l2 : List Nat} (e : Nat) (h1 : AR f 0 l1) (h2 : AR f (l1.length + 1) l2) : AR (upd f l1.length (nI e)) 0 (l1 ++ e :: l2) := by
  intro j y hy
  rcases Nat.lt_trichotomy j l1.length with h | h | h
  · rw [List.getElem?_append_left h] at hy
    rw [pk_un (by omega)]
    exact h1 j y hy
  · subst h
    rw [List.getElem?_append_right (Nat.le_refl _), Nat.sub_self] at hy
    cases hy
    rw [Nat.zero_add]
    exact pk_us
  · rw [List.getElem?_append_right (by omega)] at hy
    obtain ⟨i, rfl⟩ : ∃ i, j = l1.length + 1 + i := ⟨j - l1.length - 1, by omega⟩
    rw [show l1.length + 1 + i - l1.length = i + 1 by omega] at hy
    rw [pk_un (by omega), Nat.zero_add]
    exact h2 i y hy
theorem srt_uniq {R : Nat → Nat → Prop} (as : ∀ a b, R a b → ¬ R b a) : ∀ l1 l2 : List Nat, l1.Pairwise R → l2.Pairwise R → l1.Perm l2 → l1 = l2
  | [], l2, _, _, h => (List.nil_perm.mp h).symm
  | a :: t, [], _, _, h => by
    have := h.length_eq
    simp at this
  | a :: t, b :: t2, h1, h2, h => by
    have e : a = b := by
      by_cases e : a = b
      · exact e
      · have ha : a ∈ b :: t2 := h.mem_iff.mp List.mem_cons_self
        have hb : b ∈ a :: t := h.mem_iff.mpr List.mem_cons_self
        have ha : a ∈ t2 := (List.mem_cons.mp ha).resolve_left e
        have hb : b ∈ t := (List.mem_cons.mp hb).resolve_left (fun z => e z.symm)
        exact absurd ((List.pairwise_cons.mp h1).1 b hb) (as _ _ ((List.pairwise_cons.mp h2).1 a ha))
    subst e
    rw [srt_uniq as t t2 (List.pairwise_cons.mp h1).2 (List.pairwise_cons.mp h2).2 ((List.perm_cons a).mp h)]
/-- one more into a row that is in order -/
theorem srt_ins {R : Nat → Nat → Prop} (tr : ∀ a b c, R a b → R b c → R a c) {l1 l2 : List Nat} {e : Nat} (h : (l1 ++ l2).Pairwise R) (h1 : ∀ x t, l1 = t ++ [x] → R x e) (h2 : ∀ x ∈ l2, R e x) : (l1 ++ e :: l2).Pairwise R := by
  obtain ⟨g1, g2, g3⟩ := List.pairwise_append.mp h
  refine List.pairwise_append.mpr ⟨g1, List.pairwise_cons.mpr ⟨h2, g2⟩, fun x hx y hy => ?_⟩
  rcases List.mem_cons.mp hy with rfl | hy
  · rcases List.eq_nil_or_concat l1 with z | ⟨t, z, hz⟩
    · rw [z] at hx; cases hx
    · have hz : l1 = t ++ [z] := by rw [hz, List.concat_eq_append]
      have hR := h1 z t hz
      rw [hz] at hx g1
      rcases List.mem_append.mp hx with hx | hx
      · exact tr _ _ _ ((List.pairwise_append.mp g1).2.2 x hx z List.mem_cons_self) hR
      · rw [List.mem_singleton.mp hx]; exact hR
  · exact g3 x hx y hy
theorem ahd_as {c : Co} (x y : Nat) (h : ahd c x y = true) : ¬ ahd c y x = true := by
  simp only [ahd, Bool.or_eq_true, Bool.and_eq_true, decide_eq_true_eq] at *
  omega
theorem ahd_tr {c : Co} (x y z : Nat) (h : ahd c x y = true) (h2 : ahd c y z = true) : ahd c x z = true := by
  simp only [ahd, Bool.or_eq_true, Bool.and_eq_true, decide_eq_true_eq] at *
  omega
theorem ahd_tot {c : Co} {x y : Nat} (h : ¬ ahd c x y = true) (hne : x ≠ y) : ahd c y x = true := by
  simp only [ahd, Bool.or_eq_true, Bool.and_eq_true, decide_eq_true_eq] at *
  omega
/-- the keys of a bin in a tree's order -/
def insA (c : Co) (x : Nat) : List Nat → List Nat
  | [] => [x]
  | y :: t => if ahd c x y = true then x :: y :: t else y :: insA c x t
def k_srt (c : Co) (b : Nat) : List Nat := (k_row c b).foldr (insA c) []
theorem insA_perm (c : Co) (x : Nat) : ∀ l : List Nat, (insA c x l).Perm (x :: l)
  | [] => List.Perm.refl _
  | y :: t => by
    unfold insA
    split
    · exact List.Perm.refl _
    · exact (List.Perm.cons y (insA_perm c x t)).trans (List.Perm.swap x y t)
theorem insA_srt (c : Co) (x : Nat) : ∀ l : List Nat, l.Pairwise (fun a b => ahd c a b = true) → x ∉ l → (insA c x l).Pairwise (fun a b => ahd c a b = true)
  | [], _, _ => by simp [insA]
  | y :: t, h, hx => by
    unfold insA
    have hn : x ≠ y := fun z => hx (z ▸ List.mem_cons_self)
    split
    · rename_i hh
      refine List.pairwise_cons.mpr ⟨fun z hz => ?_, h⟩
      rcases List.mem_cons.mp hz with rfl | hz
      · exact hh
      · exact ahd_tr _ _ _ hh ((List.pairwise_cons.mp h).1 z hz)
    · rename_i hh
      refine List.pairwise_cons.mpr ⟨fun z hz => ?_, insA_srt c x t (List.pairwise_cons.mp h).2 (fun z => hx (List.mem_cons_of_mem _ z))⟩
      rcases List.mem_cons.mp ((insA_perm c x t).mem_iff.mp hz) with rfl | hz
      · exact ahd_tot hh hn
      · exact (List.pairwise_cons.mp h).1 z hz
theorem fold_insA (c : Co) : ∀ l : List Nat, l.Nodup → (l.foldr (insA c) []).Perm l ∧ (l.foldr (insA c) []).Pairwise (fun a b => ahd c a b = true)
  | [], _ => ⟨List.Perm.refl _, List.Pairwise.nil⟩
  | x :: t, h => by
    obtain ⟨h1, h2⟩ := fold_insA c t (List.nodup_cons.mp h).2
    exact ⟨(insA_perm c x _).trans (List.Perm.cons x h1), insA_srt c x _ h2 (fun z => (List.nodup_cons.mp h).1 (h1.mem_iff.mp z))⟩
theorem CI.csnd {c : Co} (h : CI c) : (k_cs c).Nodup := h.2.2.1.nodup_iff.mpr h.1
theorem CI.rownd {c : Co} (h : CI c) (b : Nat) : (k_row c b).Nodup := h.csnd.sublist List.filter_sublist
theorem k_srt_perm {c : Co} (h : CI c) (b : Nat) : (k_srt c b).Perm (k_row c b) := (fold_insA c _ (h.rownd b)).1
theorem k_srt_srt {c : Co} (h : CI c) (b : Nat) : (k_srt c b).Pairwise (fun a b => ahd c a b = true) := (fold_insA c _ (h.rownd b)).2
theorem k_srt_len {c : Co} (h : CI c) (b : Nat) : (k_srt c b).length = k_mi c b := (k_srt_perm h b).length_eq
theorem k_srt_eq {c : Co} (h : CI c) {b : Nat} {l : List Nat} (h1 : l.Perm (k_row c b)) (h2 : l.Pairwise (fun a b => ahd c a b = true)) : l = k_srt c b := srt_uniq ahd_as _ _ h2 (k_srt_srt h b) (h1.trans (k_srt_perm h b).symm)
theorem k_row_le {c : Co} (h : CI c) {b k : Nat} (hk : k ∈ k_row c b) : k ≤ 999999 := by
  have h1 : k ∈ k_cs c := (List.mem_filter.mp hk).1
  have h2 : k ∈ k_ks c := h.2.2.1.mem_iff.mp h1
  obtain ⟨e, he, rfl⟩ := List.mem_map.mp h2
  exact (h.2.1 e he).1
/-- the key at a place of the order -/
def kAt (c : Co) (e : Nat) : Nat := ((k_ks c)[e]?).getD 0
theorem kAt_of {c : Co} {e : Nat} {x : Nat × Nat} (h : (k_es c)[e]? = some x) : kAt c e = x.1 := by
  unfold kAt k_ks
  rw [List.getElem?_map, h]
  rfl
theorem kAt_range (c : Co) : (List.range (k_es c).length).map (kAt c) = k_ks c := by
  refine List.ext_getElem? fun i => ?_
  rw [List.getElem?_map]
  by_cases hi : i < (k_es c).length
  · rw [List.getElem?_range hi]
    obtain ⟨x, hx⟩ := at_lt (show i < (k_ks c).length by rw [k_len]; exact hi)
    simp [kAt, hx]
  · rw [List.getElem?_eq_none (by simpa using hi), List.getElem?_eq_none (by rw [k_len]; omega)]
    rfl
section T22
variable {D : Dt} {o : Nat} {ad : Nat → Nat}
set_option maxHeartbeats 1000000 in
theorem ct_holds {N : Nat} {c : Co} (τ : Tw) (hT : TC N (τ.2 0) c) (b : Nat) (hb : b < 2 ^ 31) : Ct (wT D o ad) yX5_holds cX5_holds 4 none [.ref o, .int (nI b)] τ (PV (fun τ' => TF [14] [13] τ τ' ∧ ∃ l : List Nat, τ'.1 14 = nI l.length ∧ AR (τ'.2 13) 0 l ∧ (∀ x ∈ l, x < (k_es c).length) ∧ l.map (kAt c) = k_row c b)) 2 0 0 := by
  refine Ct.of KTok (by decide) (Nat.le_of_ble_eq_true rfl) rfl fun Y C hQ hNm => ?_
  have hl := hT.len
  have hw := hT.w
  obtain ⟨hc, hN, cm, co, hR, hCM⟩ := hT
  have hT : TC N (τ.2 0) c := ⟨hc, hN, cm, co, hR, hCM⟩
  have hcm : ∀ (e : Nat) (x : Nat × Nat), (k_es c)[e]? = some x → τ.2 0 (105 + e) = nI (cm x.1) ∧ cm x.1 < 1000000 := fun e x hx => ⟨(hR.2.2.2.1 e x hx).2.2, by
    have h1 : x.1 ∈ k_cs c := hc.2.2.1.mem_iff.mpr (List.mem_map.mpr ⟨x, List.mem_of_getElem? hx, rfl⟩)
    have := hCM.2.1 _ h1
    have := hCM.2.2
    omega⟩
  refine z_al0 (q := 1) C dX5_holds_0 rfl ?_
  refine z_iconst (q := 2) (v := nI 0) C dX5_holds_1 rfl (by decide) ?_
  refine tp_58 (q := 5) C dX5_holds_2 rfl ?_
  refine z_iconst (q := 6) (v := nI 0) C dX5_holds_5 rfl (by decide) ?_
  refine z_is2 (q := 7) C dX5_holds_6 rfl (by first | exact loC_i | exact loC_r | exact loC_n | exact loC_q | exact loC_u) ?_
  have loop : ∀ m e, e + m = (k_es c).length → ∀ (τ1 : Tw) (x3 : Option Value) (l : List Nat), loC x3 → TF [14] [13] τ τ1 → τ1.1 14 = nI l.length → AR (τ1.2 13) 0 l → (∀ x ∈ l, x < e) → l.Pairwise (fun x y => cm (kAt c x) < cm (kAt c y)) → l.Perm ((List.range e).filter (fun i => k_b c (kAt c i) == b)) → Zj (wT D o ad) Y τ1 0 0 7 [some (.ref o), some (.int (nI b)), some (.int (nI e)), x3] [] := by
    intro m
    induction m with
    | zero =>
      intro e he τ1 x3 l hx3 hF h14 hA hlt hs hp
      have he : e = (k_es c).length := he
      subst he
      have e0 : τ1.2 0 = τ.2 0 := hF.2 0 (by decide)
      have hrow : l.map (kAt c) = k_row c b := by
        refine srt_uniq (R := fun x y => cm x < cm y) (fun a b h => Nat.lt_asymm h) _ _ (List.pairwise_map.mpr hs) (hCM.1.sublist List.filter_sublist) ?_
        refine (hp.map (kAt c)).trans ?_
        have h1 : ((List.range (k_es c).length).filter (fun i => k_b c (kAt c i) == b)).map (kAt c) = (k_ks c).filter (fun k => k_b c k == b) := by
          rw [← kAt_range, List.filter_map]
          rfl
        rw [h1]
        exact (hc.2.2.1.filter _).symm
      refine z_il2 (q := 8) C dX5_holds_7 rfl ?_
      refine z_al0 (q := 9) C dX5_holds_8 rfl ?_
      refine tg_7 (q := 12) C dX5_holds_9 rfl ?_
      refine z_iconst (q := 13) (v := nI 0) C dX5_holds_12 rfl (by decide) ?_
      refine ta_ld0 (q := 14) C dX5_holds_13 rfl (by omega) ?_
      rw [e0]
      rw [hT.a0]
      first | refine z_icmp_geN (tgt := 114) (q := 17) C dX5_holds_14 (by decide) rfl (by omega) (by omega) (fun c14 => ?_) (fun c14 => ?_) | refine z_icmp_ge (tgt := 114) (q := 17) C dX5_holds_14 (by decide) rfl (fun c14 => ?_) (fun c14 => ?_)
      · refine z_vret C hQ dX5_holds_114 (Nat.le_refl _) (Nat.le_refl _) ?_
        exact ⟨rfl, hF, l, h14, hA, hlt, hrow⟩
      · exact absurd c14 (by omega)
    | succ m ih =>
      intro e he τ1 x3 l hx3 hF h14 hA hlt hs hp
      obtain ⟨x, hx⟩ := at_lt (show e < (k_es c).length by omega)
      have hk := hT.key hx
      have hkx := kAt_of hx
      have hkb := k_b_lt hT.1 x.1
      have e0 : τ1.2 0 = τ.2 0 := hF.2 0 (by decide)
      have hll : l.length ≤ e := by
        have := hp.length_eq
        have h2 := List.length_filter_le (fun i => k_b c (kAt c i) == b) (List.range e)
        rw [List.length_range] at h2
        omega
      have hrange : (List.range (e + 1)).filter (fun i => k_b c (kAt c i) == b) = (List.range e).filter (fun i => k_b c (kAt c i) == b) ++ (if (k_b c x.1 == b) = true then [e] else []) := by
        rw [List.range_succ, List.filter_append]
        congr 1
        simp only [List.filter_cons, List.filter_nil, hkx]
      refine z_il2 (q := 8) C dX5_holds_7 rfl ?_
      refine z_al0 (q := 9) C dX5_holds_8 rfl ?_
      refine tg_7 (q := 12) C dX5_holds_9 rfl ?_
      refine z_iconst (q := 13) (v := nI 0) C dX5_holds_12 rfl (by decide) ?_
      refine ta_ld0 (q := 14) C dX5_holds_13 rfl (by omega) ?_
      rw [e0]
      rw [hT.a0]
      first | refine z_icmp_geN (tgt := 114) (q := 17) C dX5_holds_14 (by decide) rfl (by omega) (by omega) (fun c14 => ?_) (fun c14 => ?_) | refine z_icmp_ge (tgt := 114) (q := 17) C dX5_holds_14 (by decide) rfl (fun c14 => ?_) (fun c14 => ?_)
      · exact absurd c14 (by omega)
      refine z_al0 (q := 18) C dX5_holds_17 rfl ?_
      refine z_al0 (q := 19) C dX5_holds_18 rfl ?_
      refine tg_7 (q := 22) C dX5_holds_19 rfl ?_
      refine z_bipush (q := 24) (v := nI 7) C dX5_holds_22 rfl (by decide) ?_
      refine z_il2 (q := 25) C dX5_holds_24 rfl ?_
      first | refine z_iaddN (q := 26) C dX5_holds_25 rfl ?_ | refine z_iadd (q := 26) C dX5_holds_25 rfl ?_
      refine ta_ld0 (q := 27) C dX5_holds_26 rfl (by omega) ?_
      rw [e0]
      rw [hk.1]
      refine z_callVe (q := 30) C (ct_binOf τ1 (e0 ▸ hT) x.1 hk.2) g_X5_61 rcT dX5_holds_27 rfl rfl rfl (Nat.le_of_ble_eq_true rfl) (by first | decide | omega) (Nat.le_refl _) (Nat.le_refl _) ?_
      refine z_il1 (q := 31) C dX5_holds_30 rfl ?_
      first | refine z_icmp_neN (tgt := 108) (q := 34) C dX5_holds_31 (by decide) rfl (by omega) (by omega) (fun c31 => ?_) (fun c31 => ?_) | refine z_icmp_ne (tgt := 108) (q := 34) C dX5_holds_31 (by decide) rfl (fun c31 => ?_) (fun c31 => ?_)
      · rw [if_neg (by simpa using c31), List.append_nil] at hrange
        first | refine z_iinc2N (q := 111) C dX5_holds_108 rfl (by first | exact loC_i | exact loC_r | exact loC_n | exact loC_q | exact loC_u) ?_ | refine z_iinc2 (q := 111) C dX5_holds_108 rfl rfl (by first | exact loC_i | exact loC_r | exact loC_n | exact loC_q | exact loC_u) ?_
        refine z_goto (tgt := 7) C dX5_holds_111 (by decide) ?_
        exact ih (e + 1) (by omega) τ1 x3 l hx3 hF h14 hA (fun x hx => Nat.lt_succ_of_lt (hlt x hx)) hs (by rw [hrange]; exact hp)
      · rw [if_pos (by simpa using c31)] at hrange
        refine z_al0 (q := 35) C dX5_holds_34 rfl ?_
        refine tg_58 (q := 38) C dX5_holds_35 rfl ?_
        rw [h14]
        refine z_is3 (q := 39) C dX5_holds_38 rfl (by first | exact loC_i | exact loC_r | exact loC_n | exact loC_q | exact loC_u) ?_
        have inner : ∀ (l1 l2 : List Nat), l1 ++ l2 = l → ∀ τ2 : Tw, TF [14] [13] τ τ2 → τ2.1 14 = nI l.length → AR (τ2.2 13) 0 l1 → AR (τ2.2 13) (l1.length + 1) l2 → (∀ y ∈ l2, cm x.1 < cm (kAt c y)) → Zj (wT D o ad) Y τ2 0 0 39 [some (.ref o), some (.int (nI b)), some (.int (nI e)), some (.int (nI l1.length))] [] := by
          intro l1
          induction hn : l1.length generalizing l1 with
          | zero =>
            have hz : l1 = [] := List.length_eq_zero_iff.mp hn
            subst hz
            intro l2 hl12 τ2 hF2 h142 hA1 hA2 hgt
            have hl12 : l2 = l := hl12
            subst hl12
            refine z_il3 (q := 40) C dX5_holds_39 rfl ?_
            refine z_if_le (tgt := 91) (q := 43) C dX5_holds_40 (by decide) rfl (fun c40 => ?_) (fun c40 => ?_)
            · refine z_al0 (q := 92) C dX5_holds_91 rfl ?_
              refine tg_37 (q := 95) C dX5_holds_92 rfl ?_
              refine z_il3 (q := 96) C dX5_holds_95 rfl ?_
              refine z_il2 (q := 97) C dX5_holds_96 rfl ?_
              refine ta_st13 (q := 98) C dX5_holds_97 rfl (by omega) ?_
              refine z_al0 (q := 99) C dX5_holds_98 rfl ?_
              refine z_dup (q := 100) C dX5_holds_99 rfl rfl ?_
              refine tg_58 (q := 103) C dX5_holds_100 rfl ?_
              rw [sE_f]
              rw [h142]
              refine z_iconst (q := 104) (v := nI 1) C dX5_holds_103 rfl (by decide) ?_
              first | refine z_iaddN (q := 105) C dX5_holds_104 rfl ?_ | refine z_iadd (q := 105) C dX5_holds_104 rfl ?_
              refine tp_58 (q := 108) C dX5_holds_105 rfl ?_
              first | refine z_iinc2N (q := 111) C dX5_holds_108 rfl (by first | exact loC_i | exact loC_r | exact loC_n | exact loC_q | exact loC_u) ?_ | refine z_iinc2 (q := 111) C dX5_holds_108 rfl rfl (by first | exact loC_i | exact loC_r | exact loC_n | exact loC_q | exact loC_u) ?_
              refine z_goto (tgt := 7) C dX5_holds_111 (by decide) ?_
              refine ih (e + 1) (by omega) _ _ (e :: l2) loC_i ((hF2.sE (by decide) _ _).sF (by decide) _) (by rw [sF_s]; rfl) (by show AR ((sE 13 0 (nI e) τ2).2 13) 0 _; rw [sE_j]; exact AR.put (l1 := []) e AR.nil hA2) ?_ ?_ ?_
              · intro y hy
                rcases List.mem_cons.mp hy with rfl | hy
                · omega
                · have := hlt y hy; omega
              · exact List.pairwise_cons.mpr ⟨fun y hy => by rw [hkx]; exact hgt y hy, hs⟩
              · rw [hrange]
                exact (List.Perm.cons e hp).trans (List.perm_append_comm (l₁ := [e]))
            · exact absurd (show nI 0 ≤ 0 from by decide) c40
          | succ n ihn =>
            rcases List.eq_nil_or_concat l1 with z | ⟨t, y, hz⟩
            · rw [z] at hn; cases hn
            have hz : l1 = t ++ [y] := by rw [hz, List.concat_eq_append]
            subst hz
            have hn : t.length = n := by simpa using hn
            intro l2 hl12 τ2 hF2 h142 hA1 hA2 hgt
            have e02 : τ2.2 0 = τ.2 0 := hF2.2 0 (by decide)
            have hym : y ∈ l := by rw [← hl12]; simp
            have hye := hlt y hym
            obtain ⟨xy, hxy⟩ := at_lt (show y < (k_es c).length by omega)
            have hcy := hcm y xy hxy
            have hce := hcm e x hx
            have hky := kAt_of hxy
            have hnl : n + 1 ≤ l.length := by rw [← hl12]; simp; omega
            refine z_il3 (q := 40) C dX5_holds_39 rfl ?_
            refine z_if_le (tgt := 91) (q := 43) C dX5_holds_40 (by decide) rfl (fun c40 => ?_) (fun c40 => ?_)
            · exact absurd c40 (nI_nle (by omega) (by omega))
            refine z_al0 (q := 44) C dX5_holds_43 rfl ?_
            refine tg_7 (q := 47) C dX5_holds_44 rfl ?_
            refine z_bipush (q := 49) (v := nI 105) C dX5_holds_47 rfl (by decide) ?_
            refine z_al0 (q := 50) C dX5_holds_49 rfl ?_
            refine tg_37 (q := 53) C dX5_holds_50 rfl ?_
            refine z_il3 (q := 54) C dX5_holds_53 rfl ?_
            refine z_iconst (q := 55) (v := nI 1) C dX5_holds_54 rfl (by decide) ?_
            refine z_isub (q := 56) C dX5_holds_55 rfl ?_
            rw [pk_sub (by omega), show n + 1 - 1 = n by omega]
            refine ta_ld13 (q := 57) C dX5_holds_56 rfl (by omega) ?_
            rw [show τ2.2 13 n = nI y from by have := hA1.mid (l2 := []); rwa [hn] at this]
            first | refine z_iaddN (q := 58) C dX5_holds_57 rfl ?_ | refine z_iadd (q := 58) C dX5_holds_57 rfl ?_
            refine ta_ld0 (q := 59) C dX5_holds_58 rfl (by omega) ?_
            rw [e02]
            rw [hcy.1]
            refine z_al0 (q := 60) C dX5_holds_59 rfl ?_
            refine tg_7 (q := 63) C dX5_holds_60 rfl ?_
            refine z_bipush (q := 65) (v := nI 105) C dX5_holds_63 rfl (by decide) ?_
            refine z_il2 (q := 66) C dX5_holds_65 rfl ?_
            first | refine z_iaddN (q := 67) C dX5_holds_66 rfl ?_ | refine z_iadd (q := 67) C dX5_holds_66 rfl ?_
            refine ta_ld0 (q := 68) C dX5_holds_67 rfl (by omega) ?_
            rw [e02]
            rw [hce.1]
            first | refine z_icmp_leN (tgt := 91) (q := 71) C dX5_holds_68 (by decide) rfl (by omega) (by omega) (fun c68 => ?_) (fun c68 => ?_) | refine z_icmp_le (tgt := 91) (q := 71) C dX5_holds_68 (by decide) rfl (fun c68 => ?_) (fun c68 => ?_)
            · refine z_al0 (q := 92) C dX5_holds_91 rfl ?_
              refine tg_37 (q := 95) C dX5_holds_92 rfl ?_
              refine z_il3 (q := 96) C dX5_holds_95 rfl ?_
              refine z_il2 (q := 97) C dX5_holds_96 rfl ?_
              refine ta_st13 (q := 98) C dX5_holds_97 rfl (by omega) ?_
              refine z_al0 (q := 99) C dX5_holds_98 rfl ?_
              refine z_dup (q := 100) C dX5_holds_99 rfl rfl ?_
              refine tg_58 (q := 103) C dX5_holds_100 rfl ?_
              rw [sE_f]
              rw [h142]
              refine z_iconst (q := 104) (v := nI 1) C dX5_holds_103 rfl (by decide) ?_
              first | refine z_iaddN (q := 105) C dX5_holds_104 rfl ?_ | refine z_iadd (q := 105) C dX5_holds_104 rfl ?_
              refine tp_58 (q := 108) C dX5_holds_105 rfl ?_
              first | refine z_iinc2N (q := 111) C dX5_holds_108 rfl (by first | exact loC_i | exact loC_r | exact loC_n | exact loC_q | exact loC_u) ?_ | refine z_iinc2 (q := 111) C dX5_holds_108 rfl rfl (by first | exact loC_i | exact loC_r | exact loC_n | exact loC_q | exact loC_u) ?_
              refine z_goto (tgt := 7) C dX5_holds_111 (by decide) ?_
              have hkey : cm (kAt c y) < cm x.1 := by
                rw [hky]
                rcases Nat.lt_or_eq_of_le c68 with h | h
                · exact h
                · exfalso
                  have h1 : x.1 ∈ k_cs c := hc.2.2.1.mem_iff.mpr (List.mem_map.mpr ⟨x, List.mem_of_getElem? hx, rfl⟩)
                  have h2 : xy.1 ∈ k_cs c := hc.2.2.1.mem_iff.mpr (List.mem_map.mpr ⟨xy, List.mem_of_getElem? hxy, rfl⟩)
                  obtain ⟨i1, g1⟩ := List.getElem?_of_mem h1
                  obtain ⟨i2, g2⟩ := List.getElem?_of_mem h2
                  have hne : xy.1 ≠ x.1 := by
                    intro z
                    have a1 : (k_ks c)[y]? = some xy.1 := by unfold k_ks; rw [List.getElem?_map, hxy]; rfl
                    have a2 : (k_ks c)[e]? = some x.1 := by unfold k_ks; rw [List.getElem?_map, hx]; rfl
                    have := (List.getElem?_inj (List.getElem?_eq_some_iff.mp a1).1 hc.1).mp (a1.trans (by rw [z]; exact a2.symm))
                    omega
                  have hpw := hCM.1
                  rw [List.pairwise_iff_getElem] at hpw
                  obtain ⟨b1, c1⟩ := List.getElem?_eq_some_iff.mp g1
                  obtain ⟨b2, c2⟩ := List.getElem?_eq_some_iff.mp g2
                  rcases Nat.lt_trichotomy i1 i2 with q | q | q
                  · have := hpw i1 i2 b1 b2 q
                    rw [c1, c2] at this; omega
                  · subst q
                    exact hne (c2.symm.trans c1)
                  · have := hpw i2 i1 b2 b1 q
                    rw [c1, c2] at this; omega
              refine ih (e + 1) (by omega) _ _ (t ++ [y] ++ e :: l2) loC_i ((hF2.sE (by decide) _ _).sF (by decide) _) (by rw [sF_s, ← hl12]; congr 1; simp; omega) (by show AR ((sE 13 (n + 1) (nI e) τ2).2 13) 0 _; rw [sE_j]; have := AR.put e hA1 (l2 := l2) (by rw [show (t ++ [y]).length = n + 1 by simp [hn]]; exact hA2); rwa [show (t ++ [y]).length = n + 1 by simp [hn]] at this) ?_ ?_ ?_
              · intro z hz
                have : z ∈ l ∨ z = e := by
                  rw [← hl12]
                  rcases List.mem_append.mp hz with h | h
                  · exact Or.inl (List.mem_append_left _ h)
                  · rcases List.mem_cons.mp h with h | h
                    · exact Or.inr h
                    · exact Or.inl (List.mem_append_right _ h)
                rcases this with h | h
                · have := hlt z h; omega
                · omega
              · rw [← hl12] at hs
                refine srt_ins (R := fun x y => cm (kAt c x) < cm (kAt c y)) (fun a b c h1 h2 => Nat.lt_trans h1 h2) hs (fun z t' hz => ?_) (fun z hz => by rw [hkx]; exact hgt z hz)
                have := List.append_inj_right' hz rfl
                cases this
                rw [hkx]; exact hkey
              · rw [hrange]
                refine List.Perm.trans ?_ (hp.append_right _)
                rw [← hl12]
                exact (List.perm_middle).trans ((List.perm_append_comm (l₁ := [e])))
            · refine z_al0 (q := 72) C dX5_holds_71 rfl ?_
              refine tg_37 (q := 75) C dX5_holds_72 rfl ?_
              refine z_il3 (q := 76) C dX5_holds_75 rfl ?_
              refine z_al0 (q := 77) C dX5_holds_76 rfl ?_
              refine tg_37 (q := 80) C dX5_holds_77 rfl ?_
              refine z_il3 (q := 81) C dX5_holds_80 rfl ?_
              refine z_iconst (q := 82) (v := nI 1) C dX5_holds_81 rfl (by decide) ?_
              refine z_isub (q := 83) C dX5_holds_82 rfl ?_
              rw [pk_sub (by omega), show n + 1 - 1 = n by omega]
              refine ta_ld13 (q := 84) C dX5_holds_83 rfl (by omega) ?_
              rw [show τ2.2 13 n = nI y from by have := hA1.mid (l2 := []); rwa [hn] at this]
              refine ta_st13 (q := 85) C dX5_holds_84 rfl (by omega) ?_
              refine z_iinc3 (q := 88) C dX5_holds_85 rfl (show nI (n + 1) + Int32.ofInt (-1) = nI n from pk_m1 n) (by first | exact loC_i | exact loC_r | exact loC_n | exact loC_q | exact loC_u) ?_
              refine z_goto (tgt := 39) C dX5_holds_88 (by decide) ?_
              have hsh := AR.shift hA1 (l2 := l2) (by rw [hn]; exact hA2)
              rw [hn] at hsh
              exact ihn t hn (y :: l2) (by rw [← hl12]; simp) _ (hF2.sE (by decide) _ _) h142 (by rw [sE_j]; exact hsh.1) (by rw [sE_j]; exact hsh.2) (fun z hz => by
                rcases List.mem_cons.mp hz with rfl | hz
                · rw [hky]; exact c68
                · exact hgt z hz)
        exact inner l [] (List.append_nil l) τ1 hF h14 hA AR.nil (fun y hy => by cases hy)
  exact loop _ 0 (Nat.zero_add _) _ _ [] loC_n (TF.rf.sF (by decide) _) sF_s AR.nil (fun x hx => by cases hx) List.Pairwise.nil (List.Perm.refl _)
end T22
