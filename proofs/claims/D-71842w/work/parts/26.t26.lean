/-! the twin: fits, goes, comes, moves, empties -/
/-- keys, values, times of coming from e on stand one place further ahead, up to k -/
def shf (e k : Nat) (a : Nat → Int32) : Nat → Int32 := fun i => if (7 + e ≤ i ∧ i < 7 + k) ∨ (56 + e ≤ i ∧ i < 56 + k) ∨ (105 + e ≤ i ∧ i < 105 + k) then a (i + 1) else a i
theorem shf_e {e : Nat} {a : Nat → Int32} : shf e e a = a := by
  funext i
  exact if_neg (by omega)
theorem shf_out {e k i : Nat} {a : Nat → Int32} (h : ¬ ((7 + e ≤ i ∧ i < 7 + k) ∨ (56 + e ≤ i ∧ i < 56 + k) ∨ (105 + e ≤ i ∧ i < 105 + k))) : shf e k a i = a i := if_neg h
theorem shf_in {e k i : Nat} {a : Nat → Int32} (h : (7 + e ≤ i ∧ i < 7 + k) ∨ (56 + e ≤ i ∧ i < 56 + k) ∨ (105 + e ≤ i ∧ i < 105 + k)) : shf e k a i = a (i + 1) := if_pos h
theorem shf_step {e k : Nat} {a : Nat → Int32} (he : e ≤ k) (hk : k < 48) : upd (upd (upd (shf e k a) (7 + k) (a (7 + k + 1))) (56 + k) (a (56 + k + 1))) (105 + k) (a (105 + k + 1)) = shf e (k + 1) a := by
  funext i
  by_cases h1 : i = 105 + k
  · subst h1
    rw [pk_us, shf_in (by omega)]
  rw [pk_un h1]
  by_cases h2 : i = 56 + k
  · subst h2
    rw [pk_us, shf_in (by omega)]
  rw [pk_un h2]
  by_cases h3 : i = 7 + k
  · subst h3
    rw [pk_us, shf_in (by omega)]
  rw [pk_un h3]
  by_cases h4 : (7 + e ≤ i ∧ i < 7 + k) ∨ (56 + e ≤ i ∧ i < 56 + k) ∨ (105 + e ≤ i ∧ i < 105 + k)
  · rw [shf_in h4, shf_in (by omega)]
  · rw [shf_out h4, shf_out (by omega)]
theorem eraseIdx_at {α : Type} (l : List α) (e i : Nat) : (l.eraseIdx e)[i]? = if i < e then l[i]? else l[i + 1]? := by
  rw [List.getElem?_eraseIdx]
section TCd
variable {N : Nat} {a : Nat → Int32} {c : Co}
theorem TC.del (h : TC N a c) {e : Nat} (he : e < (k_es c).length) : TC N (shf e ((k_es c).length - 1) (upd a 0 (nI ((k_es c).length - 1)))) (k_del c e) := by
  obtain ⟨hc, hN, cm, co, hR, hM⟩ := h
  have hl := hc.2.2.2.1
  refine ⟨hc.del he, hN, cm, co, ⟨?_, fun i h1 h2 => ?_, ?_, fun i x hx => ?_, fun x hx => ?_⟩, hM.1.sublist List.erase_sublist, fun k hk => hM.2.1 k (List.mem_of_mem_erase hk), hM.2.2⟩
  · rw [shf_out (by omega), pk_us]
    show _ = nI ((k_es c).eraseIdx e).length
    rw [List.length_eraseIdx, if_pos he]
  · rw [shf_out (by omega), pk_un (by omega)]
    exact hR.2.1 i h1 h2
  · rw [shf_out (by omega), pk_un (by omega)]
    exact hR.2.2.1
  · have hx : ((k_es c).eraseIdx e)[i]? = some x := hx
    rw [eraseIdx_at] at hx
    split at hx
    · rename_i q
      rw [shf_out (by omega), shf_out (by omega), shf_out (by omega), pk_un (by omega), pk_un (by omega), pk_un (by omega)]
      exact hR.2.2.2.1 i x hx
    · rename_i q
      have hi : i + 1 < (k_es c).length := (List.getElem?_eq_some_iff.mp hx).1
      rw [shf_in (by omega), shf_in (by omega), shf_in (by omega), pk_un (by omega), pk_un (by omega), pk_un (by omega)]
      exact hR.2.2.2.1 (i + 1) x hx
  · rw [shf_out (by omega), pk_un (by omega)]
    exact hR.2.2.2.2 x hx
theorem TC.mov (h : TC N a c) {e : Nat} (he : e < (k_es c).length) : TC N (upd (upd (upd (shf e ((k_es c).length - 1) a) (7 + ((k_es c).length - 1)) (a (7 + e))) (56 + ((k_es c).length - 1)) (a (56 + e))) (105 + ((k_es c).length - 1)) (a (105 + e))) (k_mov c e) := by
  obtain ⟨hc, hN, cm, co, hR, hM⟩ := h
  have hl := hc.2.2.2.1
  obtain ⟨v, hv⟩ := kAt_lt he
  have hlen : (k_es (k_mov c e)).length = (k_es c).length := by
    show ((k_es c).eraseIdx e ++ ((k_es c)[e]?).toList).length = _
    rw [hv, List.length_append, List.length_eraseIdx, if_pos he]
    show (k_es c).length - 1 + 1 = _
    omega
  refine ⟨hc.mov he, hN, cm, co, ⟨?_, fun i h1 h2 => ?_, ?_, fun i x hx => ?_, fun x hx => ?_⟩, hM⟩
  · rw [pk_un (by omega), pk_un (by omega), pk_un (by omega), shf_out (by omega), hlen]
    exact hR.1
  · rw [pk_un (by omega), pk_un (by omega), pk_un (by omega), shf_out (by omega)]
    exact hR.2.1 i h1 h2
  · rw [pk_un (by omega), pk_un (by omega), pk_un (by omega), shf_out (by omega)]
    exact hR.2.2.1
  · have hil : i < (k_es c).length := by
      have := (List.getElem?_eq_some_iff.mp hx).1
      omega
    have hx : ((k_es c).eraseIdx e ++ ((k_es c)[e]?).toList)[i]? = some x := hx
    by_cases hi : i = (k_es c).length - 1
    · rw [List.getElem?_append_right (by rw [List.length_eraseIdx, if_pos he]; omega), List.length_eraseIdx, if_pos he, hi, Nat.sub_self, hv] at hx
      have hx : some (kAt c e, v) = some x := hx
      cases hx
      subst hi
      rw [pk_us, pk_un (by omega), pk_un (by omega), pk_us, pk_un (by omega), pk_us]
      have := hR.2.2.2.1 e _ hv
      exact this
    · rw [List.getElem?_append_left (by rw [List.length_eraseIdx, if_pos he]; omega), eraseIdx_at] at hx
      rw [pk_un (by omega), pk_un (by omega), pk_un (by omega), pk_un (by omega), pk_un (by omega), pk_un (by omega), pk_un (by omega), pk_un (by omega), pk_un (by omega)]
      split at hx
      · rw [shf_out (by omega), shf_out (by omega), shf_out (by omega)]
        exact hR.2.2.2.1 i x hx
      · rw [shf_in (by omega), shf_in (by omega), shf_in (by omega)]
        exact hR.2.2.2.1 (i + 1) x hx
  · rw [pk_un (by omega), pk_un (by omega), pk_un (by omega), shf_out (by omega)]
    exact hR.2.2.2.2 x hx
theorem TC.emp (h : TC N a c) {a' : Nat → Int32} (h1 : a' 1 = nI 8) (h0 : ∀ i, i ≠ 1 → i < 154 → a' i = a i) (h2 : ∀ b, b < 64 → a' (154 + b) = nI 0) : TC N a' (k_emp c) := by
  obtain ⟨hc, hN, cm, co, hR, hM⟩ := h
  have hl := hc.2.2.2.1
  refine ⟨hc.emp, hN, cm, co, ⟨?_, fun i g1 g2 => ?_, ?_, fun i x hx => ?_, fun x hx => h2 x hx⟩, hM⟩
  · rw [h0 0 (by omega) (by omega)]; exact hR.1
  · by_cases q : i = 1
    · subst q
      rw [h1]
      rfl
    · rw [h0 i q (by omega)]
      show _ = nI (if i = 1 then 8 else k_n c i)
      rw [if_neg q]
      exact hR.2.1 i g1 g2
  · rw [h0 6 (by omega) (by omega)]; exact hR.2.2.1
  · have hi : i < (k_es c).length := (List.getElem?_eq_some_iff.mp hx).1
    rw [h0 (7 + i) (by omega) (by omega), h0 (56 + i) (by omega) (by omega), h0 (105 + i) (by omega) (by omega)]
    exact hR.2.2.2.1 i x hx
theorem TC.add (h : TC N a c) {k v : Nat} (hk : k ≤ 999999) (hv : v ≤ 9999) (hn : k ∉ k_ks c) (hl : (k_es c).length ≤ 48) (hN : N + 1 ≤ 1000000) : TC (N + 1) (upd (upd (upd (upd (upd a (7 + (k_es c).length) (nI k)) (56 + (k_es c).length) (nI v)) (105 + (k_es c).length) (a 6)) 6 (a 6 + nI 1)) 0 (nI ((k_es c).length + 1))) (k_add c k v) := by
  obtain ⟨hc, -, cm, co, hR, hM⟩ := h
  have hncs : k ∉ k_cs c := fun z => hn (hc.2.2.1.mem_iff.mp z)
  have hxk : ∀ x ∈ k_cs c, x ≠ k := fun x hx z => hncs (by rw [← z]; exact hx)
  refine ⟨hc.add hk hv hn hl, hN, fun x => if x = k then co else cm x, co + 1, ⟨?_, fun i g1 g2 => ?_, ?_, fun i x hx => ?_, fun x hx => ?_⟩, ?_, fun x hx => ?_, ?_⟩
  · rw [pk_us]
    show _ = nI (k_es c ++ [(k, v)]).length
    simp
  · rw [pk_un (by omega), pk_un (by omega), pk_un (by omega), pk_un (by omega), pk_un (by omega)]
    exact hR.2.1 i g1 g2
  · rw [pk_un (by omega), pk_us, hR.2.2.1, nI_add]
  · have hx : (k_es c ++ [(k, v)])[i]? = some x := hx
    by_cases q : i < (k_es c).length
    · rw [List.getElem?_append_left q] at hx
      have hxk : x.1 ≠ k := fun z => hn (List.mem_map.mpr ⟨x, List.mem_of_getElem? hx, z⟩)
      have := hR.2.2.2.1 i x hx
      rw [pk_un (by omega), pk_un (by omega), pk_un (by omega), pk_un (by omega), pk_un (by omega), pk_un (by omega), pk_un (by omega), pk_un (by omega), pk_un (by omega), pk_un (by omega), pk_un (by omega), pk_un (by omega), pk_un (by omega), pk_un (by omega), pk_un (by omega)]
      exact ⟨this.1, this.2.1, by rw [this.2.2]; simp only [if_neg hxk]⟩
    · have hi : i = (k_es c).length := by
        have := (List.getElem?_eq_some_iff.mp hx).1
        simp at this
        omega
      rw [List.getElem?_append_right (by omega), hi, Nat.sub_self] at hx
      have hx : some (k, v) = some x := hx
      cases hx
      subst hi
      rw [pk_un (by omega), pk_un (by omega), pk_un (by omega), pk_un (by omega), pk_us, pk_un (by omega), pk_un (by omega), pk_un (by omega), pk_us, pk_un (by omega), pk_un (by omega), pk_us]
      exact ⟨rfl, rfl, by simp only [if_true]; exact hR.2.2.1⟩
  · rw [pk_un (by omega), pk_un (by omega), pk_un (by omega), pk_un (by omega), pk_un (by omega)]
    exact hR.2.2.2.2 x hx
  · show (k_cs c ++ [k]).Pairwise _
    refine List.pairwise_append.mpr ⟨hM.1.imp_of_mem fun {x y} hx hy hxy => ?_, List.pairwise_singleton _ _, fun x hx y hy => ?_⟩
    · show (if x = k then co else cm x) < (if y = k then co else cm y)
      rw [if_neg (hxk x hx), if_neg (hxk y hy)]
      exact hxy
    · show (if x = k then co else cm x) < (if y = k then co else cm y)
      rw [List.mem_singleton.mp hy, if_neg (hxk x hx), if_pos rfl]
      exact hM.2.1 x hx
  · rcases List.mem_append.mp hx with hx | hx
    · show (if x = k then co else cm x) < co + 1
      rw [if_neg (hxk x hx)]
      have := hM.2.1 x hx
      omega
    · show (if x = k then co else cm x) < co + 1
      rw [if_pos (List.mem_singleton.mp hx)]
      omega
  · have := hM.2.2
    omega
end TCd
theorem k_grow_o {c : Co} : k_es (k_grow c) = k_es c ∧ k_cs (k_grow c) = k_cs c ∧ ∀ i, i ≠ 1 → k_n (k_grow c) i = k_n c i := ⟨rfl, rfl, fun i h => if_neg h⟩
theorem k_fit1_o {c : Co} {b : Nat} : k_es (k_fit1 c b) = k_es c ∧ k_cs (k_fit1 c b) = k_cs c ∧ ∀ i, i ≠ 1 → k_n (k_fit1 c b) i = k_n c i := by
  unfold k_fit1
  split
  · split
    · exact k_grow_o
    · exact ⟨rfl, rfl, fun _ _ => rfl⟩
  · exact ⟨rfl, rfl, fun _ _ => rfl⟩
theorem k_fit2_o {c : Co} {all : Nat} : k_es (k_fit2 c all) = k_es c ∧ k_cs (k_fit2 c all) = k_cs c ∧ ∀ i, i ≠ 1 → k_n (k_fit2 c all) i = k_n c i := by
  unfold k_fit2
  split
  · exact k_grow_o
  · exact ⟨rfl, rfl, fun _ _ => rfl⟩
theorem k_fit_o {c : Co} {b all : Nat} : k_es (k_fit c b all) = k_es c ∧ k_cs (k_fit c b all) = k_cs c ∧ ∀ i, i ≠ 1 → k_n (k_fit c b all) i = k_n c i := ⟨k_fit2_o.1.trans k_fit1_o.1, k_fit2_o.2.1.trans k_fit1_o.2.1, fun i h => (k_fit2_o.2.2 i h).trans (k_fit1_o.2.2 i h)⟩
section T26
variable {D : Dt} {o : Nat} {ad : Nat → Nat}
set_option maxHeartbeats 1000000 in
theorem ct_fits {N : Nat} {c : Co} (τ : Tw) (hT : TC N (τ.2 0) c) (b all : Nat) (hb : b < k_n c 1) (ha : all ≤ 1000) : Ct (wT D o ad) yX5_fits cX5_fits 3 none [.ref o, .int (nI b), .int (nI all)] τ (PV (fun τ' => TF [] [0] τ τ' ∧ TC N (τ'.2 0) (k_fit c b all) ∧ ∀ i, i ≠ 1 → i < 154 → τ'.2 0 i = τ.2 0 i)) 4 0 0 := by
  refine Ct.of KTok (by decide) (Nat.le_of_ble_eq_true rfl) rfl fun Y C hQ hNm => ?_
  have hw := hT.w
  have hmi := k_mi_le hT.1 b
  have hlen := hT.len
  have rest : ∀ (τ1 : Tw) (c1 : Co), k_fit1 c b = c1 → TF [] [0] τ τ1 → TC N (τ1.2 0) c1 → (∀ i, i ≠ 1 → i < 154 → τ1.2 0 i = τ.2 0 i) → Zj (wT D o ad) Y τ1 0 0 46 [some (.ref o), some (.int (nI b)), some (.int (nI all))] [] := by
    intro τ1 c1 hc1 hF hT1 hO
    have hw1 := hT1.w
    have hk : k_fit c b all = k_fit2 c1 all := by unfold k_fit; rw [hc1]
    have hk0 : ¬ (3 * k_n c1 1 < 4 * all ∧ k_n c1 1 < 64) → k_fit c b all = c1 := fun z => by rw [hk]; exact if_neg z
    have hk1 : 3 * k_n c1 1 < 4 * all ∧ k_n c1 1 < 64 → k_fit c b all = k_grow c1 := fun z => by rw [hk]; exact if_pos z
    refine z_iconst (q := 47) (v := nI 4) C dX5_fits_46 rfl (by decide) ?_
    refine z_il2 (q := 48) C dX5_fits_47 rfl ?_
    first | refine z_imulN (q := 49) C dX5_fits_48 rfl ?_ | refine z_imul (q := 49) C dX5_fits_48 rfl ?_
    refine z_iconst (q := 50) (v := nI 3) C dX5_fits_49 rfl (by decide) ?_
    refine z_al0 (q := 51) C dX5_fits_50 rfl ?_
    refine tg_7 (q := 54) C dX5_fits_51 rfl ?_
    refine z_iconst (q := 55) (v := nI 1) C dX5_fits_54 rfl (by decide) ?_
    refine ta_ld0 (q := 56) C dX5_fits_55 rfl (by omega) ?_
    rw [hT1.an (by omega) (by omega)]
    first | refine z_imulN (q := 57) C dX5_fits_56 rfl ?_ | refine z_imul (q := 57) C dX5_fits_56 rfl ?_
    first | refine z_icmp_leN (tgt := 75) (q := 60) C dX5_fits_57 (by decide) rfl (by omega) (by omega) (fun c57 => ?_) (fun c57 => ?_) | refine z_icmp_le (tgt := 75) (q := 60) C dX5_fits_57 (by decide) rfl (fun c57 => ?_) (fun c57 => ?_)
    · refine z_vret C hQ dX5_fits_75 (Nat.le_refl _) (Nat.le_refl _) ?_
      first | exact ⟨rfl, hF, by rw [hk0 (by omega)]; exact hT1, hO⟩ | exact ⟨rfl, hF.tr h72.1, by rw [hk1 (by omega)]; exact h72.2.1, fun i g1 g2 => (h72.2.2 i g1 g2).trans (hO i g1 g2)⟩
    · refine z_al0 (q := 61) C dX5_fits_60 rfl ?_
      refine tg_7 (q := 64) C dX5_fits_61 rfl ?_
      refine z_iconst (q := 65) (v := nI 1) C dX5_fits_64 rfl (by decide) ?_
      refine ta_ld0 (q := 66) C dX5_fits_65 rfl (by omega) ?_
      rw [hT1.an (by omega) (by omega)]
      refine z_bipush (q := 68) (v := nI 64) C dX5_fits_66 rfl (by decide) ?_
      first | refine z_icmp_geN (tgt := 75) (q := 71) C dX5_fits_68 (by decide) rfl (by omega) (by omega) (fun c68 => ?_) (fun c68 => ?_) | refine z_icmp_ge (tgt := 75) (q := 71) C dX5_fits_68 (by decide) rfl (fun c68 => ?_) (fun c68 => ?_)
      · refine z_vret C hQ dX5_fits_75 (Nat.le_refl _) (Nat.le_refl _) ?_
        first | exact ⟨rfl, hF, by rw [hk0 (by omega)]; exact hT1, hO⟩ | exact ⟨rfl, hF.tr h72.1, by rw [hk1 (by omega)]; exact h72.2.1, fun i g1 g2 => (h72.2.2 i g1 g2).trans (hO i g1 g2)⟩
      · refine z_al0 (q := 72) C dX5_fits_71 rfl ?_
        refine z_callVv (q := 75) C (ct_grows τ1 hT1 (hT1.1.w32 c68)) g_X5_105 rcT dX5_fits_72 rfl rfl rfl (Nat.le_of_ble_eq_true rfl) (by first | decide | omega) (Nat.le_refl _) (Nat.le_refl _) (fun τ72 h72 => ?_)
        refine z_vret C hQ dX5_fits_75 (Nat.le_refl _) (Nat.le_refl _) ?_
        first | exact ⟨rfl, hF, by rw [hk0 (by omega)]; exact hT1, hO⟩ | exact ⟨rfl, hF.tr h72.1, by rw [hk1 (by omega)]; exact h72.2.1, fun i g1 g2 => (h72.2.2 i g1 g2).trans (hO i g1 g2)⟩
  have hn : k_tr c b = true ∨ k_mi c b ≤ 5 → k_fit1 c b = c := fun z => if_neg (by
    rcases z with z | z
    · rw [z]; simp
    · rw [decide_eq_false (by omega), Bool.and_false]; decide)
  have hy : k_tr c b = false → 5 < k_mi c b → k_fit1 c b = if k_n c 1 < 16 then k_grow c else setT c (upB (k_tr c) b true) := fun z1 z2 => if_pos (by rw [z1, decide_eq_true z2]; rfl)
  refine z_al0 (q := 1) C dX5_fits_0 rfl ?_
  refine z_il1 (q := 2) C dX5_fits_1 rfl ?_
  refine z_callVe (q := 5) C (ct_isTree τ hT b (by omega)) g_X5_95 rcT dX5_fits_2 rfl rfl rfl (Nat.le_of_ble_eq_true rfl) (by first | decide | omega) (Nat.le_refl _) (Nat.le_refl _) ?_
  first | refine z_if_neB (tgt := 46) (q := 8) C dX5_fits_5 (by decide) rfl (fun c5 => ?_) (fun c5 => ?_) | refine z_if_ne (tgt := 46) (q := 8) C dX5_fits_5 (by decide) rfl (fun c5 => ?_) (fun c5 => ?_)
  · first | exact rest τ c (hn (Or.inl c5)) TF.rf hT (fun _ _ _ => rfl) | exact rest τ c (hn (Or.inr c14)) TF.rf hT (fun _ _ _ => rfl) | exact rest _ _ ((hy c5 c14).trans (if_pos c25)) h29.1 h29.2.1 h29.2.2 | exact rest _ _ ((hy c5 c14).trans (if_neg (by omega))) (TF.rf.sE (by decide) _ _) (by rw [sE_j]; exact hT.tr1 (v := true) (by omega) (fun _ => hb)) (fun i g1 g2 => sE_n (by omega))
  · refine z_al0 (q := 9) C dX5_fits_8 rfl ?_
    refine z_il1 (q := 10) C dX5_fits_9 rfl ?_
    refine z_callVe (q := 13) C (ct_manyIn τ hT b (by omega)) g_X5_102 rcT dX5_fits_10 rfl rfl rfl (Nat.le_of_ble_eq_true rfl) (by first | decide | omega) (Nat.le_refl _) (Nat.le_refl _) ?_
    refine z_iconst (q := 14) (v := nI 5) C dX5_fits_13 rfl (by decide) ?_
    first | refine z_icmp_leN (tgt := 46) (q := 17) C dX5_fits_14 (by decide) rfl (by omega) (by omega) (fun c14 => ?_) (fun c14 => ?_) | refine z_icmp_le (tgt := 46) (q := 17) C dX5_fits_14 (by decide) rfl (fun c14 => ?_) (fun c14 => ?_)
    · first | exact rest τ c (hn (Or.inl c5)) TF.rf hT (fun _ _ _ => rfl) | exact rest τ c (hn (Or.inr c14)) TF.rf hT (fun _ _ _ => rfl) | exact rest _ _ ((hy c5 c14).trans (if_pos c25)) h29.1 h29.2.1 h29.2.2 | exact rest _ _ ((hy c5 c14).trans (if_neg (by omega))) (TF.rf.sE (by decide) _ _) (by rw [sE_j]; exact hT.tr1 (v := true) (by omega) (fun _ => hb)) (fun i g1 g2 => sE_n (by omega))
    · refine z_al0 (q := 18) C dX5_fits_17 rfl ?_
      refine tg_7 (q := 21) C dX5_fits_18 rfl ?_
      refine z_iconst (q := 22) (v := nI 1) C dX5_fits_21 rfl (by decide) ?_
      refine ta_ld0 (q := 23) C dX5_fits_22 rfl (by omega) ?_
      rw [hT.an (by omega) (by omega)]
      refine z_bipush (q := 25) (v := nI 16) C dX5_fits_23 rfl (by decide) ?_
      first | refine z_icmp_geN (tgt := 35) (q := 28) C dX5_fits_25 (by decide) rfl (by omega) (by omega) (fun c25 => ?_) (fun c25 => ?_) | refine z_icmp_ge (tgt := 35) (q := 28) C dX5_fits_25 (by decide) rfl (fun c25 => ?_) (fun c25 => ?_)
      · refine z_al0 (q := 36) C dX5_fits_35 rfl ?_
        refine tg_7 (q := 39) C dX5_fits_36 rfl ?_
        refine z_sipush (q := 42) (v := nI 154) C dX5_fits_39 rfl (by decide) ?_
        refine z_il1 (q := 43) C dX5_fits_42 rfl ?_
        first | refine z_iaddN (q := 44) C dX5_fits_43 rfl ?_ | refine z_iadd (q := 44) C dX5_fits_43 rfl ?_
        refine z_iconst (q := 45) (v := nI 1) C dX5_fits_44 rfl (by decide) ?_
        refine ta_st0 (q := 46) C dX5_fits_45 rfl (by omega) ?_
        first | exact rest τ c (hn (Or.inl c5)) TF.rf hT (fun _ _ _ => rfl) | exact rest τ c (hn (Or.inr c14)) TF.rf hT (fun _ _ _ => rfl) | exact rest _ _ ((hy c5 c14).trans (if_pos c25)) h29.1 h29.2.1 h29.2.2 | exact rest _ _ ((hy c5 c14).trans (if_neg (by omega))) (TF.rf.sE (by decide) _ _) (by rw [sE_j]; exact hT.tr1 (v := true) (by omega) (fun _ => hb)) (fun i g1 g2 => sE_n (by omega))
      · refine z_al0 (q := 29) C dX5_fits_28 rfl ?_
        refine z_callVv (q := 32) C (ct_grows τ hT (by omega)) g_X5_105 rcT dX5_fits_29 rfl rfl rfl (Nat.le_of_ble_eq_true rfl) (by first | decide | omega) (Nat.le_refl _) (Nat.le_refl _) (fun τ29 h29 => ?_)
        refine z_goto (tgt := 46) C dX5_fits_32 (by decide) ?_
        first | exact rest τ c (hn (Or.inl c5)) TF.rf hT (fun _ _ _ => rfl) | exact rest τ c (hn (Or.inr c14)) TF.rf hT (fun _ _ _ => rfl) | exact rest _ _ ((hy c5 c14).trans (if_pos c25)) h29.1 h29.2.1 h29.2.2 | exact rest _ _ ((hy c5 c14).trans (if_neg (by omega))) (TF.rf.sE (by decide) _ _) (by rw [sE_j]; exact hT.tr1 (v := true) (by omega) (fun _ => hb)) (fun i g1 g2 => sE_n (by omega))
set_option maxHeartbeats 1000000 in
theorem ct_goes {N : Nat} {c : Co} (τ : Tw) (hT : TC N (τ.2 0) c) (e : Nat) (he : e < (k_es c).length) : Ct (wT D o ad) yX5_goes cX5_goes 4 none [.ref o, .int (nI e)] τ (PV (fun τ' => TF [5] [0] τ τ' ∧ τ'.1 5 = τ.1 5 + nI 1 ∧ TC N (τ'.2 0) (k_go c e))) 3 0 0 := by
  refine Ct.of KTok (by decide) (Nat.le_of_ble_eq_true rfl) rfl fun Y C hQ hNm => ?_
  have hw := hT.w
  have hlen := hT.len
  obtain ⟨v, hv⟩ := kAt_lt he
  have hk := hT.key hv
  have hkb := k_b_lt hT.1 (kAt c e)
  have hTd := hT.del he
  have hmi : k_mi (k_del c e) (k_b c (kAt c e)) ≤ 49 := Nat.le_trans (k_mi_le hTd.1 _) hTd.1.2.2.2.1
  generalize ha1 : upd (τ.2 0) 0 (nI ((k_es c).length - 1)) = a1 at hTd
  have ha10 : a1 0 = nI ((k_es c).length - 1) := by rw [← ha1]; exact pk_us
  have loop : ∀ m k, k + m = (k_es c).length - 1 → e ≤ k → ∀ τ1 : Tw, TF [] [0] τ τ1 → τ1.2 0 = shf e k a1 → Zj (wT D o ad) Y τ1 0 0 26 [some (.ref o), some (.int (nI e)), some (.int (nI (k_b c (kAt c e)))), some (.int (nI k))] [] := by
    intro m
    induction m with
    | zero =>
      intro k hkm hek τ1 hF hs
      have hkm : k = (k_es c).length - 1 := hkm
      rw [← hkm] at hTd ha10
      have hT1 : TC N (τ1.2 0) (k_del c e) := by rw [hs]; exact hTd
      have h0 : τ1.2 0 0 = nI k := by rw [hs, shf_out (by omega)]; exact ha10
      have fin : ∀ vv : Bool, vv = (k_tr c (k_b c (kAt c e)) && decide (2 < k_mi (k_del c e) (k_b c (kAt c e)))) → ∀ x : Int32, x = bI vv → ∃ y, PV (fun τ' => TF [5] [0] τ τ' ∧ τ'.1 5 = τ.1 5 + nI 1 ∧ TC N (τ'.2 0) (k_go c e)) none (sE 0 (154 + k_b c (kAt c e)) x (sF 5 (τ1.1 5 + nI 1) τ1)) ∧ y = 0 := by
        intro vv hvv x hx
        refine ⟨0, ⟨rfl, (((hF.up (by decide) (by decide)).sF (by decide) _).sE (by decide) _ _), ?_, ?_⟩, rfl⟩
        · rw [sE_f, sF_s, hF.1 5 (by decide)]
        · rw [sE_j, hx]
          have := hT1.tr1 (b := k_b c (kAt c e)) (by omega) (v := vv) (fun _ => hkb)
          rw [hvv] at this ⊢
          exact this
      refine z_il3 (q := 27) C dX5_goes_26 rfl ?_
      refine z_al0 (q := 28) C dX5_goes_27 rfl ?_
      refine tg_7 (q := 31) C dX5_goes_28 rfl ?_
      refine z_iconst (q := 32) (v := nI 0) C dX5_goes_31 rfl (by decide) ?_
      refine ta_ld0 (q := 33) C dX5_goes_32 rfl (by omega) ?_
      rw [h0]
      first | refine z_icmp_geN (tgt := 102) (q := 36) C dX5_goes_33 (by decide) rfl (by omega) (by omega) (fun c33 => ?_) (fun c33 => ?_) | refine z_icmp_ge (tgt := 102) (q := 36) C dX5_goes_33 (by decide) rfl (fun c33 => ?_) (fun c33 => ?_)
      · refine z_al0 (q := 103) C dX5_goes_102 rfl ?_
        refine z_dup (q := 104) C dX5_goes_103 rfl rfl ?_
        refine tg_108 (q := 107) C dX5_goes_104 rfl ?_
        refine z_iconst (q := 108) (v := nI 1) C dX5_goes_107 rfl (by decide) ?_
        first | refine z_iaddN (q := 109) C dX5_goes_108 rfl ?_ | refine z_iadd (q := 109) C dX5_goes_108 rfl ?_
        refine tp_108 (q := 112) C dX5_goes_109 rfl ?_
        refine z_al0 (q := 113) C dX5_goes_112 rfl ?_
        refine tg_7 (q := 116) C dX5_goes_113 rfl ?_
        refine z_sipush (q := 119) (v := nI 154) C dX5_goes_116 rfl (by decide) ?_
        refine z_il2 (q := 120) C dX5_goes_119 rfl ?_
        first | refine z_iaddN (q := 121) C dX5_goes_120 rfl ?_ | refine z_iadd (q := 121) C dX5_goes_120 rfl ?_
        refine z_al0 (q := 122) C dX5_goes_121 rfl ?_
        refine z_il2 (q := 123) C dX5_goes_122 rfl ?_
        refine z_callVe (q := 126) C (ct_isTree' _ (by exact hT1) (k_b c (kAt c e)) (k_tr c (k_b c (kAt c e))) (by omega) (by rfl)) g_X5_95 rcT dX5_goes_123 rfl rfl rfl (Nat.le_of_ble_eq_true rfl) (by first | decide | omega) (Nat.le_refl _) (Nat.le_refl _) ?_
        first | refine z_if_eqB (tgt := 142) (q := 129) C dX5_goes_126 (by decide) rfl (fun c126 => ?_) (fun c126 => ?_) | refine z_if_eq (tgt := 142) (q := 129) C dX5_goes_126 (by decide) rfl (fun c126 => ?_) (fun c126 => ?_)
        · refine z_iconst (q := 143) (v := nI 0) C dX5_goes_142 rfl (by decide) ?_
          refine ta_st0 (q := 144) C dX5_goes_143 rfl (by omega) ?_
          refine z_vret C hQ dX5_goes_144 (Nat.le_refl _) (Nat.le_refl _) ?_
          first | exact (fin false (by rw [c126]; rfl) _ rfl).choose_spec.1 | exact (fin false (by rw [c126, decide_eq_false (by omega)]; rfl) _ rfl).choose_spec.1 | exact (fin true (by rw [c126, decide_eq_true (by omega)]; rfl) _ rfl).choose_spec.1
        · refine z_al0 (q := 130) C dX5_goes_129 rfl ?_
          refine z_il2 (q := 131) C dX5_goes_130 rfl ?_
          refine z_callVe (q := 134) C (ct_manyIn' _ (by exact hT1) (k_b c (kAt c e)) (k_mi (k_del c e) (k_b c (kAt c e))) (by omega) (by rfl)) g_X5_102 rcT dX5_goes_131 rfl rfl rfl (Nat.le_of_ble_eq_true rfl) (by first | decide | omega) (Nat.le_refl _) (Nat.le_refl _) ?_
          refine z_iconst (q := 135) (v := nI 2) C dX5_goes_134 rfl (by decide) ?_
          first | refine z_icmp_leN (tgt := 142) (q := 138) C dX5_goes_135 (by decide) rfl (by omega) (by omega) (fun c135 => ?_) (fun c135 => ?_) | refine z_icmp_le (tgt := 142) (q := 138) C dX5_goes_135 (by decide) rfl (fun c135 => ?_) (fun c135 => ?_)
          · refine z_iconst (q := 143) (v := nI 0) C dX5_goes_142 rfl (by decide) ?_
            refine ta_st0 (q := 144) C dX5_goes_143 rfl (by omega) ?_
            refine z_vret C hQ dX5_goes_144 (Nat.le_refl _) (Nat.le_refl _) ?_
            first | exact (fin false (by rw [c126]; rfl) _ rfl).choose_spec.1 | exact (fin false (by rw [c126, decide_eq_false (by omega)]; rfl) _ rfl).choose_spec.1 | exact (fin true (by rw [c126, decide_eq_true (by omega)]; rfl) _ rfl).choose_spec.1
          · refine z_iconst (q := 139) (v := nI 1) C dX5_goes_138 rfl (by decide) ?_
            refine z_goto (tgt := 143) C dX5_goes_139 (by decide) ?_
            refine ta_st0 (q := 144) C dX5_goes_143 rfl (by omega) ?_
            refine z_vret C hQ dX5_goes_144 (Nat.le_refl _) (Nat.le_refl _) ?_
            first | exact (fin false (by rw [c126]; rfl) _ rfl).choose_spec.1 | exact (fin false (by rw [c126, decide_eq_false (by omega)]; rfl) _ rfl).choose_spec.1 | exact (fin true (by rw [c126, decide_eq_true (by omega)]; rfl) _ rfl).choose_spec.1
      · exact absurd c33 (by omega)
    | succ m ih =>
      intro k hkm hek τ1 hF hs
      have h0 : τ1.2 0 0 = nI ((k_es c).length - 1) := by rw [hs, shf_out (by omega)]; exact ha10
      refine z_il3 (q := 27) C dX5_goes_26 rfl ?_
      refine z_al0 (q := 28) C dX5_goes_27 rfl ?_
      refine tg_7 (q := 31) C dX5_goes_28 rfl ?_
      refine z_iconst (q := 32) (v := nI 0) C dX5_goes_31 rfl (by decide) ?_
      refine ta_ld0 (q := 33) C dX5_goes_32 rfl (by omega) ?_
      rw [h0]
      first | refine z_icmp_geN (tgt := 102) (q := 36) C dX5_goes_33 (by decide) rfl (by omega) (by omega) (fun c33 => ?_) (fun c33 => ?_) | refine z_icmp_ge (tgt := 102) (q := 36) C dX5_goes_33 (by decide) rfl (fun c33 => ?_) (fun c33 => ?_)
      · exact absurd c33 (by omega)
      refine z_al0 (q := 37) C dX5_goes_36 rfl ?_
      refine tg_7 (q := 40) C dX5_goes_37 rfl ?_
      refine z_bipush (q := 42) (v := nI 7) C dX5_goes_40 rfl (by decide) ?_
      refine z_il3 (q := 43) C dX5_goes_42 rfl ?_
      first | refine z_iaddN (q := 44) C dX5_goes_43 rfl ?_ | refine z_iadd (q := 44) C dX5_goes_43 rfl ?_
      refine z_al0 (q := 45) C dX5_goes_44 rfl ?_
      refine tg_7 (q := 48) C dX5_goes_45 rfl ?_
      refine z_bipush (q := 50) (v := nI 7) C dX5_goes_48 rfl (by decide) ?_
      refine z_il3 (q := 51) C dX5_goes_50 rfl ?_
      first | refine z_iaddN (q := 52) C dX5_goes_51 rfl ?_ | refine z_iadd (q := 52) C dX5_goes_51 rfl ?_
      refine z_iconst (q := 53) (v := nI 1) C dX5_goes_52 rfl (by decide) ?_
      first | refine z_iaddN (q := 54) C dX5_goes_53 rfl ?_ | refine z_iadd (q := 54) C dX5_goes_53 rfl ?_
      refine ta_ld0 (q := 55) C dX5_goes_54 rfl (by omega) ?_
      refine ta_st0 (q := 56) C dX5_goes_55 rfl (by omega) ?_
      refine z_al0 (q := 57) C dX5_goes_56 rfl ?_
      refine tg_7 (q := 60) C dX5_goes_57 rfl ?_
      refine z_bipush (q := 62) (v := nI 56) C dX5_goes_60 rfl (by decide) ?_
      refine z_il3 (q := 63) C dX5_goes_62 rfl ?_
      first | refine z_iaddN (q := 64) C dX5_goes_63 rfl ?_ | refine z_iadd (q := 64) C dX5_goes_63 rfl ?_
      refine z_al0 (q := 65) C dX5_goes_64 rfl ?_
      refine tg_7 (q := 68) C dX5_goes_65 rfl ?_
      refine z_bipush (q := 70) (v := nI 56) C dX5_goes_68 rfl (by decide) ?_
      refine z_il3 (q := 71) C dX5_goes_70 rfl ?_
      first | refine z_iaddN (q := 72) C dX5_goes_71 rfl ?_ | refine z_iadd (q := 72) C dX5_goes_71 rfl ?_
      refine z_iconst (q := 73) (v := nI 1) C dX5_goes_72 rfl (by decide) ?_
      first | refine z_iaddN (q := 74) C dX5_goes_73 rfl ?_ | refine z_iadd (q := 74) C dX5_goes_73 rfl ?_
      refine ta_ld0 (q := 75) C dX5_goes_74 rfl (by omega) ?_
      refine ta_st0 (q := 76) C dX5_goes_75 rfl (by omega) ?_
      refine z_al0 (q := 77) C dX5_goes_76 rfl ?_
      refine tg_7 (q := 80) C dX5_goes_77 rfl ?_
      refine z_bipush (q := 82) (v := nI 105) C dX5_goes_80 rfl (by decide) ?_
      refine z_il3 (q := 83) C dX5_goes_82 rfl ?_
      first | refine z_iaddN (q := 84) C dX5_goes_83 rfl ?_ | refine z_iadd (q := 84) C dX5_goes_83 rfl ?_
      refine z_al0 (q := 85) C dX5_goes_84 rfl ?_
      refine tg_7 (q := 88) C dX5_goes_85 rfl ?_
      refine z_bipush (q := 90) (v := nI 105) C dX5_goes_88 rfl (by decide) ?_
      refine z_il3 (q := 91) C dX5_goes_90 rfl ?_
      first | refine z_iaddN (q := 92) C dX5_goes_91 rfl ?_ | refine z_iadd (q := 92) C dX5_goes_91 rfl ?_
      refine z_iconst (q := 93) (v := nI 1) C dX5_goes_92 rfl (by decide) ?_
      first | refine z_iaddN (q := 94) C dX5_goes_93 rfl ?_ | refine z_iadd (q := 94) C dX5_goes_93 rfl ?_
      refine ta_ld0 (q := 95) C dX5_goes_94 rfl (by omega) ?_
      refine ta_st0 (q := 96) C dX5_goes_95 rfl (by omega) ?_
      first | refine z_iinc3N (q := 99) C dX5_goes_96 rfl (by first | exact loC_i | exact loC_r | exact loC_n | exact loC_q | exact loC_u) ?_ | refine z_iinc3 (q := 99) C dX5_goes_96 rfl rfl (by first | exact loC_i | exact loC_r | exact loC_n | exact loC_q | exact loC_u) ?_
      refine z_goto (tgt := 26) C dX5_goes_99 (by decide) ?_
      refine ih (k + 1) (by omega) (by omega) _ (((hF.sE (by decide) _ _).sE (by decide) _ _).sE (by decide) _ _) ?_
      rw [sE_j, sE_j, sE_j, pk_un (by omega), pk_un (by omega), pk_un (by omega), hs, shf_out (by omega), shf_out (by omega), shf_out (by omega)]
      exact shf_step hek (by omega)
  refine z_al0 (q := 1) C dX5_goes_0 rfl ?_
  refine z_al0 (q := 2) C dX5_goes_1 rfl ?_
  refine tg_7 (q := 5) C dX5_goes_2 rfl ?_
  refine z_bipush (q := 7) (v := nI 7) C dX5_goes_5 rfl (by decide) ?_
  refine z_il1 (q := 8) C dX5_goes_7 rfl ?_
  first | refine z_iaddN (q := 9) C dX5_goes_8 rfl ?_ | refine z_iadd (q := 9) C dX5_goes_8 rfl ?_
  refine ta_ld0 (q := 10) C dX5_goes_9 rfl (by omega) ?_
  rw [hk.1]
  refine z_callVe (q := 13) C (ct_binOf τ hT (kAt c e) hk.2) g_X5_61 rcT dX5_goes_10 rfl rfl rfl (Nat.le_of_ble_eq_true rfl) (by first | decide | omega) (Nat.le_refl _) (Nat.le_refl _) ?_
  refine z_is2 (q := 14) C dX5_goes_13 rfl (by first | exact loC_i | exact loC_r | exact loC_n | exact loC_q | exact loC_u) ?_
  refine z_al0 (q := 15) C dX5_goes_14 rfl ?_
  refine tg_7 (q := 18) C dX5_goes_15 rfl ?_
  refine z_iconst (q := 19) (v := nI 0) C dX5_goes_18 rfl (by decide) ?_
  refine z_dup2 (q := 20) C dX5_goes_19 rfl rfl rfl ?_
  refine ta_ld0 (q := 21) C dX5_goes_20 rfl (by omega) ?_
  rw [hT.a0]
  refine z_iconst (q := 22) (v := nI 1) C dX5_goes_21 rfl (by decide) ?_
  refine z_isubN (q := 23) C dX5_goes_22 rfl (by omega) ?_
  refine ta_st0 (q := 24) C dX5_goes_23 rfl (by omega) ?_
  refine z_il1 (q := 25) C dX5_goes_24 rfl ?_
  refine z_is3 (q := 26) C dX5_goes_25 rfl (by first | exact loC_i | exact loC_r | exact loC_n | exact loC_q | exact loC_u) ?_
  exact loop ((k_es c).length - 1 - e) e (by omega) (Nat.le_refl _) _ (TF.rf.sE (by decide) _ _) (by rw [sE_j, shf_e]; exact ha1)
set_option maxHeartbeats 1000000 in
theorem ct_comes {N : Nat} {c : Co} (τ : Tw) (hT : TC N (τ.2 0) c) (k v : Nat) (hk : k ≤ 999999) (hv : v ≤ 9999) (hn : k ∉ k_ks c) (hl : (k_es c).length ≤ 48) (hN : N + 1 ≤ 1000000) : Ct (wT D o ad) yX5_comes cX5_comes 4 none [.ref o, .int (nI k), .int (nI v)] τ (PV (fun τ' => TF [5] [0] τ τ' ∧ τ'.1 5 = τ.1 5 + nI (if 0 < k_n c 5 ∧ k_n c 5 < (k_es c).length + 1 then 2 else 1) ∧ TC (N + 1) (τ'.2 0) (k_come c k v))) 5 0 0 := by
  refine Ct.of KTok (by decide) (Nat.le_of_ble_eq_true rfl) rfl fun Y C hQ hNm => ?_
  have hw := hT.w
  have hkb := k_b_lt hT.1 k
  have hTa := hT.add hk hv hn hl hN
  have h5l : k_n c 5 ≤ 48 := hT.1.2.2.2.2.2.2.2.2.1
  refine z_al0 (q := 1) C dX5_comes_0 rfl ?_
  refine tg_7 (q := 4) C dX5_comes_1 rfl ?_
  refine z_iconst (q := 5) (v := nI 0) C dX5_comes_4 rfl (by decide) ?_
  refine ta_ld0 (q := 6) C dX5_comes_5 rfl (by omega) ?_
  rw [hT.a0]
  refine z_is3 (q := 7) C dX5_comes_6 rfl (by first | exact loC_i | exact loC_r | exact loC_n | exact loC_q | exact loC_u) ?_
  refine z_al0 (q := 8) C dX5_comes_7 rfl ?_
  refine tg_7 (q := 11) C dX5_comes_8 rfl ?_
  refine z_bipush (q := 13) (v := nI 7) C dX5_comes_11 rfl (by decide) ?_
  refine z_il3 (q := 14) C dX5_comes_13 rfl ?_
  first | refine z_iaddN (q := 15) C dX5_comes_14 rfl ?_ | refine z_iadd (q := 15) C dX5_comes_14 rfl ?_
  refine z_il1 (q := 16) C dX5_comes_15 rfl ?_
  refine ta_st0 (q := 17) C dX5_comes_16 rfl (by omega) ?_
  refine z_al0 (q := 18) C dX5_comes_17 rfl ?_
  refine tg_7 (q := 21) C dX5_comes_18 rfl ?_
  refine z_bipush (q := 23) (v := nI 56) C dX5_comes_21 rfl (by decide) ?_
  refine z_il3 (q := 24) C dX5_comes_23 rfl ?_
  first | refine z_iaddN (q := 25) C dX5_comes_24 rfl ?_ | refine z_iadd (q := 25) C dX5_comes_24 rfl ?_
  refine z_il2 (q := 26) C dX5_comes_25 rfl ?_
  refine ta_st0 (q := 27) C dX5_comes_26 rfl (by omega) ?_
  refine z_al0 (q := 28) C dX5_comes_27 rfl ?_
  refine tg_7 (q := 31) C dX5_comes_28 rfl ?_
  refine z_bipush (q := 33) (v := nI 105) C dX5_comes_31 rfl (by decide) ?_
  refine z_il3 (q := 34) C dX5_comes_33 rfl ?_
  first | refine z_iaddN (q := 35) C dX5_comes_34 rfl ?_ | refine z_iadd (q := 35) C dX5_comes_34 rfl ?_
  refine z_al0 (q := 36) C dX5_comes_35 rfl ?_
  refine tg_7 (q := 39) C dX5_comes_36 rfl ?_
  refine z_bipush (q := 41) (v := nI 6) C dX5_comes_39 rfl (by decide) ?_
  refine ta_ld0 (q := 42) C dX5_comes_41 rfl (by omega) ?_
  rw [show (sE 0 (56 + (k_es c).length) (nI v) (sE 0 (7 + (k_es c).length) (nI k) τ)).2 0 6 = τ.2 0 6 from by rw [sE_n (by omega), sE_n (by omega)]]
  refine ta_st0 (q := 43) C dX5_comes_42 rfl (by omega) ?_
  refine z_al0 (q := 44) C dX5_comes_43 rfl ?_
  refine tg_7 (q := 47) C dX5_comes_44 rfl ?_
  refine z_bipush (q := 49) (v := nI 6) C dX5_comes_47 rfl (by decide) ?_
  refine z_dup2 (q := 50) C dX5_comes_49 rfl rfl rfl ?_
  refine ta_ld0 (q := 51) C dX5_comes_50 rfl (by omega) ?_
  rw [show (sE 0 (105 + (k_es c).length) (τ.2 0 6) (sE 0 (56 + (k_es c).length) (nI v) (sE 0 (7 + (k_es c).length) (nI k) τ))).2 0 6 = τ.2 0 6 from by rw [sE_n (by omega), sE_n (by omega), sE_n (by omega)]]
  refine z_iconst (q := 52) (v := nI 1) C dX5_comes_51 rfl (by decide) ?_
  first | refine z_iaddN (q := 53) C dX5_comes_52 rfl ?_ | refine z_iadd (q := 53) C dX5_comes_52 rfl ?_
  refine ta_st0 (q := 54) C dX5_comes_53 rfl (by omega) ?_
  refine z_al0 (q := 55) C dX5_comes_54 rfl ?_
  refine tg_7 (q := 58) C dX5_comes_55 rfl ?_
  refine z_iconst (q := 59) (v := nI 0) C dX5_comes_58 rfl (by decide) ?_
  refine z_dup2 (q := 60) C dX5_comes_59 rfl rfl rfl ?_
  refine ta_ld0 (q := 61) C dX5_comes_60 rfl (by omega) ?_
  rw [show (sE 0 6 (τ.2 0 6 + nI 1) (sE 0 (105 + (k_es c).length) (τ.2 0 6) (sE 0 (56 + (k_es c).length) (nI v) (sE 0 (7 + (k_es c).length) (nI k) τ)))).2 0 0 = nI (k_es c).length from by rw [sE_n (by omega), sE_n (by omega), sE_n (by omega), sE_n (by omega)]; exact hT.a0]
  refine z_iconst (q := 62) (v := nI 1) C dX5_comes_61 rfl (by decide) ?_
  first | refine z_iaddN (q := 63) C dX5_comes_62 rfl ?_ | refine z_iadd (q := 63) C dX5_comes_62 rfl ?_
  refine ta_st0 (q := 64) C dX5_comes_63 rfl (by omega) ?_
  refine z_al0 (q := 65) C dX5_comes_64 rfl ?_
  refine z_dup (q := 66) C dX5_comes_65 rfl rfl ?_
  refine tg_108 (q := 69) C dX5_comes_66 rfl ?_
  refine z_iconst (q := 70) (v := nI 1) C dX5_comes_69 rfl (by decide) ?_
  first | refine z_iaddN (q := 71) C dX5_comes_70 rfl ?_ | refine z_iadd (q := 71) C dX5_comes_70 rfl ?_
  refine tp_108 (q := 74) C dX5_comes_71 rfl ?_
  have hF1 : TF [5] [0] τ (sE 0 0 (nI ((k_es c).length + 1)) (sE 0 6 (τ.2 0 6 + nI 1) (sE 0 (105 + (k_es c).length) (τ.2 0 6) (sE 0 (56 + (k_es c).length) (nI v) (sE 0 (7 + (k_es c).length) (nI k) τ))))) := ((((TF.rf.sE (by decide) _ _).sE (by decide) _ _).sE (by decide) _ _).sE (by decide) _ _).sE (by decide) _ _
  have hT1 : TC (N + 1) ((sE 0 0 (nI ((k_es c).length + 1)) (sE 0 6 (τ.2 0 6 + nI 1) (sE 0 (105 + (k_es c).length) (τ.2 0 6) (sE 0 (56 + (k_es c).length) (nI v) (sE 0 (7 + (k_es c).length) (nI k) τ))))).2 0) (k_add c k v) := by
    rw [sE_j, sE_j, sE_j, sE_j, sE_j]
    exact hTa
  have h51 : (sE 0 0 (nI ((k_es c).length + 1)) (sE 0 6 (τ.2 0 6 + nI 1) (sE 0 (105 + (k_es c).length) (τ.2 0 6) (sE 0 (56 + (k_es c).length) (nI v) (sE 0 (7 + (k_es c).length) (nI k) τ))))).1 5 = τ.1 5 := rfl
  generalize (sE 0 0 (nI ((k_es c).length + 1)) (sE 0 6 (τ.2 0 6 + nI 1) (sE 0 (105 + (k_es c).length) (τ.2 0 6) (sE 0 (56 + (k_es c).length) (nI v) (sE 0 (7 + (k_es c).length) (nI k) τ))))) = τ1 at hF1 hT1 h51 ⊢
  have hF2 : TF [5] [0] τ (sF 5 (τ1.1 5 + nI 1) τ1) := hF1.sF (by decide) _
  have hT2 : TC (N + 1) ((sF 5 (τ1.1 5 + nI 1) τ1).2 0) (k_add c k v) := hT1
  have h52 : (sF 5 (τ1.1 5 + nI 1) τ1).1 5 = τ.1 5 + nI 1 := by rw [sF_s, h51]
  generalize sF 5 (τ1.1 5 + nI 1) τ1 = τ2 at hF2 hT2 h52 ⊢
  have hla : (k_es (k_add c k v)).length = (k_es c).length + 1 := by
    show (k_es c ++ [(k, v)]).length = _
    simp
  have h20 : τ2.2 0 0 = nI ((k_es c).length + 1) := by rw [hT2.a0, hla]
  refine z_al0 (q := 75) C dX5_comes_74 rfl ?_
  refine z_al0 (q := 76) C dX5_comes_75 rfl ?_
  refine z_il1 (q := 77) C dX5_comes_76 rfl ?_
  refine z_callVe (q := 80) C (ct_binOf τ2 hT2 k hk) g_X5_61 rcT dX5_comes_77 rfl rfl rfl (Nat.le_of_ble_eq_true rfl) (by first | decide | omega) (Nat.le_refl _) (Nat.le_refl _) ?_
  refine z_al0 (q := 81) C dX5_comes_80 rfl ?_
  refine tg_7 (q := 84) C dX5_comes_81 rfl ?_
  refine z_iconst (q := 85) (v := nI 0) C dX5_comes_84 rfl (by decide) ?_
  refine ta_ld0 (q := 86) C dX5_comes_85 rfl (by omega) ?_
  rw [h20]
  refine z_callVv (q := 89) C (ct_fits τ2 hT2 (k_b c k) ((k_es c).length + 1) hkb (by omega)) g_X5_111 rcT dX5_comes_86 rfl rfl rfl (Nat.le_of_ble_eq_true rfl) (by first | decide | omega) (Nat.le_refl _) (Nat.le_refl _) (fun τ86 h86 => ?_)
  obtain ⟨hF3, hT3, -⟩ := h86
  have ho := k_fit_o (c := k_add c k v) (b := k_b c k) (all := (k_es c).length + 1)
  have h30 : τ86.2 0 0 = nI ((k_es c).length + 1) := by rw [hT3.a0, ho.1, hla]
  have h35 : τ86.2 0 5 = nI (k_n c 5) := by rw [hT3.an (by omega) (by omega), ho.2.2 5 (by omega)]; rfl
  have hF4 : TF [5] [0] τ τ86 := hF2.tr (hF3.up (by decide) (by decide))
  have h54 : τ86.1 5 = τ.1 5 + nI 1 := by rw [hF3.1 5 (by decide), h52]
  refine z_al0 (q := 90) C dX5_comes_89 rfl ?_
  refine tg_7 (q := 93) C dX5_comes_90 rfl ?_
  refine z_iconst (q := 94) (v := nI 5) C dX5_comes_93 rfl (by decide) ?_
  refine ta_ld0 (q := 95) C dX5_comes_94 rfl (by omega) ?_
  rw [h35]
  refine z_if_le (tgt := 118) (q := 98) C dX5_comes_95 (by decide) rfl (fun c95 => ?_) (fun c95 => ?_)
  · have hz : k_n c 5 = 0 := by
      rcases Nat.eq_zero_or_pos (k_n c 5) with z | z
      · exact z
      · exact absurd c95 (nI_nle z (by omega))
    refine z_vret C hQ dX5_comes_118 (Nat.le_refl _) (Nat.le_refl _) ?_
    exact ⟨rfl, hF4, by rw [if_neg (by omega)]; exact h54, by unfold k_come; rw [if_neg (by omega)]; exact hT3⟩
  · have hz : 0 < k_n c 5 := by
      rcases Nat.eq_zero_or_pos (k_n c 5) with z | z
      · rw [z] at c95; exact absurd (show nI 0 ≤ 0 from by decide) c95
      · exact z
    refine z_al0 (q := 99) C dX5_comes_98 rfl ?_
    refine tg_7 (q := 102) C dX5_comes_99 rfl ?_
    refine z_iconst (q := 103) (v := nI 0) C dX5_comes_102 rfl (by decide) ?_
    refine ta_ld0 (q := 104) C dX5_comes_103 rfl (by omega) ?_
    rw [h30]
    refine z_al0 (q := 105) C dX5_comes_104 rfl ?_
    refine tg_7 (q := 108) C dX5_comes_105 rfl ?_
    refine z_iconst (q := 109) (v := nI 5) C dX5_comes_108 rfl (by decide) ?_
    refine ta_ld0 (q := 110) C dX5_comes_109 rfl (by omega) ?_
    rw [h35]
    first | refine z_icmp_leN (tgt := 118) (q := 113) C dX5_comes_110 (by decide) rfl (by omega) (by omega) (fun c110 => ?_) (fun c110 => ?_) | refine z_icmp_le (tgt := 118) (q := 113) C dX5_comes_110 (by decide) rfl (fun c110 => ?_) (fun c110 => ?_)
    · refine z_vret C hQ dX5_comes_118 (Nat.le_refl _) (Nat.le_refl _) ?_
      first | exact ⟨rfl, hF4, by rw [if_neg (by omega)]; exact h54, by unfold k_come; rw [if_neg (by omega)]; exact hT3⟩ | exact ⟨rfl, hF4.tr h115.1, by rw [if_pos (by omega), h115.2.1, h54, Int32.add_assoc, nI_add], by unfold k_come; rw [if_pos (by omega)]; exact h115.2.2⟩
    · refine z_al0 (q := 114) C dX5_comes_113 rfl ?_
      refine z_iconst (q := 115) (v := nI 0) C dX5_comes_114 rfl (by decide) ?_
      refine z_callVv (q := 118) C (ct_goes τ86 hT3 0 (by rw [ho.1, hla]; omega)) g_X5_115 rcT dX5_comes_115 rfl rfl rfl (Nat.le_of_ble_eq_true rfl) (by first | decide | omega) (Nat.le_refl _) (Nat.le_refl _) (fun τ115 h115 => ?_)
      refine z_vret C hQ dX5_comes_118 (Nat.le_refl _) (Nat.le_refl _) ?_
      first | exact ⟨rfl, hF4, by rw [if_neg (by omega)]; exact h54, by unfold k_come; rw [if_neg (by omega)]; exact hT3⟩ | exact ⟨rfl, hF4.tr h115.1, by rw [if_pos (by omega), h115.2.1, h54, Int32.add_assoc, nI_add], by unfold k_come; rw [if_pos (by omega)]; exact h115.2.2⟩
set_option maxHeartbeats 1000000 in
theorem ct_moves {N : Nat} {c : Co} (τ : Tw) (hT : TC N (τ.2 0) c) (e : Nat) (he : e < (k_es c).length) : Ct (wT D o ad) yX5_moves cX5_moves 6 none [.ref o, .int (nI e)] τ (PV (fun τ' => TF [5] [0] τ τ' ∧ τ'.1 5 = τ.1 5 + nI (if e + 1 = (k_es c).length then 0 else 1) ∧ TC N (τ'.2 0) (k_mov c e))) 1 0 0 := by
  refine Ct.of KTok (by decide) (Nat.le_of_ble_eq_true rfl) rfl fun Y C hQ hNm => ?_
  have hlen := hT.len
  have hTm := hT.mov he
  have loop : ∀ m k, k + m = (k_es c).length - 1 → e ≤ k → ∀ τ1 : Tw, TF [5] [0] τ τ1 → τ1.1 5 = τ.1 5 + nI (if e + 1 = (k_es c).length then 0 else 1) → τ1.2 0 = shf e k (τ.2 0) → Zj (wT D o ad) Y τ1 0 0 56 [some (.ref o), some (.int (nI e)), some (.int (τ.2 0 (7 + e))), some (.int (τ.2 0 (56 + e))), some (.int (τ.2 0 (105 + e))), some (.int (nI k))] [] := by
    intro m
    induction m with
    | zero =>
      intro k hkm hek τ1 hF h5 hs
      have hkm : k = (k_es c).length - 1 := hkm
      have h0 : τ1.2 0 0 = nI (k_es c).length := by rw [hs, shf_out (by omega)]; exact hT.a0
      refine z_il5 (q := 58) C dX5_moves_56 rfl ?_
      refine z_al0 (q := 59) C dX5_moves_58 rfl ?_
      refine tg_7 (q := 62) C dX5_moves_59 rfl ?_
      refine z_iconst (q := 63) (v := nI 0) C dX5_moves_62 rfl (by decide) ?_
      refine ta_ld0 (q := 64) C dX5_moves_63 rfl (by omega) ?_
      rw [h0]
      refine z_iconst (q := 65) (v := nI 1) C dX5_moves_64 rfl (by decide) ?_
      refine z_isubN (q := 66) C dX5_moves_65 rfl (by omega) ?_
      first | refine z_icmp_geN (tgt := 141) (q := 69) C dX5_moves_66 (by decide) rfl (by omega) (by omega) (fun c66 => ?_) (fun c66 => ?_) | refine z_icmp_ge (tgt := 141) (q := 69) C dX5_moves_66 (by decide) rfl (fun c66 => ?_) (fun c66 => ?_)
      · refine z_al0 (q := 142) C dX5_moves_141 rfl ?_
        refine tg_7 (q := 145) C dX5_moves_142 rfl ?_
        refine z_iconst (q := 146) (v := nI 0) C dX5_moves_145 rfl (by decide) ?_
        refine ta_ld0 (q := 147) C dX5_moves_146 rfl (by omega) ?_
        rw [h0]
        refine z_iconst (q := 148) (v := nI 1) C dX5_moves_147 rfl (by decide) ?_
        refine z_isubN (q := 149) C dX5_moves_148 rfl (by omega) ?_
        refine z_is5 (q := 151) C dX5_moves_149 rfl (by first | exact loC_i | exact loC_r | exact loC_n | exact loC_q | exact loC_u) ?_
        refine z_al0 (q := 152) C dX5_moves_151 rfl ?_
        refine tg_7 (q := 155) C dX5_moves_152 rfl ?_
        refine z_bipush (q := 157) (v := nI 7) C dX5_moves_155 rfl (by decide) ?_
        refine z_il5 (q := 159) C dX5_moves_157 rfl ?_
        first | refine z_iaddN (q := 160) C dX5_moves_159 rfl ?_ | refine z_iadd (q := 160) C dX5_moves_159 rfl ?_
        refine z_il2 (q := 161) C dX5_moves_160 rfl ?_
        refine ta_st0 (q := 162) C dX5_moves_161 rfl (by omega) ?_
        refine z_al0 (q := 163) C dX5_moves_162 rfl ?_
        refine tg_7 (q := 166) C dX5_moves_163 rfl ?_
        refine z_bipush (q := 168) (v := nI 56) C dX5_moves_166 rfl (by decide) ?_
        refine z_il5 (q := 170) C dX5_moves_168 rfl ?_
        first | refine z_iaddN (q := 171) C dX5_moves_170 rfl ?_ | refine z_iadd (q := 171) C dX5_moves_170 rfl ?_
        refine z_il3 (q := 172) C dX5_moves_171 rfl ?_
        refine ta_st0 (q := 173) C dX5_moves_172 rfl (by omega) ?_
        refine z_al0 (q := 174) C dX5_moves_173 rfl ?_
        refine tg_7 (q := 177) C dX5_moves_174 rfl ?_
        refine z_bipush (q := 179) (v := nI 105) C dX5_moves_177 rfl (by decide) ?_
        refine z_il5 (q := 181) C dX5_moves_179 rfl ?_
        first | refine z_iaddN (q := 182) C dX5_moves_181 rfl ?_ | refine z_iadd (q := 182) C dX5_moves_181 rfl ?_
        refine z_il4 (q := 184) C dX5_moves_182 rfl ?_
        refine ta_st0 (q := 185) C dX5_moves_184 rfl (by omega) ?_
        refine z_vret C hQ dX5_moves_185 (Nat.le_refl _) (Nat.le_refl _) ?_
        exact ⟨rfl, ((hF.sE (by decide) _ _).sE (by decide) _ _).sE (by decide) _ _, h5, by rw [sE_j, sE_j, sE_j, hs, hkm]; exact hTm⟩
      · exact absurd c66 (by omega)
    | succ m ih =>
      intro k hkm hek τ1 hF h5 hs
      have h0 : τ1.2 0 0 = nI (k_es c).length := by rw [hs, shf_out (by omega)]; exact hT.a0
      refine z_il5 (q := 58) C dX5_moves_56 rfl ?_
      refine z_al0 (q := 59) C dX5_moves_58 rfl ?_
      refine tg_7 (q := 62) C dX5_moves_59 rfl ?_
      refine z_iconst (q := 63) (v := nI 0) C dX5_moves_62 rfl (by decide) ?_
      refine ta_ld0 (q := 64) C dX5_moves_63 rfl (by omega) ?_
      rw [h0]
      refine z_iconst (q := 65) (v := nI 1) C dX5_moves_64 rfl (by decide) ?_
      refine z_isubN (q := 66) C dX5_moves_65 rfl (by omega) ?_
      first | refine z_icmp_geN (tgt := 141) (q := 69) C dX5_moves_66 (by decide) rfl (by omega) (by omega) (fun c66 => ?_) (fun c66 => ?_) | refine z_icmp_ge (tgt := 141) (q := 69) C dX5_moves_66 (by decide) rfl (fun c66 => ?_) (fun c66 => ?_)
      · exact absurd c66 (by omega)
      refine z_al0 (q := 70) C dX5_moves_69 rfl ?_
      refine tg_7 (q := 73) C dX5_moves_70 rfl ?_
      refine z_bipush (q := 75) (v := nI 7) C dX5_moves_73 rfl (by decide) ?_
      refine z_il5 (q := 77) C dX5_moves_75 rfl ?_
      first | refine z_iaddN (q := 78) C dX5_moves_77 rfl ?_ | refine z_iadd (q := 78) C dX5_moves_77 rfl ?_
      refine z_al0 (q := 79) C dX5_moves_78 rfl ?_
      refine tg_7 (q := 82) C dX5_moves_79 rfl ?_
      refine z_bipush (q := 84) (v := nI 7) C dX5_moves_82 rfl (by decide) ?_
      refine z_il5 (q := 86) C dX5_moves_84 rfl ?_
      first | refine z_iaddN (q := 87) C dX5_moves_86 rfl ?_ | refine z_iadd (q := 87) C dX5_moves_86 rfl ?_
      refine z_iconst (q := 88) (v := nI 1) C dX5_moves_87 rfl (by decide) ?_
      first | refine z_iaddN (q := 89) C dX5_moves_88 rfl ?_ | refine z_iadd (q := 89) C dX5_moves_88 rfl ?_
      refine ta_ld0 (q := 90) C dX5_moves_89 rfl (by omega) ?_
      refine ta_st0 (q := 91) C dX5_moves_90 rfl (by omega) ?_
      refine z_al0 (q := 92) C dX5_moves_91 rfl ?_
      refine tg_7 (q := 95) C dX5_moves_92 rfl ?_
      refine z_bipush (q := 97) (v := nI 56) C dX5_moves_95 rfl (by decide) ?_
      refine z_il5 (q := 99) C dX5_moves_97 rfl ?_
      first | refine z_iaddN (q := 100) C dX5_moves_99 rfl ?_ | refine z_iadd (q := 100) C dX5_moves_99 rfl ?_
      refine z_al0 (q := 101) C dX5_moves_100 rfl ?_
      refine tg_7 (q := 104) C dX5_moves_101 rfl ?_
      refine z_bipush (q := 106) (v := nI 56) C dX5_moves_104 rfl (by decide) ?_
      refine z_il5 (q := 108) C dX5_moves_106 rfl ?_
      first | refine z_iaddN (q := 109) C dX5_moves_108 rfl ?_ | refine z_iadd (q := 109) C dX5_moves_108 rfl ?_
      refine z_iconst (q := 110) (v := nI 1) C dX5_moves_109 rfl (by decide) ?_
      first | refine z_iaddN (q := 111) C dX5_moves_110 rfl ?_ | refine z_iadd (q := 111) C dX5_moves_110 rfl ?_
      refine ta_ld0 (q := 112) C dX5_moves_111 rfl (by omega) ?_
      refine ta_st0 (q := 113) C dX5_moves_112 rfl (by omega) ?_
      refine z_al0 (q := 114) C dX5_moves_113 rfl ?_
      refine tg_7 (q := 117) C dX5_moves_114 rfl ?_
      refine z_bipush (q := 119) (v := nI 105) C dX5_moves_117 rfl (by decide) ?_
      refine z_il5 (q := 121) C dX5_moves_119 rfl ?_
      first | refine z_iaddN (q := 122) C dX5_moves_121 rfl ?_ | refine z_iadd (q := 122) C dX5_moves_121 rfl ?_
      refine z_al0 (q := 123) C dX5_moves_122 rfl ?_
      refine tg_7 (q := 126) C dX5_moves_123 rfl ?_
      refine z_bipush (q := 128) (v := nI 105) C dX5_moves_126 rfl (by decide) ?_
      refine z_il5 (q := 130) C dX5_moves_128 rfl ?_
      first | refine z_iaddN (q := 131) C dX5_moves_130 rfl ?_ | refine z_iadd (q := 131) C dX5_moves_130 rfl ?_
      refine z_iconst (q := 132) (v := nI 1) C dX5_moves_131 rfl (by decide) ?_
      first | refine z_iaddN (q := 133) C dX5_moves_132 rfl ?_ | refine z_iadd (q := 133) C dX5_moves_132 rfl ?_
      refine ta_ld0 (q := 134) C dX5_moves_133 rfl (by omega) ?_
      refine ta_st0 (q := 135) C dX5_moves_134 rfl (by omega) ?_
      first | refine z_iinc5N (q := 138) C dX5_moves_135 rfl (by first | exact loC_i | exact loC_r | exact loC_n | exact loC_q | exact loC_u) ?_ | refine z_iinc5 (q := 138) C dX5_moves_135 rfl rfl (by first | exact loC_i | exact loC_r | exact loC_n | exact loC_q | exact loC_u) ?_
      refine z_goto (tgt := 56) C dX5_moves_138 (by decide) ?_
      refine ih (k + 1) (by omega) (by omega) _ (((hF.sE (by decide) _ _).sE (by decide) _ _).sE (by decide) _ _) h5 ?_
      rw [sE_j, sE_j, sE_j, pk_un (by omega), pk_un (by omega), pk_un (by omega), hs, shf_out (by omega), shf_out (by omega), shf_out (by omega)]
      exact shf_step hek (by omega)
  refine z_al0 (q := 1) C dX5_moves_0 rfl ?_
  refine tg_7 (q := 4) C dX5_moves_1 rfl ?_
  refine z_bipush (q := 6) (v := nI 7) C dX5_moves_4 rfl (by decide) ?_
  refine z_il1 (q := 7) C dX5_moves_6 rfl ?_
  first | refine z_iaddN (q := 8) C dX5_moves_7 rfl ?_ | refine z_iadd (q := 8) C dX5_moves_7 rfl ?_
  refine ta_ld0 (q := 9) C dX5_moves_8 rfl (by omega) ?_
  refine z_is2 (q := 10) C dX5_moves_9 rfl (by first | exact loC_i | exact loC_r | exact loC_n | exact loC_q | exact loC_u) ?_
  refine z_al0 (q := 11) C dX5_moves_10 rfl ?_
  refine tg_7 (q := 14) C dX5_moves_11 rfl ?_
  refine z_bipush (q := 16) (v := nI 56) C dX5_moves_14 rfl (by decide) ?_
  refine z_il1 (q := 17) C dX5_moves_16 rfl ?_
  first | refine z_iaddN (q := 18) C dX5_moves_17 rfl ?_ | refine z_iadd (q := 18) C dX5_moves_17 rfl ?_
  refine ta_ld0 (q := 19) C dX5_moves_18 rfl (by omega) ?_
  refine z_is3 (q := 20) C dX5_moves_19 rfl (by first | exact loC_i | exact loC_r | exact loC_n | exact loC_q | exact loC_u) ?_
  refine z_al0 (q := 21) C dX5_moves_20 rfl ?_
  refine tg_7 (q := 24) C dX5_moves_21 rfl ?_
  refine z_bipush (q := 26) (v := nI 105) C dX5_moves_24 rfl (by decide) ?_
  refine z_il1 (q := 27) C dX5_moves_26 rfl ?_
  first | refine z_iaddN (q := 28) C dX5_moves_27 rfl ?_ | refine z_iadd (q := 28) C dX5_moves_27 rfl ?_
  refine ta_ld0 (q := 29) C dX5_moves_28 rfl (by omega) ?_
  refine z_is4 (q := 31) C dX5_moves_29 rfl (by first | exact loC_i | exact loC_r | exact loC_n | exact loC_q | exact loC_u) ?_
  refine z_al0 (q := 32) C dX5_moves_31 rfl ?_
  refine z_dup (q := 33) C dX5_moves_32 rfl rfl ?_
  refine tg_108 (q := 36) C dX5_moves_33 rfl ?_
  refine z_al0 (q := 37) C dX5_moves_36 rfl ?_
  refine z_il1 (q := 38) C dX5_moves_37 rfl ?_
  refine z_callVe (q := 41) C (ct_isLast τ hT e he) g_X5_118 rcT dX5_moves_38 rfl rfl rfl (Nat.le_of_ble_eq_true rfl) (by first | decide | omega) (Nat.le_refl _) (Nat.le_refl _) ?_
  first | refine z_if_eqB (tgt := 48) (q := 44) C dX5_moves_41 (by decide) rfl (fun c41 => ?_) (fun c41 => ?_) | refine z_if_eq (tgt := 48) (q := 44) C dX5_moves_41 (by decide) rfl (fun c41 => ?_) (fun c41 => ?_)
  · refine z_iconst (q := 49) (v := nI 1) C dX5_moves_48 rfl (by decide) ?_
    first | refine z_iaddN (q := 50) C dX5_moves_49 rfl ?_ | refine z_iadd (q := 50) C dX5_moves_49 rfl ?_
    refine tp_108 (q := 53) C dX5_moves_50 rfl ?_
    refine z_il1 (q := 54) C dX5_moves_53 rfl ?_
    refine z_is5 (q := 56) C dX5_moves_54 rfl (by first | exact loC_i | exact loC_r | exact loC_n | exact loC_q | exact loC_u) ?_
    first | exact loop ((k_es c).length - 1 - e) e (by omega) (Nat.le_refl _) _ (TF.rf.sF (by decide) _) (by rw [sF_s, if_neg (of_decide_eq_false c41)]) shf_e.symm | exact loop ((k_es c).length - 1 - e) e (by omega) (Nat.le_refl _) _ (TF.rf.sF (by decide) _) (by rw [sF_s, if_pos (of_decide_eq_true c41)]) shf_e.symm
  · refine z_iconst (q := 45) (v := nI 0) C dX5_moves_44 rfl (by decide) ?_
    refine z_goto (tgt := 49) C dX5_moves_45 (by decide) ?_
    first | refine z_iaddN (q := 50) C dX5_moves_49 rfl ?_ | refine z_iadd (q := 50) C dX5_moves_49 rfl ?_
    refine tp_108 (q := 53) C dX5_moves_50 rfl ?_
    refine z_il1 (q := 54) C dX5_moves_53 rfl ?_
    refine z_is5 (q := 56) C dX5_moves_54 rfl (by first | exact loC_i | exact loC_r | exact loC_n | exact loC_q | exact loC_u) ?_
    first | exact loop ((k_es c).length - 1 - e) e (by omega) (Nat.le_refl _) _ (TF.rf.sF (by decide) _) (by rw [sF_s, if_neg (of_decide_eq_false c41)]) shf_e.symm | exact loop ((k_es c).length - 1 - e) e (by omega) (Nat.le_refl _) _ (TF.rf.sF (by decide) _) (by rw [sF_s, if_pos (of_decide_eq_true c41)]) shf_e.symm
set_option maxHeartbeats 1000000 in
theorem ct_empties {N : Nat} {c : Co} (τ : Tw) (hT : TC N (τ.2 0) c) : Ct (wT D o ad) yX5_empties cX5_empties 2 none [.ref o] τ (PV (fun τ' => TF [] [0] τ τ' ∧ TC N (τ'.2 0) (k_emp c) ∧ ∀ i, i ≠ 1 → i < 154 → τ'.2 0 i = τ.2 0 i)) 0 0 0 := by
  refine Ct.of KTok (by decide) (Nat.le_of_ble_eq_true rfl) rfl fun Y C hQ hNm => ?_
  have loop : ∀ m b, b + m = 64 → ∀ τ1 : Tw, TF [] [0] τ τ1 → τ1.2 0 1 = nI 8 → (∀ i, i ≠ 1 → i < 154 → τ1.2 0 i = τ.2 0 i) → (∀ x, x < b → τ1.2 0 (154 + x) = nI 0) → Zj (wT D o ad) Y τ1 0 0 10 [some (.ref o), some (.int (nI b))] [] := by
    intro m
    induction m with
    | zero =>
      intro b hb τ1 hF h1 h2 h3
      have hb : b = 64 := hb
      subst hb
      refine z_il1 (q := 11) C dX5_empties_10 rfl ?_
      refine z_bipush (q := 13) (v := nI 64) C dX5_empties_11 rfl (by decide) ?_
      first | refine z_icmp_geN (tgt := 33) (q := 16) C dX5_empties_13 (by decide) rfl (by omega) (by omega) (fun c13 => ?_) (fun c13 => ?_) | refine z_icmp_ge (tgt := 33) (q := 16) C dX5_empties_13 (by decide) rfl (fun c13 => ?_) (fun c13 => ?_)
      · refine z_vret C hQ dX5_empties_33 (Nat.le_refl _) (Nat.le_refl _) ?_
        exact ⟨rfl, hF, hT.emp h1 h2 h3, h2⟩
      · exact absurd c13 (by omega)
    | succ m ih =>
      intro b hb τ1 hF h1 h2 h3
      refine z_il1 (q := 11) C dX5_empties_10 rfl ?_
      refine z_bipush (q := 13) (v := nI 64) C dX5_empties_11 rfl (by decide) ?_
      first | refine z_icmp_geN (tgt := 33) (q := 16) C dX5_empties_13 (by decide) rfl (by omega) (by omega) (fun c13 => ?_) (fun c13 => ?_) | refine z_icmp_ge (tgt := 33) (q := 16) C dX5_empties_13 (by decide) rfl (fun c13 => ?_) (fun c13 => ?_)
      · exact absurd c13 (by omega)
      · refine z_al0 (q := 17) C dX5_empties_16 rfl ?_
        refine tg_7 (q := 20) C dX5_empties_17 rfl ?_
        refine z_sipush (q := 23) (v := nI 154) C dX5_empties_20 rfl (by decide) ?_
        refine z_il1 (q := 24) C dX5_empties_23 rfl ?_
        first | refine z_iaddN (q := 25) C dX5_empties_24 rfl ?_ | refine z_iadd (q := 25) C dX5_empties_24 rfl ?_
        refine z_iconst (q := 26) (v := nI 0) C dX5_empties_25 rfl (by decide) ?_
        refine ta_st0 (q := 27) C dX5_empties_26 rfl (by omega) ?_
        first | refine z_iinc1N (q := 30) C dX5_empties_27 rfl (by first | exact loC_i | exact loC_r | exact loC_n | exact loC_q | exact loC_u) ?_ | refine z_iinc1 (q := 30) C dX5_empties_27 rfl rfl (by first | exact loC_i | exact loC_r | exact loC_n | exact loC_q | exact loC_u) ?_
        refine z_goto (tgt := 10) C dX5_empties_30 (by decide) ?_
        refine ih (b + 1) (by omega) _ (hF.sE (by decide) _ _) (by rw [sE_n (by omega)]; exact h1) (fun i g1 g2 => by rw [sE_n (by omega)]; exact h2 i g1 g2) (fun x hx => ?_)
        by_cases q : x = b
        · rw [q, sE_s]
        · rw [sE_n (by omega)]; exact h3 x (by omega)
  refine z_al0 (q := 1) C dX5_empties_0 rfl ?_
  refine tg_7 (q := 4) C dX5_empties_1 rfl ?_
  refine z_iconst (q := 5) (v := nI 1) C dX5_empties_4 rfl (by decide) ?_
  refine z_bipush (q := 7) (v := nI 8) C dX5_empties_5 rfl (by decide) ?_
  refine ta_st0 (q := 8) C dX5_empties_7 rfl (by omega) ?_
  refine z_iconst (q := 9) (v := nI 0) C dX5_empties_8 rfl (by decide) ?_
  refine z_is1 (q := 10) C dX5_empties_9 rfl (by first | exact loC_i | exact loC_r | exact loC_n | exact loC_q | exact loC_u) ?_
  exact loop 64 0 (by omega) _ (TF.rf.sE (by decide) _ _) sE_s (fun i g1 g2 => sE_n g1) (fun x hx => absurd hx (by omega))
end T26
