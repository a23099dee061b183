/-! THE CLASS: the digest -/
set_option maxRecDepth 10000
section T79
variable {D : Dx} {p : Nat → Nat} {σ : Sg} {α : Al} {N : Nat} {d : Nat}
set_option maxHeartbeats 2000000 in
theorem cx_digest (h : XA false D p σ α) (hA : AI N α) : Ct (wX D) yX0_digest cX0_digest 5 (some .long) [.ref (p 0)] σ (PL (fun r σ' => r = a_dig α ∧ XA false D p σ' α)) 64 300 1500 := by
  obtain ⟨ad, B, hX, hq, hC, hU, hP, h9, hR⟩ := h.num
  obtain ⟨ho, h0, hbk, hln⟩ := hX.1
  have hI := hA.1
  have hw8 := hI.w
  have e1 := hC.2.1.2.2.2.1
  refine Ct.of KXok (by decide) (Nat.le_of_ble_eq_true rfl) rfl fun Y C hQ hNm => ?_
  have loop4 : ∀ m b, b + m = k_n (a_c α) 1 → ∀ (x4 : Option Value), loC x4 → Zj (wX D) Y σ 0 0 99 [some (.ref (p 0)), some (.long (itN (dgb (a_c α)) (dg3 α) b)), none, some (.int (nI b)), x4] [] := by
    intro m
    induction m with
    | zero =>
      intro b hb x4 g4
      have hb : b = k_n (a_c α) 1 := hb
      subst hb
      refine z_il3 (q := 100) C dX0_digest_99 rfl ?_
      first | refine z_al0 (q := 101) C dX0_digest_100 rfl ?_ | refine z_al0q (q := 101) C dX0_digest_100 rfl ?_ | refine z_al0u (q := 101) C dX0_digest_100 rfl ?_
      refine xg_X0_62 (q := 104) C (by first | exact ho | exact hk | exact hb | exact he | assumption) dX0_digest_101 rfl ?_
      rw [e1]
      first | refine z_icmp_geN (tgt := 187) (q := 107) C dX0_digest_104 (by decide) rfl (by omega) (by omega) (fun c104 => ?_) (fun c104 => ?_) | refine z_icmp_ge (tgt := 187) (q := 107) C dX0_digest_104 (by decide) rfl (fun c104 => ?_) (fun c104 => ?_)
      · refine z_ll1 (q := 188) C dX0_digest_187 rfl ?_
        refine z_lret C hQ dX0_digest_188 (by omega) (by omega) ?_
        exact ⟨_, rfl, rfl, h⟩
      · exact absurd c104 (by omega)
    | succ m ih =>
      intro b hb x4 g4
      have hbn : b < k_n (a_c α) 1 := by omega
      obtain ⟨-, hab, hrw⟩ := hC.2.1.2.1.1 b hbn
      have hk34 := hrw.k34
      have hEN := hC.2.1.row b
      generalize hh : itN (dgb (a_c α)) (dg3 α) b = hv
      have hst : itN (dgb (a_c α)) (dg3 α) (b + 1) = dgb (a_c α) b hv := by rw [← hh]; rfl
      have ih := ih (b + 1) (by omega)
      rw [hst] at ih
      have rows : ∀ (R : List Nat) (i : Nat) (r : Option Nat), (k_row (a_c α) b).drop i = R → i + R.length = k_mi (a_c α) b → CH ad (fr σ 27) R r → Zj (wX D) Y σ 0 0 153 [some (.ref (p 0)), some (.long (itN (fun i h => 31 * h + (nI ((k_row (a_c α) b).getD i 0)).toInt64) (itN (fun w h => 31 * h + (k_bf (a_c α) b w).toInt64) hv 3) i)), none, some (.int (nI b)), some (va_rf r)] [] := by
        intro R
        induction R with
        | nil =>
          intro i r hd hi hc
          have hc : r = none := hc
          subst hc
          have hi : i = k_mi (a_c α) b := hi
          have hg := ih (some .null) loC_u
          unfold dgb at hg
          rw [← hi] at hg
          show Zj _ _ _ _ _ _ [some (.ref (p 0)), some (.long _), none, some (.int (nI b)), some .null] []
          first | refine z_al4 (q := 155) C dX0_digest_153 rfl ?_ | refine z_al4q (q := 155) C dX0_digest_153 rfl ?_ | refine z_al4u (q := 155) C dX0_digest_153 rfl ?_
          refine z_ifnull_u (tgt := 181) C dX0_digest_155 (by decide) ?_
          first | refine z_iinc3N (q := 184) C dX0_digest_181 rfl (by first | exact loC_i | exact loC_r | exact loC_n | exact loC_q | exact loC_u) ?_ | refine z_iinc3 (q := 184) C dX0_digest_181 rfl rfl (by first | exact loC_i | exact loC_r | exact loC_n | exact loC_q | exact loC_u) ?_
          refine z_goto (tgt := 99) C dX0_digest_184 (by decide) ?_
          exact hg
        | cons k R ihR =>
          intro i r hd hi hc
          obtain ⟨rfl, hc⟩ := hc
          obtain ⟨hn1, hn2, hn3⟩ := drop_hd hd
          obtain ⟨hkd, e20, -⟩ := hEN k (List.mem_of_getElem? hn1)
          have hgd : (k_row (a_c α) b).getD i 0 = k := by
            have := getD_of hn2
            rw [hn1] at this
            exact (Option.some.inj this).symm
          have hg := ihR (i + 1) (fr σ 27 (ad k)) hn3 (by rw [List.length_cons] at hi; omega) hc
          have hs2 : itN (fun i h => 31 * h + (nI ((k_row (a_c α) b).getD i 0)).toInt64) (itN (fun w h => 31 * h + (k_bf (a_c α) b w).toInt64) hv 3) (i + 1) = 31 * itN (fun i h => 31 * h + (nI ((k_row (a_c α) b).getD i 0)).toInt64) (itN (fun w h => 31 * h + (k_bf (a_c α) b w).toInt64) hv 3) i + (nI k).toInt64 := by
            rw [← hgd]; rfl
          rw [hs2] at hg
          show Zj _ _ _ _ _ _ [some (.ref (p 0)), some (.long _), none, some (.int (nI b)), some (.ref (ad k))] []
          first | refine z_al4 (q := 155) C dX0_digest_153 rfl ?_ | refine z_al4q (q := 155) C dX0_digest_153 rfl ?_ | refine z_al4u (q := 155) C dX0_digest_153 rfl ?_
          refine z_ifnull_r (q := 158) C dX0_digest_155 rfl ?_
          refine z_ldc2 (q := 161) C dX0_digest_158 rfl q821 ?_
          refine z_ll1 (q := 162) C dX0_digest_161 rfl ?_
          refine z_lmul (q := 163) C dX0_digest_162 rfl ?_
          first | refine z_al4 (q := 165) C dX0_digest_163 rfl ?_ | refine z_al4q (q := 165) C dX0_digest_163 rfl ?_ | refine z_al4u (q := 165) C dX0_digest_163 rfl ?_
          refine xg_X0_120 (q := 168) C (by exact hkd) dX0_digest_165 rfl ?_
          rw [e20]
          refine z_i2l (q := 169) C dX0_digest_168 rfl ?_
          refine z_ladd (q := 170) C dX0_digest_169 rfl ?_
          refine z_ls1 (q := 171) C dX0_digest_170 rfl (by first | exact loC_i | exact loC_r | exact loC_n | exact loC_q | exact loC_u) ?_
          first | refine z_al4 (q := 173) C dX0_digest_171 rfl ?_ | refine z_al4q (q := 173) C dX0_digest_171 rfl ?_ | refine z_al4u (q := 173) C dX0_digest_171 rfl ?_
          refine xg_X0_99 (q := 176) C (by exact hkd) dX0_digest_173 rfl ?_
          first | refine z_as4 (q := 178) C dX0_digest_176 rfl (by first | exact loC_i | exact loC_r | exact loC_n | exact loC_q | exact loC_u) ?_ | refine z_as4q (q := 178) C dX0_digest_176 rfl (by first | exact loC_i | exact loC_r | exact loC_n | exact loC_q | exact loC_u) ?_ | refine z_asu4 (q := 178) C dX0_digest_176 rfl (by first | exact loC_i | exact loC_r | exact loC_n | exact loC_q | exact loC_u) ?_
          refine z_goto (tgt := 153) C dX0_digest_178 (by decide) ?_
          exact hg
      have facts : ∀ m w, w + m = 3 → Zj (wX D) Y σ 0 0 110 [some (.ref (p 0)), some (.long (itN (fun w h => 31 * h + (k_bf (a_c α) b w).toInt64) hv w)), none, some (.int (nI b)), some (.int (nI w))] [] := by
        intro m
        induction m with
        | zero =>
          intro w hw
          have hw : w = 3 := hw
          subst hw
          have hg := rows (k_row (a_c α) b) 0 (fr σ 40 (B b)) rfl (Nat.zero_add _) hrw.2.2.1.ch
          refine z_il4 (q := 112) C dX0_digest_110 rfl ?_
          refine z_iconst (q := 113) (v := nI 3) C dX0_digest_112 rfl (by decide) ?_
          refine z_icmp_geN (tgt := 142) (q := 116) C dX0_digest_113 (by decide) rfl (by omega) (by omega) (fun c113 => ?_) (fun c113 => absurd c113 (by omega))
          first | refine z_al0 (q := 143) C dX0_digest_142 rfl ?_ | refine z_al0q (q := 143) C dX0_digest_142 rfl ?_ | refine z_al0u (q := 143) C dX0_digest_142 rfl ?_
          first | refine xr_X0_14 (q := 146) C (by first | exact ho | exact hk | exact hb | exact he | assumption) (by assumption) dX0_digest_143 rfl ?_ | refine xn_X0_14 (q := 146) C (by first | exact ho | exact hk | exact hb | exact he | assumption) (by assumption) dX0_digest_143 rfl ?_ | refine xg_X0_14 (q := 146) C (by first | exact ho | exact hk | exact hb | exact he | assumption) dX0_digest_143 rfl ?_
          refine z_il3 (q := 147) C dX0_digest_146 rfl ?_
          refine x_aald (q := 148) C 3 (by decide) (by decide) (by assumption) (by rw [hln]; omega) (by omega) dX0_digest_147 rfl ?_
          rw [hab]
          refine xc_X0_95 (q := 151) C (fun _ => cx_first (d := 0) hk34) (fun _ => cx_first (d := 0) hk34) (by exact hk34) dX0_digest_148 rfl rfl rfl (Nat.le_of_ble_eq_true rfl) (by first | decide | omega) (by omega) (by omega) (kkE ?_)
          first | refine z_as4 (q := 153) C dX0_digest_151 rfl (by first | exact loC_i | exact loC_r | exact loC_n | exact loC_q | exact loC_u) ?_ | refine z_as4q (q := 153) C dX0_digest_151 rfl (by first | exact loC_i | exact loC_r | exact loC_n | exact loC_q | exact loC_u) ?_ | refine z_asu4 (q := 153) C dX0_digest_151 rfl (by first | exact loC_i | exact loC_r | exact loC_n | exact loC_q | exact loC_u) ?_
          exact hg
        | succ m ihm =>
          intro w hw
          have hg := ihm (w + 1) (by omega)
          refine z_il4 (q := 112) C dX0_digest_110 rfl ?_
          refine z_iconst (q := 113) (v := nI 3) C dX0_digest_112 rfl (by decide) ?_
          refine z_icmp_geN (tgt := 142) (q := 116) C dX0_digest_113 (by decide) rfl (by omega) (by omega) (fun c113 => absurd c113 (by omega)) (fun c113 => ?_)
          refine z_ldc2 (q := 119) C dX0_digest_116 rfl q821 ?_
          refine z_ll1 (q := 120) C dX0_digest_119 rfl ?_
          refine z_lmul (q := 121) C dX0_digest_120 rfl ?_
          first | refine z_al0 (q := 122) C dX0_digest_121 rfl ?_ | refine z_al0q (q := 122) C dX0_digest_121 rfl ?_ | refine z_al0u (q := 122) C dX0_digest_121 rfl ?_
          first | refine z_al0 (q := 123) C dX0_digest_122 rfl ?_ | refine z_al0q (q := 123) C dX0_digest_122 rfl ?_ | refine z_al0u (q := 123) C dX0_digest_122 rfl ?_
          first | refine xr_X0_14 (q := 126) C (by first | exact ho | exact hk | exact hb | exact he | assumption) (by assumption) dX0_digest_123 rfl ?_ | refine xn_X0_14 (q := 126) C (by first | exact ho | exact hk | exact hb | exact he | assumption) (by assumption) dX0_digest_123 rfl ?_ | refine xg_X0_14 (q := 126) C (by first | exact ho | exact hk | exact hb | exact he | assumption) dX0_digest_123 rfl ?_
          refine z_il3 (q := 127) C dX0_digest_126 rfl ?_
          refine x_aald (q := 128) C 3 (by decide) (by decide) (by assumption) (by rw [hln]; omega) (by omega) dX0_digest_127 rfl ?_
          rw [hab]
          refine z_il4 (q := 130) C dX0_digest_128 rfl ?_
          refine xc_X0_269 (q := 133) C (cx_about hX.1 hC.2.1 hI hbn (show w ≤ 3 by omega)) (by first | exact ho | exact hk | exact hb | exact he | assumption | exact Or.inl (by assumption) | exact Or.inr (by assumption)) dX0_digest_130 rfl rfl rfl (Nat.le_of_ble_eq_true rfl) (by first | decide | omega) (by omega) (by omega) (kkE ?_)
          refine z_i2l (q := 134) C dX0_digest_133 rfl ?_
          refine z_ladd (q := 135) C dX0_digest_134 rfl ?_
          refine z_ls1 (q := 136) C dX0_digest_135 rfl (by first | exact loC_i | exact loC_r | exact loC_n | exact loC_q | exact loC_u) ?_
          first | refine z_iinc4N (q := 139) C dX0_digest_136 rfl (by first | exact loC_i | exact loC_r | exact loC_n | exact loC_q | exact loC_u) ?_ | refine z_iinc4 (q := 139) C dX0_digest_136 rfl rfl (by first | exact loC_i | exact loC_r | exact loC_n | exact loC_q | exact loC_u) ?_
          refine z_goto (tgt := 110) C dX0_digest_139 (by decide) ?_
          exact hg
      refine z_il3 (q := 100) C dX0_digest_99 rfl ?_
      first | refine z_al0 (q := 101) C dX0_digest_100 rfl ?_ | refine z_al0q (q := 101) C dX0_digest_100 rfl ?_ | refine z_al0u (q := 101) C dX0_digest_100 rfl ?_
      refine xg_X0_62 (q := 104) C (by first | exact ho | exact hk | exact hb | exact he | assumption) dX0_digest_101 rfl ?_
      rw [e1]
      refine z_icmp_geN (tgt := 187) (q := 107) C dX0_digest_104 (by decide) rfl (by omega) (by omega) (fun c104 => absurd c104 (by omega)) (fun c104 => ?_)
      refine z_iconst (q := 108) (v := nI 0) C dX0_digest_107 rfl (by decide) ?_
      refine z_is4 (q := 110) C dX0_digest_108 rfl (by first | exact loC_i | exact loC_r | exact loC_n | exact loC_q | exact loC_u) ?_
      exact facts 3 0 (by omega)
  have loop3 : ∀ (R : List (Nat × Nat)) (e : Nat) (r : Option Nat), (k_es (a_c α)).drop e = R → e + R.length = (k_es (a_c α)).length → CH ad (fr σ 25) (R.map (·.1)) r → Zj (wX D) Y σ 0 0 63 [some (.ref (p 0)), some (.long (itN (fun e h => 31 * (31 * h + (nI (kAt (a_c α) e)).toInt64) + (nI (vAt (a_c α) e)).toInt64) (dg2 α) e)), none, some (va_rf r), none] [] := by
    intro R
    induction R with
    | nil =>
      intro e r hd he hc
      have hc : r = none := hc
      subst hc
      have he : e = (k_es (a_c α)).length := he
      subst he
      have hg := loop4 (k_n (a_c α) 1) 0 (by omega) none loC_n
      show Zj _ _ _ _ _ _ [some (.ref (p 0)), some (.long _), none, some .null, none] []
      first | refine z_al3 (q := 64) C dX0_digest_63 rfl ?_ | refine z_al3q (q := 64) C dX0_digest_63 rfl ?_ | refine z_al3u (q := 64) C dX0_digest_63 rfl ?_
      refine z_ifnull_u (tgt := 97) C dX0_digest_64 (by decide) ?_
      refine z_iconst (q := 98) (v := nI 0) C dX0_digest_97 rfl (by decide) ?_
      refine z_is3 (q := 99) C dX0_digest_98 rfl (by first | exact loC_i | exact loC_r | exact loC_n | exact loC_q | exact loC_u) ?_
      exact hg
    | cons x R ih =>
      intro e r hd he hc
      obtain ⟨rfl, hc⟩ := hc
      obtain ⟨hn1, hn2, hn3⟩ := drop_hd hd
      have hEC := hC.1.2.2 x (List.mem_of_getElem? hn1)
      have hkd : kd σ (ad x.1) = 2 := hEC.1
      have hg := ih (e + 1) (fr σ 25 (ad x.1)) hn3 (by rw [List.length_cons] at he; omega) hc
      have hs2 : itN (fun e h => 31 * (31 * h + (nI (kAt (a_c α) e)).toInt64) + (nI (vAt (a_c α) e)).toInt64) (dg2 α) (e + 1) = 31 * (31 * itN (fun e h => 31 * (31 * h + (nI (kAt (a_c α) e)).toInt64) + (nI (vAt (a_c α) e)).toInt64) (dg2 α) e + (nI x.1).toInt64) + (nI x.2).toInt64 := by
        rw [← kAt_of hn1, ← vAt_of hn1]; rfl
      rw [hs2] at hg
      show Zj _ _ _ _ _ _ [some (.ref (p 0)), some (.long _), none, some (.ref (ad x.1)), none] []
      first | refine z_al3 (q := 64) C dX0_digest_63 rfl ?_ | refine z_al3q (q := 64) C dX0_digest_63 rfl ?_ | refine z_al3u (q := 64) C dX0_digest_63 rfl ?_
      refine z_ifnull_r (q := 67) C dX0_digest_64 rfl ?_
      refine z_ldc2 (q := 70) C dX0_digest_67 rfl q821 ?_
      refine z_ldc2 (q := 73) C dX0_digest_70 rfl q821 ?_
      refine z_ll1 (q := 74) C dX0_digest_73 rfl ?_
      refine z_lmul (q := 75) C dX0_digest_74 rfl ?_
      first | refine z_al3 (q := 76) C dX0_digest_75 rfl ?_ | refine z_al3q (q := 76) C dX0_digest_75 rfl ?_ | refine z_al3u (q := 76) C dX0_digest_75 rfl ?_
      refine xg_X0_120 (q := 79) C (by exact hkd) dX0_digest_76 rfl ?_
      rw [hEC.2.1]
      refine z_i2l (q := 80) C dX0_digest_79 rfl ?_
      refine z_ladd (q := 81) C dX0_digest_80 rfl ?_
      refine z_lmul (q := 82) C dX0_digest_81 rfl ?_
      first | refine z_al3 (q := 83) C dX0_digest_82 rfl ?_ | refine z_al3q (q := 83) C dX0_digest_82 rfl ?_ | refine z_al3u (q := 83) C dX0_digest_82 rfl ?_
      refine xg_X0_201 (q := 86) C (by exact hkd) dX0_digest_83 rfl ?_
      rw [hEC.2.2.1]
      refine z_i2l (q := 87) C dX0_digest_86 rfl ?_
      refine z_ladd (q := 88) C dX0_digest_87 rfl ?_
      refine z_ls1 (q := 89) C dX0_digest_88 rfl (by first | exact loC_i | exact loC_r | exact loC_n | exact loC_q | exact loC_u) ?_
      first | refine z_al3 (q := 90) C dX0_digest_89 rfl ?_ | refine z_al3q (q := 90) C dX0_digest_89 rfl ?_ | refine z_al3u (q := 90) C dX0_digest_89 rfl ?_
      refine xg_X0_137 (q := 93) C (by exact hkd) dX0_digest_90 rfl ?_
      first | refine z_as3 (q := 94) C dX0_digest_93 rfl (by first | exact loC_i | exact loC_r | exact loC_n | exact loC_q | exact loC_u) ?_ | refine z_as3q (q := 94) C dX0_digest_93 rfl (by first | exact loC_i | exact loC_r | exact loC_n | exact loC_q | exact loC_u) ?_ | refine z_asu3 (q := 94) C dX0_digest_93 rfl (by first | exact loC_i | exact loC_r | exact loC_n | exact loC_q | exact loC_u) ?_
      refine z_goto (tgt := 63) C dX0_digest_94 (by decide) ?_
      exact hg
  have loop2 : ∀ m w, w + m = 8 → Zj (wX D) Y σ 0 0 33 [some (.ref (p 0)), some (.long (itN (fun w h => 31 * h + (k_cnt (a_c α) (a_ch α) w).toInt64) (dg1 α) w)), none, some (.int (nI w)), none] [] := by
    intro m
    induction m with
    | zero =>
      intro w hw
      have hw : w = 8 := hw
      subst hw
      have hg := loop3 (k_es (a_c α)) 0 (fr σ 2 (p 0)) rfl (Nat.zero_add _) hC.1.1.ch
      refine z_il3 (q := 34) C dX0_digest_33 rfl ?_
      refine z_bipush (q := 36) (v := nI 8) C dX0_digest_34 rfl (by decide) ?_
      refine z_icmp_geN (tgt := 58) (q := 39) C dX0_digest_36 (by decide) rfl (by omega) (by omega) (fun c36 => ?_) (fun c36 => absurd c36 (by omega))
      first | refine z_al0 (q := 59) C dX0_digest_58 rfl ?_ | refine z_al0q (q := 59) C dX0_digest_58 rfl ?_ | refine z_al0u (q := 59) C dX0_digest_58 rfl ?_
      refine xg_X0_140 (q := 62) C (by first | exact ho | exact hk | exact hb | exact he | assumption) dX0_digest_59 rfl ?_
      first | refine z_as3 (q := 63) C dX0_digest_62 rfl (by first | exact loC_i | exact loC_r | exact loC_n | exact loC_q | exact loC_u) ?_ | refine z_as3q (q := 63) C dX0_digest_62 rfl (by first | exact loC_i | exact loC_r | exact loC_n | exact loC_q | exact loC_u) ?_ | refine z_asu3 (q := 63) C dX0_digest_62 rfl (by first | exact loC_i | exact loC_r | exact loC_n | exact loC_q | exact loC_u) ?_
      exact hg
    | succ m ih =>
      intro w hw
      have hg := ih (w + 1) (by omega)
      refine z_il3 (q := 34) C dX0_digest_33 rfl ?_
      refine z_bipush (q := 36) (v := nI 8) C dX0_digest_34 rfl (by decide) ?_
      refine z_icmp_geN (tgt := 58) (q := 39) C dX0_digest_36 (by decide) rfl (by omega) (by omega) (fun c36 => absurd c36 (by omega)) (fun c36 => ?_)
      refine z_ldc2 (q := 42) C dX0_digest_39 rfl q821 ?_
      refine z_ll1 (q := 43) C dX0_digest_42 rfl ?_
      refine z_lmul (q := 44) C dX0_digest_43 rfl ?_
      first | refine z_al0 (q := 45) C dX0_digest_44 rfl ?_ | refine z_al0q (q := 45) C dX0_digest_44 rfl ?_ | refine z_al0u (q := 45) C dX0_digest_44 rfl ?_
      refine z_il3 (q := 46) C dX0_digest_45 rfl ?_
      refine xc_X0_298 (q := 49) C (cx_counted hX.1 hC hI h9 (show w ≤ 7 by omega)) (by first | exact ho | exact hk | exact hb | exact he | assumption | exact Or.inl (by assumption) | exact Or.inr (by assumption)) dX0_digest_46 rfl rfl rfl (Nat.le_of_ble_eq_true rfl) (by first | decide | omega) (by omega) (by omega) (kkE ?_)
      refine z_i2l (q := 50) C dX0_digest_49 rfl ?_
      refine z_ladd (q := 51) C dX0_digest_50 rfl ?_
      refine z_ls1 (q := 52) C dX0_digest_51 rfl (by first | exact loC_i | exact loC_r | exact loC_n | exact loC_q | exact loC_u) ?_
      first | refine z_iinc3N (q := 55) C dX0_digest_52 rfl (by first | exact loC_i | exact loC_r | exact loC_n | exact loC_q | exact loC_u) ?_ | refine z_iinc3 (q := 55) C dX0_digest_52 rfl rfl (by first | exact loC_i | exact loC_r | exact loC_n | exact loC_q | exact loC_u) ?_
      refine z_goto (tgt := 33) C dX0_digest_55 (by decide) ?_
      exact hg
  have loop1 : ∀ m w, w + m = 11 → Zj (wX D) Y σ 0 0 6 [some (.ref (p 0)), some (.long (itN (fun w h => 31 * h + (a_tof α w).toInt64) 1842 w)), none, some (.int (nI w)), none] [] := by
    intro m
    induction m with
    | zero =>
      intro w hw
      have hw : w = 11 := hw
      subst hw
      have hg := loop2 8 0 (by omega)
      refine z_il3 (q := 7) C dX0_digest_6 rfl ?_
      refine z_bipush (q := 9) (v := nI 11) C dX0_digest_7 rfl (by decide) ?_
      refine z_icmp_geN (tgt := 31) (q := 12) C dX0_digest_9 (by decide) rfl (by omega) (by omega) (fun c9 => ?_) (fun c9 => absurd c9 (by omega))
      refine z_iconst (q := 32) (v := nI 0) C dX0_digest_31 rfl (by decide) ?_
      refine z_is3 (q := 33) C dX0_digest_32 rfl (by first | exact loC_i | exact loC_r | exact loC_n | exact loC_q | exact loC_u) ?_
      exact hg
    | succ m ih =>
      intro w hw
      have hg := ih (w + 1) (by omega)
      refine z_il3 (q := 7) C dX0_digest_6 rfl ?_
      refine z_bipush (q := 9) (v := nI 11) C dX0_digest_7 rfl (by decide) ?_
      refine z_icmp_geN (tgt := 31) (q := 12) C dX0_digest_9 (by decide) rfl (by omega) (by omega) (fun c9 => absurd c9 (by omega)) (fun c9 => ?_)
      refine z_ldc2 (q := 15) C dX0_digest_12 rfl q821 ?_
      refine z_ll1 (q := 16) C dX0_digest_15 rfl ?_
      refine z_lmul (q := 17) C dX0_digest_16 rfl ?_
      first | refine z_al0 (q := 18) C dX0_digest_17 rfl ?_ | refine z_al0q (q := 18) C dX0_digest_17 rfl ?_ | refine z_al0u (q := 18) C dX0_digest_17 rfl ?_
      refine z_il3 (q := 19) C dX0_digest_18 rfl ?_
      refine xc_X0_367 (q := 22) C (cx_toldOf (d := 0) h hA (show w ≤ 10 by omega)) (by first | exact ho | exact hk | exact hb | exact he | assumption | exact Or.inl (by assumption) | exact Or.inr (by assumption)) dX0_digest_19 rfl rfl rfl (Nat.le_of_ble_eq_true rfl) (by first | decide | omega) (by omega) (by omega) (kkE ?_)
      refine z_i2l (q := 23) C dX0_digest_22 rfl ?_
      refine z_ladd (q := 24) C dX0_digest_23 rfl ?_
      refine z_ls1 (q := 25) C dX0_digest_24 rfl (by first | exact loC_i | exact loC_r | exact loC_n | exact loC_q | exact loC_u) ?_
      first | refine z_iinc3N (q := 28) C dX0_digest_25 rfl (by first | exact loC_i | exact loC_r | exact loC_n | exact loC_q | exact loC_u) ?_ | refine z_iinc3 (q := 28) C dX0_digest_25 rfl rfl (by first | exact loC_i | exact loC_r | exact loC_n | exact loC_q | exact loC_u) ?_
      refine z_goto (tgt := 6) C dX0_digest_28 (by decide) ?_
      exact hg
  refine z_ldc2 (q := 3) C dX0_digest_0 rfl q820 ?_
  refine z_ls1 (q := 4) C dX0_digest_3 rfl (by first | exact loC_i | exact loC_r | exact loC_n | exact loC_q | exact loC_u) ?_
  refine z_iconst (q := 5) (v := nI 0) C dX0_digest_4 rfl (by decide) ?_
  refine z_is3 (q := 6) C dX0_digest_5 rfl (by first | exact loC_i | exact loC_r | exact loC_n | exact loC_q | exact loC_u) ?_
  exact loop1 11 0 (by omega)
end T79
