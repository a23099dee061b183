/-! THE CLASS: into the table, out of it -/
set_option maxRecDepth 10000
section X66
variable {ad : Nat → Nat} {o bs : Nat} {σ σ1 σ2 : Sg} {B : Nat → Nat} {c : Co}
theorem k_b_row {c : Co} {x k : Nat} (h : k ∈ k_row c x) : k ∈ k_cs c ∧ k_b c k = x := by
  have h := List.mem_filter.mp h
  exact ⟨h.1, by simpa using h.2⟩
theorem row_add {c : Co} {k v x : Nat} : k_row (k_add c k v) x = k_row c x ++ (if k_b c k = x then [k] else []) := by
  show (k_cs c ++ [k]).filter (fun k => k_b c k == x) = _
  rw [List.filter_append]
  by_cases e : k_b c k = x
  · rw [if_pos e]; simp [e, k_row]
  · rw [if_neg e]; simp [e, k_row]
theorem XB.come {k v : Nat} (hX : XB ad o bs σ B c) (hM : MO o bs σ) (hE : EN ad (k_h c) σ (k :: k_cs c)) (hk : k ∉ k_cs c) (hb : k_b c k < k_n c 1) (hw : RW ad (k_h c) σ2 (B (k_b c k)) (k_row c (k_b c k) ++ [k]) (k_tr c (k_b c k))) (hF : FB ad (k :: k_row c (k_b c k)) (B (k_b c k)) σ σ2) : XB ad o bs σ2 B (k_add c k v) := by
  obtain ⟨a1, a2, a3, a4, a5, a6⟩ := hX
  have hn : kd σ o ≠ 0 := by have := hM.1; omega
  have hob : o ≠ B (k_b c k) := fun z => by
    have h1 := (a2.1 _ hb).2.2.k34
    rw [← z, hM.1] at h1
    omega
  refine ⟨?_, ?_, fun x hx hx2 => ?_, ?_, ?_, ?_⟩
  · refine (EN.fb (S := []) hE hF).sub (fun x hx => ?_)
    rcases List.mem_append.mp hx with h | h
    · exact List.mem_cons_of_mem _ h
    · simp at h; simp [h]
  · have h1 : BX ad (k_h c) bs σ2 B (fun x => x < k_n c 1 ∧ x ≠ k_b c k) (k_row c) (k_tr c) := by
      refine (a2.sub (fun x hx => hx.1)).fb hF hM.2.2.1 hE (fun x hx => ?_) (fun x hx y hy => ?_) (fun x hx z => hx.2 (a2.2.1 x _ hx.1 hb z))
      · rcases List.mem_cons.mp hx with rfl | h
        · simp
        · exact List.mem_cons_of_mem _ (k_b_row h).1
      · have hy' := k_b_row hy
        refine ⟨List.mem_cons_of_mem _ hy'.1, fun z => ?_⟩
        rcases List.mem_cons.mp z with rfl | z
        · exact hk hy'.1
        · exact hx.2 (hy'.2.symm.trans (k_b_row z).2)
    refine h1.add (x := k_b c k) (a2.1 _ hb).1 ?_ ?_ (fun y hy => ⟨rfl, ?_, rfl⟩) (fun y hy hyx z => hyx (a2.2.1 y _ hy.1 hb z)) (fun y hy hyx x hx z => ?_) (fun y hy => ?_)
    · rw [(hF.2.2.2 bs (by have := hM.2.2.1; omega) id).2]
      exact (a2.1 _ hb).2.1
    · rw [row_add, if_pos rfl]
      exact hw
    · rw [row_add, if_neg (fun z => hy.2 z.symm), List.append_nil]
    · rw [row_add, if_pos rfl] at hx
      have hz := k_b_row z
      rcases List.mem_append.mp hx with h | h
      · exact hyx (hz.2.symm.trans (k_b_row h).2)
      · simp at h
        subst h
        exact hk hz.1
    · by_cases e : y = k_b c k
      · exact Or.inl e
      · exact Or.inr ⟨hy, e⟩
  · rw [(hF.2.2.2 bs (by have := hM.2.2.1; omega) id).2]
    exact a3 x hx hx2
  · rw [hF.2.1 1 o hn (fun z => by have := z.1; omega)]; exact a4
  · rw [hF.2.1 5 o hn (fun z => by have := z.1; omega)]; exact a5
  · rw [hF.2.1 6 o hn (fun z => by have := z.1; omega)]; exact a6
/-- a bin becomes one of another kind -/
theorem XB.as {b a : Nat} {t : Bool} (hX : XB ad o bs σ B c) (hM : MO o bs σ) (hb : b < k_n c 1) (ha : kd σ a = 0) (hw : RW ad (k_h c) σ2 a (k_row c b) t) (hF : FK ad (k_row c b) σ σ2) : XB ad o bs (sQ bs b (some a) σ2) (fun y => if y = b then a else B y) (setT c (upB (k_tr c) b t)) := by
  obtain ⟨a1, a2, a3, a4, a5, a6⟩ := hX
  have hn : kd σ o ≠ 0 := by have := hM.1; omega
  refine ⟨show EN ad (k_h c) σ2 (k_cs c) from a1.fk hF, ?_, fun x hx hx2 => ?_, ?_, ?_, ?_⟩
  · have h1 : BX ad (k_h c) bs σ2 B (fun x => x < k_n c 1 ∧ x ≠ b) (k_row c) (k_tr c) := by
      refine (a2.sub (fun x hx => hx.1)).fk hF hM.2.2.1 a1 (fun x hx => (k_b_row hx).1) (fun x hx y hy => ⟨(k_b_row hy).1, fun z => hx.2 ((k_b_row hy).2.symm.trans (k_b_row z).2)⟩)
    refine (h1.sq (x := b) (r := some a) (fun z => z.2 rfl)).add (x := b) (a2.1 _ hb).1 ?_ ?_ (fun y hy => ⟨if_neg hy.2, rfl, if_neg hy.2⟩) (fun y hy hyx z => ?_) (fun y hy hyx x hx z => hyx ((k_b_row z).2.symm.trans (k_b_row hx).2)) (fun y hy => ?_)
    · rw [if_pos rfl]; exact up2_s
    · rw [if_pos rfl, show k_tr (setT c (upB (k_tr c) b t)) b = t from if_pos rfl]
      exact hw
    · rw [if_pos rfl] at z
      exact (a2.1 y hy.1).2.2.nz (by rw [z]; exact ha)
    · by_cases e : y = b
      · exact Or.inl e
      · exact Or.inr ⟨hy, e⟩
  · have hx : k_n c 1 ≤ x := hx
    rw [show ar (sQ bs b (some a) σ2) bs x = ar σ2 bs x from up2_a (by omega), (hF.2.2.2 bs (by have := hM.2.2.1; omega) id).2]
    exact a3 x hx hx2
  · rw [show fi (sQ bs b (some a) σ2) 1 o = fi σ2 1 o from rfl, hF.2.1 1 o hn id]; exact a4
  · rw [show fi (sQ bs b (some a) σ2) 5 o = fi σ2 5 o from rfl, hF.2.1 5 o hn id]; exact a5
  · rw [show fi (sQ bs b (some a) σ2) 6 o = fi σ2 6 o from rfl, hF.2.1 6 o hn id]; exact a6
theorem row_del {c : Co} {e x : Nat} : k_row (k_del c e) x = if k_b c (kAt c e) = x then (k_row c x).erase (kAt c e) else k_row c x := by
  show ((k_cs c).erase (kAt c e)).filter (fun k => k_b c k == x) = _
  rw [← List.erase_filter]
  split
  · rfl
  · rename_i h
    exact List.erase_of_not_mem (fun z => h (k_b_row z).2)
theorem XB.go {e : Nat} (hX : XB ad o bs σ B c) (hM : MO o bs σ) (hI : CI c) (hb : k_b c (kAt c e) < k_n c 1) (hw : RW ad (k_h c) σ2 (B (k_b c (kAt c e))) ((k_row c (k_b c (kAt c e))).erase (kAt c e)) (k_tr c (k_b c (kAt c e)))) (hF : FB ad (k_row c (k_b c (kAt c e))) (B (k_b c (kAt c e))) σ σ2) : XB ad o bs σ2 B (k_del c e) := by
  obtain ⟨a1, a2, a3, a4, a5, a6⟩ := hX
  have hn : kd σ o ≠ 0 := by have := hM.1; omega
  refine ⟨?_, ?_, fun x hx hx2 => ?_, ?_, ?_, ?_⟩
  · exact (EN.fb (S := []) a1 hF).sub (fun x hx => List.mem_of_mem_erase hx)
  · have h1 : BX ad (k_h c) bs σ2 B (fun x => x < k_n c 1 ∧ x ≠ k_b c (kAt c e)) (k_row c) (k_tr c) := by
      refine (a2.sub (fun x hx => hx.1)).fb hF hM.2.2.1 a1 (fun x hx => (k_b_row hx).1) (fun x hx y hy => ⟨(k_b_row hy).1, fun z => hx.2 ((k_b_row hy).2.symm.trans (k_b_row z).2)⟩) (fun x hx z => hx.2 (a2.2.1 x _ hx.1 hb z))
    refine h1.add (x := k_b c (kAt c e)) (a2.1 _ hb).1 ?_ ?_ (fun y hy => ⟨rfl, ?_, rfl⟩) (fun y hy hyx z => hyx (a2.2.1 y _ hy.1 hb z)) (fun y hy hyx x hx z => ?_) (fun y hy => ?_)
    · rw [(hF.2.2.2 bs (by have := hM.2.2.1; omega) id).2]
      exact (a2.1 _ hb).2.1
    · rw [row_del, if_pos rfl]
      exact hw
    · rw [row_del, if_neg (fun z => hy.2 z.symm)]
    · rw [row_del, if_pos rfl] at hx
      exact hyx ((k_b_row z).2.symm.trans (k_b_row (List.mem_of_mem_erase hx)).2)
    · by_cases e' : y = k_b c (kAt c e)
      · exact Or.inl e'
      · exact Or.inr ⟨hy, e'⟩
  · rw [(hF.2.2.2 bs (by have := hM.2.2.1; omega) id).2]
    exact a3 x hx hx2
  · rw [hF.2.1 1 o hn (fun z => by have := z.1; omega)]; exact a4
  · rw [hF.2.1 5 o hn (fun z => by have := z.1; omega)]; exact a5
  · rw [hF.2.1 6 o hn (fun z => by have := z.1; omega)]; exact a6
theorem XB.trq {f : Nat → Bool} (hX : XB ad o bs σ B c) (h : ∀ x, x < k_n c 1 → f x = k_tr c x) : XB ad o bs σ B (setT c f) := ⟨hX.1, hX.2.1.eq (fun x hx => ⟨rfl, h x hx⟩), hX.2.2⟩
end X66
section T66
variable {D : Dx} {ad : Nat → Nat} {o bs : Nat} {σ : Sg} {B : Nat → Nat} {c : Co}
set_option maxHeartbeats 2000000 in
theorem cx_comesIn (hM : MO o bs σ) (hX : XB ad o bs σ B c) (hI : CI c) {k v all : Nat} (hkd : kd σ (ad k) = 2) (e20 : fi σ 20 (ad k) = nI k) (e22 : fi σ 22 (ad k) = nI (prio k)) (hk : k ≤ 999999) (hv : v ≤ 9999) (hn : k ∉ k_cs c) (hl : (k_es c).length ≤ 48) (ha : all ≤ 1000) : Ct (wX D) yX0_comesIn cX0_comesIn 4 none [.ref o, .ref (ad k), .int (nI all)] σ (PV (fun σ' => (∃ B', XB ad o bs σ' B' (k_fit (k_add c k v) (k_b c k) all)) ∧ FG [1, 23, 42] [26, 27, 28, 29, 40, 41, 60] [bs] σ σ')) 61 257 900 := by
  have hI1 : CI (k_add c k v) := hI.add hk hv (fun z => hn (hI.2.2.1.mem_iff.mpr z)) hl
  obtain ⟨j, hj3, hj6, hjn⟩ := hI.2.2.2.2.1
  obtain ⟨ho, h0, hbk, hln⟩ := id hM
  have hb := k_b_lt hI k
  have hw8 := hI.w
  have hF1 : FG [1, 23, 42] [26, 27, 28, 29, 40, 41, 60] [bs] σ (sI 23 (ad k) (nI (k_h c k)) σ) := FR.rf.wI (fun _ => by simp)
  have hko : ad k ≠ o := fun z => by rw [z, ho] at hkd; cases hkd
  have hM1 : MO o bs (sI 23 (ad k) (nI (k_h c k)) σ) := hM.keep hF1 (by simp)
  have hE1 : EN ad (k_h c) (sI 23 (ad k) (nI (k_h c k)) σ) (k :: k_cs c) := by
    intro x hx
    rcases List.mem_cons.mp hx with rfl | hx
    · refine ⟨hkd, ?_, ?_, ?_, hk, k_h_lt c x⟩
      · rw [fi_sI, if_neg (fun z => by cases z.1)]; exact e20
      · rw [fi_sI, if_neg (fun z => by cases z.1)]; exact e22
      · rw [fi_sI, if_pos ⟨rfl, rfl⟩]
    · obtain ⟨q1, q2, q3, q4, q5, q6⟩ := hX.1 x hx
      have hne : ad x ≠ ad k := fun z => by
        rw [z, e20] at q2
        have := congrArg Int32.toInt q2
        rw [nI_toInt (by omega), nI_toInt (by omega)] at this
        exact hn (by rw [show k = x by omega]; exact hx)
      refine ⟨q1, ?_, ?_, ?_, q5, q6⟩
      · rw [fi_sI, if_neg (fun z => hne z.2)]; exact q2
      · rw [fi_sI, if_neg (fun z => hne z.2)]; exact q3
      · rw [fi_sI, if_neg (fun z => hne z.2)]; exact q4
  have hX1 : XB ad o bs (sI 23 (ad k) (nI (k_h c k)) σ) B c := by
    obtain ⟨a1, a2, a3, a4, a5, a6⟩ := hX
    exact ⟨hE1.sub (fun x hx => List.mem_cons_of_mem _ hx), ⟨fun x hx => ⟨(a2.1 x hx).1, (a2.1 x hx).2.1, (a2.1 x hx).2.2.1, by rw [fi_sI, if_neg (fun z => by cases z.1)]; exact (a2.1 x hx).2.2.2.1, (a2.1 x hx).2.2.2.2⟩, a2.2⟩, a3, by rw [fi_sI, if_neg (fun z => by cases z.1)]; exact a4, by rw [fi_sI, if_neg (fun z => by cases z.1)]; exact a5, by rw [fi_sI, if_neg (fun z => by cases z.1)]; exact a6⟩
  have f23 : fi (sI 23 (ad k) (nI (k_h c k)) σ) 23 (ad k) = nI (k_h c k) := by rw [fi_sI, if_pos ⟨rfl, rfl⟩]
  have e1 : fi (sI 23 (ad k) (nI (k_h c k)) σ) 1 o = nI (2 ^ j) := by rw [← hjn]; exact hX1.2.2.2.1
  have hbe : k_b c k = k_h c k % 2 ^ j := by rw [← hjn]; rfl
  refine Ct.of KXok (by decide) (Nat.le_of_ble_eq_true rfl) rfl fun Y C hQ hNm => ?_
  have fin : ∀ (σ3 : Sg) (B3 : Nat → Nat) (c3 : Co) (x3 : Option Value), k_fit1 (k_add c k v) (k_b c k) = c3 → XB ad o bs σ3 B3 c3 → FG [1, 23, 42] [26, 27, 28, 29, 40, 41, 60] [bs] σ σ3 → Zj (wX D) Y σ3 129 452 88 [some (.ref o), some (.ref (ad k)), some (.int (nI all)), x3] [] := by
    intro σ3 B3 c3 x3 hc3 hX3 hF3
    have hM3 := hM.keep hF3 (by simp)
    have ho3 := hM3.1
    have hI3 : CI c3 := by rw [← hc3]; exact hI1.fit1 hb
    have e3 := hX3.2.2.2.1
    obtain ⟨j3, hj33, hj36, hj3n⟩ := hI3.2.2.2.2.1
    have hw3 := hI3.w
    have hk0 : ¬ (3 * k_n c3 1 < 4 * all ∧ k_n c3 1 < 64) → k_fit (k_add c k v) (k_b c k) all = c3 := fun z => by unfold k_fit; rw [hc3]; exact if_neg z
    have hk1 : 3 * k_n c3 1 < 4 * all ∧ k_n c3 1 < 64 → k_fit (k_add c k v) (k_b c k) all = k_grow c3 := fun z => by unfold k_fit; rw [hc3]; exact if_pos z
    have h34 : 4 * (k_n c3 1 / 4 * 3) = 3 * k_n c3 1 := by
      rcases (show j3 = 3 ∨ j3 = 4 ∨ j3 = 5 ∨ j3 = 6 by omega) with rfl | rfl | rfl | rfl <;> rw [hj3n]
    refine z_il2 (q := 89) C dX0_comesIn_88 rfl ?_
    first | refine z_al0 (q := 90) C dX0_comesIn_89 rfl ?_ | refine z_al0q (q := 90) C dX0_comesIn_89 rfl ?_ | refine z_al0u (q := 90) C dX0_comesIn_89 rfl ?_
    refine xg_X0_62 (q := 93) C (by first | exact ho | exact hk | exact hb | exact he | assumption) dX0_comesIn_90 rfl ?_
    rw [e3]
    refine z_iconst (q := 94) (v := nI 4) C dX0_comesIn_93 rfl (by decide) ?_
    refine z_idiv (q := 95) C dX0_comesIn_94 rfl (by decide) ?_
    rw [pk_div (by omega) (by omega) (by omega)]
    refine z_iconst (q := 96) (v := nI 3) C dX0_comesIn_95 rfl (by decide) ?_
    first | refine z_imulN (q := 97) C dX0_comesIn_96 rfl ?_ | refine z_imul (q := 97) C dX0_comesIn_96 rfl ?_
    refine z_icmp_leN (tgt := 113) (q := 100) C dX0_comesIn_97 (by decide) rfl (by omega) (by omega) (fun c97 => ?_) (fun c97 => ?_)
    · refine z_vret C hQ dX0_comesIn_113 (by omega) (by omega) ?_
      exact ⟨rfl, ⟨B3, by rw [hk0 (by omega)]; exact hX3⟩, hF3⟩
    · first | refine z_al0 (q := 101) C dX0_comesIn_100 rfl ?_ | refine z_al0q (q := 101) C dX0_comesIn_100 rfl ?_ | refine z_al0u (q := 101) C dX0_comesIn_100 rfl ?_
      refine xg_X0_62 (q := 104) C (by first | exact ho | exact hk | exact hb | exact he | assumption) dX0_comesIn_101 rfl ?_
      rw [e3]
      refine z_bipush (q := 106) (v := nI 64) C dX0_comesIn_104 rfl (by decide) ?_
      refine z_icmp_geN (tgt := 113) (q := 109) C dX0_comesIn_106 (by decide) rfl (by omega) (by omega) (fun c106 => ?_) (fun c106 => ?_)
      · refine z_vret C hQ dX0_comesIn_113 (by omega) (by omega) ?_
        exact ⟨rfl, ⟨B3, by rw [hk0 (by omega)]; exact hX3⟩, hF3⟩
      · first | refine z_al0 (q := 110) C dX0_comesIn_109 rfl ?_ | refine z_al0q (q := 110) C dX0_comesIn_109 rfl ?_ | refine z_al0u (q := 110) C dX0_comesIn_109 rfl ?_
        refine xc_X0_125 (q := 113) C (cx_grows hM3 hX3 hI3 (hI3.w32 c106)) (by exact ho3) dX0_comesIn_110 rfl rfl rfl (Nat.le_of_ble_eq_true rfl) (by first | decide | omega) (by omega) (by omega) (kkV fun σ110 h110 => ?_)
        refine z_vret C hQ dX0_comesIn_113 (by omega) (by omega) ?_
        exact ⟨rfl, by rw [hk1 (by omega)]; exact h110.1, hF3.tr (h110.2.up (by simp) (by simp) (by simp))⟩
  have hrw := (hX1.2.1.1 _ hb)
  have hab := hrw.2.1
  have hrw := hrw.2.2
  have hk34 := hrw.k34
  have hcsl : (k_cs c).length ≤ 49 := by rw [hI.cslen]; exact hI.2.2.2.1
  have hrl : (k_row c (k_b c k)).length ≤ 49 := Nat.le_trans (List.length_filter_le _ _) hcsl
  have hnr : k ∉ k_row c (k_b c k) := fun z => hn (k_b_row z).1
  have hEr := hE1.sub (S := k :: k_row c (k_b c k)) (fun x hx => by
    rcases List.mem_cons.mp hx with rfl | hx
    · simp
    · exact List.mem_cons_of_mem _ (k_b_row hx).1)
  first | refine z_al1 (q := 1) C dX0_comesIn_0 rfl ?_ | refine z_al1q (q := 1) C dX0_comesIn_0 rfl ?_ | refine z_al1u (q := 1) C dX0_comesIn_0 rfl ?_
  first | refine z_al0 (q := 2) C dX0_comesIn_1 rfl ?_ | refine z_al0q (q := 2) C dX0_comesIn_1 rfl ?_ | refine z_al0u (q := 2) C dX0_comesIn_1 rfl ?_
  first | refine z_al1 (q := 3) C dX0_comesIn_2 rfl ?_ | refine z_al1q (q := 3) C dX0_comesIn_2 rfl ?_ | refine z_al1u (q := 3) C dX0_comesIn_2 rfl ?_
  refine xg_X0_120 (q := 6) C (by exact hkd) dX0_comesIn_3 rfl ?_
  rw [e20]
  refine xc_X0_73 (q := 9) C (cx_hashOf (d := 0) ho hX.2.2.2.2.1 hX.2.2.2.2.2 hI.2.2.2.2.2.1 hI.2.2.2.2.2.2.1 k hk) (by first | exact ho | exact hk | exact hb | exact he | assumption | exact Or.inl (by assumption) | exact Or.inr (by assumption)) dX0_comesIn_6 rfl rfl rfl (Nat.le_of_ble_eq_true rfl) (by first | decide | omega) (by omega) (by omega) (kkE ?_)
  refine xp_X0_105 (q := 12) C (by exact hkd) dX0_comesIn_9 rfl ?_
  show Zj (wX D) Y (sI 23 (ad k) (nI (k_h c k)) σ) _ _ _ _ _
  obtain ⟨ho1, h01, hbk1, hln1⟩ := id hM1
  have hkd1 : kd (sI 23 (ad k) (nI (k_h c k)) σ) (ad k) = 2 := hkd
  first | refine z_al0 (q := 13) C dX0_comesIn_12 rfl ?_ | refine z_al0q (q := 13) C dX0_comesIn_12 rfl ?_ | refine z_al0u (q := 13) C dX0_comesIn_12 rfl ?_
  first | refine z_al1 (q := 14) C dX0_comesIn_13 rfl ?_ | refine z_al1q (q := 14) C dX0_comesIn_13 rfl ?_ | refine z_al1u (q := 14) C dX0_comesIn_13 rfl ?_
  refine xg_X0_105 (q := 17) C (by exact hkd1) dX0_comesIn_14 rfl ?_
  rw [f23]
  refine xc_X0_77 (q := 20) C (cx_binOf (d := 0) ho1 e1 hj6 _ (k_h_lt c k)) (by exact ho1) dX0_comesIn_17 rfl rfl rfl (Nat.le_of_ble_eq_true rfl) (by first | decide | omega) (by omega) (by omega) (kkE ?_)
  refine z_is3 (q := 21) C dX0_comesIn_20 rfl (by first | exact loC_i | exact loC_r | exact loC_n | exact loC_q | exact loC_u) ?_
  rw [← hbe]
  first | refine z_al0 (q := 22) C dX0_comesIn_21 rfl ?_ | refine z_al0q (q := 22) C dX0_comesIn_21 rfl ?_ | refine z_al0u (q := 22) C dX0_comesIn_21 rfl ?_
  first | refine xr_X0_14 (q := 25) C (by exact ho1) (by assumption) dX0_comesIn_22 rfl ?_ | refine xn_X0_14 (q := 25) C (by exact ho1) (by assumption) dX0_comesIn_22 rfl ?_ | refine xg_X0_14 (q := 25) C (by exact ho1) dX0_comesIn_22 rfl ?_
  refine z_il3 (q := 26) C dX0_comesIn_25 rfl ?_
  refine x_aald (q := 27) C 3 (by decide) (by decide) (by assumption) (by rw [hln1]; omega) (by omega) dX0_comesIn_26 rfl ?_
  rw [hab]
  first | refine z_al1 (q := 28) C dX0_comesIn_27 rfl ?_ | refine z_al1q (q := 28) C dX0_comesIn_27 rfl ?_ | refine z_al1u (q := 28) C dX0_comesIn_27 rfl ?_
  refine xc_X0_123 (q := 31) C (fun h => cx_comes3 (d := 60) hrw hEr hnr h) (fun h => cx_comes4 hrw hEr hnr (by omega) h (by decide)) (by exact hk34) dX0_comesIn_28 rfl rfl rfl (Nat.le_of_ble_eq_true rfl) (by first | decide | omega) (by omega) (by omega) (kkV fun σ28 h28 => ?_)
  obtain ⟨hw2, hF2⟩ := h28
  have hX2 := hX1.come (v := v) hM1 hE1 hn hb hw2 hF2
  have hFG2 : FG [1, 23, 42] [26, 27, 28, 29, 40, 41, 60] [bs] σ σ28 := hF1.tr (FR.fbg hF2 (by simp) (by simp))
  have hM2 := hM.keep hFG2 (by simp)
  obtain ⟨ho2, h02, hbk2, hln2⟩ := id hM2
  have hab2 : ar σ28 bs (k_b c k) = some (B (k_b c k)) := (hX2.2.1.1 _ hb).2.1
  have e12 := hX2.2.2.2.1
  have hmi : k_mi (k_add c k v) (k_b c k) = (k_row c (k_b c k) ++ [k]).length := by unfold k_mi; rw [row_add, if_pos rfl]
  have h42 := hw2.2.1
  rw [← hmi] at h42
  have hn1 : k_tr c (k_b c k) = true ∨ k_mi (k_add c k v) (k_b c k) ≤ 5 → k_fit1 (k_add c k v) (k_b c k) = k_add c k v := fun z => if_neg (by
    show ¬ (!k_tr c (k_b c k) && decide (5 < k_mi (k_add c k v) (k_b c k))) = true
    rcases z with z | z
    · rw [z]; simp
    · rw [decide_eq_false (by omega), Bool.and_false]; decide)
  have hy : k_tr c (k_b c k) = false → 5 < k_mi (k_add c k v) (k_b c k) → k_fit1 (k_add c k v) (k_b c k) = if k_n c 1 < 16 then k_grow (k_add c k v) else setT (k_add c k v) (upB (k_tr c) (k_b c k) true) := fun z1 z2 => if_pos (by
    show (!k_tr c (k_b c k) && decide (5 < k_mi (k_add c k v) (k_b c k))) = true
    rw [z1, decide_eq_true z2]; rfl)
  have hmil := k_mi_le hI1 (k_b c k)
  have hesl : (k_es (k_add c k v)).length ≤ 49 := hI1.2.2.2.1
  first | refine z_al0 (q := 32) C dX0_comesIn_31 rfl ?_ | refine z_al0q (q := 32) C dX0_comesIn_31 rfl ?_ | refine z_al0u (q := 32) C dX0_comesIn_31 rfl ?_
  first | refine xr_X0_14 (q := 35) C (by exact ho2) (by assumption) dX0_comesIn_32 rfl ?_ | refine xn_X0_14 (q := 35) C (by exact ho2) (by assumption) dX0_comesIn_32 rfl ?_ | refine xg_X0_14 (q := 35) C (by exact ho2) dX0_comesIn_32 rfl ?_
  refine z_il3 (q := 36) C dX0_comesIn_35 rfl ?_
  refine x_aald (q := 37) C 3 (by decide) (by decide) (by assumption) (by rw [hln2]; omega) (by omega) dX0_comesIn_36 rfl ?_
  rw [hab2]
  refine x_isL (q := 40) C hw2.1 q150 dX0_comesIn_37 rfl ?_
  refine z_if_eqB (tgt := 88) (q := 43) C dX0_comesIn_40 (by decide) rfl (fun c40 => ?_) (fun c40 => ?_)
  · have ct : k_tr c (k_b c k) = true := by
      cases e : k_tr c (k_b c k)
      · rw [e] at c40; cases c40
      · rfl
    exact z_widen (by omega) (by omega) (fin σ28 B _ _ (hn1 (Or.inl ct)) hX2 hFG2)
  · have ct : k_tr c (k_b c k) = false := by
      cases e : k_tr c (k_b c k)
      · rfl
      · rw [e] at c40; cases c40
    first | refine z_al0 (q := 44) C dX0_comesIn_43 rfl ?_ | refine z_al0q (q := 44) C dX0_comesIn_43 rfl ?_ | refine z_al0u (q := 44) C dX0_comesIn_43 rfl ?_
    first | refine xr_X0_14 (q := 47) C (by exact ho2) (by assumption) dX0_comesIn_44 rfl ?_ | refine xn_X0_14 (q := 47) C (by exact ho2) (by assumption) dX0_comesIn_44 rfl ?_ | refine xg_X0_14 (q := 47) C (by exact ho2) dX0_comesIn_44 rfl ?_
    refine z_il3 (q := 48) C dX0_comesIn_47 rfl ?_
    refine x_aald (q := 49) C 3 (by decide) (by decide) (by assumption) (by rw [hln2]; omega) (by omega) dX0_comesIn_48 rfl ?_
    rw [hab2]
    refine xc_X0_124 (q := 52) C (fun _ => cx_size (d := 0) hw2.k34) (fun _ => cx_size (d := 0) hw2.k34) (by exact hw2.k34) dX0_comesIn_49 rfl rfl rfl (Nat.le_of_ble_eq_true rfl) (by first | decide | omega) (by omega) (by omega) (kkE ?_)
    rw [h42]
    refine z_iconst (q := 53) (v := nI 5) C dX0_comesIn_52 rfl (by decide) ?_
    refine z_icmp_leN (tgt := 88) (q := 56) C dX0_comesIn_53 (by decide) rfl (by omega) (by omega) (fun c53 => ?_) (fun c53 => ?_)
    · exact z_widen (by omega) (by omega) (fin σ28 B _ _ (hn1 (Or.inr c53)) hX2 hFG2)
    · have hy := hy ct c53
      first | refine z_al0 (q := 57) C dX0_comesIn_56 rfl ?_ | refine z_al0q (q := 57) C dX0_comesIn_56 rfl ?_ | refine z_al0u (q := 57) C dX0_comesIn_56 rfl ?_
      refine xg_X0_62 (q := 60) C (by exact ho2) dX0_comesIn_57 rfl ?_
      rw [e12]
      refine z_bipush (q := 62) (v := nI 16) C dX0_comesIn_60 rfl (by decide) ?_
      refine z_icmp_geN (tgt := 72) (q := 65) C dX0_comesIn_62 (by decide) rfl (by show k_n c 1 < _; omega) (by omega) (fun c62 => ?_) (fun c62 => ?_)
      · have c62 : 16 ≤ k_n c 1 := c62
        rw [if_neg (by omega)] at hy
        rw [ct] at hw2
        have hEr2 : EN ad (k_h c) σ28 (k_row c (k_b c k) ++ [k]) := hX2.1.sub (fun x hx => by
          rcases List.mem_append.mp hx with h | h
          · exact List.mem_append.mpr (Or.inl (k_b_row h).1)
          · exact List.mem_append.mpr (Or.inr h))
        have hnd : (k_row c (k_b c k) ++ [k]).Nodup := by
          have := hI1.rownd (k_b c k)
          rw [row_add, if_pos rfl] at this
          exact this
        first | refine z_al0 (q := 73) C dX0_comesIn_72 rfl ?_ | refine z_al0q (q := 73) C dX0_comesIn_72 rfl ?_ | refine z_al0u (q := 73) C dX0_comesIn_72 rfl ?_
        first | refine xr_X0_14 (q := 76) C (by exact ho2) (by assumption) dX0_comesIn_73 rfl ?_ | refine xn_X0_14 (q := 76) C (by exact ho2) (by assumption) dX0_comesIn_73 rfl ?_ | refine xg_X0_14 (q := 76) C (by exact ho2) dX0_comesIn_73 rfl ?_
        refine z_il3 (q := 77) C dX0_comesIn_76 rfl ?_
        first | refine z_al0 (q := 78) C dX0_comesIn_77 rfl ?_ | refine z_al0q (q := 78) C dX0_comesIn_77 rfl ?_ | refine z_al0u (q := 78) C dX0_comesIn_77 rfl ?_
        first | refine xr_X0_14 (q := 81) C (by exact ho2) (by assumption) dX0_comesIn_78 rfl ?_ | refine xn_X0_14 (q := 81) C (by exact ho2) (by assumption) dX0_comesIn_78 rfl ?_ | refine xg_X0_14 (q := 81) C (by exact ho2) dX0_comesIn_78 rfl ?_
        refine z_il3 (q := 82) C dX0_comesIn_81 rfl ?_
        refine x_aald (q := 83) C 3 (by decide) (by decide) (by assumption) (by rw [hln2]; omega) (by omega) dX0_comesIn_82 rfl ?_
        rw [hab2]
        refine z_iconst (q := 84) (v := nI 1) C dX0_comesIn_83 rfl (by decide) ?_
        refine xc_X0_116 (q := 87) C (cx_as (tt := true) hw2.k34 hw2.2.2.1.ch hEr2 hnd (by rw [List.length_append]; simp; omega)) dX0_comesIn_84 rfl rfl rfl (Nat.le_of_ble_eq_true rfl) (by first | decide | omega) (by omega) (by omega) (kkQ fun r84 σ84 h84 => ?_)
        obtain ⟨a7, rfl, n7, hw7, hK7⟩ := h84
        have hX7 := hX2.as (b := k_b c k) (t := true) (a := a7) hM2 hb n7 (by rw [row_add, if_pos rfl]; exact hw7) (by rw [row_add, if_pos rfl]; exact hK7)
        have hbk7 : kd σ84 bs = 14 := FR.ek hK7 hbk2
        have hln7 : ln σ84 bs = 64 := by rw [(hK7.1 bs (by omega)).2]; exact hln2
        refine x_aastB (q := 88) C (by assumption) hw7.k34 (by rw [hln7]; omega) (by omega) dX0_comesIn_87 rfl ?_
        exact z_widen (by omega) (by omega) (fin _ _ _ _ hy hX7 ((hFG2.tr (FK.fg hK7 (by simp))).wQ (fun _ => by simp)))
      · have c62 : k_n c 1 < 16 := c62
        rw [if_pos c62] at hy
        first | refine z_al0 (q := 66) C dX0_comesIn_65 rfl ?_ | refine z_al0q (q := 66) C dX0_comesIn_65 rfl ?_ | refine z_al0u (q := 66) C dX0_comesIn_65 rfl ?_
        refine xc_X0_125 (q := 69) C (cx_grows hM2 hX2 hI1 (by show k_n c 1 ≤ 32; omega)) (by exact ho2) dX0_comesIn_66 rfl rfl rfl (Nat.le_of_ble_eq_true rfl) (by first | decide | omega) (by omega) (by omega) (kkV fun σ66 h66 => ?_)
        refine z_goto (tgt := 88) C dX0_comesIn_69 (by decide) ?_
        obtain ⟨⟨B', hX'⟩, hF'⟩ := h66
        exact z_widen (by omega) (by omega) (fin _ B' _ _ hy hX' (hFG2.tr (hF'.up (by simp) (by simp) (by simp))))
set_option maxHeartbeats 1000000 in
theorem cx_goesOut (hM : MO o bs σ) (hX : XB ad o bs σ B c) (hI : CI c) {e : Nat} (he : e < (k_es c).length) : Ct (wX D) yX0_goesOut cX0_goesOut 3 none [.ref o, .ref (ad (kAt c e))] σ (PV (fun σ' => (∃ B', XB ad o bs σ' B' (k_go c e)) ∧ FG [42] [26, 27, 28, 29, 40, 41, 60] [bs] σ σ')) 61 1 4 := by
  obtain ⟨j, hj3, hj6, hjn⟩ := hI.2.2.2.2.1
  obtain ⟨ho, h0, hbk, hln⟩ := id hM
  have hkc : kAt c e ∈ k_cs c := hI.2.2.1.mem_iff.mpr (by
    obtain ⟨v, hv⟩ := kAt_lt he
    exact List.mem_map.mpr ⟨_, List.mem_of_getElem? hv, rfl⟩)
  have hb := k_b_lt hI (kAt c e)
  have hw8 := hI.w
  obtain ⟨hkd, e20, e22, e23, hk9, hh⟩ := hX.1 _ hkc
  have e1 : fi σ 1 o = nI (2 ^ j) := by rw [← hjn]; exact hX.2.2.2.1
  have hbe : k_b c (kAt c e) = k_h c (kAt c e) % 2 ^ j := by rw [← hjn]; rfl
  obtain ⟨-, hab, hrw⟩ := hX.2.1.1 _ hb
  have hk34 := hrw.k34
  have hcsl : (k_cs c).length ≤ 49 := by rw [hI.cslen]; exact hI.2.2.2.1
  have hrl : (k_row c (k_b c (kAt c e))).length ≤ 49 := Nat.le_trans (List.length_filter_le _ _) hcsl
  have hkr : kAt c e ∈ k_row c (k_b c (kAt c e)) := row_mem.mpr hkc
  have hmi : k_mi (k_del c e) (k_b c (kAt c e)) = ((k_row c (k_b c (kAt c e))).erase (kAt c e)).length := by unfold k_mi; rw [row_del, if_pos rfl]
  have hmil : ((k_row c (k_b c (kAt c e))).erase (kAt c e)).length ≤ 49 := Nat.le_trans List.length_erase_le hrl
  refine Ct.of KXok (by decide) (Nat.le_of_ble_eq_true rfl) rfl fun Y C hQ hNm => ?_
  first | refine z_al0 (q := 1) C dX0_goesOut_0 rfl ?_ | refine z_al0q (q := 1) C dX0_goesOut_0 rfl ?_ | refine z_al0u (q := 1) C dX0_goesOut_0 rfl ?_
  first | refine z_al1 (q := 2) C dX0_goesOut_1 rfl ?_ | refine z_al1q (q := 2) C dX0_goesOut_1 rfl ?_ | refine z_al1u (q := 2) C dX0_goesOut_1 rfl ?_
  refine xg_X0_105 (q := 5) C (by exact hkd) dX0_goesOut_2 rfl ?_
  rw [e23]
  refine xc_X0_77 (q := 8) C (cx_binOf (d := 0) ho e1 hj6 _ (k_h_lt c _)) (by exact ho) dX0_goesOut_5 rfl rfl rfl (Nat.le_of_ble_eq_true rfl) (by first | decide | omega) (by omega) (by omega) (kkE ?_)
  refine z_is2 (q := 9) C dX0_goesOut_8 rfl (by first | exact loC_i | exact loC_r | exact loC_n | exact loC_q | exact loC_u) ?_
  rw [← hbe]
  first | refine z_al0 (q := 10) C dX0_goesOut_9 rfl ?_ | refine z_al0q (q := 10) C dX0_goesOut_9 rfl ?_ | refine z_al0u (q := 10) C dX0_goesOut_9 rfl ?_
  first | refine xr_X0_14 (q := 13) C (by exact ho) (by assumption) dX0_goesOut_10 rfl ?_ | refine xn_X0_14 (q := 13) C (by exact ho) (by assumption) dX0_goesOut_10 rfl ?_ | refine xg_X0_14 (q := 13) C (by exact ho) dX0_goesOut_10 rfl ?_
  refine z_il2 (q := 14) C dX0_goesOut_13 rfl ?_
  refine x_aald (q := 15) C 3 (by decide) (by decide) (by assumption) (by rw [hln]; omega) (by omega) dX0_goesOut_14 rfl ?_
  rw [hab]
  first | refine z_al1 (q := 16) C dX0_goesOut_15 rfl ?_ | refine z_al1q (q := 16) C dX0_goesOut_15 rfl ?_ | refine z_al1u (q := 16) C dX0_goesOut_15 rfl ?_
  refine xc_X0_128 (q := 19) C (fun h => cx_goes3 (d := 60) hrw (hX.row _) hkr (by omega) h) (fun h => cx_goes4 hrw (hX.row _) hkr (by omega) h (by decide)) (by exact hk34) dX0_goesOut_16 rfl rfl rfl (Nat.le_of_ble_eq_true rfl) (by first | decide | omega) (by omega) (by omega) (kkV fun σ16 h16 => ?_)
  obtain ⟨hw2, hF2⟩ := h16
  have hX2 := hX.go hM hI hb hw2 hF2
  have hFG2 : FG [42] [26, 27, 28, 29, 40, 41, 60] [bs] σ σ16 := FR.fbg hF2 (by simp) (by simp)
  have hM2 := hM.keep hFG2 (by simp)
  obtain ⟨ho2, h02, hbk2, hln2⟩ := id hM2
  have hab2 : ar σ16 bs (k_b c (kAt c e)) = some (B (k_b c (kAt c e))) := (hX2.2.1.1 _ hb).2.1
  have h42 := hw2.2.1
  have stay : (k_tr c (k_b c (kAt c e)) && decide (2 < k_mi (k_del c e) (k_b c (kAt c e)))) = k_tr c (k_b c (kAt c e)) → XB ad o bs σ16 B (k_go c e) := fun z => hX2.trq (fun x hx => by
    unfold upB
    by_cases q : x = k_b c (kAt c e)
    · rw [if_pos q, z, q]; rfl
    · rw [if_neg q]; rfl)
  first | refine z_al0 (q := 20) C dX0_goesOut_19 rfl ?_ | refine z_al0q (q := 20) C dX0_goesOut_19 rfl ?_ | refine z_al0u (q := 20) C dX0_goesOut_19 rfl ?_
  first | refine xr_X0_14 (q := 23) C (by exact ho2) (by assumption) dX0_goesOut_20 rfl ?_ | refine xn_X0_14 (q := 23) C (by exact ho2) (by assumption) dX0_goesOut_20 rfl ?_ | refine xg_X0_14 (q := 23) C (by exact ho2) dX0_goesOut_20 rfl ?_
  refine z_il2 (q := 24) C dX0_goesOut_23 rfl ?_
  refine x_aald (q := 25) C 3 (by decide) (by decide) (by assumption) (by rw [hln2]; omega) (by omega) dX0_goesOut_24 rfl ?_
  rw [hab2]
  refine x_isT (q := 28) C hw2.1 q343 dX0_goesOut_25 rfl ?_
  refine z_if_eqB (tgt := 60) (q := 31) C dX0_goesOut_28 (by decide) rfl (fun c28 => ?_) (fun c28 => ?_)
  · refine z_vret C hQ dX0_goesOut_60 (by omega) (by omega) ?_
    exact ⟨rfl, ⟨B, stay (by rw [c28]; rfl)⟩, hFG2⟩
  · first | refine z_al0 (q := 32) C dX0_goesOut_31 rfl ?_ | refine z_al0q (q := 32) C dX0_goesOut_31 rfl ?_ | refine z_al0u (q := 32) C dX0_goesOut_31 rfl ?_
    first | refine xr_X0_14 (q := 35) C (by exact ho2) (by assumption) dX0_goesOut_32 rfl ?_ | refine xn_X0_14 (q := 35) C (by exact ho2) (by assumption) dX0_goesOut_32 rfl ?_ | refine xg_X0_14 (q := 35) C (by exact ho2) dX0_goesOut_32 rfl ?_
    refine z_il2 (q := 36) C dX0_goesOut_35 rfl ?_
    refine x_aald (q := 37) C 3 (by decide) (by decide) (by assumption) (by rw [hln2]; omega) (by omega) dX0_goesOut_36 rfl ?_
    rw [hab2]
    refine xc_X0_124 (q := 40) C (fun _ => cx_size (d := 0) hw2.k34) (fun _ => cx_size (d := 0) hw2.k34) (by exact hw2.k34) dX0_goesOut_37 rfl rfl rfl (Nat.le_of_ble_eq_true rfl) (by first | decide | omega) (by omega) (by omega) (kkE ?_)
    rw [h42]
    refine z_iconst (q := 41) (v := nI 2) C dX0_goesOut_40 rfl (by decide) ?_
    refine z_icmp_gtN (tgt := 60) (q := 44) C dX0_goesOut_41 (by decide) rfl (by omega) (by omega) (fun c41 => ?_) (fun c41 => ?_)
    · refine z_vret C hQ dX0_goesOut_60 (by omega) (by omega) ?_
      exact ⟨rfl, ⟨B, stay (by rw [c28, hmi, decide_eq_true c41]; rfl)⟩, hFG2⟩
    · have hnd : ((k_row c (k_b c (kAt c e))).erase (kAt c e)).Nodup := (hI.rownd _).erase _
      have hEr2 : EN ad (k_h c) σ16 ((k_row c (k_b c (kAt c e))).erase (kAt c e)) := by
        have := hX2.row (k_b c (kAt c e))
        rw [row_del, if_pos rfl] at this
        exact this
      first | refine z_al0 (q := 45) C dX0_goesOut_44 rfl ?_ | refine z_al0q (q := 45) C dX0_goesOut_44 rfl ?_ | refine z_al0u (q := 45) C dX0_goesOut_44 rfl ?_
      first | refine xr_X0_14 (q := 48) C (by exact ho2) (by assumption) dX0_goesOut_45 rfl ?_ | refine xn_X0_14 (q := 48) C (by exact ho2) (by assumption) dX0_goesOut_45 rfl ?_ | refine xg_X0_14 (q := 48) C (by exact ho2) dX0_goesOut_45 rfl ?_
      refine z_il2 (q := 49) C dX0_goesOut_48 rfl ?_
      first | refine z_al0 (q := 50) C dX0_goesOut_49 rfl ?_ | refine z_al0q (q := 50) C dX0_goesOut_49 rfl ?_ | refine z_al0u (q := 50) C dX0_goesOut_49 rfl ?_
      first | refine xr_X0_14 (q := 53) C (by exact ho2) (by assumption) dX0_goesOut_50 rfl ?_ | refine xn_X0_14 (q := 53) C (by exact ho2) (by assumption) dX0_goesOut_50 rfl ?_ | refine xg_X0_14 (q := 53) C (by exact ho2) dX0_goesOut_50 rfl ?_
      refine z_il2 (q := 54) C dX0_goesOut_53 rfl ?_
      refine x_aald (q := 55) C 3 (by decide) (by decide) (by assumption) (by rw [hln2]; omega) (by omega) dX0_goesOut_54 rfl ?_
      rw [hab2]
      refine z_iconst (q := 56) (v := nI 0) C dX0_goesOut_55 rfl (by decide) ?_
      refine xc_X0_116 (q := 59) C (cx_as (tt := false) hw2.k34 hw2.2.2.1.ch hEr2 hnd (by omega)) dX0_goesOut_56 rfl rfl rfl (Nat.le_of_ble_eq_true rfl) (by first | decide | omega) (by omega) (by omega) (kkQ fun r56 σ56 h56 => ?_)
      obtain ⟨a7, rfl, n7, hw7, hK7⟩ := h56
      have hX7 := hX2.as (b := k_b c (kAt c e)) (t := false) (a := a7) hM2 hb n7 (by rw [row_del, if_pos rfl]; exact hw7) (by rw [row_del, if_pos rfl]; exact hK7)
      have hbk7 : kd σ56 bs = 14 := FR.ek hK7 hbk2
      have hln7 : ln σ56 bs = 64 := by rw [(hK7.1 bs (by omega)).2]; exact hln2
      have hgo : k_go c e = setT (k_del c e) (upB (k_tr c) (k_b c (kAt c e)) false) := by
        unfold k_go
        rw [hmi, decide_eq_false (by omega), Bool.and_false]
      refine x_aastB (q := 60) C (by assumption) hw7.k34 (by rw [hln7]; omega) (by omega) dX0_goesOut_59 rfl ?_
      refine z_vret C hQ dX0_goesOut_60 (by omega) (by omega) ?_
      exact ⟨rfl, ⟨_, by rw [hgo]; exact hX7⟩, (hFG2.tr (FK.fg hK7 (by simp))).wQ (fun _ => by simp)⟩
end T66
