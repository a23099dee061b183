/-! THE CLASS: the order of all -/
set_option maxRecDepth 10000
theorem map_eIdxG {α β : Type} (f : α → β) : ∀ (l : List α) (i : Nat), (l.map f).eraseIdx i = (l.eraseIdx i).map f
  | [], _ => rfl
  | x :: t, 0 => rfl
  | x :: t, i + 1 => by
    show f x :: (t.map f).eraseIdx i = f x :: (t.eraseIdx i).map f
    rw [map_eIdxG f t i]
/-- an entry's cell -/
def EC (ad : Nat → Nat) (σ : Sg) (e : Nat × Nat) : Prop := kd σ (ad e.1) = 2 ∧ fi σ 20 (ad e.1) = nI e.1 ∧ fi σ 21 (ad e.1) = nI e.2 ∧ fi σ 22 (ad e.1) = nI (prio e.1) ∧ e.1 ≤ 999999 ∧ e.2 ≤ 9999
def XO (ad : Nat → Nat) (o : Nat) (σ : Sg) (es : List (Nat × Nat)) : Prop := DL (fr σ 25) (fr σ 24) (fr σ 2 o) (fr σ 3 o) ((es.map (·.1)).map ad) ∧ fi σ 4 o = nI es.length ∧ ∀ e ∈ es, EC ad σ e
section X67
variable {ad ad' : Nat → Nat} {o bs : Nat} {σ σ' : Sg} {es : List (Nat × Nat)} {pi pr : Nat → Nat → Prop} {pa : Nat → Prop}
theorem EC.keep {e : Nat × Nat} (h : EC ad σ e) (hF : FR pi pr pa σ σ') (h1 : ∀ g, g = 20 ∨ g = 21 ∨ g = 22 → ¬ pi g (ad e.1)) : EC ad σ' e := by
  obtain ⟨a1, a2, a3, a4, a5⟩ := h
  have hn : kd σ (ad e.1) ≠ 0 := by omega
  exact ⟨hF.ek a1, by rw [hF.2.1 20 _ hn (h1 20 (by simp))]; exact a2, by rw [hF.2.1 21 _ hn (h1 21 (by simp))]; exact a3, by rw [hF.2.1 22 _ hn (h1 22 (by simp))]; exact a4, a5⟩
theorem XO.inj (h : XO ad o σ es) {x y : Nat × Nat} (hx : x ∈ es) (hy : y ∈ es) (e : ad x.1 = ad y.1) : x.1 = y.1 := by
  obtain ⟨-, a2, -, -, a5, -⟩ := h.2.2 x hx
  obtain ⟨-, b2, -, -, b5, -⟩ := h.2.2 y hy
  rw [e, b2] at a2
  have := congrArg Int32.toInt a2
  rw [nI_toInt (by omega), nI_toInt (by omega)] at this
  omega
theorem XO.keep {li lr la : List Nat} (h : XO ad o σ es) (ho : kd σ o = 1) (hF : FG li lr la σ σ') (h1 : ∀ g ∈ [4, 20, 21, 22], g ∉ li) (h2 : ∀ g ∈ [2, 3, 24, 25], g ∉ lr) : XO ad o σ' es := by
  have hn : kd σ o ≠ 0 := by omega
  refine ⟨?_, by rw [hF.gi hn (h1 4 (by simp))]; exact h.2.1, fun e he => (h.2.2 e he).keep hF (fun g hg => h1 g (by rcases hg with rfl | rfl | rfl <;> simp))⟩
  refine h.1.other (fun x hx => ?_) ⟨hF.gr hn (h2 2 (by simp)), hF.gr hn (h2 3 (by simp))⟩
  rw [List.map_map] at hx
  obtain ⟨e, he, rfl⟩ := List.mem_map.mp hx
  have hx : kd σ (ad e.1) ≠ 0 := by have := (h.2.2 e he).1; omega
  exact ⟨hF.gr hx (h2 25 (by simp)), hF.gr hx (h2 24 (by simp))⟩
theorem XO.cong (h : XO ad o σ es) (hc : ∀ e ∈ es, ad' e.1 = ad e.1) : XO ad' o σ es := by
  have e1 : (es.map (·.1)).map ad' = (es.map (·.1)).map ad := by
    rw [List.map_map, List.map_map]
    exact List.map_congr_left fun e he => hc e he
  exact ⟨by rw [e1]; exact h.1, h.2.1, fun e he => by unfold EC; rw [hc e he]; exact h.2.2 e he⟩
theorem TT.adc {lf rt : Nat → Option Nat} : ∀ {n : Nat} {L : List Nat} {r : Option Nat}, TT ad lf rt n L r → (∀ k ∈ L, ad' k = ad k) → TT ad' lf rt n L r := by
  intro n
  induction n with
  | zero => exact fun h _ => h
  | succ n ih =>
    intro L r h hc
    rcases h with h | ⟨A, k, B, h1, h2, h3, h4, h5, h6⟩
    · exact Or.inl h
    · subst h1
      have hk := hc k (by simp)
      refine Or.inr ⟨A, k, B, rfl, by rw [hk]; exact h2, h3, h4, ?_, ?_⟩
      · rw [hk]; exact ih h5 (fun x hx => hc x (by simp [hx]))
      · rw [hk]; exact ih h6 (fun x hx => hc x (by simp [hx]))
theorem RW.adc {hs : Nat → Nat} {b : Nat} {L : List Nat} {t : Bool} (h : RW ad hs σ b L t) (hc : ∀ k ∈ L, ad' k = ad k) : RW ad' hs σ b L t := by
  obtain ⟨a1, a2, a3, a4⟩ := h
  refine ⟨a1, a2, by rw [List.map_congr_left hc]; exact a3, fun ht => ?_⟩
  obtain ⟨M, m1, m2, m3⟩ := a4 ht
  exact ⟨M, m1, m2, m3.adc (fun k hk => hc k (m1.mem_iff.mp hk))⟩
theorem XB.adc {B : Nat → Nat} {c : Co} (h : XB ad o bs σ B c) (hc : ∀ k ∈ k_cs c, ad' k = ad k) : XB ad' o bs σ B c := by
  obtain ⟨a1, a2, a3⟩ := h
  exact ⟨fun k hk => by rw [hc k hk]; exact a1 k hk, ⟨fun x hx => ⟨(a2.1 x hx).1, (a2.1 x hx).2.1, (a2.1 x hx).2.2.adc (fun k hk => hc k (k_b_row hk).1)⟩, a2.2⟩, a3⟩
theorem XO.app {x : Nat × Nat} (h : XO ad o σ es) (ho : kd σ o = 1) (hx : EC ad σ x) (hn : x.1 ∉ es.map (·.1)) (hl : es.length ≤ 1000) : XO ad o (appS 24 25 2 3 4 o (ad x.1) σ) (es ++ [x]) ∧ FG [4] [2, 3, 24, 25] [] σ (appS 24 25 2 3 4 o (ad x.1) σ) := by
  have hF : FG [4] [2, 3, 24, 25] [] σ (appS 24 25 2 3 4 o (ad x.1) σ) := FR.app G4o (by simp) (by simp) (by simp) (by simp) (by simp) (fun _ _ => by simp)
  have hna : ad x.1 ∉ (es.map (·.1)).map ad := fun z => by
    rw [List.map_map] at z
    obtain ⟨y, hy, e⟩ := List.mem_map.mp z
    obtain ⟨-, a2, -, -, a5, -⟩ := h.2.2 y hy
    obtain ⟨-, b2, -, -, b5, -⟩ := hx
    have e : ad y.1 = ad x.1 := e
    rw [e, b2] at a2
    have := congrArg Int32.toInt a2
    rw [nI_toInt (by omega), nI_toInt (by omega)] at this
    exact hn (List.mem_map.mpr ⟨y, hy, by omega⟩)
  refine ⟨⟨?_, ?_, fun e he => ?_⟩, hF⟩
  · rw [List.map_append, List.map_append]
    exact h.1.appd G4o hna
  · rw [appS_m, h.2.1, nI_add, List.length_append]
    rfl
  · rcases List.mem_append.mp he with he | he
    · exact (h.2.2 e he).keep hF (fun g hg => by rcases hg with rfl | rfl | rfl <;> simp)
    · simp at he
      subst he
      exact hx.keep hF (fun g hg => by rcases hg with rfl | rfl | rfl <;> simp)
theorem XO.del {i : Nat} {x : Nat × Nat} (h : XO ad o σ es) (ho : kd σ o = 1) (hi : es[i]? = some x) : XO ad o (delS 24 25 2 3 4 o (ad x.1) σ) (es.eraseIdx i) ∧ FG [4] [2, 3, 24, 25] [] σ (delS 24 25 2 3 4 o (ad x.1) σ) ∧ (∀ p, fr σ 24 (ad x.1) = some p → kd σ p = 2) ∧ (∀ q, fr (delS1 24 25 2 o (ad x.1) σ) 25 (ad x.1) = some q → kd σ q = 2) := by
  have hi' : ((es.map (·.1)).map ad)[i]? = some (ad x.1) := by rw [List.getElem?_map, List.getElem?_map, hi]; rfl
  have hp := h.1.pne hi'
  have hF : FG [4] [2, 3, 24, 25] [] σ (delS 24 25 2 3 4 o (ad x.1) σ) := FR.del G4o hp (by simp) (by simp) (by simp) (fun _ _ => by simp) (fun _ _ => by simp)
  have hmem : ∀ j p, ((es.map (·.1)).map ad)[j]? = some p → kd σ p = 2 := fun j p hj => by
    have := List.mem_of_getElem? hj
    rw [List.map_map] at this
    obtain ⟨e, he, rfl⟩ := List.mem_map.mp this
    exact (h.2.2 e he).1
  have hil : i < es.length := (List.getElem?_eq_some_iff.mp hi).1
  refine ⟨⟨?_, ?_, fun e he => ?_⟩, hF, fun p hp' => ?_, fun q hq => ?_⟩
  · have e1 : ((es.eraseIdx i).map (·.1)).map ad = ((es.map (·.1)).map ad).eraseIdx i := by
      rw [List.map_map, List.map_map, map_eIdxG]
    rw [e1]
    exact h.1.deld G4o hi'
  · rw [delS_m, h.2.1, pk_sub (by omega), List.length_eraseIdx_of_lt hil]
  · exact (h.2.2 e (List.mem_of_mem_eraseIdx he)).keep hF (fun g hg => by rcases hg with rfl | rfl | rfl <;> simp)
  · rw [h.1.pvi hi'] at hp'
    by_cases z : i = 0
    · rw [if_pos z] at hp'; cases hp'
    · rw [if_neg z] at hp'
      exact hmem _ _ hp'
  · rw [(delS1_n (gl := 3) G4o hp).1, h.1.2.2.2.1 i _ hi'] at hq
    exact hmem _ _ hq
theorem XO.last (h : XO ad o σ es) : ∀ l, fr σ 3 o = some l → kd σ l = 2 := fun l hl => by
  have := h.1.tl_mem hl
  rw [List.map_map] at this
  obtain ⟨e, he, rfl⟩ := List.mem_map.mp this
  exact (h.2.2 e he).1
end X67
section T67
variable {D : Dx} {ad : Nat → Nat} {o bs : Nat} {σ : Sg} {B : Nat → Nat} {c : Co} {es : List (Nat × Nat)} {d : Nat}
theorem cx_lnk {x : Nat × Nat} (h : XO ad o σ es) (ho : kd σ o = 1) (hx : EC ad σ x) (hn : x.1 ∉ es.map (·.1)) (hl : es.length ≤ 1000) : Ct (wX D) yX0_links cX0_links 2 none [.ref o, .ref (ad x.1)] σ (PV (fun σ' => XO ad o σ' (es ++ [x]) ∧ FG [4] [2, 3, 24, 25] [] σ σ')) d 0 0 :=
  (cx_links ho hx.1 h.last).weak fun v σ' z => by
    obtain ⟨rfl, rfl⟩ := z
    exact ⟨rfl, h.app ho hx hn hl⟩
theorem cx_unl {i : Nat} {x : Nat × Nat} (h : XO ad o σ es) (ho : kd σ o = 1) (hi : es[i]? = some x) : Ct (wX D) yX0_unlinks cX0_unlinks 2 none [.ref o, .ref (ad x.1)] σ (PV (fun σ' => XO ad o σ' (es.eraseIdx i) ∧ FG [4] [2, 3, 24, 25] [] σ σ')) d 0 0 :=
  (cx_unlinks ho (h.2.2 x (List.mem_of_getElem? hi)).1 (h.del ho hi).2.2.1 (h.del ho hi).2.2.2).weak fun v σ' z => by
    obtain ⟨rfl, rfl⟩ := z
    exact ⟨rfl, (h.del ho hi).1, (h.del ho hi).2.1⟩
theorem cx_entry {a k v : Nat} (hk : kd σ a = 2) (hk9 : k ≤ 999999) : Ct (wX D) yX7_init cX7_init 3 none [.ref a, .int (nI k), .int (nI v)] σ (PE none (sI 22 a (nI (prio k)) (sI 21 a (nI v) (sI 20 a (nI k) σ)))) (d + 1) 0 0 := by
  refine Ct.of KXok (by decide) (Nat.le_of_ble_eq_true rfl) rfl fun Y C hQ hNm => ?_
  first | refine z_al0 (q := 1) C dX7_init_0 rfl ?_ | refine z_al0q (q := 1) C dX7_init_0 rfl ?_ | refine z_al0u (q := 1) C dX7_init_0 rfl ?_
  refine z_objInit (q := 4) C dX7_init_1 rfl q354 (Nat.le_of_ble_eq_true rfl) ?_
  first | refine z_al0 (q := 5) C dX7_init_4 rfl ?_ | refine z_al0q (q := 5) C dX7_init_4 rfl ?_ | refine z_al0u (q := 5) C dX7_init_4 rfl ?_
  refine z_il1 (q := 6) C dX7_init_5 rfl ?_
  refine xp_X7_9 (q := 9) C (by first | exact ho | exact hk | exact hb | exact he | assumption) hNm dX7_init_6 rfl ?_
  first | refine z_al0 (q := 10) C dX7_init_9 rfl ?_ | refine z_al0q (q := 10) C dX7_init_9 rfl ?_ | refine z_al0u (q := 10) C dX7_init_9 rfl ?_
  refine z_il2 (q := 11) C dX7_init_10 rfl ?_
  refine xp_X7_15 (q := 14) C (by first | exact ho | exact hk | exact hb | exact he | assumption) dX7_init_11 rfl ?_
  first | refine z_al0 (q := 15) C dX7_init_14 rfl ?_ | refine z_al0q (q := 15) C dX7_init_14 rfl ?_ | refine z_al0u (q := 15) C dX7_init_14 rfl ?_
  refine z_il1 (q := 16) C dX7_init_15 rfl ?_
  refine z_i2l (q := 17) C dX7_init_16 rfl ?_
  refine z_ldc2 (q := 20) C dX7_init_17 rfl q355 ?_
  refine z_lmul (q := 21) C dX7_init_20 rfl ?_
  refine z_ldc2 (q := 24) C dX7_init_21 rfl q356 ?_
  refine z_ladd (q := 25) C dX7_init_24 rfl ?_
  refine z_ldc2 (q := 28) C dX7_init_25 rfl q357 ?_
  refine z_land (q := 29) C dX7_init_28 rfl ?_
  rw [nI_l (by omega), show (40503 : Int64) = lN 40503 from rfl, show (12345 : Int64) = lN 12345 from rfl, lN_mul, lN_add, show (65535 : Int64) = lN 65535 from rfl, lN_and16 (by omega)]
  refine z_l2i (q := 30) C dX7_init_29 rfl ?_
  rw [lN_i]
  refine xp_X7_24 (q := 33) C (by first | exact ho | exact hk | exact hb | exact he | assumption) hNm dX7_init_30 rfl ?_
  refine z_vret C hQ dX7_init_33 (by omega) (by omega) ?_
  exact ⟨rfl, rfl⟩
theorem new_entry {k v a : Nat} (hk : k ≤ 999999) (hv : v ≤ 9999) (ha : kd σ a = 0) (hadk : ad k = a) : EC ad (sI 22 a (nI (prio k)) (sI 21 a (nI v) (sI 20 a (nI k) (nO 2 a σ)))) (k, v) ∧ FG [] [] [] σ (sI 22 a (nI (prio k)) (sI 21 a (nI v) (sI 20 a (nI k) (nO 2 a σ)))) := by
  refine ⟨?_, ((FR.rf.wO ha).wI (fun z => absurd ha z)).wI (fun z => absurd ha z) |>.wI (fun z => absurd ha z)⟩
  unfold EC
  rw [hadk]
  refine ⟨if_pos rfl, ?_, ?_, ?_, hk, hv⟩
  · rw [fi_sI, if_neg (fun z => by cases z.1), fi_sI, if_neg (fun z => by cases z.1), fi_sI, if_pos ⟨rfl, rfl⟩]
  · rw [fi_sI, if_neg (fun z => by cases z.1), fi_sI, if_pos ⟨rfl, rfl⟩]
  · rw [fi_sI, if_pos ⟨rfl, rfl⟩]
end T67
