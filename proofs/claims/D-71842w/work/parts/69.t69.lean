/-! THE CLASS: a state is left -/
set_option maxRecDepth 10000
/-- the State at s holds a core; its int arrays are none of ex -/
def ST (ex : List Nat) (σ : Sg) (s : Nat) (c : Co) : Prop := kd σ s = 6 ∧ (∃ a, fr σ 100 s = some a ∧ kd σ a = 11 ∧ a ∉ ex ∧ ln σ a = 2 * (k_es c).length ∧ ∀ i x, (k_es c)[i]? = some x → ai σ a (2 * i) = nI x.1 ∧ ai σ a (2 * i + 1) = nI x.2) ∧ (∃ a, fr σ 101 s = some a ∧ kd σ a = 11 ∧ a ∉ ex ∧ ln σ a = (k_es c).length ∧ ∀ j k, (k_by c 2)[j]? = some k → ai σ a j = nI k) ∧ (∃ a, fr σ 102 s = some a ∧ kd σ a = 11 ∧ a ∉ ex ∧ ln σ a = k_n c 1 ∧ ∀ b, b < k_n c 1 → ai σ a b = nI (k_mi c b)) ∧ (∃ a, fr σ 103 s = some a ∧ kd σ a = 13 ∧ a ∉ ex ∧ ln σ a = k_n c 1 ∧ ∀ b, b < k_n c 1 → ai σ a b = bI (k_tr c b)) ∧ fi σ 104 s = nI (k_n c 2) ∧ fi σ 105 s = nI (k_n c 3) ∧ fi σ 106 s = nI (k_n c 4) ∧ fi σ 107 s = nI (k_n c 5)
theorem ST.keep {ex : List Nat} {σ σ' : Sg} {s : Nat} {c : Co} {li lr la : List Nat} (h : ST ex σ s c) (hF : FG li lr la σ σ') (h1 : ∀ g ∈ [104, 105, 106, 107], g ∉ li) (h2 : ∀ g ∈ [100, 101, 102, 103], g ∉ lr) (h3 : ∀ x ∈ la, x ∈ ex ∨ (kd σ x ≠ 11 ∧ kd σ x ≠ 13)) : ST ex σ' s c := by
  obtain ⟨a0, ⟨a1, b1, b2, b3, b4, b5⟩, ⟨a2, c1, c2, c3, c4, c5⟩, ⟨a3, d1, d2, d3, d4, d5⟩, ⟨a4, e1, e2, e3, e4, e5⟩, f1, f2, f3, f4⟩ := h
  have hn : kd σ s ≠ 0 := by omega
  have ha : ∀ a, kd σ a = 11 → a ∉ ex → kd σ' a = 11 ∧ ln σ' a = ln σ a ∧ ai σ' a = ai σ a := fun a ha hx => ⟨hF.ek ha, (hF.1 a (by omega)).2, (hF.2.2.2 a (by omega) (fun z => by
    rcases h3 a z with q | q
    · exact hx q
    · exact q.1 ha)).1⟩
  refine ⟨hF.ek a0, ⟨a1, ?_⟩, ⟨a2, ?_⟩, ⟨a3, ?_⟩, ⟨a4, ?_⟩, ?_, ?_, ?_, ?_⟩
  · rw [hF.gr hn (h2 100 (by simp)), (ha a1 b2 b3).2.1, (ha a1 b2 b3).2.2]; exact ⟨b1, (ha a1 b2 b3).1, b3, b4, b5⟩
  · rw [hF.gr hn (h2 101 (by simp)), (ha a2 c2 c3).2.1, (ha a2 c2 c3).2.2]; exact ⟨c1, (ha a2 c2 c3).1, c3, c4, c5⟩
  · rw [hF.gr hn (h2 102 (by simp)), (ha a3 d2 d3).2.1, (ha a3 d2 d3).2.2]; exact ⟨d1, (ha a3 d2 d3).1, d3, d4, d5⟩
  · have hx : ai σ' a4 = ai σ a4 := (hF.2.2.2 a4 (by omega) (fun z => by
      rcases h3 a4 z with q | q
      · exact e3 q
      · exact q.2 e2)).1
    rw [hF.gr hn (h2 103 (by simp)), (hF.1 a4 (by omega)).2, hx]; exact ⟨e1, hF.ek e2, e3, e4, e5⟩
  · rw [hF.gi hn (h1 104 (by simp))]; exact f1
  · rw [hF.gi hn (h1 105 (by simp))]; exact f2
  · rw [hF.gi hn (h1 106 (by simp))]; exact f3
  · rw [hF.gi hn (h1 107 (by simp))]; exact f4
theorem ai_sA {a i a' j : Nat} {x : Int32} {σ : Sg} : ai (sA a i x σ) a' j = if a' = a ∧ j = i then x else ai σ a' j := by
  show up2 (ai σ) a i x a' j = _
  unfold up2
  by_cases h : a' = a
  · by_cases k : j = i
    · rw [if_pos h, if_pos k, if_pos ⟨h, k⟩]
    · rw [if_pos h, if_neg k, if_neg (fun z => k z.2)]
  · rw [if_neg h, if_neg (fun z => h z.1)]
theorem tb_len {c : Co} (h : CI c) : (k_by c 2).length = (k_es c).length := k_by_len h 2
/-- the State's cells while it is filled -/
def SH (σ : Sg) (n w s a1 a2 a3 a4 : Nat) (σ1 : Sg) : Prop := (kd σ1 s = 6 ∧ fr σ1 100 s = some a1 ∧ fr σ1 101 s = some a2 ∧ fr σ1 102 s = some a3 ∧ fr σ1 103 s = some a4) ∧ (kd σ1 a1 = 11 ∧ kd σ1 a2 = 11 ∧ kd σ1 a3 = 11 ∧ kd σ1 a4 = 13) ∧ (ln σ1 a1 = 2 * n ∧ ln σ1 a2 = n ∧ ln σ1 a3 = w ∧ ln σ1 a4 = w) ∧ (kd σ s = 0 ∧ kd σ a1 = 0 ∧ kd σ a2 = 0 ∧ kd σ a3 = 0 ∧ kd σ a4 = 0) ∧ (a1 ≠ a2 ∧ a1 ≠ a3 ∧ a2 ≠ a3) ∧ FG [] [] [] σ σ1
theorem SH.st {σ : Sg} {n w s a1 a2 a3 a4 a i : Nat} {x : Int32} {σ1 : Sg} (h : SH σ n w s a1 a2 a3 a4 σ1) (ha : kd σ a = 0) : SH σ n w s a1 a2 a3 a4 (sA a i x σ1) := ⟨h.1, h.2.1, h.2.2.1, h.2.2.2.1, h.2.2.2.2.1, h.2.2.2.2.2.wA (fun z => absurd ha z)⟩
section T69
variable {D : Dx} {ad : Nat → Nat} {o bs : Nat} {σ : Sg} {B : Nat → Nat} {c : Co} {d : Nat}
theorem cx_sized {n : Nat} (hn : n ≤ 2000) : Ct (wX D) yX0_sized cX0_sized 1 (some (.array .int)) [.int (nI n)] σ (PQ (fun r σ' => ∃ a, r = some a ∧ kd σ a = 0 ∧ σ' = nA 11 n a σ)) d 1 n := by
  refine Ct.of KXok (by decide) (Nat.le_of_ble_eq_true rfl) rfl fun Y C hQ hNm => ?_
  refine z_il0 (q := 1) C dX0_sized_0 rfl ?_
  refine x_newa (q := 3) C 0 (by decide) (at' := .int) (ty := .int) rfl q145 rfl rfl (by decide) (fun U cA h => va_nm_int h) hn (by omega) (by omega) dX0_sized_1 rfl (fun a1 f1 => ?_)
  first | refine z_aret C hQ (Or.inr ⟨_, rfl⟩) dX0_sized_3 (by omega) (by omega) ?_ | refine z_aret (r := some _) C hQ (Or.inr ⟨_, rfl⟩) dX0_sized_3 (by omega) (by omega) ?_ | refine z_aret (r := none) C hQ (Or.inr ⟨_, rfl⟩) dX0_sized_3 (by omega) (by omega) ?_
  exact ⟨some a1, rfl, a1, rfl, f1, rfl⟩
end T69
