/-! rows linked both ways: cells and law together -/
set_option maxRecDepth 10000
theorem fr_sR {g a g' x : Nat} {r : Option Nat} {σ : Sg} : fr (sR g a r σ) g' x = if g' = g ∧ x = a then r else fr σ g' x := by
  show up2 (fr σ) g a r g' x = _
  unfold up2
  by_cases h : g' = g
  · by_cases k : x = a
    · rw [if_pos h, if_pos k, if_pos ⟨h, k⟩]
    · rw [if_pos h, if_neg k, if_neg (fun z => k z.2)]
  · rw [if_neg h, if_neg (fun z => h z.1)]
theorem fr_sI {g a : Nat} {r : Int32} {σ : Sg} : fr (sI g a r σ) = fr σ := rfl
theorem fi_sR {g a : Nat} {r : Option Nat} {σ : Sg} : fi (sR g a r σ) = fi σ := rfl
theorem fi_sI {g a g' x : Nat} {r : Int32} {σ : Sg} : fi (sI g a r σ) g' x = if g' = g ∧ x = a then r else fi σ g' x := by
  show up2 (fi σ) g a r g' x = _
  unfold up2
  by_cases h : g' = g
  · by_cases k : x = a
    · rw [if_pos h, if_pos k, if_pos ⟨h, k⟩]
    · rw [if_pos h, if_neg k, if_neg (fun z => k z.2)]
  · rw [if_neg h, if_neg (fun z => h z.1)]
def G4 (gp gn gf gl : Nat) : Prop := gp ≠ gn ∧ gp ≠ gf ∧ gp ≠ gl ∧ gn ≠ gf ∧ gn ≠ gl ∧ gf ≠ gl
/-- all but some fields of references, and an int field of one cell, is as it was -/
def SF (gs : List Nat) (gm B : Nat) (σ σ' : Sg) : Prop := kd σ' = kd σ ∧ ln σ' = ln σ ∧ ai σ' = ai σ ∧ ar σ' = ar σ ∧ (∀ g, g ∉ gs → fr σ' g = fr σ g) ∧ ∀ g x, ¬ (g = gm ∧ x = B) → fi σ' g x = fi σ g x
section AP
variable {gp gn gf gl gm B a : Nat} {σ : Sg} {xs : List Nat}
theorem appS_fr (hg : G4 gp gn gf gl) : ∀ g x, fr (appS gp gn gf gl gm B a σ) g x = if g = gl ∧ x = B then some a else if g = gp ∧ x = a then fr σ gl B else if fr σ gl B = none ∧ g = gf ∧ x = B then some a else if g = gn ∧ fr σ gl B = some x then some a else if g = gn ∧ x = a then none else fr σ g x := by
  obtain ⟨g1, g2, g3, g4, g5, g6⟩ := hg
  intro g x
  unfold appS
  cases hl : fr σ gl B with
  | none =>
    simp only [fr_sI, fr_sR]
    by_cases c1 : g = gl ∧ x = B
    · rw [if_pos c1, if_pos c1]
    · rw [if_neg c1, if_neg c1]
      by_cases c2 : g = gf ∧ x = B
      · rw [if_pos c2, if_neg (fun z => g2 (z.1.symm.trans c2.1)), if_pos ⟨trivial, c2⟩]
      · rw [if_neg c2]
        by_cases c3 : g = gn ∧ x = a
        · rw [if_pos c3, if_neg (fun z => g1 (z.1.symm.trans c3.1)), if_neg (fun z => c2 z.2), if_neg (fun z => by cases z.2), if_pos c3]
        · rw [if_neg c3]
          by_cases c4 : g = gp ∧ x = a
          · rw [if_pos c4, if_pos c4]
          · rw [if_neg c4, if_neg c4, if_neg (fun z => c2 z.2), if_neg (fun z => by cases z.2), if_neg c3]
  | some l =>
    simp only [fr_sI, fr_sR]
    by_cases c1 : g = gl ∧ x = B
    · rw [if_pos c1, if_pos c1]
    · rw [if_neg c1, if_neg c1]
      by_cases c2 : g = gn ∧ x = l
      · rw [if_pos c2, if_neg (fun z => g1 (z.1.symm.trans c2.1)), if_neg (fun z => by cases z.1), if_pos ⟨c2.1, by rw [c2.2]⟩]
      · rw [if_neg c2]
        by_cases c3 : g = gn ∧ x = a
        · rw [if_pos c3, if_neg (fun z => g1 (z.1.symm.trans c3.1)), if_neg (fun z => by cases z.1), if_neg (fun z => c2 ⟨z.1, (Option.some.inj z.2).symm⟩), if_pos c3]
        · rw [if_neg c3]
          by_cases c4 : g = gp ∧ x = a
          · rw [if_pos c4, if_pos c4]
          · rw [if_neg c4, if_neg c4, if_neg (fun z => by cases z.1), if_neg (fun z => c2 ⟨z.1, (Option.some.inj z.2).symm⟩), if_neg c3]
theorem appS_SF (hg : G4 gp gn gf gl) : SF [gp, gn, gf, gl] gm B σ (appS gp gn gf gl gm B a σ) := by
  have h0 : kd (appS gp gn gf gl gm B a σ) = kd σ ∧ ln (appS gp gn gf gl gm B a σ) = ln σ ∧ ai (appS gp gn gf gl gm B a σ) = ai σ ∧ ar (appS gp gn gf gl gm B a σ) = ar σ := by
    unfold appS
    cases fr σ gl B <;> exact ⟨rfl, rfl, rfl, rfl⟩
  refine ⟨h0.1, h0.2.1, h0.2.2.1, h0.2.2.2, fun g hgs => ?_, fun g x hx => ?_⟩
  · funext x
    simp only [List.mem_cons, List.not_mem_nil, or_false, not_or] at hgs
    rw [appS_fr hg, if_neg (fun z => hgs.2.2.2 z.1), if_neg (fun z => hgs.1 z.1), if_neg (fun z => hgs.2.2.1 z.2.1), if_neg (fun z => hgs.2.1 z.1), if_neg (fun z => hgs.2.1 z.1)]
  · unfold appS
    rw [fi_sI, if_neg hx]
    cases fr σ gl B <;> rfl
theorem appS_m : fi (appS gp gn gf gl gm B a σ) gm B = fi σ gm B + nI 1 := by
  unfold appS
  rw [fi_sI, if_pos ⟨rfl, rfl⟩]
theorem DL.appd (hg : G4 gp gn gf gl) (h : DL (fr σ gn) (fr σ gp) (fr σ gf B) (fr σ gl B) xs) (ha : a ∉ xs) : DL (fr (appS gp gn gf gl gm B a σ) gn) (fr (appS gp gn gf gl gm B a σ) gp) (fr (appS gp gn gf gl gm B a σ) gf B) (fr (appS gp gn gf gl gm B a σ) gl B) (xs ++ [a]) := by
  have hF := appS_fr (gm := gm) (B := B) (a := a) (σ := σ) hg
  have htl : ∀ l, fr σ gl B = some l → l ∈ xs := fun l => h.tl_mem
  obtain ⟨g1, g2, g3, g4, g5, g6⟩ := hg
  rw [show fr (appS gp gn gf gl gm B a σ) gl B = some a by rw [hF, if_pos ⟨rfl, rfl⟩]]
  refine h.app ha ?_ (fun l hl => ?_) (fun b hb hn => ?_) ?_ (fun b hb => ?_) ?_
  · rw [hF, if_neg (fun z => g5 z.1), if_neg (fun z => g1 z.1.symm), if_neg (fun z => g4 z.2.1), if_neg (fun z => ha (htl _ z.2)), if_pos ⟨rfl, rfl⟩]
  · rw [hF, if_neg (fun z => g5 z.1), if_neg (fun z => g1 z.1.symm), if_neg (fun z => g4 z.2.1), if_pos ⟨rfl, hl⟩]
  · rw [hF, if_neg (fun z => g5 z.1), if_neg (fun z => g1 z.1.symm), if_neg (fun z => g4 z.2.1), if_neg (fun z => hn z.2), if_neg (fun z => ha (by rw [← And.right z]; exact hb))]
  · rw [hF, if_neg (fun z => g3 z.1), if_pos ⟨rfl, rfl⟩]
  · rw [hF, if_neg (fun z => g3 z.1), if_neg (fun z => ha (by rw [← And.right z]; exact hb)), if_neg (fun z => g2 z.2.1), if_neg (fun z => g1 z.1), if_neg (fun z => g1 z.1)]
  · rw [hF, if_neg (fun z => g6 z.1), if_neg (fun z => g2 z.1.symm)]
    by_cases z : fr σ gl B = none
    · rw [if_pos ⟨z, rfl, rfl⟩, if_pos z]
    · rw [if_neg (fun w => z w.1), if_neg z, if_neg (fun w => g4 w.1.symm), if_neg (fun w => g4 w.1.symm)]
/-- another row in the same fields is as it was -/
theorem DL.other {σ' : Sg} {B' : Nat} {ys : List Nat} (h : DL (fr σ gn) (fr σ gp) (fr σ gf B') (fr σ gl B') ys) (h1 : ∀ x ∈ ys, fr σ' gn x = fr σ gn x ∧ fr σ' gp x = fr σ gp x) (h2 : fr σ' gf B' = fr σ gf B' ∧ fr σ' gl B' = fr σ gl B') : DL (fr σ' gn) (fr σ' gp) (fr σ' gf B') (fr σ' gl B') ys := by
  rw [h2.1, h2.2]
  exact ⟨h.1, h.2.1, h.2.2.1, fun i x hi => by rw [(h1 x (List.mem_of_getElem? hi)).1]; exact h.2.2.2.1 i x hi, fun i x hi => by rw [(h1 x (List.mem_of_getElem? hi)).2]; exact h.2.2.2.2.1 i x hi, fun x hi => by rw [(h1 x (List.mem_of_getElem? hi)).2]; exact h.2.2.2.2.2 x hi⟩
end AP
