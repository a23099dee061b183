/-! rows linked both ways: one goes -/
set_option maxRecDepth 10000
section DE
variable {gp gn gf gl gm B a : Nat} {σ : Sg} {xs : List Nat}
theorem delS1_n (hg : G4 gp gn gf gl) (hp : fr σ gp a ≠ some a) : fr (delS1 gp gn gf B a σ) gn a = fr σ gn a ∧ fr (delS1 gp gn gf B a σ) gp a = fr σ gp a := by
  obtain ⟨g1, g2, g3, g4, g5, g6⟩ := hg
  unfold delS1
  cases e : fr σ gp a with
  | none =>
    dsimp only
    rw [fr_sR, fr_sR, if_neg (fun z => g4 z.1), if_neg (fun z => g2 z.1)]
    exact ⟨rfl, e⟩
  | some p =>
    dsimp only
    rw [fr_sR, fr_sR, if_neg (fun z => hp (by rw [e, ← And.right z])), if_neg (fun z => g1 z.1)]
    exact ⟨rfl, e⟩
theorem delS_fr (hg : G4 gp gn gf gl) (hp : fr σ gp a ≠ some a) : ∀ g x, fr (delS gp gn gf gl gm B a σ) g x = if fr σ gp a = none ∧ g = gf ∧ x = B then fr σ gn a else if g = gn ∧ fr σ gp a = some x then fr σ gn a else if fr σ gn a = none ∧ g = gl ∧ x = B then fr σ gp a else if g = gp ∧ fr σ gn a = some x then fr σ gp a else fr σ g x := by
  intro g x
  obtain ⟨d1, d2⟩ := delS1_n (B := B) hg hp
  obtain ⟨g1, g2, g3, g4, g5, g6⟩ := hg
  unfold delS
  rw [fr_sI]
  unfold delS2
  rw [d1, d2]
  have e1 : fr (delS1 gp gn gf B a σ) g x = if fr σ gp a = none ∧ g = gf ∧ x = B then fr σ gn a else if g = gn ∧ fr σ gp a = some x then fr σ gn a else fr σ g x := by
    unfold delS1
    cases e : fr σ gp a with
    | none =>
      dsimp only
      rw [fr_sR]
      by_cases c : g = gf ∧ x = B
      · rw [if_pos c, if_pos ⟨rfl, c⟩]
      · rw [if_neg c, if_neg (fun z => c z.2), if_neg (fun z => by cases And.right z)]
    | some p =>
      dsimp only
      rw [fr_sR]
      by_cases c : g = gn ∧ x = p
      · rw [if_pos c, if_neg (fun z => by cases And.left z), if_pos ⟨c.1, by rw [c.2]⟩]
      · rw [if_neg c, if_neg (fun z => by cases And.left z), if_neg (fun z => c ⟨z.1, (Option.some.inj z.2).symm⟩)]
  cases en : fr σ gn a with
  | none =>
    dsimp only
    rw [fr_sR, e1, en]
    by_cases c : g = gl ∧ x = B
    · rw [if_pos c, if_neg (fun z => g6 (z.2.1.symm.trans c.1)), if_neg (fun z => g5 (z.1.symm.trans c.1)), if_pos ⟨rfl, c⟩]
    · rw [if_neg c]
      by_cases c1 : fr σ gp a = none ∧ g = gf ∧ x = B
      · rw [if_pos c1, if_pos c1]
      · rw [if_neg c1, if_neg c1]
        by_cases c2 : g = gn ∧ fr σ gp a = some x
        · rw [if_pos c2, if_pos c2]
        · rw [if_neg c2, if_neg c2, if_neg (fun z => c z.2), if_neg (fun z => by cases And.right z)]
  | some q =>
    dsimp only
    rw [fr_sR, e1, en]
    by_cases c : g = gp ∧ x = q
    · rw [if_pos c, if_neg (fun z => g2 (c.1.symm.trans z.2.1)), if_neg (fun z => g1 (c.1.symm.trans z.1)), if_neg (fun z => by cases And.left z), if_pos ⟨c.1, by rw [c.2]⟩]
    · rw [if_neg c]
      by_cases c1 : fr σ gp a = none ∧ g = gf ∧ x = B
      · rw [if_pos c1, if_pos c1]
      · rw [if_neg c1, if_neg c1]
        by_cases c2 : g = gn ∧ fr σ gp a = some x
        · rw [if_pos c2, if_pos c2]
        · rw [if_neg c2, if_neg c2, if_neg (fun z => by cases And.left z), if_neg (fun z => c ⟨z.1, (Option.some.inj z.2).symm⟩)]
theorem delS_SF (hg : G4 gp gn gf gl) (hp : fr σ gp a ≠ some a) : SF [gp, gn, gf, gl] gm B σ (delS gp gn gf gl gm B a σ) := by
  have h1 : ∀ σ : Sg, kd (delS1 gp gn gf B a σ) = kd σ ∧ ln (delS1 gp gn gf B a σ) = ln σ ∧ ai (delS1 gp gn gf B a σ) = ai σ ∧ ar (delS1 gp gn gf B a σ) = ar σ ∧ fi (delS1 gp gn gf B a σ) = fi σ := by
    intro σ
    unfold delS1
    cases fr σ gp a <;> exact ⟨rfl, rfl, rfl, rfl, rfl⟩
  have h2 : ∀ σ : Sg, kd (delS2 gp gn gl B a σ) = kd σ ∧ ln (delS2 gp gn gl B a σ) = ln σ ∧ ai (delS2 gp gn gl B a σ) = ai σ ∧ ar (delS2 gp gn gl B a σ) = ar σ ∧ fi (delS2 gp gn gl B a σ) = fi σ := by
    intro σ
    unfold delS2
    cases fr σ gn a <;> exact ⟨rfl, rfl, rfl, rfl, rfl⟩
  refine ⟨(h2 _).1.trans (h1 _).1, (h2 _).2.1.trans (h1 _).2.1, (h2 _).2.2.1.trans (h1 _).2.2.1, (h2 _).2.2.2.1.trans (h1 _).2.2.2.1, fun g hgs => ?_, fun g x hx => ?_⟩
  · funext x
    simp only [List.mem_cons, List.not_mem_nil, or_false, not_or] at hgs
    rw [delS_fr hg hp, if_neg (fun z => hgs.2.2.1 z.2.1), if_neg (fun z => hgs.2.1 z.1), if_neg (fun z => hgs.2.2.2 z.2.1), if_neg (fun z => hgs.1 z.1)]
  · unfold delS
    rw [fi_sI, if_neg hx, (h2 _).2.2.2.2, (h1 _).2.2.2.2]
theorem delS_m : fi (delS gp gn gf gl gm B a σ) gm B = fi σ gm B - nI 1 := by
  unfold delS
  rw [fi_sI, if_pos ⟨rfl, rfl⟩]
theorem DL.pne {nx pv : Nat → Option Nat} {hd tl : Option Nat} (h : DL nx pv hd tl xs) {i : Nat} (hi : xs[i]? = some a) : pv a ≠ some a := by
  rw [h.pvi hi]
  by_cases z : i = 0
  · rw [if_pos z]; simp
  · rw [if_neg z]
    intro t
    have := nd_inj h.1 hi t
    omega
theorem DL.deld (hg : G4 gp gn gf gl) (h : DL (fr σ gn) (fr σ gp) (fr σ gf B) (fr σ gl B) xs) {i : Nat} (hi : xs[i]? = some a) : DL (fr (delS gp gn gf gl gm B a σ) gn) (fr (delS gp gn gf gl gm B a σ) gp) (fr (delS gp gn gf gl gm B a σ) gf B) (fr (delS gp gn gf gl gm B a σ) gl B) (xs.eraseIdx i) := by
  have hF := delS_fr (gm := gm) (B := B) (a := a) (σ := σ) hg (h.pne hi)
  obtain ⟨g1, g2, g3, g4, g5, g6⟩ := hg
  refine h.del hi (fun b hb => ?_) (fun b hb hne hn => ?_) (fun b hb => ?_) (fun b hb hne hn => ?_) ?_ ?_
  · rw [hF, if_neg (fun z => g4 z.2.1), if_pos ⟨rfl, hb⟩]
  · rw [hF, if_neg (fun z => g4 z.2.1), if_neg (fun z => hn z.2), if_neg (fun z => g5 z.2.1), if_neg (fun z => g1 z.1.symm)]
  · rw [hF, if_neg (fun z => g2 z.2.1), if_neg (fun z => g1 z.1), if_neg (fun z => g3 z.2.1), if_pos ⟨rfl, hb⟩]
  · rw [hF, if_neg (fun z => g2 z.2.1), if_neg (fun z => g1 z.1), if_neg (fun z => g3 z.2.1), if_neg (fun z => hn z.2)]
  · rw [hF]
    by_cases z : fr σ gp a = none
    · rw [if_pos ⟨z, rfl, rfl⟩, if_pos z]
    · rw [if_neg (fun w => z w.1), if_neg z, if_neg (fun w => g4 w.1.symm), if_neg (fun w => g6 w.2.1), if_neg (fun w => g2 w.1.symm)]
  · rw [hF, if_neg (fun w => g6 w.2.1.symm), if_neg (fun w => g5 w.1.symm)]
    by_cases z : fr σ gn a = none
    · rw [if_pos ⟨z, rfl, rfl⟩, if_pos z]
    · rw [if_neg (fun w => z w.1), if_neg z, if_neg (fun w => g3 w.1.symm)]
end DE
