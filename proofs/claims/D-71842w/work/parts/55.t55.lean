/-! trees of entries, by fuel: what a root holds of a sorted list of keys -/
set_option maxRecDepth 10000
def TT (ad : Nat → Nat) (lf rt : Nat → Option Nat) : Nat → List Nat → Option Nat → Prop
  | 0, L, r => L = [] ∧ r = none
  | n + 1, L, r => (L = [] ∧ r = none) ∨ ∃ A k B, L = A ++ k :: B ∧ r = some (ad k) ∧ (∀ x ∈ A, abv k x = true) ∧ (∀ x ∈ B, abv k x = true) ∧ TT ad lf rt n A (lf (ad k)) ∧ TT ad lf rt n B (rt (ad k))
section TTs
variable {ad : Nat → Nat} {lf rt lf' rt' : Nat → Option Nat}
theorem TT.nil {n : Nat} : TT ad lf rt n [] none := by
  cases n
  · exact ⟨rfl, rfl⟩
  · exact Or.inl ⟨rfl, rfl⟩
theorem TT.of_none {n : Nat} {L : List Nat} (h : TT ad lf rt n L none) : L = [] := by
  cases n with
  | zero => exact h.1
  | succ n =>
    rcases h with h | ⟨A, k, B, -, h, -⟩
    · exact h.1
    · cases h
theorem TT.of_nil {n : Nat} {r : Option Nat} (h : TT ad lf rt n [] r) : r = none := by
  cases n with
  | zero => exact h.2
  | succ n =>
    rcases h with h | ⟨A, k, B, h, -⟩
    · exact h.2
    · simp at h
theorem TT.of_some {n : Nat} {L : List Nat} {a : Nat} (h : TT ad lf rt n L (some a)) : ∃ m A k B, n = m + 1 ∧ L = A ++ k :: B ∧ a = ad k ∧ (∀ x ∈ A, abv k x = true) ∧ (∀ x ∈ B, abv k x = true) ∧ TT ad lf rt m A (lf (ad k)) ∧ TT ad lf rt m B (rt (ad k)) := by
  cases n with
  | zero => cases h.2
  | succ n =>
    rcases h with h | ⟨A, k, B, h1, h2, h3, h4, h5, h6⟩
    · cases h.2
    · exact ⟨n, A, k, B, rfl, h1, Option.some.inj h2, h3, h4, h5, h6⟩
theorem TT.congr : ∀ {n : Nat} {L : List Nat} {r : Option Nat}, TT ad lf rt n L r → (∀ k ∈ L, lf' (ad k) = lf (ad k) ∧ rt' (ad k) = rt (ad k)) → TT ad lf' rt' n L r := by
  intro n
  induction n with
  | zero => exact fun h _ => h
  | succ n ih =>
    intro L r h hc
    rcases h with h | ⟨A, k, B, h1, h2, h3, h4, h5, h6⟩
    · exact Or.inl h
    · subst h1
      have hk := hc k (by simp)
      refine Or.inr ⟨A, k, B, rfl, h2, h3, h4, ?_, ?_⟩
      · rw [hk.1]; exact ih h5 (fun x hx => hc x (by simp [hx]))
      · rw [hk.2]; exact ih h6 (fun x hx => hc x (by simp [hx]))
theorem TT.up : ∀ {n : Nat} {L : List Nat} {r : Option Nat}, TT ad lf rt n L r → TT ad lf rt (n + 1) L r := by
  intro n
  induction n with
  | zero => exact fun h => Or.inl h
  | succ n ih =>
    intro L r h
    rcases h with h | ⟨A, k, B, h1, h2, h3, h4, h5, h6⟩
    · exact Or.inl h
    · exact Or.inr ⟨A, k, B, h1, h2, h3, h4, ih h5, ih h6⟩
theorem TT.le {n m : Nat} {L : List Nat} {r : Option Nat} (h : TT ad lf rt n L r) (hm : n ≤ m) : TT ad lf rt m L r := by
  induction hm with
  | refl => exact h
  | step _ ih => exact ih.up
/-- the fuel that is needed -/
theorem TT.fuel : ∀ {n : Nat} {L : List Nat} {r : Option Nat}, TT ad lf rt n L r → TT ad lf rt L.length L r := by
  intro n
  induction n with
  | zero => intro L r h; obtain ⟨rfl, rfl⟩ := h; exact ⟨rfl, rfl⟩
  | succ n ih =>
    intro L r h
    rcases h with h | ⟨A, k, B, h1, h2, h3, h4, h5, h6⟩
    · obtain ⟨rfl, rfl⟩ := h; exact ⟨rfl, rfl⟩
    · subst h1
      rw [show (A ++ k :: B).length = (A.length + B.length) + 1 by simp; omega]
      exact Or.inr ⟨A, k, B, rfl, h2, h3, h4, (ih h5).le (by omega), (ih h6).le (by omega)⟩
end TTs
/-- where a key is in a tree's order -/
def tlt (hs : Nat → Nat) (x y : Nat) : Prop := hs x < hs y ∨ hs x = hs y ∧ x < y
/-- entries of keys -/
def EN (ad hs : Nat → Nat) (σ : Sg) (L : List Nat) : Prop := ∀ k ∈ L, kd σ (ad k) = 2 ∧ fi σ 20 (ad k) = nI k ∧ fi σ 22 (ad k) = nI (prio k) ∧ fi σ 23 (ad k) = nI (hs k) ∧ k ≤ 999999 ∧ hs k < 65536
theorem EN.inj {ad hs : Nat → Nat} {σ : Sg} {L : List Nat} (h : EN ad hs σ L) {x y : Nat} (hx : x ∈ L) (hy : y ∈ L) (e : ad x = ad y) : x = y := by
  obtain ⟨-, h1, -, -, h2, -⟩ := h x hx
  obtain ⟨-, h3, -, -, h4, -⟩ := h y hy
  rw [e, h3] at h1
  have := congrArg Int32.toInt h1
  rw [nI_toInt (by omega), nI_toInt (by omega)] at this
  omega
/-- all but the tree's links of some entries is as it was -/
def F2 (ad : Nat → Nat) (S : List Nat) (σ σ' : Sg) : Prop := kd σ' = kd σ ∧ fi σ' = fi σ ∧ ln σ' = ln σ ∧ ai σ' = ai σ ∧ ar σ' = ar σ ∧ (∀ g, g ≠ 28 → g ≠ 29 → fr σ' g = fr σ g) ∧ ∀ g x, (∀ k ∈ S, x ≠ ad k) → fr σ' g x = fr σ g x
theorem F2.rf {ad : Nat → Nat} {S : List Nat} {σ : Sg} : F2 ad S σ σ := ⟨rfl, rfl, rfl, rfl, rfl, fun _ _ _ => rfl, fun _ _ _ => rfl⟩
theorem F2.tr {ad : Nat → Nat} {S : List Nat} {σ σ1 σ2 : Sg} (h : F2 ad S σ σ1) (h2 : F2 ad S σ1 σ2) : F2 ad S σ σ2 := ⟨h2.1.trans h.1, h2.2.1.trans h.2.1, h2.2.2.1.trans h.2.2.1, h2.2.2.2.1.trans h.2.2.2.1, h2.2.2.2.2.1.trans h.2.2.2.2.1, fun g a b => (h2.2.2.2.2.2.1 g a b).trans (h.2.2.2.2.2.1 g a b), fun g x hx => (h2.2.2.2.2.2.2 g x hx).trans (h.2.2.2.2.2.2 g x hx)⟩
theorem F2.mono {ad : Nat → Nat} {S S' : List Nat} {σ σ1 : Sg} (h : F2 ad S σ σ1) (hs : ∀ k ∈ S, k ∈ S') : F2 ad S' σ σ1 := ⟨h.1, h.2.1, h.2.2.1, h.2.2.2.1, h.2.2.2.2.1, h.2.2.2.2.2.1, fun g x hx => h.2.2.2.2.2.2 g x (fun k hk => hx k (hs k hk))⟩
theorem F2.set {ad : Nat → Nat} {S : List Nat} {σ σ1 : Sg} (h : F2 ad S σ σ1) {k g : Nat} (hk : k ∈ S) (hg : g = 28 ∨ g = 29) (r : Option Nat) : F2 ad S σ (sR g (ad k) r σ1) := by
  refine ⟨h.1, h.2.1, h.2.2.1, h.2.2.2.1, h.2.2.2.2.1, fun g' a b => ?_, fun g' x hx => ?_⟩
  · funext x
    rw [fr_sR, if_neg (fun z => by omega), h.2.2.2.2.2.1 g' a b]
  · rw [fr_sR, if_neg (fun z => hx k hk z.2), h.2.2.2.2.2.2 g' x hx]
theorem EN.of {ad hs : Nat → Nat} {σ σ1 : Sg} {L S : List Nat} (h : EN ad hs σ L) (hF : F2 ad S σ σ1) : EN ad hs σ1 L := fun k hk => by rw [hF.1, hF.2.1]; exact h k hk
