/-! rows linked both ways: the plain law -/
set_option maxRecDepth 10000
/-- nx, pv: links; hd, tl: the ends; xs: the addresses from first to last -/
def DL (nx pv : Nat → Option Nat) (hd tl : Option Nat) (xs : List Nat) : Prop := xs.Nodup ∧ hd = xs[0]? ∧ tl = xs[xs.length - 1]? ∧ (∀ i a, xs[i]? = some a → nx a = xs[i + 1]?) ∧ (∀ i a, xs[i + 1]? = some a → pv a = xs[i]?) ∧ ∀ a, xs[0]? = some a → pv a = none
theorem DL.nil {nx pv : Nat → Option Nat} : DL nx pv none none [] := ⟨List.nodup_nil, rfl, rfl, fun i a h => by simp at h, fun i a h => by simp at h, fun a h => by simp at h⟩
theorem nd_inj {xs : List Nat} (h : xs.Nodup) {i j a : Nat} (h1 : xs[i]? = some a) (h2 : xs[j]? = some a) : i = j := by
  obtain ⟨i1, e1⟩ := List.getElem?_eq_some_iff.mp h1
  obtain ⟨j1, e2⟩ := List.getElem?_eq_some_iff.mp h2
  exact (List.getElem?_inj i1 h).mp (h1.trans h2.symm)
theorem DL.pvi {nx pv : Nat → Option Nat} {hd tl : Option Nat} {xs : List Nat} (h : DL nx pv hd tl xs) {i a : Nat} (hi : xs[i]? = some a) : pv a = if i = 0 then none else xs[i - 1]? := by
  cases i with
  | zero => rw [if_pos rfl]; exact h.2.2.2.2.2 a hi
  | succ i => rw [if_neg (by omega)]; exact h.2.2.2.2.1 i a hi
theorem DL.tl_mem {nx pv : Nat → Option Nat} {hd tl : Option Nat} {xs : List Nat} (h : DL nx pv hd tl xs) {l : Nat} (hl : tl = some l) : l ∈ xs := by
  have := h.2.2.1
  rw [hl] at this
  exact List.mem_of_getElem? this.symm
theorem DL.app {nx pv nx' pv' : Nat → Option Nat} {hd tl hd' : Option Nat} {xs : List Nat} {a : Nat} (h : DL nx pv hd tl xs) (ha : a ∉ xs) (h1 : nx' a = none) (h2 : ∀ l, tl = some l → nx' l = some a) (h3 : ∀ b ∈ xs, tl ≠ some b → nx' b = nx b) (p1 : pv' a = tl) (p2 : ∀ b ∈ xs, pv' b = pv b) (e1 : hd' = if tl = none then some a else hd) : DL nx' pv' hd' (some a) (xs ++ [a]) := by
  obtain ⟨hN, hh, ht, hn, hp, hp0⟩ := h
  have hgl : ∀ i, i < xs.length → (xs ++ [a])[i]? = xs[i]? := fun i hi => List.getElem?_append_left hi
  have hge : (xs ++ [a])[xs.length]? = some a := by simp
  have hgg : ∀ i, xs.length < i → (xs ++ [a])[i]? = none := fun i hi => by simp; omega
  have htn : tl = none ↔ xs = [] := by
    rw [ht]
    constructor
    · intro z
      cases xs with
      | nil => rfl
      | cons y ys => simp at z
    · rintro rfl
      rfl
  refine ⟨?_, ?_, ?_, fun i b hi => ?_, fun i b hi => ?_, fun b hi => ?_⟩
  · rw [List.nodup_append]
    refine ⟨hN, by simp, fun x hx y hy => ?_⟩
    simp at hy
    subst hy
    rintro rfl
    exact ha hx
  · rw [e1]
    by_cases z : xs = []
    · rw [if_pos (htn.mpr z), z]
      rfl
    · rw [if_neg (fun q => z (htn.mp q)), hh, hgl 0 (by cases xs; exact absurd rfl z; simp)]
  · simp
  · rcases Nat.lt_trichotomy i xs.length with q | q | q
    · rw [hgl i q] at hi
      by_cases z : i + 1 = xs.length
      · have : tl = some b := by rw [ht, show xs.length - 1 = i by omega]; exact hi
        rw [h2 b this, z, hge]
      · rw [hgl (i + 1) (by omega), h3 b (List.mem_of_getElem? hi) (fun t => ?_), hn i b hi]
        rw [ht] at t
        have := nd_inj hN hi t
        omega
    · subst q
      rw [hge] at hi
      cases hi
      rw [h1, hgg _ (by omega)]
    · rw [hgg i q] at hi
      cases hi
  · rcases Nat.lt_trichotomy (i + 1) xs.length with q | q | q
    · rw [hgl _ q] at hi
      rw [hgl i (by omega), p2 b (List.mem_of_getElem? hi), hp i b hi]
    · rw [q, hge] at hi
      cases hi
      rw [p1, ht, hgl i (by omega), show xs.length - 1 = i by omega]
    · rw [hgg _ q] at hi
      cases hi
  · by_cases z : xs = []
    · rw [z] at hi
      simp at hi
      subst hi
      rw [p1, htn.mpr z]
    · have hl : 0 < xs.length := by cases xs; exact absurd rfl z; simp
      rw [hgl 0 hl] at hi
      rw [p2 b (List.mem_of_getElem? hi), hp0 b hi]
theorem DL.del {nx pv nx' pv' : Nat → Option Nat} {hd tl hd' tl' : Option Nat} {xs : List Nat} {a i : Nat} (h : DL nx pv hd tl xs) (hi : xs[i]? = some a) (h1 : ∀ b, pv a = some b → nx' b = nx a) (h2 : ∀ b ∈ xs, b ≠ a → pv a ≠ some b → nx' b = nx b) (p1 : ∀ b, nx a = some b → pv' b = pv a) (p2 : ∀ b ∈ xs, b ≠ a → nx a ≠ some b → pv' b = pv b)
    (e1 : hd' = if pv a = none then nx a else hd) (e2 : tl' = if nx a = none then pv a else tl) : DL nx' pv' hd' tl' (xs.eraseIdx i) := by
  have hpa := h.pvi hi
  obtain ⟨hN, hh, ht, hn, hp, hp0⟩ := h
  have hna := hn i a hi
  obtain ⟨hil, -⟩ := List.getElem?_eq_some_iff.mp hi
  have hg : ∀ j, (xs.eraseIdx i)[j]? = if j < i then xs[j]? else xs[j + 1]? := fun j => List.getElem?_eraseIdx
  have hsome : ∀ j, j < xs.length → ∃ b, xs[j]? = some b := fun j hj => ⟨_, List.getElem?_eq_getElem hj⟩
  refine ⟨hN.sublist (List.eraseIdx_sublist xs i), ?_, ?_, fun j b hj => ?_, fun j b hj => ?_, fun b hj => ?_⟩
  · rw [e1, hg 0, hpa]
    by_cases z : i = 0
    · rw [if_pos (by rw [if_pos z]), if_neg (by omega), hna, z]
    · obtain ⟨b, hb⟩ := hsome (i - 1) (by omega)
      rw [if_neg (by rw [if_neg z, hb]; simp), if_pos (by omega), hh]
  · rw [e2, hg, hna, List.length_eraseIdx_of_lt hil]
    by_cases z : i + 1 = xs.length
    · rw [if_pos (by rw [z]; simp), hpa]
      by_cases z0 : i = 0
      · rw [if_pos z0, if_neg (by omega), List.getElem?_eq_none (by omega)]
      · rw [if_neg z0, if_pos (by omega), show xs.length - 1 - 1 = i - 1 by omega]
    · obtain ⟨b, hb⟩ := hsome (i + 1) (by omega)
      rw [if_neg (by rw [hb]; simp), ht, if_neg (by omega), show xs.length - 1 - 1 + 1 = xs.length - 1 by omega]
  · rw [hg j] at hj
    rw [hg (j + 1)]
    by_cases q : j < i
    · rw [if_pos q] at hj
      have hba : b ≠ a := fun z => by subst z; have := nd_inj hN hj hi; omega
      by_cases q1 : j + 1 = i
      · rw [h1 b (by rw [hpa, if_neg (by omega), show i - 1 = j by omega]; exact hj), hna, if_neg (by omega), q1]
      · rw [h2 b (List.mem_of_getElem? hj) hba (fun t => ?_), hn j b hj, if_pos (by omega)]
        rw [hpa, if_neg (by omega)] at t
        have := nd_inj hN hj t
        omega
    · rw [if_neg q] at hj
      rw [if_neg (by omega), h2 b (List.mem_of_getElem? hj) (fun z => by subst z; have := nd_inj hN hj hi; omega) (fun t => ?_), hn (j + 1) b hj]
      rw [hpa] at t
      by_cases z : i = 0
      · rw [if_pos z] at t; cases t
      · rw [if_neg z] at t
        have := nd_inj hN hj t
        omega
  · rw [hg (j + 1)] at hj
    rw [hg j]
    by_cases q : j + 1 < i
    · rw [if_pos q] at hj
      rw [if_pos (by omega), p2 b (List.mem_of_getElem? hj) (fun z => by subst z; have := nd_inj hN hj hi; omega) (fun t => ?_), hp j b hj]
      rw [hna] at t
      have := nd_inj hN hj t
      omega
    · rw [if_neg q] at hj
      by_cases q1 : j + 1 = i
      · rw [if_pos (by omega), p1 b (by rw [hna, ← q1]; exact hj), hpa, if_neg (by omega), ← q1]
        rfl
      · rw [if_neg (by omega), p2 b (List.mem_of_getElem? hj) (fun z => by subst z; have := nd_inj hN hj hi; omega) (fun t => ?_), hp (j + 1) b hj]
        rw [hna] at t
        have := nd_inj hN hj t
        omega
  · rw [hg 0] at hj
    by_cases z : i = 0
    · rw [if_neg (by omega)] at hj
      rw [p1 b (by rw [hna, z]; exact hj), hpa, if_pos z]
    · rw [if_pos (by omega)] at hj
      by_cases z1 : nx a = some b
      · rw [hna] at z1
        have := nd_inj hN hj z1
        omega
      · rw [p2 b (List.mem_of_getElem? hj) (fun w => by subst w; have := nd_inj hN hj hi; omega) z1, hp0 b hj]
