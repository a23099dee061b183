/-! THE ABSTRACT CORE that both sides are tied to: entries (key, value) in their order; keys as they came to their bins; 1 wide, 2 times, 3 plus, 4 access, 5 limit; which bins are trees -/
def bI (b : Bool) : Int32 := bif b then nI 1 else nI 0
theorem bI_nar (b : Bool) : narrow .boolean (.int (bI b)) = .int (bI b) := by cases b <;> rfl
theorem bI_0 {b : Bool} : bI b = 0 ↔ b = false := by cases b <;> decide
theorem bI_n0 {b : Bool} : ¬ bI b = 0 ↔ b = true := by cases b <;> decide
def inB (v lo hi : Int32) : Bool := decide (lo ≤ v) && decide (v ≤ hi)
theorem inB_of {v : Int32} {N : Nat} (hN : N < 2 ^ 31) (h : inB v (nI 0) (nI N) = true) : ∃ j, j ≤ N ∧ v = nI j := by
  simp only [inB, Bool.and_eq_true, decide_eq_true_eq] at h
  exact nI_of2 (M := nI N) (nI_toInt hN) (by have := h.1; rw [nI_0] at this; exact Int32.not_lt.mpr this) h.2
theorem inB_nI {j N : Nat} (hj : j < 2 ^ 31) (hN : N < 2 ^ 31) : inB (nI j) (nI 0) (nI N) = decide (j ≤ N) := by
  unfold inB
  rw [decide_eq_true (nI_le (Nat.zero_le j) hj), Bool.true_and]
  exact decide_eq_decide.mpr (nI_leI hj hN)
theorem nx_xor (a b : Nat) : nI a ^^^ nI b = nI (a ^^^ b) := by
  apply Int32.toBitVec_inj.1
  show BitVec.ofNat 32 a ^^^ BitVec.ofNat 32 b = BitVec.ofNat 32 (a ^^^ b)
  apply BitVec.eq_of_getLsbD_eq
  intro i hi
  simp [hi]
theorem nx_and (a b : Nat) : nI a &&& nI b = nI (a &&& b) := by
  apply Int32.toBitVec_inj.1
  show BitVec.ofNat 32 a &&& BitVec.ofNat 32 b = BitVec.ofNat 32 (a &&& b)
  apply BitVec.eq_of_getLsbD_eq
  intro i hi
  simp [hi]
def hsh (t p k : Nat) : Nat := ((k * t + p) % 65536) ^^^ ((k * t + p) % 65536 / 16)
theorem hsh_lt (t p k : Nat) : hsh t p k < 65536 := by
  unfold hsh
  have h1 : (k * t + p) % 65536 < 2 ^ 16 := Nat.mod_lt _ (by decide)
  have h2 : (k * t + p) % 65536 / 16 < 2 ^ 16 := Nat.lt_of_le_of_lt (Nat.div_le_self _ _) h1
  exact Nat.xor_lt_two_pow h1 h2
def prio (k : Nat) : Nat := (k * 40503 + 12345) % 65536
theorem prio_lt (k : Nat) : prio k < 65536 := Nat.mod_lt _ (by decide)
/-- whether a key is above another one in a tree -/
def abv (x y : Nat) : Bool := decide (prio y < prio x) || (decide (prio x = prio y) && decide (x < y))
abbrev Co : Type := List (Nat × Nat) × List Nat × (Nat → Nat) × (Nat → Bool)
abbrev k_es (c : Co) : List (Nat × Nat) := c.1
abbrev k_cs (c : Co) : List Nat := c.2.1
abbrev k_n (c : Co) : Nat → Nat := c.2.2.1
abbrev k_tr (c : Co) : Nat → Bool := c.2.2.2
def k_ks (c : Co) : List Nat := (k_es c).map (·.1)
def k_h (c : Co) (k : Nat) : Nat := hsh (k_n c 2) (k_n c 3) k
def k_b (c : Co) (k : Nat) : Nat := k_h c k % k_n c 1
def k_row (c : Co) (b : Nat) : List Nat := (k_cs c).filter (fun k => k_b c k == b)
def k_mi (c : Co) (b : Nat) : Nat := (k_row c b).length
/-- whether a key is ahead of another one in a tree's order -/
def ahd (c : Co) (x y : Nat) : Bool := decide (k_h c x < k_h c y) || (decide (k_h c x = k_h c y) && decide (x < y))
def CI (c : Co) : Prop := (k_ks c).Nodup ∧ (∀ e ∈ k_es c, e.1 ≤ 999999 ∧ e.2 ≤ 9999) ∧ (k_cs c).Perm (k_ks c) ∧ (k_es c).length ≤ 49 ∧ (∃ j, 3 ≤ j ∧ j ≤ 6 ∧ k_n c 1 = 2 ^ j) ∧ k_n c 2 ≤ 999 ∧ k_n c 3 ≤ 999 ∧ k_n c 4 ≤ 1 ∧ k_n c 5 ≤ 48 ∧ ∀ b, k_tr c b = true → b < k_n c 1
theorem CI.w {c : Co} (h : CI c) : 8 ≤ k_n c 1 ∧ k_n c 1 ≤ 64 := by
  obtain ⟨-, -, -, -, ⟨j, h1, h2, h3⟩, -⟩ := h
  rw [h3]
  have : j = 3 ∨ j = 4 ∨ j = 5 ∨ j = 6 := by omega
  rcases this with rfl | rfl | rfl | rfl <;> decide
theorem k_h_lt (c : Co) (k : Nat) : k_h c k < 65536 := hsh_lt _ _ _
theorem k_b_lt {c : Co} (h : CI c) (k : Nat) : k_b c k < k_n c 1 := Nat.mod_lt _ (by have := h.w; omega)
theorem k_len {c : Co} : (k_ks c).length = (k_es c).length := by simp [k_ks]
theorem CI.cslen {c : Co} (h : CI c) : (k_cs c).length = (k_es c).length := by rw [h.2.2.1.length_eq, k_len]
theorem k_mi_le {c : Co} (h : CI c) (b : Nat) : k_mi c b ≤ (k_es c).length := by
  rw [← h.cslen]
  exact List.length_filter_le _ _
theorem k_mi_cnt {c : Co} (h : CI c) (b : Nat) : k_mi c b = (k_es c).countP (fun e => k_b c e.1 == b) := by
  unfold k_mi k_row
  rw [← List.countP_eq_length_filter, h.2.2.1.countP_eq, k_ks, List.countP_map]
  rfl
theorem cnt_take {α : Type} (p : α → Bool) (l : List α) {e : Nat} {x : α} (h : l[e]? = some x) : (l.take (e + 1)).countP p = (l.take e).countP p + if p x = true then 1 else 0 := by
  rw [List.take_add_one, h, List.countP_append]
  simp [List.countP_cons]
