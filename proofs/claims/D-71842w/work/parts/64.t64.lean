/-! THE CLASS: the table grows -/
set_option maxRecDepth 10000
theorem mod2 {h n : Nat} (hn : 0 < n) : h % n = if h % (2 * n) < n then h % (2 * n) else h % (2 * n) - n := by
  have h1 : h % (2 * n) % n = h % n := Nat.mod_mod_of_dvd h ⟨2, by rw [Nat.mul_comm]⟩
  have h2 : h % (2 * n) < 2 * n := Nat.mod_lt _ (by omega)
  rw [← h1]
  split
  · exact Nat.mod_eq_of_lt (by assumption)
  · rw [Nat.mod_eq_sub_mod (by omega), Nat.mod_eq_of_lt (by omega)]
theorem row_lo {c : Co} {b : Nat} (hb : b < k_n c 1) : k_row (k_grow c) b = (k_row c b).filter (fun k => k_h c k % (2 * k_n c 1) == b) := by
  unfold k_row
  rw [List.filter_filter]
  refine List.filter_congr fun k _ => ?_
  show (k_h c k % (2 * k_n c 1) == b) = ((k_h c k % (2 * k_n c 1) == b) && (k_h c k % k_n c 1 == b))
  have := mod2 (h := k_h c k) (n := k_n c 1) (by omega)
  by_cases e : k_h c k % (2 * k_n c 1) = b
  · rw [if_pos (by omega)] at this
    rw [this]
    simp [e]
  · simp [e]
theorem row_hi {c : Co} {b : Nat} (hb : b < k_n c 1) : k_row (k_grow c) (b + k_n c 1) = (k_row c b).filter (fun k => !(k_h c k % (2 * k_n c 1) == b)) := by
  unfold k_row
  rw [List.filter_filter]
  refine List.filter_congr fun k _ => ?_
  show (k_h c k % (2 * k_n c 1) == b + k_n c 1) = (!(k_h c k % (2 * k_n c 1) == b) && (k_h c k % k_n c 1 == b))
  have := mod2 (h := k_h c k) (n := k_n c 1) (by omega)
  have h2 : k_h c k % (2 * k_n c 1) < 2 * k_n c 1 := Nat.mod_lt _ (by omega)
  rw [this]
  generalize k_h c k % (2 * k_n c 1) = r at *
  rw [Bool.eq_iff_iff]
  simp only [beq_iff_eq, Bool.and_eq_true, Bool.not_eq_true', beq_eq_false_iff_ne, ne_eq]
  split <;> omega
def GR (c : Co) (b x : Nat) : List Nat := if b ≤ x ∧ x < k_n c 1 then k_row c x else k_row (k_grow c) x
def GT (c : Co) (b x : Nat) : Bool := if b ≤ x ∧ x < k_n c 1 then k_tr c x else k_tr (k_grow c) x
theorem mem_GR {c : Co} {b x k : Nat} (hn : 0 < k_n c 1) (h : k ∈ GR c b x) : k ∈ k_cs c ∧ k_h c k % k_n c 1 = if x < k_n c 1 then x else x - k_n c 1 := by
  unfold GR at h
  by_cases e : b ≤ x ∧ x < k_n c 1
  · rw [if_pos e] at h
    have h := List.mem_filter.mp h
    rw [if_pos e.2]
    exact ⟨h.1, by have := h.2; simpa [k_b] using this⟩
  · rw [if_neg e] at h
    have h := List.mem_filter.mp h
    have h2 : k_h c k % (2 * k_n c 1) = x := by have := h.2; simpa using (show (k_h c k % (2 * k_n c 1) == x) = true from this)
    refine ⟨h.1, ?_⟩
    rw [mod2 hn, h2]
/-- all through a turn of the loop -/
def GS6 (ad : Nat → Nat) (o bs : Nat) (σ : Sg) (B : Nat → Nat) (c : Co) (b : Nat) (σ' : Sg) : Prop := MO o bs σ' ∧ EN ad (k_h c) σ' (k_cs c) ∧ BX ad (k_h c) bs σ' B (fun x => x < k_n c 1 + b ∧ x ≠ b) (GR c b) (GT c b) ∧ (∀ x, k_n c 1 + b ≤ x → x < 64 → ar σ' bs x = none) ∧ fi σ' 1 o = nI (2 * k_n c 1) ∧ FG [1, 42] [26, 27, 28, 29, 40, 41, 60] [bs] σ σ'
theorem GS6.fk {ad : Nat → Nat} {o bs : Nat} {σ : Sg} {B : Nat → Nat} {c : Co} {b : Nat} {σ' σ2 : Sg} {S : List Nat} (h : GS6 ad o bs σ B c b σ') (hF : FK ad S σ' σ2) (hb : b < k_n c 1) (hS : ∀ k ∈ S, k ∈ k_row c b) : GS6 ad o bs σ B c b σ2 := by
  obtain ⟨h1, h2, h3, h4, h5, h6⟩ := h
  refine ⟨h1.keep hF (fun z => by omega), h2.fk hF, ?_, ?_, ?_, h6.tr (FK.fg hF (by decide))⟩
  · refine h3.fk hF h1.2.2.1 h2 (fun k hk => (List.mem_filter.mp (hS k hk)).1) (fun x hx k hk => ?_)
    have hk := mem_GR (by omega) hk
    refine ⟨hk.1, fun z => ?_⟩
    have hz := (List.mem_filter.mp (hS k z)).2
    have hz : k_h c k % k_n c 1 = b := by simpa [k_b] using hz
    rw [hz] at hk
    have h := hk.2
    split at h <;> omega
  · intro x hx hx2
    rw [(hF.2.2.2 bs (by have := h1.2.2.1; omega) id).2]
    exact h4 x hx hx2
  · rw [hF.2.1 1 o (by have := h1.1; omega) id]
    exact h5
section T64
variable {D : Dx} {ad : Nat → Nat} {o bs : Nat} {σ : Sg} {B : Nat → Nat} {c : Co}
theorem RW.fk {hs : Nat → Nat} {b : Nat} {L S : List Nat} {t : Bool} {σ σ' : Sg} (h : RW ad hs σ b L t) (hF : FK ad S σ σ') (hE : EN ad hs σ (S ++ L)) (hd : ∀ k ∈ L, k ∉ S) : RW ad hs σ' b L t :=
  h.keep hF (fun k hk => hE.nz k (by simp [hk])) id (fun g hg z => by omega) (fun k hk g h1 h2 z => by
    obtain ⟨-, j, hj, e⟩ := z
    have := hE.inj (by simp [hk]) (by simp [hj]) e
    subst this
    exact hd k hk hj)
set_option maxHeartbeats 2000000 in
theorem cx_grows (hM : MO o bs σ) (hX : XB ad o bs σ B c) (hI : CI c) (hw : k_n c 1 ≤ 32) : Ct (wX D) yX0_grows cX0_grows 9 none [.ref o] σ (PV (fun σ' => (∃ B', XB ad o bs σ' B' (k_grow c)) ∧ FG [1, 42] [26, 27, 28, 29, 40, 41, 60] [bs] σ σ')) 60 128 448 := by
  obtain ⟨j, hj3, hj6, hjn⟩ := hI.2.2.2.2.1
  have hw8 := hI.w.1
  have hn2 : 2 * k_n c 1 = 2 ^ (j + 1) := by rw [hjn, Nat.pow_succ, Nat.mul_comm]
  have hj5 : j ≤ 5 := by
    rcases Nat.lt_or_ge 5 j with h | h
    · have : j = 6 := by omega
      rw [this] at hjn
      omega
    · exact h
  have hcsl : (k_cs c).length ≤ 49 := by rw [hI.cslen]; exact hI.2.2.2.1
  have hrowl : ∀ b, (k_row c b).length ≤ 49 := fun b => Nat.le_trans (List.length_filter_le _ _) hcsl
  obtain ⟨hE0, hB0, hN0, e1, e5, e6⟩ := hX
  refine Ct.of KXok (by decide) (Nat.le_of_ble_eq_true rfl) rfl fun Y C hQ hNm => ?_
  have loop : ∀ m b, b + m = k_n c 1 → ∀ (σ1 : Sg) (B : Nat → Nat) (x3 x4 x5 x6 x7 x8 : Option Value), loC x3 → loC x4 → loC x5 → loC x6 → loC x7 → loC x8 → MO o bs σ1 → EN ad (k_h c) σ1 (k_cs c) → BX ad (k_h c) bs σ1 B (fun x => x < k_n c 1 + b) (GR c b) (GT c b) → (∀ x, k_n c 1 + b ≤ x → x < 64 → ar σ1 bs x = none) → fi σ1 1 o = nI (2 * k_n c 1) → FG [1, 42] [26, 27, 28, 29, 40, 41, 60] [bs] σ σ1 → Zj (wX D) Y σ1 (4 * b) (14 * b) 17 [some (.ref o), some (.int (nI (k_n c 1))), some (.int (nI b)), x3, x4, x5, x6, x7, x8] [] := by
    intro m
    induction m with
    | zero =>
      intro b hbm σ1 B x3 x4 x5 x6 x7 x8 y3 y4 y5 y6 y7 y8 hM1 hE1 hB1 hN1 f1 hF1
      have hbm : b = k_n c 1 := hbm
      subst hbm
      refine z_il2 (q := 18) C dX0_grows_17 rfl ?_
      refine z_il1 (q := 19) C dX0_grows_18 rfl ?_
      refine z_icmp_geN (tgt := 178) (q := 22) C dX0_grows_19 (by decide) rfl (by omega) (by omega) (fun c19 => ?_) (fun c19 => absurd c19 (by omega))
      refine z_vret C hQ dX0_grows_178 (by omega) (by omega) ?_
      refine ⟨rfl, ⟨B, hE1, (hB1.sub (fun x hx => ?_)).eq (fun x hx => ?_), fun x hx hx2 => ?_, f1, ?_, ?_⟩, hF1⟩
      · have hx : x < 2 * k_n c 1 := hx
        omega
      · exact ⟨(if_neg (by omega)).symm, (if_neg (by omega)).symm⟩
      · have hx : 2 * k_n c 1 ≤ x := hx
        exact hN1 x (by omega) hx2
      · rw [hF1.gi (by have := hM.1; omega) (by decide)]; exact e5
      · rw [hF1.gi (by have := hM.1; omega) (by decide)]; exact e6
    | succ m ih =>
      intro b hbm σ1 B x3 x4 x5 x6 x7 x8 y3 y4 y5 y6 y7 y8 hM1 hE1 hB1 hN1 f1 hF1
      have hb : b < k_n c 1 := by omega
      obtain ⟨ho, h0, hbk, hln⟩ := id hM1
      obtain ⟨-, hab, hwb⟩ := hB1.1 b (by omega)
      rw [show GR c b b = k_row c b from if_pos ⟨Nat.le_refl _, hb⟩, show GT c b b = k_tr c b from if_pos ⟨Nat.le_refl _, hb⟩] at hwb
      have hBnz : ∀ y, y < k_n c 1 + b → kd σ1 (B y) ≠ 0 := fun y hy => (hB1.1 y hy).2.2.nz
      have hrs : ∀ k ∈ k_row c b, k ∈ k_cs c := fun k hk => (List.mem_filter.mp hk).1
      have hrn := hI.rownd b
      -- what comes behind both are made
      have ph3 : ∀ (σ6 : Sg) (a5 a6 : Nat) (x4 z5 z6 z7 z8 : Option Value), loC x4 → loC z5 → loC z6 → loC z7 → loC z8 → GS6 ad o bs σ B c b σ6 → ar σ6 bs b = some a5 → RW ad (k_h c) σ6 a5 (k_row (k_grow c) b) (k_tr (k_grow c) b) → RW ad (k_h c) σ6 a6 (k_row (k_grow c) (b + k_n c 1)) (k_tr (k_grow c) (b + k_n c 1)) → kd σ1 a5 = 0 → kd σ1 a6 = 0 → a5 ≠ a6 → Zj (wX D) Y σ6 (4 * b + 4) (14 * b + 14) 171 [some (.ref o), some (.int (nI (k_n c 1))), some (.int (nI b)), some (.ref (B b)), x4, z5, z6, z7, z8] [.ref a6, .int (nI (b + k_n c 1)), .ref bs] := by
        intro σ6 a5 a6 x4 z5 z6 z7 z8 u4 u5 u6 u7 u8 hG ha5 hw5 hw6 n5 n6 n56
        obtain ⟨hM6, hE6, hB6, hN6, f6, hF6⟩ := hG
        have hbk6 := hM6.2.2.1
        have hln6 := hM6.2.2.2
        have hsq : BX ad (k_h c) bs (sQ bs (b + k_n c 1) (some a6) σ6) (fun y => if y = b then a5 else if y = b + k_n c 1 then a6 else B y) (fun x => x < k_n c 1 + (b + 1)) (GR c (b + 1)) (GT c (b + 1)) := by
          have h1 : BX ad (k_h c) bs σ6 (fun y => if y = b then a5 else B y) (fun x => x < k_n c 1 + b) (GR c (b + 1)) (GT c (b + 1)) := by
            refine hB6.add (x := b) (by omega) (by rw [if_pos rfl]; exact ha5) ?_ (fun y hy => ⟨if_neg hy.2, ?_, ?_⟩) (fun y hy hyx => ?_) (fun y hy hyx k hk hk2 => ?_) (fun y hy => ?_)
            · rw [if_pos rfl, show GR c (b + 1) b = k_row (k_grow c) b from if_neg (by omega), show GT c (b + 1) b = k_tr (k_grow c) b from if_neg (by omega)]
              exact hw5
            · unfold GR
              by_cases e : b + 1 ≤ y ∧ y < k_n c 1
              · rw [if_pos e, if_pos (by omega)]
              · rw [if_neg e, if_neg (by omega)]
            · unfold GT
              by_cases e : b + 1 ≤ y ∧ y < k_n c 1
              · rw [if_pos e, if_pos (by omega)]
              · rw [if_neg e, if_neg (by omega)]
            · rw [if_pos rfl]
              intro z
              exact hBnz y hy.1 (by rw [z]; exact n5)
            · have g1 := (mem_GR (by omega) hk).2
              have g2 := (mem_GR (by omega) hk2).2
              rw [g1, if_pos hb] at g2
              split at g2 <;> omega
            · by_cases e : y = b
              · exact Or.inl e
              · exact Or.inr ⟨hy, e⟩
          refine (h1.sq (x := b + k_n c 1) (r := some a6) (fun z => by omega)).add (x := b + k_n c 1) (by omega) ?_ ?_ (fun y hy => ⟨?_, rfl, rfl⟩) (fun y hy hyx => ?_) (fun y hy hyx k hk hk2 => ?_) (fun y hy => by omega)
          · rw [if_neg (by omega), if_pos rfl]
            exact up2_s
          · rw [if_neg (by omega), if_pos rfl, show GR c (b + 1) (b + k_n c 1) = k_row (k_grow c) (b + k_n c 1) from if_neg (by omega), show GT c (b + 1) (b + k_n c 1) = k_tr (k_grow c) (b + k_n c 1) from if_neg (by omega)]
            exact hw6
          · by_cases e : y = b
            · rw [if_pos e, if_pos e]
            · rw [if_neg e, if_neg e, if_neg (by omega)]
          · rw [if_neg (show ¬ b + k_n c 1 = b by omega), if_pos rfl]
            by_cases e : y = b
            · rw [if_pos e]; exact n56
            · rw [if_neg e]
              intro z
              exact hBnz y hy (by rw [z]; exact n6)
          · have hk1 : k_h c k % (2 * k_n c 1) = b + k_n c 1 := by
              rw [show GR c (b + 1) (b + k_n c 1) = k_row (k_grow c) (b + k_n c 1) from if_neg (by omega)] at hk
              have := (List.mem_filter.mp hk).2
              simpa using (show (k_h c k % (2 * k_n c 1) == b + k_n c 1) = true from this)
            have g1 := (mem_GR (by omega) hk).2
            have g2 := (mem_GR (by omega) hk2).2
            rw [if_neg (by omega)] at g1
            rw [g1] at g2
            have hyb : y = b := by split at g2 <;> omega
            subst hyb
            rw [show GR c (y + 1) y = k_row (k_grow c) y from if_neg (by omega)] at hk2
            have := (List.mem_filter.mp hk2).2
            have : k_h c k % (2 * k_n c 1) = y := by simpa using (show (k_h c k % (2 * k_n c 1) == y) = true from this)
            omega
        have hg := ih (b + 1) (by omega) (sQ bs (b + k_n c 1) (some a6) σ6) _ (some (.ref (B b))) x4 z5 z6 z7 z8 loC_r u4 u5 u6 u7 u8 (hM6.keep (σ' := sQ bs (b + k_n c 1) (some a6) σ6) (pi := fun _ _ => False) (pr := fun _ _ => False) (pa := fun _ => True) (FR.rf.wQ (fun _ => trivial)) id) hE6 hsq (fun x hx hx2 => by
          rw [show ar (sQ bs (b + k_n c 1) (some a6) σ6) bs x = ar σ6 bs x from up2_a (by omega)]
          exact hN6 x (by omega) hx2) f6 (hF6.wQ (fun _ => by simp))
        refine x_aastB (q := 172) C (by assumption) hw6.k34 (by rw [hln6]; omega) (by omega) dX0_grows_171 rfl ?_
        first | refine z_iinc2N (q := 175) C dX0_grows_172 rfl (by first | exact loC_i | exact loC_r | exact loC_n | exact loC_q | exact loC_u) ?_ | refine z_iinc2 (q := 175) C dX0_grows_172 rfl rfl (by first | exact loC_i | exact loC_r | exact loC_n | exact loC_q | exact loC_u) ?_
        refine z_goto (tgt := 17) C dX0_grows_175 (by decide) ?_
        exact hg
      have hsubh : ∀ k ∈ k_row (k_grow c) (b + k_n c 1), k ∈ k_row c b := fun k hk => by rw [row_hi hb] at hk; exact (List.mem_filter.mp hk).1
      have hsubl : ∀ k ∈ k_row (k_grow c) b, k ∈ k_row c b := fun k hk => by rw [row_lo hb] at hk; exact (List.mem_filter.mp hk).1
      have hlh : ∀ k ∈ k_row (k_grow c) b, k ∉ k_row (k_grow c) (b + k_n c 1) := fun k hk z => by
        rw [row_lo hb] at hk
        rw [row_hi hb] at z
        have h1 := (List.mem_filter.mp hk).2
        have h2 := (List.mem_filter.mp z).2
        simp only [h1, Bool.not_true] at h2
        cases h2
      have hndl : (k_row (k_grow c) b).Nodup := by rw [row_lo hb]; exact hrn.sublist List.filter_sublist
      have hndh : (k_row (k_grow c) (b + k_n c 1)).Nodup := by rw [row_hi hb]; exact hrn.sublist List.filter_sublist
      have hll : (k_row (k_grow c) b).length ≤ 49 := by rw [row_lo hb]; exact Nat.le_trans (List.length_filter_le _ _) (hrowl b)
      have hhl : (k_row (k_grow c) (b + k_n c 1)).length ≤ 49 := by rw [row_hi hb]; exact Nat.le_trans (List.length_filter_le _ _) (hrowl b)
      have htl : k_tr (k_grow c) b = (k_tr c b && decide (2 < (k_row (k_grow c) b).length)) := if_pos hb
      have hth : k_tr (k_grow c) (b + k_n c 1) = (k_tr c b && decide (2 < (k_row (k_grow c) (b + k_n c 1)).length)) := by
        refine (if_neg (show ¬ b + k_n c 1 < k_n c 1 by omega)).trans ((if_pos (show b + k_n c 1 < k_n c 1 + k_n c 1 by omega)).trans ?_)
        rw [Nat.add_sub_cancel]
        rfl
      -- the lower one lies; the upper one
      have phB : ∀ (σ6 : Sg) (a5 a6 : Nat) (z5 z7 z8 : Option Value), loC z5 → loC z7 → loC z8 → GS6 ad o bs σ B c b σ6 → ar σ6 bs b = some a5 → RW ad (k_h c) σ6 a5 (k_row (k_grow c) b) (k_tr (k_grow c) b) → RW ad (k_h c) σ6 a6 (k_row (k_grow c) (b + k_n c 1)) false → kd σ1 a5 = 0 → kd σ1 a6 = 0 → a5 ≠ a6 → (∀ a, kd σ6 a = 0 → kd σ1 a = 0) → Zj (wX D) Y σ6 (4 * b + 3) (14 * b + 10) 139 [some (.ref o), some (.int (nI (k_n c 1))), some (.int (nI b)), some (.ref (B b)), some (.int (bI (k_tr c b))), z5, some (.ref a6), z7, z8] [] := by
        intro σ6 a5 a6 z5 z7 z8 u5 u7 u8 hG ha5 hw5 hw6 n5 n6 n56 hz
        obtain ⟨⟨ho6, h06, hbk6, hln6⟩, hE6, hB6, hN6, f6, hF6⟩ := id hG
        first | refine z_al0 (q := 140) C dX0_grows_139 rfl ?_ | refine z_al0q (q := 140) C dX0_grows_139 rfl ?_ | refine z_al0u (q := 140) C dX0_grows_139 rfl ?_
        first | refine xr_X0_14 (q := 143) C (by first | exact ho | exact hk | exact hb | exact he | assumption) (by assumption) dX0_grows_140 rfl ?_ | refine xn_X0_14 (q := 143) C (by first | exact ho | exact hk | exact hb | exact he | assumption) (by assumption) dX0_grows_140 rfl ?_ | refine xg_X0_14 (q := 143) C (by first | exact ho | exact hk | exact hb | exact he | assumption) dX0_grows_140 rfl ?_
        refine z_il2 (q := 144) C dX0_grows_143 rfl ?_
        refine z_il1 (q := 145) C dX0_grows_144 rfl ?_
        first | refine z_iaddN (q := 146) C dX0_grows_145 rfl ?_ | refine z_iadd (q := 146) C dX0_grows_145 rfl ?_
        refine z_il4 (q := 148) C dX0_grows_146 rfl ?_
        refine z_if_eqB (tgt := 169) (q := 151) C dX0_grows_148 (by decide) rfl (fun c148 => ?_) (fun c148 => ?_)
        · first | refine z_al6 (q := 171) C dX0_grows_169 rfl ?_ | refine z_al6q (q := 171) C dX0_grows_169 rfl ?_ | refine z_al6u (q := 171) C dX0_grows_169 rfl ?_
          exact z_widen (by omega) (by omega) (ph3 σ6 a5 a6 _ z5 _ z7 z8 loC_i u5 loC_r u7 u8 hG ha5 hw5 (by rw [hth, c148]; exact hw6) n5 n6 n56)
        · have h42 := hw6.2.1
          first | refine z_al6 (q := 153) C dX0_grows_151 rfl ?_ | refine z_al6q (q := 153) C dX0_grows_151 rfl ?_ | refine z_al6u (q := 153) C dX0_grows_151 rfl ?_
          refine xc_X0_112 (q := 156) C (cx_size (d := 0) (Or.inl hw6.1)) (by exact hw6.1) dX0_grows_153 rfl rfl rfl (Nat.le_of_ble_eq_true rfl) (by first | decide | omega) (by omega) (by omega) (kkE ?_)
          rw [h42]
          refine z_iconst (q := 157) (v := nI 2) C dX0_grows_156 rfl (by decide) ?_
          refine z_icmp_leN (tgt := 169) (q := 160) C dX0_grows_157 (by decide) rfl (by omega) (by omega) (fun c157 => ?_) (fun c157 => ?_)
          · first | refine z_al6 (q := 171) C dX0_grows_169 rfl ?_ | refine z_al6q (q := 171) C dX0_grows_169 rfl ?_ | refine z_al6u (q := 171) C dX0_grows_169 rfl ?_
            exact z_widen (by omega) (by omega) (ph3 σ6 a5 a6 _ z5 _ z7 z8 loC_i u5 loC_r u7 u8 hG ha5 hw5 (by rw [hth, c148, decide_eq_false (by omega)]; exact hw6) n5 n6 n56)
          · first | refine z_al6 (q := 162) C dX0_grows_160 rfl ?_ | refine z_al6q (q := 162) C dX0_grows_160 rfl ?_ | refine z_al6u (q := 162) C dX0_grows_160 rfl ?_
            refine z_iconst (q := 163) (v := nI 1) C dX0_grows_162 rfl (by decide) ?_
            refine xc_X0_116 (q := 166) C (cx_as (tt := true) (Or.inl hw6.1) hw6.2.2.1.ch (hE6.sub fun k hk => hrs k (hsubh k hk)) hndh (by omega)) dX0_grows_163 rfl rfl rfl (Nat.le_of_ble_eq_true rfl) (by first | decide | omega) (by omega) (by omega) (kkQ fun r163 σ163 h163 => ?_)
            obtain ⟨a7, rfl, n7, hw7, hK7⟩ := h163
            refine z_goto (tgt := 171) C dX0_grows_166 (by decide) ?_
            refine ph3 σ163 a5 a7 _ z5 _ z7 z8 loC_i u5 loC_r u7 u8 (hG.fk hK7 hb hsubh) ?_ (hw5.fk hK7 (hE6.sub fun k hk => ?_) hlh) (by rw [hth, c148, decide_eq_true (by omega)]; exact hw7) n5 (hz a7 n7) (fun z => hw5.nz (by rw [z]; exact n7))
            · rw [(hK7.2.2.2 bs (by omega) id).2]; exact ha5
            · rcases List.mem_append.mp hk with h | h
              · exact hrs k (hsubh k h)
              · exact hrs k (hsubl k h)
      have phA : ∀ (σ5 : Sg) (a5 a6 : Nat) (z5 z7 z8 : Option Value), loC z5 → loC z7 → loC z8 → GS6 ad o bs σ B c b σ5 → RW ad (k_h c) σ5 a5 (k_row (k_grow c) b) (k_tr (k_grow c) b) → RW ad (k_h c) σ5 a6 (k_row (k_grow c) (b + k_n c 1)) false → kd σ1 a5 = 0 → kd σ1 a6 = 0 → a5 ≠ a6 → (∀ a, kd σ5 a = 0 → kd σ1 a = 0) → Zj (wX D) Y σ5 (4 * b + 3) (14 * b + 10) 138 [some (.ref o), some (.int (nI (k_n c 1))), some (.int (nI b)), some (.ref (B b)), some (.int (bI (k_tr c b))), z5, some (.ref a6), z7, z8] [.ref a5, .int (nI b), .ref bs] := by
        intro σ5 a5 a6 z5 z7 z8 u5 u7 u8 hG hw5 hw6 n5 n6 n56 hz
        obtain ⟨⟨ho6, h06, hbk6, hln6⟩, hE6, hB6, hN6, f6, hF6⟩ := id hG
        have hg := phB (sQ bs b (some a5) σ5) a5 a6 z5 z7 z8 u5 u7 u8 ⟨⟨ho6, h06, hbk6, hln6⟩, hE6, hB6.sq (fun z => z.2 rfl), fun x hx hx2 => (up2_a (by omega)).trans (hN6 x hx hx2), f6, hF6.wQ (fun _ => by simp)⟩ up2_s hw5 hw6 n5 n6 n56 hz
        refine x_aastB (q := 139) C (by assumption) hw5.k34 (by rw [hln6]; omega) (by omega) dX0_grows_138 rfl ?_
        exact hg
      -- both rows are made
      have ph1 : ∀ (σ5 : Sg) (a5 a6 : Nat) (z7 z8 : Option Value), loC z7 → loC z8 → GS6 ad o bs σ B c b σ5 → RW ad (k_h c) σ5 a5 (k_row (k_grow c) b) false → RW ad (k_h c) σ5 a6 (k_row (k_grow c) (b + k_n c 1)) false → kd σ1 a5 = 0 → kd σ1 a6 = 0 → a5 ≠ a6 → (∀ a, kd σ5 a = 0 → kd σ1 a = 0) → Zj (wX D) Y σ5 (4 * b + 2) (14 * b + 6) 108 [some (.ref o), some (.int (nI (k_n c 1))), some (.int (nI b)), some (.ref (B b)), some (.int (bI (k_tr c b))), some (.ref a5), some (.ref a6), z7, z8] [] := by
        intro σ5 a5 a6 z7 z8 u7 u8 hG hw5 hw6 n5 n6 n56 hz
        obtain ⟨⟨ho6, h06, hbk6, hln6⟩, hE6, hB6, hN6, f6, hF6⟩ := id hG
        first | refine z_al0 (q := 109) C dX0_grows_108 rfl ?_ | refine z_al0q (q := 109) C dX0_grows_108 rfl ?_ | refine z_al0u (q := 109) C dX0_grows_108 rfl ?_
        first | refine xr_X0_14 (q := 112) C (by first | exact ho | exact hk | exact hb | exact he | assumption) (by assumption) dX0_grows_109 rfl ?_ | refine xn_X0_14 (q := 112) C (by first | exact ho | exact hk | exact hb | exact he | assumption) (by assumption) dX0_grows_109 rfl ?_ | refine xg_X0_14 (q := 112) C (by first | exact ho | exact hk | exact hb | exact he | assumption) dX0_grows_109 rfl ?_
        refine z_il2 (q := 113) C dX0_grows_112 rfl ?_
        refine z_il4 (q := 115) C dX0_grows_113 rfl ?_
        refine z_if_eqB (tgt := 136) (q := 118) C dX0_grows_115 (by decide) rfl (fun c115 => ?_) (fun c115 => ?_)
        · first | refine z_al5 (q := 138) C dX0_grows_136 rfl ?_ | refine z_al5q (q := 138) C dX0_grows_136 rfl ?_ | refine z_al5u (q := 138) C dX0_grows_136 rfl ?_
          exact z_widen (by omega) (by omega) (phA σ5 a5 a6 _ z7 z8 loC_r u7 u8 hG (by rw [htl, c115]; exact hw5) hw6 n5 n6 n56 hz)
        · have h42 := hw5.2.1
          first | refine z_al5 (q := 120) C dX0_grows_118 rfl ?_ | refine z_al5q (q := 120) C dX0_grows_118 rfl ?_ | refine z_al5u (q := 120) C dX0_grows_118 rfl ?_
          refine xc_X0_112 (q := 123) C (cx_size (d := 0) (Or.inl hw5.1)) (by exact hw5.1) dX0_grows_120 rfl rfl rfl (Nat.le_of_ble_eq_true rfl) (by first | decide | omega) (by omega) (by omega) (kkE ?_)
          rw [h42]
          refine z_iconst (q := 124) (v := nI 2) C dX0_grows_123 rfl (by decide) ?_
          refine z_icmp_leN (tgt := 136) (q := 127) C dX0_grows_124 (by decide) rfl (by omega) (by omega) (fun c124 => ?_) (fun c124 => ?_)
          · first | refine z_al5 (q := 138) C dX0_grows_136 rfl ?_ | refine z_al5q (q := 138) C dX0_grows_136 rfl ?_ | refine z_al5u (q := 138) C dX0_grows_136 rfl ?_
            exact z_widen (by omega) (by omega) (phA σ5 a5 a6 _ z7 z8 loC_r u7 u8 hG (by rw [htl, c115, decide_eq_false (by omega)]; exact hw5) hw6 n5 n6 n56 hz)
          · first | refine z_al5 (q := 129) C dX0_grows_127 rfl ?_ | refine z_al5q (q := 129) C dX0_grows_127 rfl ?_ | refine z_al5u (q := 129) C dX0_grows_127 rfl ?_
            refine z_iconst (q := 130) (v := nI 1) C dX0_grows_129 rfl (by decide) ?_
            refine xc_X0_116 (q := 133) C (cx_as (tt := true) (Or.inl hw5.1) hw5.2.2.1.ch (hE6.sub fun k hk => hrs k (hsubl k hk)) hndl (by omega)) dX0_grows_130 rfl rfl rfl (Nat.le_of_ble_eq_true rfl) (by first | decide | omega) (by omega) (by omega) (kkQ fun r130 σ130 h130 => ?_)
            obtain ⟨a7, rfl, n7, hw7, hK7⟩ := h130
            refine z_goto (tgt := 138) C dX0_grows_133 (by decide) ?_
            refine phA σ130 a7 a6 _ z7 z8 loC_r u7 u8 (hG.fk hK7 hb hsubl) (by rw [htl, c115, decide_eq_true (by omega)]; exact hw7) (hw6.fk hK7 (hE6.sub fun k hk => ?_) (fun k hk z => hlh k z hk)) (hz a7 n7) n6 (fun z => hw6.nz (by rw [← z]; exact n7)) (fun a ha => hz a (hK7.z ha))
            rcases List.mem_append.mp hk with h | h
            · exact hrs k (hsubl k h)
            · exact hrs k (hsubh k h)
      refine z_il2 (q := 18) C dX0_grows_17 rfl ?_
      refine z_il1 (q := 19) C dX0_grows_18 rfl ?_
      refine z_icmp_geN (tgt := 178) (q := 22) C dX0_grows_19 (by decide) rfl (by omega) (by omega) (fun c19 => absurd c19 (by omega)) (fun c19 => ?_)
      first | refine z_al0 (q := 23) C dX0_grows_22 rfl ?_ | refine z_al0q (q := 23) C dX0_grows_22 rfl ?_ | refine z_al0u (q := 23) C dX0_grows_22 rfl ?_
      first | refine xr_X0_14 (q := 26) C (by first | exact ho | exact hk | exact hb | exact he | assumption) (by assumption) dX0_grows_23 rfl ?_ | refine xn_X0_14 (q := 26) C (by first | exact ho | exact hk | exact hb | exact he | assumption) (by assumption) dX0_grows_23 rfl ?_ | refine xg_X0_14 (q := 26) C (by first | exact ho | exact hk | exact hb | exact he | assumption) dX0_grows_23 rfl ?_
      refine z_il2 (q := 27) C dX0_grows_26 rfl ?_
      refine x_aald (q := 28) C 3 (by decide) (by decide) (by assumption) (by rw [hln]; omega) (by omega) dX0_grows_27 rfl ?_
      rw [hab]
      first | refine z_as3 (q := 29) C dX0_grows_28 rfl (by first | exact loC_i | exact loC_r | exact loC_n | exact loC_q | exact loC_u) ?_ | refine z_as3q (q := 29) C dX0_grows_28 rfl (by first | exact loC_i | exact loC_r | exact loC_n | exact loC_q | exact loC_u) ?_ | refine z_asu3 (q := 29) C dX0_grows_28 rfl (by first | exact loC_i | exact loC_r | exact loC_n | exact loC_q | exact loC_u) ?_
      first | refine z_al3 (q := 30) C dX0_grows_29 rfl ?_ | refine z_al3q (q := 30) C dX0_grows_29 rfl ?_ | refine z_al3u (q := 30) C dX0_grows_29 rfl ?_
      refine x_isT (q := 33) C hwb.1 q343 dX0_grows_30 rfl ?_
      refine z_is4 (q := 35) C dX0_grows_33 rfl (by first | exact loC_i | exact loC_r | exact loC_n | exact loC_q | exact loC_u) ?_
      refine x_newN (q := 38) (m := 3) C rfl KC2 q150 q151 q85 (by decide) (by omega) (by omega) dX0_grows_35 rfl (fun a35 f35 => ?_)
      refine z_dup (q := 39) C dX0_grows_38 rfl rfl ?_
      refine xc_X0_67 (q := 42) C (cx_initL (d := 0)) dX0_grows_39 rfl rfl rfl (Nat.le_of_ble_eq_true rfl) (by first | decide | omega) (by omega) (by omega) (kkN ?_)
      first | refine z_as5 (q := 44) C dX0_grows_42 rfl (by first | exact loC_i | exact loC_r | exact loC_n | exact loC_q | exact loC_u) ?_ | refine z_as5q (q := 44) C dX0_grows_42 rfl (by first | exact loC_i | exact loC_r | exact loC_n | exact loC_q | exact loC_u) ?_ | refine z_asu5 (q := 44) C dX0_grows_42 rfl (by first | exact loC_i | exact loC_r | exact loC_n | exact loC_q | exact loC_u) ?_
      refine x_newN (q := 47) (m := 3) C rfl KC2 q150 q151 q85 (by decide) (by omega) (by omega) dX0_grows_44 rfl (fun a44 f44 => ?_)
      refine z_dup (q := 48) C dX0_grows_47 rfl rfl ?_
      refine xc_X0_67 (q := 51) C (cx_initL (d := 0)) dX0_grows_48 rfl rfl rfl (Nat.le_of_ble_eq_true rfl) (by first | decide | omega) (by omega) (by omega) (kkN ?_)
      first | refine z_as6 (q := 53) C dX0_grows_51 rfl (by first | exact loC_i | exact loC_r | exact loC_n | exact loC_q | exact loC_u) ?_ | refine z_as6q (q := 53) C dX0_grows_51 rfl (by first | exact loC_i | exact loC_r | exact loC_n | exact loC_q | exact loC_u) ?_ | refine z_asu6 (q := 53) C dX0_grows_51 rfl (by first | exact loC_i | exact loC_r | exact loC_n | exact loC_q | exact loC_u) ?_
      have hK2 : FK ad (k_row c b) σ1 (nO 3 a35 σ1) := FR.rf.wO f35
      have f44' : kd σ1 a44 = 0 := hK2.z f44
      have hK3 : FK ad (k_row c b) σ1 (nO 3 a44 (nO 3 a35 σ1)) := FR.wO hK2 f44
      have hne : a35 ≠ a44 := fun z => by
        rw [← z] at f44
        rw [show kd (nO 3 a35 σ1) a35 = 3 from if_pos rfl] at f44
        cases f44
      have w5 : RW ad (k_h c) (nO 3 a44 (nO 3 a35 σ1)) a35 [] false := (RW.new (ad := ad) (hs := k_h c) (a := a35) (σ := σ1) false).keep (pi := fun _ _ => False) (pr := fun _ _ => False) (pa := fun _ => False) (FR.rf.wO f44) (by simp) id (fun _ _ => id) (by simp)
      have w6 : RW ad (k_h c) (nO 3 a44 (nO 3 a35 σ1)) a44 [] false := RW.new (ad := ad) (hs := k_h c) (a := a44) (σ := nO 3 a35 σ1) false
      have hbk3 : kd (nO 3 a44 (nO 3 a35 σ1)) (B b) = 3 ∨ kd (nO 3 a44 (nO 3 a35 σ1)) (B b) = 4 := by rw [(hK3.1 _ hwb.nz).1]; exact hwb.k34
      have h40 : fr (nO 3 a44 (nO 3 a35 σ1)) 40 (B b) = fr σ1 40 (B b) := hK3.2.2.1 40 _ hwb.nz (fun z => by omega)
      have hc3 : CH ad (fr (nO 3 a44 (nO 3 a35 σ1)) 27) (k_row c b) (fr σ1 40 (B b)) := hwb.2.2.1.ch.congr fun k hk => (if_neg (fun z => by have := (hE1 k (hrs k hk)).1; rw [z, f44'] at this; cases this)).trans (if_neg (fun z => by have := (hE1 k (hrs k hk)).1; rw [z, f35] at this; cases this))
      have hG1 : GS6 ad o bs σ B c b σ1 := ⟨hM1, hE1, hB1.sub (fun x hx => hx.1), hN1, f1, hF1⟩
      generalize nO 3 a44 (nO 3 a35 σ1) = σ3 at *
      have inner : ∀ (Rr P : List Nat) (σ4 : Sg) (r : Option Nat) (y8 : Option Value), P ++ Rr = k_row c b → loC y8 → RW ad (k_h c) σ4 a35 (P.filter (fun k => k_h c k % (2 * k_n c 1) == b)) false → RW ad (k_h c) σ4 a44 (P.filter (fun k => !(k_h c k % (2 * k_n c 1) == b))) false → CH ad (fr σ4 27) Rr r → FK ad (k_row c b) σ1 σ4 → Zj (wX D) Y σ4 (4 * b + 2) (14 * b + 6) 59 [some (.ref o), some (.int (nI (k_n c 1))), some (.int (nI b)), some (.ref (B b)), some (.int (bI (k_tr c b))), some (.ref a35), some (.ref a44), some (va_rf r), y8] [] := by
        intro Rr
        induction Rr with
        | nil =>
          intro P σ4 r y8 hP hy8 g5 g6 hc4 hK4
          have hc4 : r = none := hc4
          subst hc4
          rw [List.append_nil] at hP
          subst hP
          rw [← row_lo hb] at g5
          rw [← row_hi hb] at g6
          show Zj _ _ _ _ _ _ [some (.ref o), some (.int (nI (k_n c 1))), some (.int (nI b)), some (.ref (B b)), some (.int (bI (k_tr c b))), some (.ref a35), some (.ref a44), some .null, y8] []
          first | refine z_al7 (q := 61) C dX0_grows_59 rfl ?_ | refine z_al7q (q := 61) C dX0_grows_59 rfl ?_ | refine z_al7u (q := 61) C dX0_grows_59 rfl ?_
          refine z_ifnull_u (tgt := 108) C dX0_grows_61 (by decide) ?_
          exact ph1 σ4 a35 a44 _ y8 loC_u hy8 (hG1.fk hK4 hb (fun _ h => h)) g5 g6 f35 f44' hne (fun a ha => hK4.z ha)
        | cons k Rr ihR =>
          intro P σ4 r y8 hP hy8 g5 g6 hc4 hK4
          obtain ⟨rfl, hc4⟩ := hc4
          have hG4 := hG1.fk hK4 hb (fun _ h => h)
          obtain ⟨⟨ho4, h04, hbk4, hln4⟩, hE4, hB4, hN4, f4, hF4⟩ := id hG4
          have hkr : k ∈ k_row c b := by rw [← hP]; simp
          obtain ⟨hkd, -, -, hk23, hk5, hk6⟩ := hE4 k (hrs k hkr)
          have hN1' := hrn
          rw [← hP, List.nodup_append, List.nodup_cons] at hN1'
          have hkP : k ∉ P := fun z => hN1'.2.2 k z k (by simp) rfl
          have hsP : ∀ x ∈ P, x ∈ k_row c b := fun x hx => by rw [← hP]; simp [hx]
          have hsR : ∀ x ∈ Rr, x ∈ k_row c b := fun x hx => by rw [← hP]; simp [hx]
          have hlP : P.length ≤ 49 := by have := hrowl b; rw [← hP, List.length_append] at this; omega
          have hRd : ∀ (S : List Nat), (∀ x ∈ S, x ∈ P) → ∀ x ∈ Rr, x ∉ k :: S := fun S hS x hx z => by
            rcases List.mem_cons.mp z with rfl | z
            · exact hN1'.2.1.1 hx
            · exact hN1'.2.2 x (hS x z) x (by simp [hx]) rfl
          have f4' : fi σ4 1 o = nI (2 ^ (j + 1)) := by rw [f4, hn2]
          show Zj _ _ _ _ _ _ [some (.ref o), some (.int (nI (k_n c 1))), some (.int (nI b)), some (.ref (B b)), some (.int (bI (k_tr c b))), some (.ref a35), some (.ref a44), some (.ref (ad k)), y8] []
          first | refine z_al7 (q := 61) C dX0_grows_59 rfl ?_ | refine z_al7q (q := 61) C dX0_grows_59 rfl ?_ | refine z_al7u (q := 61) C dX0_grows_59 rfl ?_
          refine z_ifnull_r (q := 64) C dX0_grows_61 rfl ?_
          first | refine z_al7 (q := 66) C dX0_grows_64 rfl ?_ | refine z_al7q (q := 66) C dX0_grows_64 rfl ?_ | refine z_al7u (q := 66) C dX0_grows_64 rfl ?_
          refine xg_X0_99 (q := 69) C (by exact hkd) dX0_grows_66 rfl ?_
          first | refine z_as8 (q := 71) C dX0_grows_69 rfl (by first | exact loC_i | exact loC_r | exact loC_n | exact loC_q | exact loC_u) ?_ | refine z_as8q (q := 71) C dX0_grows_69 rfl (by first | exact loC_i | exact loC_r | exact loC_n | exact loC_q | exact loC_u) ?_ | refine z_asu8 (q := 71) C dX0_grows_69 rfl (by first | exact loC_i | exact loC_r | exact loC_n | exact loC_q | exact loC_u) ?_
          first | refine z_al0 (q := 72) C dX0_grows_71 rfl ?_ | refine z_al0q (q := 72) C dX0_grows_71 rfl ?_ | refine z_al0u (q := 72) C dX0_grows_71 rfl ?_
          first | refine z_al7 (q := 74) C dX0_grows_72 rfl ?_ | refine z_al7q (q := 74) C dX0_grows_72 rfl ?_ | refine z_al7u (q := 74) C dX0_grows_72 rfl ?_
          refine xg_X0_105 (q := 77) C (by exact hkd) dX0_grows_74 rfl ?_
          rw [hk23]
          refine xc_X0_77 (q := 80) C (cx_binOf (d := 0) ho4 f4' (by omega) (k_h c k) hk6) (by exact ho4) dX0_grows_77 rfl rfl rfl (Nat.le_of_ble_eq_true rfl) (by first | decide | omega) (by omega) (by omega) (kkE ?_)
          refine z_il2 (q := 81) C dX0_grows_80 rfl ?_
          rw [← hn2]
          have hmlt : k_h c k % (2 * k_n c 1) < 2 * k_n c 1 := Nat.mod_lt _ (by omega)
          refine z_icmp_neN (tgt := 94) (q := 84) C dX0_grows_81 (by decide) rfl (by omega) (by omega) (fun c81 => ?_) (fun c81 => ?_)
          · have hf5 : (P ++ [k]).filter (fun k => k_h c k % (2 * k_n c 1) == b) = P.filter (fun k => k_h c k % (2 * k_n c 1) == b) := by rw [List.filter_append]; simp [c81]
            have hf6 : (P ++ [k]).filter (fun k => !(k_h c k % (2 * k_n c 1) == b)) = P.filter (fun k => !(k_h c k % (2 * k_n c 1) == b)) ++ [k] := by rw [List.filter_append]; simp [c81]
            generalize hp6 : P.filter (fun k => !(k_h c k % (2 * k_n c 1) == b)) = P6 at *
            have hP6 : ∀ x ∈ P6, x ∈ P := fun x hx => by rw [← hp6] at hx; exact (List.mem_filter.mp hx).1
            have hP56 : ∀ x ∈ P.filter (fun k => k_h c k % (2 * k_n c 1) == b), x ∉ k :: P6 := fun x hx z => by
              rcases List.mem_cons.mp z with rfl | z
              · exact hkP (List.mem_filter.mp hx).1
              · rw [← hp6] at z
                have h1 := (List.mem_filter.mp hx).2
                have h2 := (List.mem_filter.mp z).2
                simp only [h1, Bool.not_true] at h2
                cases h2
            have hs6 : ∀ x ∈ k :: P6, x ∈ k_row c b := fun x hx => by
              rcases List.mem_cons.mp hx with rfl | hx
              · exact hkr
              · exact hsP x (hP6 x hx)
            first | refine z_al6 (q := 96) C dX0_grows_94 rfl ?_ | refine z_al6q (q := 96) C dX0_grows_94 rfl ?_ | refine z_al6u (q := 96) C dX0_grows_94 rfl ?_
            first | refine z_al7 (q := 98) C dX0_grows_96 rfl ?_ | refine z_al7q (q := 98) C dX0_grows_96 rfl ?_ | refine z_al7u (q := 98) C dX0_grows_96 rfl ?_
            refine xc_X0_108 (q := 101) C (cx_comes3 (d := 0) g6 (hE4.sub fun x hx => hrs x (hs6 x hx)) (fun z => hkP (hP6 k z)) g6.1) (by exact g6.1) dX0_grows_98 rfl rfl rfl (Nat.le_of_ble_eq_true rfl) (by first | decide | omega) (by omega) (by omega) (kkV fun σ98 h98 => ?_)
            obtain ⟨g6', hFB⟩ := h98
            have hg := ihR (P ++ [k]) σ98 (fr σ4 27 (ad k)) (some (va_rf (fr σ4 27 (ad k)))) (by rw [← hP]; simp) loC_q (by rw [hf5]; exact g5.fb hFB hne (hE4.sub fun x hx => hrs x ((List.mem_append.mp hx).elim (hs6 x) (fun h => hsP x (List.mem_filter.mp h).1))) hP56) (by rw [hf6]; exact g6') (hc4.fb (hs := k_h c) hFB (hE4.sub fun x hx => hrs x ((List.mem_append.mp hx).elim (hs6 x) (hsR x))) (hRd P6 hP6)) (hK4.fb hFB hs6 f44')
            first | refine z_al8 (q := 103) C dX0_grows_101 rfl ?_ | refine z_al8q (q := 103) C dX0_grows_101 rfl ?_ | refine z_al8u (q := 103) C dX0_grows_101 rfl ?_
            first | refine z_as7 (q := 105) C dX0_grows_103 rfl (by first | exact loC_i | exact loC_r | exact loC_n | exact loC_q | exact loC_u) ?_ | refine z_as7q (q := 105) C dX0_grows_103 rfl (by first | exact loC_i | exact loC_r | exact loC_n | exact loC_q | exact loC_u) ?_ | refine z_asu7 (q := 105) C dX0_grows_103 rfl (by first | exact loC_i | exact loC_r | exact loC_n | exact loC_q | exact loC_u) ?_
            refine z_goto (tgt := 59) C dX0_grows_105 (by decide) ?_
            exact hg
          · have hf5 : (P ++ [k]).filter (fun k => k_h c k % (2 * k_n c 1) == b) = P.filter (fun k => k_h c k % (2 * k_n c 1) == b) ++ [k] := by rw [List.filter_append]; simp [c81]
            have hf6 : (P ++ [k]).filter (fun k => !(k_h c k % (2 * k_n c 1) == b)) = P.filter (fun k => !(k_h c k % (2 * k_n c 1) == b)) := by rw [List.filter_append]; simp [c81]
            generalize hp5 : P.filter (fun k => k_h c k % (2 * k_n c 1) == b) = P5 at *
            have hP5 : ∀ x ∈ P5, x ∈ P := fun x hx => by rw [← hp5] at hx; exact (List.mem_filter.mp hx).1
            have hP56 : ∀ x ∈ P.filter (fun k => !(k_h c k % (2 * k_n c 1) == b)), x ∉ k :: P5 := fun x hx z => by
              rcases List.mem_cons.mp z with rfl | z
              · exact hkP (List.mem_filter.mp hx).1
              · rw [← hp5] at z
                have h1 := (List.mem_filter.mp z).2
                have h2 := (List.mem_filter.mp hx).2
                simp only [h1, Bool.not_true] at h2
                cases h2
            have hs5 : ∀ x ∈ k :: P5, x ∈ k_row c b := fun x hx => by
              rcases List.mem_cons.mp hx with rfl | hx
              · exact hkr
              · exact hsP x (hP5 x hx)
            first | refine z_al5 (q := 86) C dX0_grows_84 rfl ?_ | refine z_al5q (q := 86) C dX0_grows_84 rfl ?_ | refine z_al5u (q := 86) C dX0_grows_84 rfl ?_
            first | refine z_al7 (q := 88) C dX0_grows_86 rfl ?_ | refine z_al7q (q := 88) C dX0_grows_86 rfl ?_ | refine z_al7u (q := 88) C dX0_grows_86 rfl ?_
            refine xc_X0_108 (q := 91) C (cx_comes3 (d := 0) g5 (hE4.sub fun x hx => hrs x (hs5 x hx)) (fun z => hkP (hP5 k z)) g5.1) (by exact g5.1) dX0_grows_88 rfl rfl rfl (Nat.le_of_ble_eq_true rfl) (by first | decide | omega) (by omega) (by omega) (kkV fun σ88 h88 => ?_)
            refine z_goto (tgt := 101) C dX0_grows_91 (by decide) ?_
            obtain ⟨g5', hFB⟩ := h88
            have hg := ihR (P ++ [k]) σ88 (fr σ4 27 (ad k)) (some (va_rf (fr σ4 27 (ad k)))) (by rw [← hP]; simp) loC_q (by rw [hf5]; exact g5') (by rw [hf6]; exact g6.fb hFB hne.symm (hE4.sub fun x hx => hrs x ((List.mem_append.mp hx).elim (hs5 x) (fun h => hsP x (List.mem_filter.mp h).1))) hP56) (hc4.fb (hs := k_h c) hFB (hE4.sub fun x hx => hrs x ((List.mem_append.mp hx).elim (hs5 x) (hsR x))) (hRd P5 hP5)) (hK4.fb hFB hs5 f35)
            first | refine z_al8 (q := 103) C dX0_grows_101 rfl ?_ | refine z_al8q (q := 103) C dX0_grows_101 rfl ?_ | refine z_al8u (q := 103) C dX0_grows_101 rfl ?_
            first | refine z_as7 (q := 105) C dX0_grows_103 rfl (by first | exact loC_i | exact loC_r | exact loC_n | exact loC_q | exact loC_u) ?_ | refine z_as7q (q := 105) C dX0_grows_103 rfl (by first | exact loC_i | exact loC_r | exact loC_n | exact loC_q | exact loC_u) ?_ | refine z_asu7 (q := 105) C dX0_grows_103 rfl (by first | exact loC_i | exact loC_r | exact loC_n | exact loC_q | exact loC_u) ?_
            refine z_goto (tgt := 59) C dX0_grows_105 (by decide) ?_
            exact hg
      first | refine z_al3 (q := 54) C dX0_grows_53 rfl ?_ | refine z_al3q (q := 54) C dX0_grows_53 rfl ?_ | refine z_al3u (q := 54) C dX0_grows_53 rfl ?_
      refine xc_X0_95 (q := 57) C (fun _ => cx_first (d := 0) hbk3) (fun _ => cx_first (d := 0) hbk3) (by exact hbk3) dX0_grows_54 rfl rfl rfl (Nat.le_of_ble_eq_true rfl) (by first | decide | omega) (by omega) (by omega) (kkE ?_)
      first | refine z_as7 (q := 59) C dX0_grows_57 rfl (by first | exact loC_i | exact loC_r | exact loC_n | exact loC_q | exact loC_u) ?_ | refine z_as7q (q := 59) C dX0_grows_57 rfl (by first | exact loC_i | exact loC_r | exact loC_n | exact loC_q | exact loC_u) ?_ | refine z_asu7 (q := 59) C dX0_grows_57 rfl (by first | exact loC_i | exact loC_r | exact loC_n | exact loC_q | exact loC_u) ?_
      rw [h40]
      exact z_widen (by omega) (by omega) (inner (k_row c b) [] σ3 (fr σ1 40 (B b)) x8 rfl y8 w5 w6 hc3 hK3)
  first | refine z_al0 (q := 1) C dX0_grows_0 rfl ?_ | refine z_al0q (q := 1) C dX0_grows_0 rfl ?_ | refine z_al0u (q := 1) C dX0_grows_0 rfl ?_
  refine xg_X0_62 (q := 4) C (by exact hM.1) dX0_grows_1 rfl ?_
  rw [e1]
  refine z_is1 (q := 5) C dX0_grows_4 rfl (by first | exact loC_i | exact loC_r | exact loC_n | exact loC_q | exact loC_u) ?_
  first | refine z_al0 (q := 6) C dX0_grows_5 rfl ?_ | refine z_al0q (q := 6) C dX0_grows_5 rfl ?_ | refine z_al0u (q := 6) C dX0_grows_5 rfl ?_
  refine z_dup (q := 7) C dX0_grows_6 rfl rfl ?_
  refine xg_X0_62 (q := 10) C (by exact hM.1) dX0_grows_7 rfl ?_
  rw [e1]
  refine z_iconst (q := 11) (v := nI 2) C dX0_grows_10 rfl (by decide) ?_
  first | refine z_imulN (q := 12) C dX0_grows_11 rfl ?_ | refine z_imul (q := 12) C dX0_grows_11 rfl ?_
  refine xp_X0_62 (q := 15) C (by exact hM.1) dX0_grows_12 rfl ?_
  refine z_iconst (q := 16) (v := nI 0) C dX0_grows_15 rfl (by decide) ?_
  refine z_is2 (q := 17) C dX0_grows_16 rfl (by first | exact loC_i | exact loC_r | exact loC_n | exact loC_q | exact loC_u) ?_
  have hF0 : FG [1, 42] [26, 27, 28, 29, 40, 41, 60] [bs] σ (sI 1 o (nI (k_n c 1 * 2)) σ) := FR.rf.wI (fun _ => by simp)
  refine loop (k_n c 1) 0 (by omega) _ B none none none none none none loC_n loC_n loC_n loC_n loC_n loC_n (hM.keep hF0 (by decide)) hE0 ((hB0.sub (fun x hx => ?_)).eq (fun x hx => ?_)) (fun x hx hx2 => hN0 x (by omega) hx2) ?_ hF0
  · have hx : x < k_n c 1 + 0 := hx
    exact hx
  · exact ⟨if_pos ⟨by omega, by omega⟩, if_pos ⟨by omega, by omega⟩⟩
  · rw [fi_sI, if_pos ⟨rfl, rfl⟩, Nat.mul_comm]
end T64
