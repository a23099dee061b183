/-! THE CLASS: an order done -/
set_option maxRecDepth 10000
theorem CI.come {c : Co} (h : CI c) {k v : Nat} (hk : k ≤ 999999) (hv : v ≤ 9999) (hn : k ∉ k_ks c) (hl : (k_es c).length ≤ 48) : CI (k_come c k v) := by
  have e1 : (k_es (k_fit (k_add c k v) (k_b c k) ((k_es c).length + 1))).length = (k_es c).length + 1 := by rw [k_fit_o.1, k_add_len]
  have h1 : CI (k_fit (k_add c k v) (k_b c k) ((k_es c).length + 1)) := (h.add hk hv hn hl).fit (k_b_lt h k)
  unfold k_come
  split
  · exact h1.go (by omega)
  · exact h1
theorem CI.put {c : Co} (h : CI c) {k v : Nat} (hk : k ≤ 999999) (hv : v ≤ 9999) (hl : (k_es c).length ≤ 48) : CI (k_put c k v).2.1 := by
  unfold k_put
  cases hp : k_pl c k with
  | none => exact h.come hk hv (k_pl_none hp) hl
  | some e =>
    obtain ⟨h1, -⟩ := k_pl_some hp
    show CI (if k_n c 4 = 1 then k_mov (k_val c e v) e else k_val c e v)
    split
    · exact (h.val h1 hv).1.mov (by rw [k_val_len]; exact h1)
    · exact (h.val h1 hv).1
theorem CI.get {c : Co} (h : CI c) {k : Nat} : CI (k_get c k).2.1 := by
  unfold k_get
  cases hp : k_pl c k with
  | none => exact h
  | some e =>
    obtain ⟨h1, -⟩ := k_pl_some hp
    show CI (if k_n c 4 = 1 then k_mov c e else c)
    split
    · exact h.mov h1
    · exact h
theorem CI.rem {c : Co} (h : CI c) {k : Nat} : CI (k_rem c k).2.1 := by
  unfold k_rem
  cases hp : k_pl c k with
  | none => exact h
  | some e => exact h.go (k_pl_some hp).1
theorem CI.clr {c : Co} (h : CI c) : CI (k_clr c) := by
  unfold k_clr
  split
  · have g := h.emp
    exact ⟨List.nodup_nil, fun e he => (by cases he), List.Perm.refl _, (by show 0 ≤ 49; omega), g.2.2.2.2⟩
  · exact h
theorem CI.do {c : Co} (h : CI c) (hl : (k_es c).length ≤ 48) {x : Cm} (hk : x.2.1 ≤ 999999) : CI (k_do c x).2.1 := by
  unfold k_do
  split
  · split
    · rename_i q
      exact h.put hk (of_decide_eq_true (Bool.and_eq_true_iff.mp q).1) hl
    · exact h
  · split
    · exact h.get
    · split
      · exact h.rem
      · exact h.clr
/-- what the class answers to an order, what it leaves -/
def b_do (α : Al) (x : Cm) : Int32 × Al := if x.1 = 112 then b_put true α (nI x.2.1) (nI x.2.2) else if x.1 = 103 then b_get true α (nI x.2.1) else if x.1 = 114 then b_rem true α (nI x.2.1) else b_clears true α
theorem isK_n {k : Nat} (hk : k ≤ 999999) : isK (nI k) = true := by
  show inB (nI k) (nI 0) (nI 999999) = true
  rw [inB_N (by omega) (by omega) (by omega), decide_eq_true (Nat.zero_le _), decide_eq_true hk]
  rfl
theorem isV_n {k : Nat} (hk : k ≤ 999999) : isV (nI k) = decide (k ≤ 9999) := by
  show inB (nI k) (nI 0) (nI 9999) = _
  rw [inB_N (by omega) (by omega) (by omega), decide_eq_true (Nat.zero_le _), Bool.true_and]
theorem oI_ok {r : Option Nat} (h : ∀ n, r = some n → n ≤ 999999) : (-1 : Int32) ≤ oI r := by
  cases r with
  | none => show (-1 : Int32) ≤ -1; decide
  | some n =>
    have := h n rfl
    show (-1 : Int32) ≤ nI n
    rw [Int32.le_iff_toInt_le, nI_toInt (by omega)]
    have : (-1 : Int32).toInt = -1 := by decide
    omega
theorem vAt_le {c : Co} (h : CI c) {k e : Nat} (hp : k_pl c k = some e) : vAt c e ≤ 999999 := by
  have := (h.2.1 _ (List.mem_of_getElem? (k_pl_some hp).2.1)).2
  have : vAt c e ≤ 9999 := this
  omega
theorem b_do_eq {α : Al} (h : CI (a_c α)) (hl : (k_es (a_c α)).length ≤ 48) {x : Cm} (hk : x.2.1 ≤ 999999) (hv : x.2.2 ≤ 999999) : (b_do α x).2 = ((k_do (a_c α) x).2.1, a_ps α, a_rf (b_do α x).2, a_ch α + (k_do (a_c α) x).2.2, a_tx α, a_cu α) ∧ ((-1 : Int32) ≤ (b_do α x).1 → (k_do (a_c α) x).1 = 1) ∧ (¬ (-1 : Int32) ≤ (b_do α x).1 → (k_do (a_c α) x).1 = 0) := by
  have ek : kN (nI x.2.1) = x.2.1 := nI_clamp (by omega)
  have ev : kN (nI x.2.2) = x.2.2 := nI_clamp (by omega)
  have e0 : a_ch α + 0 = a_ch α := rfl
  unfold b_do k_do
  by_cases c1 : x.1 = 112
  · rw [if_pos c1, if_pos c1]
    unfold b_put
    rw [isK_n hk, isV_n hv, ek, ev, Bool.true_and]
    cases hd : decide (x.2.2 ≤ 9999) with
    | false =>
      rw [Bool.false_and, if_neg (by decide), if_neg (by decide)]
      exact ⟨rfl, fun z => absurd (show (-1 : Int32) ≤ -2 from z) (by decide), fun _ => rfl⟩
    | true =>
      rw [Bool.true_and, if_pos rfl]
      cases hm : k_may (a_c α) x.2.1 with
      | false =>
        rw [if_neg (by decide), if_neg (by decide)]
        exact ⟨rfl, fun z => absurd (show (-1 : Int32) ≤ -4 from z) (by decide), fun _ => rfl⟩
      | true =>
        rw [if_pos rfl, if_pos rfl]
        refine ⟨rfl, fun _ => rfl, fun z => absurd (oI_ok fun n hn => ?_) z⟩
        unfold k_put at hn
        cases hp : k_pl (a_c α) x.2.1 with
        | none => rw [hp] at hn; cases hn
        | some e =>
          rw [hp] at hn
          cases hn
          exact vAt_le h hp
  · rw [if_neg c1, if_neg c1]
    by_cases c2 : x.1 = 103
    · rw [if_pos c2, if_pos c2]
      unfold b_get
      rw [isK_n hk, ek, if_pos rfl]
      refine ⟨?_, fun _ => rfl, fun z => absurd (oI_ok fun n hn => ?_) z⟩
      · show (if (k_get (a_c α) x.2.1).2.2 = 1 then _ else _) = _
        split
        · rename_i q
          rw [q]; rfl
        · rename_i q
          have : (k_get (a_c α) x.2.1).2.2 = 0 := by
            unfold k_get at q ⊢
            cases hp : k_pl (a_c α) x.2.1 with
            | none => rfl
            | some e =>
              rw [hp] at q
              show (if k_n (a_c α) 4 = 1 then (if e + 1 = (k_es (a_c α)).length then 0 else 1) else 0) = 0
              have q : ¬ (if k_n (a_c α) 4 = 1 then (if e + 1 = (k_es (a_c α)).length then 0 else 1) else 0) = 1 := q
              split at q
              · split at q
                · rename_i z1 z2; rw [if_pos z1, if_pos z2]
                · exact absurd rfl q
              · rename_i z1; rw [if_neg z1]
          rw [this]; rfl
      · unfold k_get at hn
        cases hp : k_pl (a_c α) x.2.1 with
        | none => rw [hp] at hn; cases hn
        | some e =>
          rw [hp] at hn
          cases hn
          exact vAt_le h hp
    · rw [if_neg c2, if_neg c2]
      by_cases c3 : x.1 = 114
      · rw [if_pos c3, if_pos c3]
        unfold b_rem
        rw [isK_n hk, ek, if_pos rfl]
        cases hp : k_pl (a_c α) x.2.1 with
        | none =>
          have e1 : k_rem (a_c α) x.2.1 = (none, a_c α, 0) := by unfold k_rem; rw [hp]
          rw [e1]
          exact ⟨rfl, fun _ => rfl, fun z => absurd (oI_ok fun n hn => by cases hn) z⟩
        | some e =>
          have e1 : k_rem (a_c α) x.2.1 = (some (vAt (a_c α) e), k_go (a_c α) e, 1) := by unfold k_rem; rw [hp]
          rw [e1]
          exact ⟨rfl, fun _ => rfl, fun z => absurd (oI_ok fun n hn => by cases hn; exact vAt_le h hp) z⟩
      · rw [if_neg c3, if_neg c3]
        unfold b_clears
        refine ⟨?_, fun _ => rfl, fun z => absurd (oI_ok (r := some (k_es (a_c α)).length) fun n hn => by cases hn; omega) z⟩
        show (if 0 < (k_es (a_c α)).length then _ else _) = _
        split
        · rfl
        · rename_i q
          have : k_clr (a_c α) = a_c α := by unfold k_clr; rw [if_neg q]
          rw [this]; rfl
theorem num_lt {tx : List Nat} {i : Nat} (h : i ≤ tx.length) (hn : (num tx i).1 = true) : i + 1 ≤ (num tx i).2.1 := by
  have hs := sk_in h
  have := nm_in tx 6 (sk tx i) 0 0 hs.2 (by decide)
  have h0 : 0 < (nm tx 6 (sk tx i) 0 0).2.2 := of_decide_eq_true (Bool.and_eq_true_iff.mp hn).1
  show i + 1 ≤ (nm tx 6 (sk tx i) 0 0).1
  omega
theorem ord_put {tx : List Nat} {i : Nat} {x : Cm} {a : Nat} (hi : i ≤ tx.length) (h : ord tx i = (some x, a)) (hx : x.1 = 112) : i + 4 ≤ a := by
  have hs := sk_in hi
  unfold ord at h
  cases hc : tx[sk tx i]? with
  | none => rw [hc] at h; cases h
  | some ch =>
    have hl := (List.getElem?_eq_some_iff.mp hc).1
    rw [hc] at h
    have h : (if ch = 112 ∨ ch = 103 ∨ ch = 114 ∨ ch = 99 then ord2 tx ch (sk tx i + 1) else (none, sk tx i)) = (some x, a) := h
    split at h
    · unfold ord2 at h
      have hn := num_in (show sk tx i + 1 ≤ tx.length by omega)
      split at h
      · obtain ⟨g1, g2, rfl⟩ := ord4_in (by omega) h
        have hx : ch = 112 := hx
        omega
      · split at h
        · rename_i b1
          have hn1 := num_lt (show sk tx i + 1 ≤ tx.length by omega) b1
          unfold ord3 at h
          split at h
          · split at h
            · rename_i b2
              have hn2 := num_in hn.2.1
              have hn3 := num_lt hn.2.1 b2
              obtain ⟨g1, g2, rfl⟩ := ord4_in (by omega) h
              omega
            · cases h
          · rename_i z
            obtain ⟨g1, g2, rfl⟩ := ord4_in (by omega) h
            exact absurd hx z
        · cases h
    · cases h
theorem ord_ch {tx : List Nat} {i : Nat} {x : Cm} {a : Nat} (hx : ord tx i = (some x, a)) : x.1 = 112 ∨ x.1 = 103 ∨ x.1 = 114 ∨ x.1 = 99 := by
  unfold ord at hx
  split at hx
  · cases hx
  · split at hx
    · rename_i c' _ q
      have : x.1 = c' := by
        unfold ord2 at hx
        split at hx
        · unfold ord4 at hx; split at hx <;> cases hx; rfl
        · split at hx
          · unfold ord3 at hx
            split at hx
            · split at hx
              · unfold ord4 at hx; split at hx <;> cases hx; rfl
              · cases hx
            · unfold ord4 at hx; split at hx <;> cases hx; rfl
          · cases hx
      rw [this]; exact q
    · cases hx
/-- the reader's place -/
def stp (p : Nat → Nat) (a : Nat) : Nat → Nat := fun i => if i = 11 then a else p i
theorem stp_ne {p : Nat → Nat} {a i : Nat} (h : i ≠ 11) : stp p a i = p i := if_neg h
section T89
variable {D : Dx} {p : Nat → Nat} {σ σ' : Sg} {α : Al} {N : Nat} {d : Nat} {q : Bool} {tx : List Nat}
theorem XA.plc (h : XA q D p σ α) (hA : AI N α) {a : Nat} (hF : FG [120] [] [] σ σ') (h1 : fi σ' 120 (p 7) = nI a) : XA q D (stp p a) σ' α := by
  obtain ⟨hX, hq, ⟨ad, B, hC, hU⟩, hP, h9, hR⟩ := h
  have n0 : kd σ (p 0) ≠ 0 := by have := hX.1.1; omega
  obtain ⟨f1, f2, f3, f4, f5, f6, f7, f8, f9, f10⟩ := hX.keep hF (by simp) (by simp)
  have hU2 := hU.go (σ' := σ') (ch' := a_ch α) (ks' := k_ks (a_c α)) (ad' := ad) hX hF (by simp) (by simp) (fun i hi => (hA.2.2.2.2.2.2.2 i hi).2.2.2) (Or.inr ⟨rfl, fun x hx => ⟨hx, rfl⟩⟩)
  have hP2 := hP.keep hX hF (by simp) (by simp) (by simp) (by simp)
  have hC2 := hC.keep hX.1 hF (by simp) (by simp) (by simp)
  have k4 := hX.2.2.2.1.2.1
  have k5 := hX.2.2.2.2.1.2.1
  have k6 := hX.2.2.2.2.2.1.2.1
  refine ⟨⟨f1, f2, f3, f4, f5, f6, f7, fun i hi => ?_, f9, fun i j hi hj => ?_⟩, by rw [show fi σ' 13 (stp p a 0) = fi σ' 13 (p 0) from rfl, hF.gi n0 (by simp)]; exact hq, ⟨ad, B, hC2, fun i hi => ?_⟩, hP2, ?_, ?_⟩
  · rw [stp_ne (i := 8 + i) (by omega)]; exact f8 i hi
  · rw [stp_ne (by omega), stp_ne (by omega)]; exact f10 i j hi hj
  · rw [stp_ne (by omega)]; exact hU2 i hi
  · show fi σ' 9 (p 0) = _
    rw [hF.gi n0 (by simp)]; exact h9
  · refine ⟨fun i hi => ?_, ?_, fun j x hj => ?_, h1, fun i hi => ?_⟩
    · show ai σ' (p 5) i = _
      rw [(hF.2.2.2 (p 5) (by omega) (by simp)).1]; exact hR.1 i hi
    · show fi σ' 15 (p 0) = _
      rw [hF.gi n0 (by simp)]; exact hR.2.1
    · show ai σ' (p 4) j = _
      rw [(hF.2.2.2 (p 4) (by omega) (by simp)).1]; exact hR.2.2.1 j x hj
    · show ai σ' (p 6) i = nI (stp p a (12 + i))
      rw [stp_ne (by omega), (hF.2.2.2 (p 6) (by omega) (by simp)).1]; exact hR.2.2.2.2 i hi
theorem XA.rd (h : XA q D p σ α) (hA : AI N α) : RD p (a_tx α) σ := ⟨h.1, h.2.2.2.2.2.2.1, h.2.2.2.2.2.2.2.1, hA.2.2.2.2.2.1, hA.2.2.2.2.2.2.1⟩
set_option maxHeartbeats 1000000 in
theorem cx_orderF (hR : RD p tx σ) {i : Nat} (hi : i ≤ tx.length) (h120 : fi σ 120 (p 7) = nI i) : CtX (wX D) yX2_order cX2_order 5 (some .int) [.ref (p 7), .int (nI 0)] σ (PI (fun r σ' => (∃ x, ord tx i = (some x, (ord tx i).2)) ∧ r = nI 0 ∧ FG [120] [] [] σ σ' ∧ fi σ' 120 (p 7) = nI (ord tx i).2)) (fun q σ' => (ord tx i).1 = none ∧ kd σ' q = 8 ∧ fi σ' 146 q = nI (ord tx i).2 ∧ FG [120] [] [] σ σ') 7 3 21 := by
  refine CtX.of KXok (by decide) (Nat.le_of_ble_eq_true rfl) rfl fun Y C hQ hNm => ?_
  refine order_parse C hQ (by decide) (by decide) (by decide) hR hi h120 (nI 0) (fun q σ1 g1 g2 g3 g4 => ⟨g4, g1, g2, g3⟩) (fun σ1 ch k v a k1 n1 hF ho g8 hk1 hn1 => ?_)
  refine z_il1 (q := 114) C dX2_order_113 rfl ?_
  first | refine z_if_neB (tgt := 119) (q := 117) C dX2_order_114 (by decide) rfl (fun c114 => ?_) (fun c114 => ?_) | refine z_if_ne (tgt := 119) (q := 117) C dX2_order_114 (by decide) rfl (fun c114 => ?_) (fun c114 => ?_)
  · exact absurd rfl c114
  · refine z_iconst (q := 118) (v := nI 0) C dX2_order_117 rfl (by decide) ?_
    refine zx_iret C hQ dX2_order_118 (by omega) (by omega) ?_
    exact ⟨_, rfl, ⟨_, by rw [ho]⟩, rfl, hF, by rw [ho]; exact g8⟩
set_option maxHeartbeats 1000000 in
theorem cx_orderT (h : XA true D p σ α) (hA : AI N α) (hi : p 11 ≤ (a_tx α).length) {x : Cm} {a : Nat} (hx : ord (a_tx α) (p 11) = (some x, a)) {mc ms : Nat} (hmc : (if x.1 = 112 then 267 else 22) ≤ mc) (hms : (if x.1 = 112 then 1234 else 414) ≤ ms) : CtX (wX D) yX2_order cX2_order 5 (some .int) [.ref (p 7), .int (nI 1)] σ (PI (fun r σ' => r = (b_do α x).1 ∧ XA true D (stp p a) σ' (b_do α x).2)) (fun _ _ => False) 66 mc ms := by
  have hin := ord_in hi hx
  have hch := ord_ch hx
  have h22 : 22 ≤ mc := by split at hmc <;> omega
  have h414 : 414 ≤ ms := by split at hms <;> omega
  refine CtX.of KXok (by decide) (Nat.le_of_ble_eq_true rfl) rfl fun Y C hQ hNm => ?_
  refine order_parse C hQ (by decide) (by omega) (by omega) (h.rd hA) hi h.2.2.2.2.2.2.2.2.1 (nI 1) (fun q σ1 g1 g2 g3 g4 => ?_) (fun σ1 ch k v a k1 n1 hF ho g8 hk1 hn1 => ?_)
  · rw [hx] at g4; cases g4
  rw [hx] at ho
  cases ho
  have h1 : XA true D (stp p a) σ1 α := h.plc hA hF g8
  obtain ⟨r18, k7, r121⟩ := h1.1.2.2.2.2.2.2.1
  have ho1 := h1.1.1.1
  have k7 : kd σ1 (p 7) = 7 := k7
  have r121 : fr σ1 121 (p 7) = some (p 0) := r121
  have ho1 : kd σ1 (p 0) = 1 := ho1
  have pp := cx_put h1 hA (nI k) (nI v)
  have pg := cx_get h1 hA (nI k)
  have pr := cx_remove h1 hA (nI k)
  have pc := cx_clears h1 hA
  rcases hch with rfl | rfl | rfl | rfl
  · rw [if_pos rfl] at hmc hms
    have hpost : b_do α (112, k, v) = b_put true α (nI k) (nI v) := rfl
    rw [hpost] at hQ
    refine z_il1 (q := 114) C dX2_order_113 rfl ?_
    first | refine z_if_neB (tgt := 119) (q := 117) C dX2_order_114 (by decide) rfl (fun c114 => ?_) (fun c114 => ?_) | refine z_if_ne (tgt := 119) (q := 117) C dX2_order_114 (by decide) rfl (fun c114 => ?_) (fun c114 => ?_)
    · refine z_il2 (q := 120) C dX2_order_119 rfl ?_
      refine z_bipush (q := 122) (v := nI 112) C dX2_order_120 rfl (by decide) ?_
      first | refine z_icmp_neN (tgt := 138) (q := 125) C dX2_order_122 (by decide) rfl (by omega) (by omega) (fun c122 => ?_) (fun c122 => ?_) | refine z_icmp_ne (tgt := 138) (q := 125) C dX2_order_122 (by decide) rfl (fun c122 => ?_) (fun c122 => ?_)
      · exact absurd c122 (by omega)
      · first | refine z_al0 (q := 126) C dX2_order_125 rfl ?_ | refine z_al0q (q := 126) C dX2_order_125 rfl ?_ | refine z_al0u (q := 126) C dX2_order_125 rfl ?_
        first | refine xr_X2_3 (q := 129) C (by exact k7) r121 dX2_order_126 rfl ?_ | refine xn_X2_3 (q := 129) C (by exact k7) r121 dX2_order_126 rfl ?_
        refine z_il3 (q := 130) C dX2_order_129 rfl ?_
        refine z_il4 (q := 132) C dX2_order_130 rfl ?_
        refine xc_X2_50 (q := 135) C pp (by exact ho1) dX2_order_132 rfl rfl rfl (Nat.le_of_ble_eq_true rfl) (by first | decide | omega) (by omega) (by omega) (kkI fun r132 σ132 h132 => ?_)
        refine z_goto (tgt := 179) C dX2_order_135 (by decide) ?_
        refine zx_iret C hQ dX2_order_179 (by omega) (by omega) ?_
        exact ⟨_, rfl, h132⟩
    · exact absurd c114 (by decide)
  · have hpost : b_do α (103, k, v) = b_get true α (nI k) := rfl
    rw [hpost] at hQ
    refine z_il1 (q := 114) C dX2_order_113 rfl ?_
    first | refine z_if_neB (tgt := 119) (q := 117) C dX2_order_114 (by decide) rfl (fun c114 => ?_) (fun c114 => ?_) | refine z_if_ne (tgt := 119) (q := 117) C dX2_order_114 (by decide) rfl (fun c114 => ?_) (fun c114 => ?_)
    · refine z_il2 (q := 120) C dX2_order_119 rfl ?_
      refine z_bipush (q := 122) (v := nI 112) C dX2_order_120 rfl (by decide) ?_
      first | refine z_icmp_neN (tgt := 138) (q := 125) C dX2_order_122 (by decide) rfl (by omega) (by omega) (fun c122 => ?_) (fun c122 => ?_) | refine z_icmp_ne (tgt := 138) (q := 125) C dX2_order_122 (by decide) rfl (fun c122 => ?_) (fun c122 => ?_)
      · refine z_il2 (q := 139) C dX2_order_138 rfl ?_
        refine z_bipush (q := 141) (v := nI 103) C dX2_order_139 rfl (by decide) ?_
        first | refine z_icmp_neN (tgt := 155) (q := 144) C dX2_order_141 (by decide) rfl (by omega) (by omega) (fun c141 => ?_) (fun c141 => ?_) | refine z_icmp_ne (tgt := 155) (q := 144) C dX2_order_141 (by decide) rfl (fun c141 => ?_) (fun c141 => ?_)
        · exact absurd c141 (by omega)
        · first | refine z_al0 (q := 145) C dX2_order_144 rfl ?_ | refine z_al0q (q := 145) C dX2_order_144 rfl ?_ | refine z_al0u (q := 145) C dX2_order_144 rfl ?_
          first | refine xr_X2_3 (q := 148) C (by exact k7) r121 dX2_order_145 rfl ?_ | refine xn_X2_3 (q := 148) C (by exact k7) r121 dX2_order_145 rfl ?_
          refine z_il3 (q := 149) C dX2_order_148 rfl ?_
          refine xc_X2_54 (q := 152) C pg (by exact ho1) dX2_order_149 rfl rfl rfl (Nat.le_of_ble_eq_true rfl) (by first | decide | omega) (by omega) (by omega) (kkI fun r149 σ149 h149 => ?_)
          refine z_goto (tgt := 179) C dX2_order_152 (by decide) ?_
          refine zx_iret C hQ dX2_order_179 (by omega) (by omega) ?_
          exact ⟨_, rfl, h149⟩
      · exact absurd c122 (by omega)
    · exact absurd c114 (by decide)
  · have hpost : b_do α (114, k, v) = b_rem true α (nI k) := rfl
    rw [hpost] at hQ
    refine z_il1 (q := 114) C dX2_order_113 rfl ?_
    first | refine z_if_neB (tgt := 119) (q := 117) C dX2_order_114 (by decide) rfl (fun c114 => ?_) (fun c114 => ?_) | refine z_if_ne (tgt := 119) (q := 117) C dX2_order_114 (by decide) rfl (fun c114 => ?_) (fun c114 => ?_)
    · refine z_il2 (q := 120) C dX2_order_119 rfl ?_
      refine z_bipush (q := 122) (v := nI 112) C dX2_order_120 rfl (by decide) ?_
      first | refine z_icmp_neN (tgt := 138) (q := 125) C dX2_order_122 (by decide) rfl (by omega) (by omega) (fun c122 => ?_) (fun c122 => ?_) | refine z_icmp_ne (tgt := 138) (q := 125) C dX2_order_122 (by decide) rfl (fun c122 => ?_) (fun c122 => ?_)
      · refine z_il2 (q := 139) C dX2_order_138 rfl ?_
        refine z_bipush (q := 141) (v := nI 103) C dX2_order_139 rfl (by decide) ?_
        first | refine z_icmp_neN (tgt := 155) (q := 144) C dX2_order_141 (by decide) rfl (by omega) (by omega) (fun c141 => ?_) (fun c141 => ?_) | refine z_icmp_ne (tgt := 155) (q := 144) C dX2_order_141 (by decide) rfl (fun c141 => ?_) (fun c141 => ?_)
        · refine z_il2 (q := 156) C dX2_order_155 rfl ?_
          refine z_bipush (q := 158) (v := nI 114) C dX2_order_156 rfl (by decide) ?_
          first | refine z_icmp_neN (tgt := 172) (q := 161) C dX2_order_158 (by decide) rfl (by omega) (by omega) (fun c158 => ?_) (fun c158 => ?_) | refine z_icmp_ne (tgt := 172) (q := 161) C dX2_order_158 (by decide) rfl (fun c158 => ?_) (fun c158 => ?_)
          · exact absurd c158 (by omega)
          · first | refine z_al0 (q := 162) C dX2_order_161 rfl ?_ | refine z_al0q (q := 162) C dX2_order_161 rfl ?_ | refine z_al0u (q := 162) C dX2_order_161 rfl ?_
            first | refine xr_X2_3 (q := 165) C (by exact k7) r121 dX2_order_162 rfl ?_ | refine xn_X2_3 (q := 165) C (by exact k7) r121 dX2_order_162 rfl ?_
            refine z_il3 (q := 166) C dX2_order_165 rfl ?_
            refine xc_X2_58 (q := 169) C pr (by exact ho1) dX2_order_166 rfl rfl rfl (Nat.le_of_ble_eq_true rfl) (by first | decide | omega) (by omega) (by omega) (kkI fun r166 σ166 h166 => ?_)
            refine z_goto (tgt := 179) C dX2_order_169 (by decide) ?_
            refine zx_iret C hQ dX2_order_179 (by omega) (by omega) ?_
            exact ⟨_, rfl, h166⟩
        · exact absurd c141 (by omega)
      · exact absurd c122 (by omega)
    · exact absurd c114 (by decide)
  · have hpost : b_do α (99, k, v) = b_clears true α := rfl
    rw [hpost] at hQ
    refine z_il1 (q := 114) C dX2_order_113 rfl ?_
    first | refine z_if_neB (tgt := 119) (q := 117) C dX2_order_114 (by decide) rfl (fun c114 => ?_) (fun c114 => ?_) | refine z_if_ne (tgt := 119) (q := 117) C dX2_order_114 (by decide) rfl (fun c114 => ?_) (fun c114 => ?_)
    · refine z_il2 (q := 120) C dX2_order_119 rfl ?_
      refine z_bipush (q := 122) (v := nI 112) C dX2_order_120 rfl (by decide) ?_
      first | refine z_icmp_neN (tgt := 138) (q := 125) C dX2_order_122 (by decide) rfl (by omega) (by omega) (fun c122 => ?_) (fun c122 => ?_) | refine z_icmp_ne (tgt := 138) (q := 125) C dX2_order_122 (by decide) rfl (fun c122 => ?_) (fun c122 => ?_)
      · refine z_il2 (q := 139) C dX2_order_138 rfl ?_
        refine z_bipush (q := 141) (v := nI 103) C dX2_order_139 rfl (by decide) ?_
        first | refine z_icmp_neN (tgt := 155) (q := 144) C dX2_order_141 (by decide) rfl (by omega) (by omega) (fun c141 => ?_) (fun c141 => ?_) | refine z_icmp_ne (tgt := 155) (q := 144) C dX2_order_141 (by decide) rfl (fun c141 => ?_) (fun c141 => ?_)
        · refine z_il2 (q := 156) C dX2_order_155 rfl ?_
          refine z_bipush (q := 158) (v := nI 114) C dX2_order_156 rfl (by decide) ?_
          first | refine z_icmp_neN (tgt := 172) (q := 161) C dX2_order_158 (by decide) rfl (by omega) (by omega) (fun c158 => ?_) (fun c158 => ?_) | refine z_icmp_ne (tgt := 172) (q := 161) C dX2_order_158 (by decide) rfl (fun c158 => ?_) (fun c158 => ?_)
          · first | refine z_al0 (q := 173) C dX2_order_172 rfl ?_ | refine z_al0q (q := 173) C dX2_order_172 rfl ?_ | refine z_al0u (q := 173) C dX2_order_172 rfl ?_
            first | refine xr_X2_3 (q := 176) C (by exact k7) r121 dX2_order_173 rfl ?_ | refine xn_X2_3 (q := 176) C (by exact k7) r121 dX2_order_173 rfl ?_
            refine xc_X2_61 (q := 179) C pc (by exact ho1) dX2_order_176 rfl rfl rfl (Nat.le_of_ble_eq_true rfl) (by first | decide | omega) (by omega) (by omega) (kkI fun r176 σ176 h176 => ?_)
            refine zx_iret C hQ dX2_order_179 (by omega) (by omega) ?_
            exact ⟨_, rfl, h176⟩
          · exact absurd c158 (by omega)
        · exact absurd c141 (by omega)
      · exact absurd c122 (by omega)
    · exact absurd c114 (by decide)
end T89
