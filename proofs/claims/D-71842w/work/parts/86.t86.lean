/-! THE CLASS: a Fault is made; the reader's leaves -/
set_option maxRecDepth 10000
section T86
variable {D : Dx} {p : Nat → Nat} {σ : Sg} {α : Al} {N : Nat} {d : Nat} {Y : Fz} {cc : ByteArray} {ret : Option FieldType} {mc ms k n pc q : Nat} {lo : Lo} {st : List Value} {a : Nat} {As rest : List Value} {b d' mc' ms' : Nat} {P : Option Value → Sg → Prop}
theorem xp_J1_7 (C : Cx (wX D) Y cc RJ1 ret d mc ms) (hk : kd σ a = 8) {r : Option Nat} (hd : decode cc pc = .ok (.putfield 7, 3)) (hq : pc + 3 = q) (g : Zj (wX D) Y (sR 140 a r σ) k n q lo st) : Zj (wX D) Y σ k n pc lo (va_rf r :: .ref a :: st) := xp_J1 C (j := 0) hk (by decide) q763 hd hq g
theorem xp_J1_17 (C : Cx (wX D) Y cc RJ1 ret d mc ms) (hk : kd σ a = 8) {r : Option Nat} (hd : decode cc pc = .ok (.putfield 17, 3)) (hq : pc + 3 = q) (g : Zj (wX D) Y (sR 141 a r σ) k n q lo st) : Zj (wX D) Y σ k n pc lo (va_rf r :: .ref a :: st) := xp_J1 C (j := 1) hk (by decide) q764 hd hq g
theorem xp_J1_24 (C : Cx (wX D) Y cc RJ1 ret d mc ms) (hk : kd σ a = 8) {r : Option Nat} (hd : decode cc pc = .ok (.putfield 24, 3)) (hq : pc + 3 = q) (g : Zj (wX D) Y (sR 142 a r σ) k n q lo st) : Zj (wX D) Y σ k n pc lo (va_rf r :: .ref a :: st) := xp_J1 C (j := 2) hk (by decide) q765 hd hq g
theorem xp_J1_31 (C : Cx (wX D) Y cc RJ1 ret d mc ms) (hk : kd σ a = 8) {r : Option Nat} (hd : decode cc pc = .ok (.putfield 31, 3)) (hq : pc + 3 = q) (g : Zj (wX D) Y (sR 143 a r σ) k n q lo st) : Zj (wX D) Y σ k n pc lo (va_rf r :: .ref a :: st) := xp_J1 C (j := 3) hk (by decide) q762 hd hq g
theorem xpr_J1_7 (C : Cx (wX D) Y cc RJ1 ret d mc ms) (hk : kd σ a = 8) {b : Nat} (hd : decode cc pc = .ok (.putfield 7, 3)) (hq : pc + 3 = q) (g : Zj (wX D) Y (sR 140 a (some b) σ) k n q lo st) : Zj (wX D) Y σ k n pc lo (.ref b :: .ref a :: st) := xp_J1_7 (r := some b) C hk hd hq g
theorem xpn_J1_7 (C : Cx (wX D) Y cc RJ1 ret d mc ms) (hk : kd σ a = 8) (hd : decode cc pc = .ok (.putfield 7, 3)) (hq : pc + 3 = q) (g : Zj (wX D) Y (sR 140 a none σ) k n q lo st) : Zj (wX D) Y σ k n pc lo (.null :: .ref a :: st) := xp_J1_7 (r := none) C hk hd hq g
theorem xpr_J1_17 (C : Cx (wX D) Y cc RJ1 ret d mc ms) (hk : kd σ a = 8) {b : Nat} (hd : decode cc pc = .ok (.putfield 17, 3)) (hq : pc + 3 = q) (g : Zj (wX D) Y (sR 141 a (some b) σ) k n q lo st) : Zj (wX D) Y σ k n pc lo (.ref b :: .ref a :: st) := xp_J1_17 (r := some b) C hk hd hq g
theorem xpn_J1_17 (C : Cx (wX D) Y cc RJ1 ret d mc ms) (hk : kd σ a = 8) (hd : decode cc pc = .ok (.putfield 17, 3)) (hq : pc + 3 = q) (g : Zj (wX D) Y (sR 141 a none σ) k n q lo st) : Zj (wX D) Y σ k n pc lo (.null :: .ref a :: st) := xp_J1_17 (r := none) C hk hd hq g
theorem xpr_J1_24 (C : Cx (wX D) Y cc RJ1 ret d mc ms) (hk : kd σ a = 8) {b : Nat} (hd : decode cc pc = .ok (.putfield 24, 3)) (hq : pc + 3 = q) (g : Zj (wX D) Y (sR 142 a (some b) σ) k n q lo st) : Zj (wX D) Y σ k n pc lo (.ref b :: .ref a :: st) := xp_J1_24 (r := some b) C hk hd hq g
theorem xpn_J1_24 (C : Cx (wX D) Y cc RJ1 ret d mc ms) (hk : kd σ a = 8) (hd : decode cc pc = .ok (.putfield 24, 3)) (hq : pc + 3 = q) (g : Zj (wX D) Y (sR 142 a none σ) k n q lo st) : Zj (wX D) Y σ k n pc lo (.null :: .ref a :: st) := xp_J1_24 (r := none) C hk hd hq g
theorem xpn_J1_31 (C : Cx (wX D) Y cc RJ1 ret d mc ms) (hk : kd σ a = 8) (hd : decode cc pc = .ok (.putfield 31, 3)) (hq : pc + 3 = q) (g : Zj (wX D) Y (sR 143 a none σ) k n q lo st) : Zj (wX D) Y σ k n pc lo (.null :: .ref a :: st) := xp_J1_31 (r := none) C hk hd hq g
theorem xpr_J1_31 (C : Cx (wX D) Y cc RJ1 ret d mc ms) (hk : kd σ a = 8) {b : Nat} (hd : decode cc pc = .ok (.putfield 31, 3)) (hq : pc + 3 = q) (g : Zj (wX D) Y (sR 143 a (some b) σ) k n q lo st) : Zj (wX D) Y σ k n pc lo (.ref b :: .ref a :: st) := xp_J1_31 (r := some b) C hk hd hq g
/-- only a fresh cell's references -/
def FN (a : Nat) (σ σ' : Sg) : Prop := kd σ' = kd σ ∧ fi σ' = fi σ ∧ ln σ' = ln σ ∧ ai σ' = ai σ ∧ ar σ' = ar σ ∧ ∀ g x, x ≠ a → fr σ' g x = fr σ g x
theorem FN.set {σ' : Sg} {g : Nat} {r : Option Nat} (h : FN a σ σ') : FN a σ (sR g a r σ') := ⟨h.1, h.2.1, h.2.2.1, h.2.2.2.1, h.2.2.2.2.1, fun g' x hx => by rw [fr_sR, if_neg (fun z => hx z.2)]; exact h.2.2.2.2.2 g' x hx⟩
theorem FN.rf : FN a σ σ := ⟨rfl, rfl, rfl, rfl, rfl, fun _ _ _ => rfl⟩
theorem cx_throwable (hk : kd σ a = 8) : Ct (wX D) yJ1_init_2 cJ1_init_2 5 none [.ref a, .null, .null, .int (nI 0), .int (nI 0)] σ (PV (fun σ' => FN a σ σ')) (d + 1) 0 0 := by
  refine Ct.of KXok (by decide) (Nat.le_of_ble_eq_true rfl) rfl fun Y C hQ hNm => ?_
  first | refine z_al0 (q := 1) C dJ1_init_2_0 rfl ?_ | refine z_al0q (q := 1) C dJ1_init_2_0 rfl ?_ | refine z_al0u (q := 1) C dJ1_init_2_0 rfl ?_
  refine z_objInit (q := 4) C dJ1_init_2_1 rfl q736 (Nat.le_of_ble_eq_true rfl) ?_
  first | refine z_al0 (q := 5) C dJ1_init_2_4 rfl ?_ | refine z_al0q (q := 5) C dJ1_init_2_4 rfl ?_ | refine z_al0u (q := 5) C dJ1_init_2_4 rfl ?_
  first | refine z_al0 (q := 6) C dJ1_init_2_5 rfl ?_ | refine z_al0q (q := 6) C dJ1_init_2_5 rfl ?_ | refine z_al0u (q := 6) C dJ1_init_2_5 rfl ?_
  first | refine xpr_J1_7 (q := 9) C (by exact hk) dJ1_init_2_6 rfl ?_ | refine xpn_J1_7 (q := 9) C (by exact hk) dJ1_init_2_6 rfl ?_ | refine xp_J1_7 (q := 9) C (by exact hk) dJ1_init_2_6 rfl ?_
  first | refine z_al0 (q := 10) C dJ1_init_2_9 rfl ?_ | refine z_al0q (q := 10) C dJ1_init_2_9 rfl ?_ | refine z_al0u (q := 10) C dJ1_init_2_9 rfl ?_
  refine x_us13 (q := 13) C dJ1_init_2_10 rfl ?_
  first | refine xpr_J1_17 (q := 16) C (by exact hk) dJ1_init_2_13 rfl ?_ | refine xpn_J1_17 (q := 16) C (by exact hk) dJ1_init_2_13 rfl ?_ | refine xp_J1_17 (q := 16) C (by exact hk) dJ1_init_2_13 rfl ?_
  first | refine z_al0 (q := 17) C dJ1_init_2_16 rfl ?_ | refine z_al0q (q := 17) C dJ1_init_2_16 rfl ?_ | refine z_al0u (q := 17) C dJ1_init_2_16 rfl ?_
  refine x_us20 (q := 20) C dJ1_init_2_17 rfl ?_
  first | refine xpr_J1_24 (q := 23) C (by exact hk) dJ1_init_2_20 rfl ?_ | refine xpn_J1_24 (q := 23) C (by exact hk) dJ1_init_2_20 rfl ?_ | refine xp_J1_24 (q := 23) C (by exact hk) dJ1_init_2_20 rfl ?_
  refine z_il4 (q := 25) C dJ1_init_2_23 rfl ?_
  first | refine z_if_eqB (tgt := 36) (q := 28) C dJ1_init_2_25 (by decide) rfl (fun c25 => ?_) (fun c25 => ?_) | refine z_if_eq (tgt := 36) (q := 28) C dJ1_init_2_25 (by decide) rfl (fun c25 => ?_) (fun c25 => ?_)
  · first | refine z_al0 (q := 37) C dJ1_init_2_36 rfl ?_ | refine z_al0q (q := 37) C dJ1_init_2_36 rfl ?_ | refine z_al0u (q := 37) C dJ1_init_2_36 rfl ?_
    refine z_null (q := 38) C dJ1_init_2_37 rfl ?_
    first | refine xpr_J1_17 (q := 41) C (by exact hk) dJ1_init_2_38 rfl ?_ | refine xpn_J1_17 (q := 41) C (by exact hk) dJ1_init_2_38 rfl ?_ | refine xp_J1_17 (q := 41) C (by exact hk) dJ1_init_2_38 rfl ?_
    first | refine z_al0 (q := 42) C dJ1_init_2_41 rfl ?_ | refine z_al0q (q := 42) C dJ1_init_2_41 rfl ?_ | refine z_al0u (q := 42) C dJ1_init_2_41 rfl ?_
    first | refine z_al1 (q := 43) C dJ1_init_2_42 rfl ?_ | refine z_al1q (q := 43) C dJ1_init_2_42 rfl ?_ | refine z_al1u (q := 43) C dJ1_init_2_42 rfl ?_
    first | refine xpr_J1_31 (q := 46) C (by exact hk) dJ1_init_2_43 rfl ?_ | refine xpn_J1_31 (q := 46) C (by exact hk) dJ1_init_2_43 rfl ?_ | refine xp_J1_31 (q := 46) C (by exact hk) dJ1_init_2_43 rfl ?_
    first | refine z_al0 (q := 47) C dJ1_init_2_46 rfl ?_ | refine z_al0q (q := 47) C dJ1_init_2_46 rfl ?_ | refine z_al0u (q := 47) C dJ1_init_2_46 rfl ?_
    first | refine z_al2 (q := 48) C dJ1_init_2_47 rfl ?_ | refine z_al2q (q := 48) C dJ1_init_2_47 rfl ?_ | refine z_al2u (q := 48) C dJ1_init_2_47 rfl ?_
    first | refine xpr_J1_7 (q := 51) C (by exact hk) dJ1_init_2_48 rfl ?_ | refine xpn_J1_7 (q := 51) C (by exact hk) dJ1_init_2_48 rfl ?_ | refine xp_J1_7 (q := 51) C (by exact hk) dJ1_init_2_48 rfl ?_
    refine z_il3 (q := 52) C dJ1_init_2_51 rfl ?_
    first | refine z_if_neB (tgt := 60) (q := 55) C dJ1_init_2_52 (by decide) rfl (fun c52 => ?_) (fun c52 => ?_) | refine z_if_ne (tgt := 60) (q := 55) C dJ1_init_2_52 (by decide) rfl (fun c52 => ?_) (fun c52 => ?_)
    · exact absurd rfl c52
    · first | refine z_al0 (q := 56) C dJ1_init_2_55 rfl ?_ | refine z_al0q (q := 56) C dJ1_init_2_55 rfl ?_ | refine z_al0u (q := 56) C dJ1_init_2_55 rfl ?_
      refine z_null (q := 57) C dJ1_init_2_56 rfl ?_
      first | refine xpr_J1_24 (q := 60) C (by exact hk) dJ1_init_2_57 rfl ?_ | refine xpn_J1_24 (q := 60) C (by exact hk) dJ1_init_2_57 rfl ?_ | refine xp_J1_24 (q := 60) C (by exact hk) dJ1_init_2_57 rfl ?_
      refine z_vret C hQ dJ1_init_2_60 (by omega) (by omega) ?_
      exact ⟨rfl, FN.set (FN.set (FN.set (FN.set (FN.set (FN.set (FN.set FN.rf))))))⟩
  · exact absurd rfl c25
theorem g_J2_16 : GI RJ2 16 yJ1_init_2 cJ1_init_2 5 4 := ⟨q758, q92, q756, q757, rfl, by decide +kernel, by decide⟩
theorem xc_J2_16 (C : Cx (wX D) Y cc RJ2 ret d mc ms) (hM : Ct (wX D) yJ1_init_2 cJ1_init_2 5 none (.ref b :: As) σ P d' mc' ms') (hd : decode cc pc = .ok (.invokespecial 16, 3)) (hq : pc + 3 = q) (hst : st = As.reverse ++ .ref b :: rest) (hn : As.length = 4) (hW : (rest.map fun v => v.category).sum ≤ 8) (hdd : d' < d) (hc : k + mc' ≤ mc) (hs : n + ms' ≤ ms) (kk : ∀ (v : Option Value) (σ' : Sg), P v σ' → Zj (wX D) Y σ' (k + mc') (n + ms') q lo (v.toList ++ rest)) : Zj (wX D) Y σ k n pc lo st :=
  z_callI C hM g_J2_16 hd hq hst hn hW hdd hc hs kk
theorem cx_exception (hk : kd σ a = 8) : Ct (wX D) yJ2_init cJ2_init 5 none [.ref a, .null, .null, .int (nI 0), .int (nI 0)] σ (PV (fun σ' => FN a σ σ')) (d + 2) 0 0 := by
  refine Ct.of KXok (by decide) (Nat.le_of_ble_eq_true rfl) rfl fun Y C hQ hNm => ?_
  first | refine z_al0 (q := 1) C dJ2_init_0 rfl ?_ | refine z_al0q (q := 1) C dJ2_init_0 rfl ?_ | refine z_al0u (q := 1) C dJ2_init_0 rfl ?_
  first | refine z_al1 (q := 2) C dJ2_init_1 rfl ?_ | refine z_al1q (q := 2) C dJ2_init_1 rfl ?_ | refine z_al1u (q := 2) C dJ2_init_1 rfl ?_
  first | refine z_al2 (q := 3) C dJ2_init_2 rfl ?_ | refine z_al2q (q := 3) C dJ2_init_2 rfl ?_ | refine z_al2u (q := 3) C dJ2_init_2 rfl ?_
  refine z_il3 (q := 4) C dJ2_init_3 rfl ?_
  refine z_il4 (q := 6) C dJ2_init_4 rfl ?_
  refine xc_J2_16 (q := 9) C (cx_throwable (d := d) hk) dJ2_init_6 rfl rfl rfl (Nat.le_of_ble_eq_true rfl) (by first | decide | omega) (by omega) (by omega) (kkV fun σ6 h6 => ?_)
  refine z_vret C hQ dJ2_init_9 (by omega) (by omega) ?_
  exact ⟨rfl, h6⟩
theorem cx_fault {x : Int32} (hk : kd σ a = 8) : Ct (wX D) yX9_init cX9_init 2 none [.ref a, .int x] σ (PV (fun σ' => ∃ σ1, FN a σ σ1 ∧ σ' = sI 146 a x σ1)) (d + 3) 0 0 := by
  refine Ct.of KXok (by decide) (Nat.le_of_ble_eq_true rfl) rfl fun Y C hQ hNm => ?_
  first | refine z_al0 (q := 1) C dX9_init_0 rfl ?_ | refine z_al0q (q := 1) C dX9_init_0 rfl ?_ | refine z_al0u (q := 1) C dX9_init_0 rfl ?_
  refine z_null (q := 2) C dX9_init_1 rfl ?_
  refine z_null (q := 3) C dX9_init_2 rfl ?_
  refine z_iconst (q := 4) (v := nI 0) C dX9_init_3 rfl (by decide) ?_
  refine z_iconst (q := 5) (v := nI 0) C dX9_init_4 rfl (by decide) ?_
  refine xc_X9_1 (q := 8) C (cx_exception (d := d) hk) dX9_init_5 rfl rfl rfl (Nat.le_of_ble_eq_true rfl) (by first | decide | omega) (by omega) (by omega) (kkV fun σ5 h5 => ?_)
  have hk5 : kd σ5 a = 8 := by rw [h5.1]; exact hk
  first | refine z_al0 (q := 9) C dX9_init_8 rfl ?_ | refine z_al0q (q := 9) C dX9_init_8 rfl ?_ | refine z_al0u (q := 9) C dX9_init_8 rfl ?_
  refine z_il1 (q := 10) C dX9_init_9 rfl ?_
  refine xp_X9_7 (q := 13) C (by exact hk5) hNm dX9_init_10 rfl ?_
  refine z_vret C hQ dX9_init_13 (by omega) (by omega) ?_
  exact ⟨rfl, _, h5, rfl⟩
end T86
