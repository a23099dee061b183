/-! the twin's constructor: a world that is a list of cells -/
abbrev wL (D : Dt) : Wd va_W := (fun ws H => va_P D.1 clT ws H ∧ va_D (fun _ => True) ws, fun ws q => ∃ (k : Nat) (e : va_E), ws[k]? = some (q, e), KT D)
section ZO
variable {S : Type} {w : Wd S} {Y : Fz} {cc : ByteArray} {own : String} {ret : Option FieldType} {d mc ms : Nat} {σ : S} {k n pc q : Nat} {lo : Lo} {st : List Value}
theorem z_objInit (C : Cx w Y cc own ret d mc ms) {idx a : Nat} (hd : decode cc pc = .ok (.invokespecial idx, 3)) (hq : pc + 3 = q) (hl : Cond.methodLink own idx Lib.objectInit ∈ lw_all) (hW : (st.map fun v => v.category).sum ≤ 8) (g : Zj w Y σ k n q lo st) : Zj w Y σ k n pc lo (.ref a :: st) := by
  subst hq
  intro H locs ls h1 h2 h3 h4
  refine W.objInit C.1 C.2.1 C.ow (C.hts _ hl) (C.hts _ q101) (C.hts _ q102) rfl (h4.1.trans C.2.2.1.symm) rfl hd (by rw [C.R]; exact Nat.le_add_left 1 d) ?_ (g H locs ls h1 h2 h3 h4)
  rw [C.R]
  show 2 * 0 + (st.map fun v => v.category).sum + 12 ≤ 100 * (d + 1)
  omega
end ZO
section ZL
variable {D : Dt} {Y : Fz} {cc : ByteArray} {ret : Option FieldType} {d mc ms : Nat} {ws : va_W} {k n pc q : Nat} {lo : Lo} {st : List Value}
theorem l_D {A : Nat → Prop} {H : Heap} (h1 : (wL D).1 ws H) (h2 : ∀ q, (wL D).2.1 ws q → A q) : va_D A ws := ⟨h1.2.1, fun k q hk => h2 q.1 ⟨k, q.2, hk⟩⟩
theorem l_newa (C : Cx (wL D) Y cc RX5 ret d mc ms) {L : Nat} (hd : decode cc pc = .ok (.newarray .int, 2)) (hq : pc + 2 = q) (hL : L ≤ 2000) (hk : k + 1 ≤ mc) (hn : n + L ≤ ms) (g : ∀ a, Zj (wL D) Y (ws ++ [(a, .inl (D.2, L, .inl (fun _ => 0)))]) (k + 1) (n + L) q lo (.ref a :: st)) : Zj (wL D) Y ws k n pc lo (.int (nI L) :: st) := by
  subst hq
  intro H locs ls h1 h2 h3 h4
  refine va_newa (atype := .int) (ty := .int) (a0 := (L, .inl (fun _ => 0))) C.1 C.2.1 (C.hts _ q145) rfl C.hK h1.1 (l_D h1 h2) h3 C.hA (fun cA => rfl) (nI_pos (by omega)) (nI_clamp (by omega)) ?_ (by rw [C.R]; exact hk) (by rw [C.R]; exact hn) hd (fun a cA H1 hK1 hP hD hS => ?_)
  · show L * 4 ≤ 536870912
    omega
  · have e1 : (y_s Y).vm.findClass ("[" ++ FieldType.int.toString) = some cA := (hK1.2 1 (cA, .int) rfl).2
    have e2 : (y_s Y).vm.findClass ("[" ++ FieldType.int.toString) = some D.2 := (C.hK.2 0 (D.2, .int) rfl).2
    have e3 : cA = D.2 := Option.some.inj (e1.symm.trans e2)
    subst e3
    exact g a H1 locs ls ⟨hP, dT2 hD⟩ (fun q h => by obtain ⟨k, e, hk⟩ := h; exact hD.2 k (q, e) hk) hS h4
theorem l_get (C : Cx (wL D) Y cc RX5 ret d mc ms) {o idx : Nat} {fs : List Value} {r : va_W} {v : Value} (j : Nat) (hj : j < 20) (ho : (TX5 j).1 = RX5) (hw : Cond.fieldLink RX5 idx RX5 (TX5 j).2.1 (TX5 j).2.2.1 ∈ lw_all) (hv : fs[j]? = some v) (hd : decode cc pc = .ok (.getfield idx, 3)) (hq : pc + 3 = q) (g : Zj (wL D) Y ((o, .inr (0, fs)) :: r) k n q lo (v :: st)) : Zj (wL D) Y ((o, .inr (0, fs)) :: r) k n pc lo (.ref o :: st) := by
  subst hq
  exact fun H locs ls h1 h2 h3 h4 => va_get (T := TX5) (N := 20) (ci := 0) C.1 C.2.1 C.hts in_X5 C.ow C.hK h1.1 0 rfl rfl j hj (C.hts _ hw) (fun x h => by rw [ho] at h; exact h) hv hd (g H locs ls h1 h2 h3 h4)
theorem l_putF (C : Cx (wL D) Y cc RX5 ret d mc ms) (hN : (y_meth Y).name = "<init>") {o idx a : Nat} {fs : List Value} {r : va_W} (j : Nat) (hj : j < 20) (hw : Cond.fieldLink RX5 idx RX5 (TX5 j).2.1 (TX5 j).2.2.1 ∈ lw_all) (hf : (TX5 j).2.2.2 = true) (ho : (TX5 j).1 = RX5) (hty : parseFieldDescriptor (TX5 j).2.2.1 = some (.array .int)) (hl : j < fs.length) (hd : decode cc pc = .ok (.putfield idx, 3)) (hq : pc + 3 = q) (g : Zj (wL D) Y ((o, .inr (0, fs.set j (.ref a))) :: r) k n q lo st) : Zj (wL D) Y ((o, .inr (0, fs)) :: r) k n pc lo (.ref a :: .ref o :: st) := by
  subst hq
  exact fun H locs ls h1 h2 h3 h4 => va_putF (T := TX5) (N := 20) (ci := 0) C.1 C.2.1 C.hts in_X5 tyX5 tyX5_ok nmX5 C.ow C.hK h1.1 (l_D h1 h2) h3 0 rfl rfl j hj (C.hts _ hw) (fun x h => by rw [ho] at h; exact h) hf hN ho hty rfl rfl hl hd (fun H1 locs1 hP hD hS => g H1 locs1 ls ⟨hP, dT2 hD⟩ (fun q h => by obtain ⟨k, e, hk⟩ := h; exact hD.2 k (q, e) hk) hS h4)
theorem l_iast (C : Cx (wL D) Y cc RX5 ret d mc ms) {a L e : Nat} {f : Nat → Int32} {x : Int32} (p : Nat) (hp : ws[p]? = some (a, .inl (D.2, L, .inl f))) (he : e < L) (hL : L ≤ 2000) {ws' : va_W} (hs : ws.set p (a, .inl (D.2, L, .inl (upd f e x))) = ws') (hd : decode cc pc = .ok (.iastore, 1)) (hq : pc + 1 = q) (g : Zj (wL D) Y ws' k n q lo st) : Zj (wL D) Y ws k n pc lo (.int x :: .int (nI e) :: .ref a :: st) := by
  subst hq
  subst hs
  intro H locs ls h1 h2 h3 h4
  refine va_iast C.1 C.2.1 C.hK h1.1 (l_D h1 h2) h3 p 0 hp rfl (vp_in_nI he (by omega)) hd (fun H1 locs1 hP hD hS => ?_)
  rw [nI_clamp (by omega)] at hP hD
  exact g H1 locs1 ls ⟨hP, dT2 hD⟩ (fun q h => by obtain ⟨k, e, hk⟩ := h; exact hD.2 k (q, e) hk) hS h4
end ZL
/-- a new object of the twin -/
def fs5 : List Value := [.null, .null, .null, .int 0, .null, .int 0, .null, .int 0, .int 0, .null, .null, .null, .null, .null, .int 0, .null, .int 0, .int 0, .int 0, .int 0]
def ad5 (a0 a1 a2 a4 a6 a9 a10 a11 a12 a13 a15 : Nat) : Nat → Nat := fun j => match j with
  | 0 => a0
  | 1 => a1
  | 2 => a2
  | 4 => a4
  | 6 => a6
  | 9 => a9
  | 10 => a10
  | 11 => a11
  | 12 => a12
  | 13 => a13
  | 15 => a15
  | _ => 0
def tau5 : Tw := (fun _ => 0, fun j => match j with
  | 0 => upd (upd (fun _ => 0) 1 (nI 8)) 2 (nI 1)
  | 9 => upd (upd (upd (fun _ => 0) 0 (-1)) 1 (-1)) 2 (-1)
  | _ => fun _ => 0)
def al5 : Al := (([], [], fun i => if i = 1 then 8 else if i = 2 then 1 else 0, fun _ => false), [], fun _ => 0, 0, [], fun _ => (none, some 0, some 0, 0))
theorem TA5 : TA 0 tau5 al5 := by
  refine ⟨⟨⟨?_, by decide, fun _ => 0, 0, ⟨rfl, fun i h1 h2 => ?_, rfl, fun e x hx => absurd (List.mem_of_getElem? hx) List.not_mem_nil, fun b hb => ?_⟩, List.Pairwise.nil, fun x hx => absurd hx List.not_mem_nil, Nat.le_refl _⟩, Nat.zero_le _⟩, ⟨rfl, Nat.zero_le _, fun j c hj => absurd (List.mem_of_getElem? hj) List.not_mem_nil, fun x hx => absurd hx List.not_mem_nil⟩, fun i hi => rfl, ⟨rfl, Nat.le_refl _⟩, ⟨rfl, Nat.zero_le _, AR.nil, fun x hx => absurd hx List.not_mem_nil⟩, fun i hi => ?_⟩
  · exact ⟨List.nodup_nil, fun x hx => absurd hx List.not_mem_nil, List.Perm.refl _, Nat.zero_le _, ⟨3, by decide, by decide, rfl⟩, by decide, by decide, by decide, by decide, fun b hb => by cases hb⟩
  · rcases (show i = 1 ∨ i = 2 ∨ i = 3 ∨ i = 4 ∨ i = 5 by omega) with rfl | rfl | rfl | rfl | rfl <;> rfl
  · show upd (upd (fun _ => 0) 1 (nI 8)) 2 (nI 1) (154 + b) = _
    rw [pk_un (by omega), pk_un (by omega)]
    rfl
  · refine ⟨⟨?_, rfl, rfl, rfl⟩, fun w hw => (by cases hw), fun k hk => (by cases hk; decide), fun k hk => (by cases hk; decide), Nat.le_refl _⟩
    rcases (show i = 0 ∨ i = 1 ∨ i = 2 by omega) with rfl | rfl | rfl <;> rfl
set_option maxHeartbeats 4000000 in
theorem ct_init5 {D : Dt} {o : Nat} : Ct (wL D) yX5_init cX5_init 2 none [.ref o] [(o, .inr (0, fs5))] (PV (fun ws => ∃ ad : Nat → Nat, ws = wsT D o ad tau5)) 1 11 1981 := by
  refine Ct.of KTok (by decide) (Nat.le_of_ble_eq_true rfl) rfl fun Y C hQ hNm => ?_
  refine z_al0 (q := 1) C dX5_init_0 rfl ?_
  refine z_objInit (q := 4) C dX5_init_1 rfl q827 (Nat.le_of_ble_eq_true rfl) ?_
  refine z_al0 (q := 5) C dX5_init_4 rfl ?_
  refine z_sipush (q := 8) (v := nI 218) C dX5_init_5 rfl (by decide) ?_
  refine l_newa (q := 10) C dX5_init_8 rfl (by decide) (by decide) (by decide) (fun a0 => ?_)
  show Zj (wL D) Y [(o, .inr (0, [.null, .null, .null, .int 0, .null, .int 0, .null, .int 0, .int 0, .null, .null, .null, .null, .null, .int 0, .null, .int 0, .int 0, .int 0, .int 0])), (a0, .inl (D.2, 218, .inl (fun _ => 0)))] 1 218 10 _ _
  refine l_putF (q := 13) C hNm 0 (by decide) q828 rfl rfl (by decide +kernel) (Nat.le_of_ble_eq_true rfl) dX5_init_10 rfl ?_
  show Zj (wL D) Y [(o, .inr (0, [.ref a0, .null, .null, .int 0, .null, .int 0, .null, .int 0, .int 0, .null, .null, .null, .null, .null, .int 0, .null, .int 0, .int 0, .int 0, .int 0])), (a0, .inl (D.2, 218, .inl (fun _ => 0)))] 1 218 13 _ _
  refine z_al0 (q := 14) C dX5_init_13 rfl ?_
  refine z_sipush (q := 17) (v := nI 1308) C dX5_init_14 rfl (by decide) ?_
  refine l_newa (q := 19) C dX5_init_17 rfl (by decide) (by decide) (by decide) (fun a1 => ?_)
  show Zj (wL D) Y [(o, .inr (0, [.ref a0, .null, .null, .int 0, .null, .int 0, .null, .int 0, .int 0, .null, .null, .null, .null, .null, .int 0, .null, .int 0, .int 0, .int 0, .int 0])), (a0, .inl (D.2, 218, .inl (fun _ => 0))), (a1, .inl (D.2, 1308, .inl (fun _ => 0)))] 2 1526 19 _ _
  refine l_putF (q := 22) C hNm 1 (by decide) q829 rfl rfl (by decide +kernel) (Nat.le_of_ble_eq_true rfl) dX5_init_19 rfl ?_
  show Zj (wL D) Y [(o, .inr (0, [.ref a0, .ref a1, .null, .int 0, .null, .int 0, .null, .int 0, .int 0, .null, .null, .null, .null, .null, .int 0, .null, .int 0, .int 0, .int 0, .int 0])), (a0, .inl (D.2, 218, .inl (fun _ => 0))), (a1, .inl (D.2, 1308, .inl (fun _ => 0)))] 2 1526 22 _ _
  refine z_al0 (q := 23) C dX5_init_22 rfl ?_
  refine z_sipush (q := 26) (v := nI 218) C dX5_init_23 rfl (by decide) ?_
  refine l_newa (q := 28) C dX5_init_26 rfl (by decide) (by decide) (by decide) (fun a2 => ?_)
  show Zj (wL D) Y [(o, .inr (0, [.ref a0, .ref a1, .null, .int 0, .null, .int 0, .null, .int 0, .int 0, .null, .null, .null, .null, .null, .int 0, .null, .int 0, .int 0, .int 0, .int 0])), (a0, .inl (D.2, 218, .inl (fun _ => 0))), (a1, .inl (D.2, 1308, .inl (fun _ => 0))), (a2, .inl (D.2, 218, .inl (fun _ => 0)))] 3 1744 28 _ _
  refine l_putF (q := 31) C hNm 2 (by decide) q830 rfl rfl (by decide +kernel) (Nat.le_of_ble_eq_true rfl) dX5_init_28 rfl ?_
  show Zj (wL D) Y [(o, .inr (0, [.ref a0, .ref a1, .ref a2, .int 0, .null, .int 0, .null, .int 0, .int 0, .null, .null, .null, .null, .null, .int 0, .null, .int 0, .int 0, .int 0, .int 0])), (a0, .inl (D.2, 218, .inl (fun _ => 0))), (a1, .inl (D.2, 1308, .inl (fun _ => 0))), (a2, .inl (D.2, 218, .inl (fun _ => 0)))] 3 1744 31 _ _
  refine z_al0 (q := 32) C dX5_init_31 rfl ?_
  refine z_iconst (q := 33) (v := nI 5) C dX5_init_32 rfl (by decide) ?_
  refine l_newa (q := 35) C dX5_init_33 rfl (by decide) (by decide) (by decide) (fun a4 => ?_)
  show Zj (wL D) Y [(o, .inr (0, [.ref a0, .ref a1, .ref a2, .int 0, .null, .int 0, .null, .int 0, .int 0, .null, .null, .null, .null, .null, .int 0, .null, .int 0, .int 0, .int 0, .int 0])), (a0, .inl (D.2, 218, .inl (fun _ => 0))), (a1, .inl (D.2, 1308, .inl (fun _ => 0))), (a2, .inl (D.2, 218, .inl (fun _ => 0))), (a4, .inl (D.2, 5, .inl (fun _ => 0)))] 4 1749 35 _ _
  refine l_putF (q := 38) C hNm 4 (by decide) q832 rfl rfl (by decide +kernel) (Nat.le_of_ble_eq_true rfl) dX5_init_35 rfl ?_
  show Zj (wL D) Y [(o, .inr (0, [.ref a0, .ref a1, .ref a2, .int 0, .ref a4, .int 0, .null, .int 0, .int 0, .null, .null, .null, .null, .null, .int 0, .null, .int 0, .int 0, .int 0, .int 0])), (a0, .inl (D.2, 218, .inl (fun _ => 0))), (a1, .inl (D.2, 1308, .inl (fun _ => 0))), (a2, .inl (D.2, 218, .inl (fun _ => 0))), (a4, .inl (D.2, 5, .inl (fun _ => 0)))] 4 1749 38 _ _
  refine z_al0 (q := 39) C dX5_init_38 rfl ?_
  refine z_bipush (q := 41) (v := nI 120) C dX5_init_39 rfl (by decide) ?_
  refine l_newa (q := 43) C dX5_init_41 rfl (by decide) (by decide) (by decide) (fun a6 => ?_)
  show Zj (wL D) Y [(o, .inr (0, [.ref a0, .ref a1, .ref a2, .int 0, .ref a4, .int 0, .null, .int 0, .int 0, .null, .null, .null, .null, .null, .int 0, .null, .int 0, .int 0, .int 0, .int 0])), (a0, .inl (D.2, 218, .inl (fun _ => 0))), (a1, .inl (D.2, 1308, .inl (fun _ => 0))), (a2, .inl (D.2, 218, .inl (fun _ => 0))), (a4, .inl (D.2, 5, .inl (fun _ => 0))), (a6, .inl (D.2, 120, .inl (fun _ => 0)))] 5 1869 43 _ _
  refine l_putF (q := 46) C hNm 6 (by decide) q834 rfl rfl (by decide +kernel) (Nat.le_of_ble_eq_true rfl) dX5_init_43 rfl ?_
  show Zj (wL D) Y [(o, .inr (0, [.ref a0, .ref a1, .ref a2, .int 0, .ref a4, .int 0, .ref a6, .int 0, .int 0, .null, .null, .null, .null, .null, .int 0, .null, .int 0, .int 0, .int 0, .int 0])), (a0, .inl (D.2, 218, .inl (fun _ => 0))), (a1, .inl (D.2, 1308, .inl (fun _ => 0))), (a2, .inl (D.2, 218, .inl (fun _ => 0))), (a4, .inl (D.2, 5, .inl (fun _ => 0))), (a6, .inl (D.2, 120, .inl (fun _ => 0)))] 5 1869 46 _ _
  refine z_al0 (q := 47) C dX5_init_46 rfl ?_
  refine z_iconst (q := 48) (v := nI 3) C dX5_init_47 rfl (by decide) ?_
  refine l_newa (q := 50) C dX5_init_48 rfl (by decide) (by decide) (by decide) (fun a9 => ?_)
  show Zj (wL D) Y [(o, .inr (0, [.ref a0, .ref a1, .ref a2, .int 0, .ref a4, .int 0, .ref a6, .int 0, .int 0, .null, .null, .null, .null, .null, .int 0, .null, .int 0, .int 0, .int 0, .int 0])), (a0, .inl (D.2, 218, .inl (fun _ => 0))), (a1, .inl (D.2, 1308, .inl (fun _ => 0))), (a2, .inl (D.2, 218, .inl (fun _ => 0))), (a4, .inl (D.2, 5, .inl (fun _ => 0))), (a6, .inl (D.2, 120, .inl (fun _ => 0))), (a9, .inl (D.2, 3, .inl (fun _ => 0)))] 6 1872 50 _ _
  refine l_putF (q := 53) C hNm 9 (by decide) q837 rfl rfl (by decide +kernel) (Nat.le_of_ble_eq_true rfl) dX5_init_50 rfl ?_
  show Zj (wL D) Y [(o, .inr (0, [.ref a0, .ref a1, .ref a2, .int 0, .ref a4, .int 0, .ref a6, .int 0, .int 0, .ref a9, .null, .null, .null, .null, .int 0, .null, .int 0, .int 0, .int 0, .int 0])), (a0, .inl (D.2, 218, .inl (fun _ => 0))), (a1, .inl (D.2, 1308, .inl (fun _ => 0))), (a2, .inl (D.2, 218, .inl (fun _ => 0))), (a4, .inl (D.2, 5, .inl (fun _ => 0))), (a6, .inl (D.2, 120, .inl (fun _ => 0))), (a9, .inl (D.2, 3, .inl (fun _ => 0)))] 6 1872 53 _ _
  refine z_al0 (q := 54) C dX5_init_53 rfl ?_
  refine z_iconst (q := 55) (v := nI 3) C dX5_init_54 rfl (by decide) ?_
  refine l_newa (q := 57) C dX5_init_55 rfl (by decide) (by decide) (by decide) (fun a10 => ?_)
  show Zj (wL D) Y [(o, .inr (0, [.ref a0, .ref a1, .ref a2, .int 0, .ref a4, .int 0, .ref a6, .int 0, .int 0, .ref a9, .null, .null, .null, .null, .int 0, .null, .int 0, .int 0, .int 0, .int 0])), (a0, .inl (D.2, 218, .inl (fun _ => 0))), (a1, .inl (D.2, 1308, .inl (fun _ => 0))), (a2, .inl (D.2, 218, .inl (fun _ => 0))), (a4, .inl (D.2, 5, .inl (fun _ => 0))), (a6, .inl (D.2, 120, .inl (fun _ => 0))), (a9, .inl (D.2, 3, .inl (fun _ => 0))), (a10, .inl (D.2, 3, .inl (fun _ => 0)))] 7 1875 57 _ _
  refine l_putF (q := 60) C hNm 10 (by decide) q838 rfl rfl (by decide +kernel) (Nat.le_of_ble_eq_true rfl) dX5_init_57 rfl ?_
  show Zj (wL D) Y [(o, .inr (0, [.ref a0, .ref a1, .ref a2, .int 0, .ref a4, .int 0, .ref a6, .int 0, .int 0, .ref a9, .ref a10, .null, .null, .null, .int 0, .null, .int 0, .int 0, .int 0, .int 0])), (a0, .inl (D.2, 218, .inl (fun _ => 0))), (a1, .inl (D.2, 1308, .inl (fun _ => 0))), (a2, .inl (D.2, 218, .inl (fun _ => 0))), (a4, .inl (D.2, 5, .inl (fun _ => 0))), (a6, .inl (D.2, 120, .inl (fun _ => 0))), (a9, .inl (D.2, 3, .inl (fun _ => 0))), (a10, .inl (D.2, 3, .inl (fun _ => 0)))] 7 1875 60 _ _
  refine z_al0 (q := 61) C dX5_init_60 rfl ?_
  refine z_iconst (q := 62) (v := nI 3) C dX5_init_61 rfl (by decide) ?_
  refine l_newa (q := 64) C dX5_init_62 rfl (by decide) (by decide) (by decide) (fun a11 => ?_)
  show Zj (wL D) Y [(o, .inr (0, [.ref a0, .ref a1, .ref a2, .int 0, .ref a4, .int 0, .ref a6, .int 0, .int 0, .ref a9, .ref a10, .null, .null, .null, .int 0, .null, .int 0, .int 0, .int 0, .int 0])), (a0, .inl (D.2, 218, .inl (fun _ => 0))), (a1, .inl (D.2, 1308, .inl (fun _ => 0))), (a2, .inl (D.2, 218, .inl (fun _ => 0))), (a4, .inl (D.2, 5, .inl (fun _ => 0))), (a6, .inl (D.2, 120, .inl (fun _ => 0))), (a9, .inl (D.2, 3, .inl (fun _ => 0))), (a10, .inl (D.2, 3, .inl (fun _ => 0))), (a11, .inl (D.2, 3, .inl (fun _ => 0)))] 8 1878 64 _ _
  refine l_putF (q := 67) C hNm 11 (by decide) q839 rfl rfl (by decide +kernel) (Nat.le_of_ble_eq_true rfl) dX5_init_64 rfl ?_
  show Zj (wL D) Y [(o, .inr (0, [.ref a0, .ref a1, .ref a2, .int 0, .ref a4, .int 0, .ref a6, .int 0, .int 0, .ref a9, .ref a10, .ref a11, .null, .null, .int 0, .null, .int 0, .int 0, .int 0, .int 0])), (a0, .inl (D.2, 218, .inl (fun _ => 0))), (a1, .inl (D.2, 1308, .inl (fun _ => 0))), (a2, .inl (D.2, 218, .inl (fun _ => 0))), (a4, .inl (D.2, 5, .inl (fun _ => 0))), (a6, .inl (D.2, 120, .inl (fun _ => 0))), (a9, .inl (D.2, 3, .inl (fun _ => 0))), (a10, .inl (D.2, 3, .inl (fun _ => 0))), (a11, .inl (D.2, 3, .inl (fun _ => 0)))] 8 1878 67 _ _
  refine z_al0 (q := 68) C dX5_init_67 rfl ?_
  refine z_iconst (q := 69) (v := nI 3) C dX5_init_68 rfl (by decide) ?_
  refine l_newa (q := 71) C dX5_init_69 rfl (by decide) (by decide) (by decide) (fun a12 => ?_)
  show Zj (wL D) Y [(o, .inr (0, [.ref a0, .ref a1, .ref a2, .int 0, .ref a4, .int 0, .ref a6, .int 0, .int 0, .ref a9, .ref a10, .ref a11, .null, .null, .int 0, .null, .int 0, .int 0, .int 0, .int 0])), (a0, .inl (D.2, 218, .inl (fun _ => 0))), (a1, .inl (D.2, 1308, .inl (fun _ => 0))), (a2, .inl (D.2, 218, .inl (fun _ => 0))), (a4, .inl (D.2, 5, .inl (fun _ => 0))), (a6, .inl (D.2, 120, .inl (fun _ => 0))), (a9, .inl (D.2, 3, .inl (fun _ => 0))), (a10, .inl (D.2, 3, .inl (fun _ => 0))), (a11, .inl (D.2, 3, .inl (fun _ => 0))), (a12, .inl (D.2, 3, .inl (fun _ => 0)))] 9 1881 71 _ _
  refine l_putF (q := 74) C hNm 12 (by decide) q840 rfl rfl (by decide +kernel) (Nat.le_of_ble_eq_true rfl) dX5_init_71 rfl ?_
  show Zj (wL D) Y [(o, .inr (0, [.ref a0, .ref a1, .ref a2, .int 0, .ref a4, .int 0, .ref a6, .int 0, .int 0, .ref a9, .ref a10, .ref a11, .ref a12, .null, .int 0, .null, .int 0, .int 0, .int 0, .int 0])), (a0, .inl (D.2, 218, .inl (fun _ => 0))), (a1, .inl (D.2, 1308, .inl (fun _ => 0))), (a2, .inl (D.2, 218, .inl (fun _ => 0))), (a4, .inl (D.2, 5, .inl (fun _ => 0))), (a6, .inl (D.2, 120, .inl (fun _ => 0))), (a9, .inl (D.2, 3, .inl (fun _ => 0))), (a10, .inl (D.2, 3, .inl (fun _ => 0))), (a11, .inl (D.2, 3, .inl (fun _ => 0))), (a12, .inl (D.2, 3, .inl (fun _ => 0)))] 9 1881 74 _ _
  refine z_al0 (q := 75) C dX5_init_74 rfl ?_
  refine z_bipush (q := 77) (v := nI 50) C dX5_init_75 rfl (by decide) ?_
  refine l_newa (q := 79) C dX5_init_77 rfl (by decide) (by decide) (by decide) (fun a13 => ?_)
  show Zj (wL D) Y [(o, .inr (0, [.ref a0, .ref a1, .ref a2, .int 0, .ref a4, .int 0, .ref a6, .int 0, .int 0, .ref a9, .ref a10, .ref a11, .ref a12, .null, .int 0, .null, .int 0, .int 0, .int 0, .int 0])), (a0, .inl (D.2, 218, .inl (fun _ => 0))), (a1, .inl (D.2, 1308, .inl (fun _ => 0))), (a2, .inl (D.2, 218, .inl (fun _ => 0))), (a4, .inl (D.2, 5, .inl (fun _ => 0))), (a6, .inl (D.2, 120, .inl (fun _ => 0))), (a9, .inl (D.2, 3, .inl (fun _ => 0))), (a10, .inl (D.2, 3, .inl (fun _ => 0))), (a11, .inl (D.2, 3, .inl (fun _ => 0))), (a12, .inl (D.2, 3, .inl (fun _ => 0))), (a13, .inl (D.2, 50, .inl (fun _ => 0)))] 10 1931 79 _ _
  refine l_putF (q := 82) C hNm 13 (by decide) q841 rfl rfl (by decide +kernel) (Nat.le_of_ble_eq_true rfl) dX5_init_79 rfl ?_
  show Zj (wL D) Y [(o, .inr (0, [.ref a0, .ref a1, .ref a2, .int 0, .ref a4, .int 0, .ref a6, .int 0, .int 0, .ref a9, .ref a10, .ref a11, .ref a12, .ref a13, .int 0, .null, .int 0, .int 0, .int 0, .int 0])), (a0, .inl (D.2, 218, .inl (fun _ => 0))), (a1, .inl (D.2, 1308, .inl (fun _ => 0))), (a2, .inl (D.2, 218, .inl (fun _ => 0))), (a4, .inl (D.2, 5, .inl (fun _ => 0))), (a6, .inl (D.2, 120, .inl (fun _ => 0))), (a9, .inl (D.2, 3, .inl (fun _ => 0))), (a10, .inl (D.2, 3, .inl (fun _ => 0))), (a11, .inl (D.2, 3, .inl (fun _ => 0))), (a12, .inl (D.2, 3, .inl (fun _ => 0))), (a13, .inl (D.2, 50, .inl (fun _ => 0)))] 10 1931 82 _ _
  refine z_al0 (q := 83) C dX5_init_82 rfl ?_
  refine z_bipush (q := 85) (v := nI 50) C dX5_init_83 rfl (by decide) ?_
  refine l_newa (q := 87) C dX5_init_85 rfl (by decide) (by decide) (by decide) (fun a15 => ?_)
  show Zj (wL D) Y [(o, .inr (0, [.ref a0, .ref a1, .ref a2, .int 0, .ref a4, .int 0, .ref a6, .int 0, .int 0, .ref a9, .ref a10, .ref a11, .ref a12, .ref a13, .int 0, .null, .int 0, .int 0, .int 0, .int 0])), (a0, .inl (D.2, 218, .inl (fun _ => 0))), (a1, .inl (D.2, 1308, .inl (fun _ => 0))), (a2, .inl (D.2, 218, .inl (fun _ => 0))), (a4, .inl (D.2, 5, .inl (fun _ => 0))), (a6, .inl (D.2, 120, .inl (fun _ => 0))), (a9, .inl (D.2, 3, .inl (fun _ => 0))), (a10, .inl (D.2, 3, .inl (fun _ => 0))), (a11, .inl (D.2, 3, .inl (fun _ => 0))), (a12, .inl (D.2, 3, .inl (fun _ => 0))), (a13, .inl (D.2, 50, .inl (fun _ => 0))), (a15, .inl (D.2, 50, .inl (fun _ => 0)))] 11 1981 87 _ _
  refine l_putF (q := 90) C hNm 15 (by decide) q843 rfl rfl (by decide +kernel) (Nat.le_of_ble_eq_true rfl) dX5_init_87 rfl ?_
  show Zj (wL D) Y [(o, .inr (0, [.ref a0, .ref a1, .ref a2, .int 0, .ref a4, .int 0, .ref a6, .int 0, .int 0, .ref a9, .ref a10, .ref a11, .ref a12, .ref a13, .int 0, .ref a15, .int 0, .int 0, .int 0, .int 0])), (a0, .inl (D.2, 218, .inl (fun _ => 0))), (a1, .inl (D.2, 1308, .inl (fun _ => 0))), (a2, .inl (D.2, 218, .inl (fun _ => 0))), (a4, .inl (D.2, 5, .inl (fun _ => 0))), (a6, .inl (D.2, 120, .inl (fun _ => 0))), (a9, .inl (D.2, 3, .inl (fun _ => 0))), (a10, .inl (D.2, 3, .inl (fun _ => 0))), (a11, .inl (D.2, 3, .inl (fun _ => 0))), (a12, .inl (D.2, 3, .inl (fun _ => 0))), (a13, .inl (D.2, 50, .inl (fun _ => 0))), (a15, .inl (D.2, 50, .inl (fun _ => 0)))] 11 1981 90 _ _
  refine z_al0 (q := 91) C dX5_init_90 rfl ?_
  refine l_get (q := 94) C 0 (by decide) rfl q828 rfl dX5_init_91 rfl ?_
  refine z_iconst (q := 95) (v := nI 1) C dX5_init_94 rfl (by decide) ?_
  refine z_bipush (q := 97) (v := nI 8) C dX5_init_95 rfl (by decide) ?_
  refine l_iast (q := 98) C 1 rfl (by decide) (by decide) (ws' := [(o, .inr (0, [.ref a0, .ref a1, .ref a2, .int 0, .ref a4, .int 0, .ref a6, .int 0, .int 0, .ref a9, .ref a10, .ref a11, .ref a12, .ref a13, .int 0, .ref a15, .int 0, .int 0, .int 0, .int 0])), (a0, .inl (D.2, 218, .inl (upd (fun _ => 0) 1 (nI 8)))), (a1, .inl (D.2, 1308, .inl (fun _ => 0))), (a2, .inl (D.2, 218, .inl (fun _ => 0))), (a4, .inl (D.2, 5, .inl (fun _ => 0))), (a6, .inl (D.2, 120, .inl (fun _ => 0))), (a9, .inl (D.2, 3, .inl (fun _ => 0))), (a10, .inl (D.2, 3, .inl (fun _ => 0))), (a11, .inl (D.2, 3, .inl (fun _ => 0))), (a12, .inl (D.2, 3, .inl (fun _ => 0))), (a13, .inl (D.2, 50, .inl (fun _ => 0))), (a15, .inl (D.2, 50, .inl (fun _ => 0)))]) rfl dX5_init_97 rfl ?_
  refine z_al0 (q := 99) C dX5_init_98 rfl ?_
  refine l_get (q := 102) C 0 (by decide) rfl q828 rfl dX5_init_99 rfl ?_
  refine z_iconst (q := 103) (v := nI 2) C dX5_init_102 rfl (by decide) ?_
  refine z_iconst (q := 104) (v := nI 1) C dX5_init_103 rfl (by decide) ?_
  refine l_iast (q := 105) C 1 rfl (by decide) (by decide) (ws' := [(o, .inr (0, [.ref a0, .ref a1, .ref a2, .int 0, .ref a4, .int 0, .ref a6, .int 0, .int 0, .ref a9, .ref a10, .ref a11, .ref a12, .ref a13, .int 0, .ref a15, .int 0, .int 0, .int 0, .int 0])), (a0, .inl (D.2, 218, .inl (upd (upd (fun _ => 0) 1 (nI 8)) 2 (nI 1)))), (a1, .inl (D.2, 1308, .inl (fun _ => 0))), (a2, .inl (D.2, 218, .inl (fun _ => 0))), (a4, .inl (D.2, 5, .inl (fun _ => 0))), (a6, .inl (D.2, 120, .inl (fun _ => 0))), (a9, .inl (D.2, 3, .inl (fun _ => 0))), (a10, .inl (D.2, 3, .inl (fun _ => 0))), (a11, .inl (D.2, 3, .inl (fun _ => 0))), (a12, .inl (D.2, 3, .inl (fun _ => 0))), (a13, .inl (D.2, 50, .inl (fun _ => 0))), (a15, .inl (D.2, 50, .inl (fun _ => 0)))]) rfl dX5_init_104 rfl ?_
  refine z_iconst (q := 106) (v := nI 0) C dX5_init_105 rfl (by decide) ?_
  refine z_is1 (q := 107) C dX5_init_106 rfl (by first | exact loC_i | exact loC_r | exact loC_n | exact loC_q | exact loC_u) ?_
  refine z_il1 (q := 108) C dX5_init_107 rfl ?_
  refine z_iconst (q := 109) (v := nI 3) C dX5_init_108 rfl (by decide) ?_
  refine z_icmp_geN (tgt := 125) (q := 112) C dX5_init_109 (by decide) rfl (by decide) (by decide) (fun c => absurd c (by decide)) (fun _ => ?_)
  refine z_al0 (q := 113) C dX5_init_112 rfl ?_
  refine l_get (q := 116) C 9 (by decide) rfl q837 rfl dX5_init_113 rfl ?_
  refine z_il1 (q := 117) C dX5_init_116 rfl ?_
  refine z_iconst (q := 118) (v := -1) C dX5_init_117 rfl (by decide) ?_
  refine l_iast (q := 119) C 6 rfl (by decide) (by decide) (ws' := [(o, .inr (0, [.ref a0, .ref a1, .ref a2, .int 0, .ref a4, .int 0, .ref a6, .int 0, .int 0, .ref a9, .ref a10, .ref a11, .ref a12, .ref a13, .int 0, .ref a15, .int 0, .int 0, .int 0, .int 0])), (a0, .inl (D.2, 218, .inl (upd (upd (fun _ => 0) 1 (nI 8)) 2 (nI 1)))), (a1, .inl (D.2, 1308, .inl (fun _ => 0))), (a2, .inl (D.2, 218, .inl (fun _ => 0))), (a4, .inl (D.2, 5, .inl (fun _ => 0))), (a6, .inl (D.2, 120, .inl (fun _ => 0))), (a9, .inl (D.2, 3, .inl (upd (fun _ => 0) 0 (-1)))), (a10, .inl (D.2, 3, .inl (fun _ => 0))), (a11, .inl (D.2, 3, .inl (fun _ => 0))), (a12, .inl (D.2, 3, .inl (fun _ => 0))), (a13, .inl (D.2, 50, .inl (fun _ => 0))), (a15, .inl (D.2, 50, .inl (fun _ => 0)))]) rfl dX5_init_118 rfl ?_
  refine z_iinc1N (q := 122) C dX5_init_119 rfl loC_r ?_
  refine z_goto (tgt := 107) C dX5_init_122 (by decide) ?_
  refine z_il1 (q := 108) C dX5_init_107 rfl ?_
  refine z_iconst (q := 109) (v := nI 3) C dX5_init_108 rfl (by decide) ?_
  refine z_icmp_geN (tgt := 125) (q := 112) C dX5_init_109 (by decide) rfl (by decide) (by decide) (fun c => absurd c (by decide)) (fun _ => ?_)
  refine z_al0 (q := 113) C dX5_init_112 rfl ?_
  refine l_get (q := 116) C 9 (by decide) rfl q837 rfl dX5_init_113 rfl ?_
  refine z_il1 (q := 117) C dX5_init_116 rfl ?_
  refine z_iconst (q := 118) (v := -1) C dX5_init_117 rfl (by decide) ?_
  refine l_iast (q := 119) C 6 rfl (by decide) (by decide) (ws' := [(o, .inr (0, [.ref a0, .ref a1, .ref a2, .int 0, .ref a4, .int 0, .ref a6, .int 0, .int 0, .ref a9, .ref a10, .ref a11, .ref a12, .ref a13, .int 0, .ref a15, .int 0, .int 0, .int 0, .int 0])), (a0, .inl (D.2, 218, .inl (upd (upd (fun _ => 0) 1 (nI 8)) 2 (nI 1)))), (a1, .inl (D.2, 1308, .inl (fun _ => 0))), (a2, .inl (D.2, 218, .inl (fun _ => 0))), (a4, .inl (D.2, 5, .inl (fun _ => 0))), (a6, .inl (D.2, 120, .inl (fun _ => 0))), (a9, .inl (D.2, 3, .inl (upd (upd (fun _ => 0) 0 (-1)) 1 (-1)))), (a10, .inl (D.2, 3, .inl (fun _ => 0))), (a11, .inl (D.2, 3, .inl (fun _ => 0))), (a12, .inl (D.2, 3, .inl (fun _ => 0))), (a13, .inl (D.2, 50, .inl (fun _ => 0))), (a15, .inl (D.2, 50, .inl (fun _ => 0)))]) rfl dX5_init_118 rfl ?_
  refine z_iinc1N (q := 122) C dX5_init_119 rfl loC_r ?_
  refine z_goto (tgt := 107) C dX5_init_122 (by decide) ?_
  refine z_il1 (q := 108) C dX5_init_107 rfl ?_
  refine z_iconst (q := 109) (v := nI 3) C dX5_init_108 rfl (by decide) ?_
  refine z_icmp_geN (tgt := 125) (q := 112) C dX5_init_109 (by decide) rfl (by decide) (by decide) (fun c => absurd c (by decide)) (fun _ => ?_)
  refine z_al0 (q := 113) C dX5_init_112 rfl ?_
  refine l_get (q := 116) C 9 (by decide) rfl q837 rfl dX5_init_113 rfl ?_
  refine z_il1 (q := 117) C dX5_init_116 rfl ?_
  refine z_iconst (q := 118) (v := -1) C dX5_init_117 rfl (by decide) ?_
  refine l_iast (q := 119) C 6 rfl (by decide) (by decide) (ws' := [(o, .inr (0, [.ref a0, .ref a1, .ref a2, .int 0, .ref a4, .int 0, .ref a6, .int 0, .int 0, .ref a9, .ref a10, .ref a11, .ref a12, .ref a13, .int 0, .ref a15, .int 0, .int 0, .int 0, .int 0])), (a0, .inl (D.2, 218, .inl (upd (upd (fun _ => 0) 1 (nI 8)) 2 (nI 1)))), (a1, .inl (D.2, 1308, .inl (fun _ => 0))), (a2, .inl (D.2, 218, .inl (fun _ => 0))), (a4, .inl (D.2, 5, .inl (fun _ => 0))), (a6, .inl (D.2, 120, .inl (fun _ => 0))), (a9, .inl (D.2, 3, .inl (upd (upd (upd (fun _ => 0) 0 (-1)) 1 (-1)) 2 (-1)))), (a10, .inl (D.2, 3, .inl (fun _ => 0))), (a11, .inl (D.2, 3, .inl (fun _ => 0))), (a12, .inl (D.2, 3, .inl (fun _ => 0))), (a13, .inl (D.2, 50, .inl (fun _ => 0))), (a15, .inl (D.2, 50, .inl (fun _ => 0)))]) rfl dX5_init_118 rfl ?_
  refine z_iinc1N (q := 122) C dX5_init_119 rfl loC_r ?_
  refine z_goto (tgt := 107) C dX5_init_122 (by decide) ?_
  refine z_il1 (q := 108) C dX5_init_107 rfl ?_
  refine z_iconst (q := 109) (v := nI 3) C dX5_init_108 rfl (by decide) ?_
  refine z_icmp_geN (tgt := 125) (q := 112) C dX5_init_109 (by decide) rfl (by decide) (by decide) (fun _ => ?_) (fun c => absurd c (by decide))
  refine z_vret C hQ dX5_init_125 (by decide) (by decide) ⟨rfl, ad5 a0 a1 a2 a4 a6 a9 a10 a11 a12 a13 a15, rfl⟩
