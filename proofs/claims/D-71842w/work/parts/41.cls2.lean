/-! THE CLASS: arrays, new cells, instanceof -/
set_option maxRecDepth 10000
theorem arr_st {cA : ClassId} {n e : Nat} {f : Nat → Int32} {x : Int32} : (vp_cell cA (n, .inl f)).setSlot e (.int x) = vp_cell cA (n, .inl (fun j => if j = e then x else f j)) := by
  rw [vp_cell_i, vp_cell_i, arrV_store]
  congr 1
  funext q
  by_cases hq : q = e
  · subst hq
    simp [updV]
  · simp [updV, hq]
theorem arr_sq {cA : ClassId} {n e : Nat} {f : Nat → Option Nat} {r : Option Nat} : (vp_cell cA (n, .inr (.inr (.inr (.inr f))))).setSlot e (va_rf r) = vp_cell cA (n, .inr (.inr (.inr (.inr (fun j => if j = e then r else f j))))) := by
  rw [vp_cell_q, vp_cell_q, arrV_store]
  congr 1
  funext q
  by_cases hq : q = e
  · subst hq
    simp [updV]
  · simp [updV, hq]
theorem in_nI {e L : Nat} (he : e < L) (h31 : e < 2 ^ 31) : vp_in (nI e) L := fun h => h.elim (nI_pos h31) (fun z => by rw [nI_clamp h31] at z; omega)
section ZA
variable {D : Dx} {Y : Fz} {cc : ByteArray} {own : String} {ret : Option FieldType} {d mc ms : Nat} {σ : Sg} {k n pc q : Nat} {lo : Lo} {st : List Value}
theorem x_A {a t : Nat} (h2 : ∀ q, (wX D).2.1 σ q → y_A Y q) (hk : kd σ a = t + 1) : y_A Y a := h2 a (by show kd σ a ≠ 0; rw [hk]; omega)
theorem x_iald (C : Cx (wX D) Y cc own ret d mc ms) {a e : Nat} (hk : kd σ a = 11) (he : e < ln σ a) (h31 : e < 2 ^ 31) (hd : decode cc pc = .ok (.iaload, 1)) (hq : pc + 1 = q) (g : Zj (wX D) Y σ k n q lo (.int (ai σ a e) :: st)) : Zj (wX D) Y σ k n pc lo (.int (nI e) :: .ref a :: st) := by
  subst hq
  refine fun H locs ls h1 h2 h3 h4 => va_iald (ws := [(a, arX D σ a 0)]) C.1 C.2.1 C.hK.1 (fun i q hi => by cases i with | zero => cases hi; exact h1.2.1 a 0 (by decide) hk | succ i => simp at hi) 0 0 rfl rfl (in_nI he h31) hd ?_
  rw [nI_clamp h31]
  exact g H locs ls h1 h2 h3 h4
theorem x_bald (C : Cx (wX D) Y cc own ret d mc ms) {a e : Nat} (hk : kd σ a = 12) (he : e < ln σ a) (h31 : e < 2 ^ 31) (hd : decode cc pc = .ok (.baload, 1)) (hq : pc + 1 = q) (g : Zj (wX D) Y σ k n q lo (.int (ai σ a e) :: st)) : Zj (wX D) Y σ k n pc lo (.int (nI e) :: .ref a :: st) := by
  subst hq
  refine fun H locs ls h1 h2 h3 h4 => va_bald (ws := [(a, arX D σ a 1)]) C.1 C.2.1 C.hK.1 (fun i q hi => by cases i with | zero => cases hi; exact h1.2.1 a 1 (by decide) hk | succ i => simp at hi) 0 1 rfl rfl (in_nI he h31) hd ?_
  rw [nI_clamp h31]
  exact g H locs ls h1 h2 h3 h4
theorem x_zald (C : Cx (wX D) Y cc own ret d mc ms) {a e : Nat} (hk : kd σ a = 13) (he : e < ln σ a) (h31 : e < 2 ^ 31) (hd : decode cc pc = .ok (.baload, 1)) (hq : pc + 1 = q) (g : Zj (wX D) Y σ k n q lo (.int (ai σ a e) :: st)) : Zj (wX D) Y σ k n pc lo (.int (nI e) :: .ref a :: st) := by
  subst hq
  refine fun H locs ls h1 h2 h3 h4 => va_zald (ws := [(a, arX D σ a 2)]) C.1 C.2.1 C.hK.1 (fun i q hi => by cases i with | zero => cases hi; exact h1.2.1 a 2 (by decide) hk | succ i => simp at hi) 0 2 rfl rfl (in_nI he h31) hd ?_
  rw [nI_clamp h31]
  exact g H locs ls h1 h2 h3 h4
theorem HX.stA {H H1 : Heap} (h1 : HX D σ H) {a e j : Nat} {x : Int32} (hj : j < 3) (hk : kd σ a = j + 11) (e1 : H1[a]? = some ((vp_cell (D.2.1 j) (ln σ a, .inl (ai σ a))).setSlot e (.int x))) (z : H1.size = H.size) (oq : ∀ q : Nat, q ≠ a → H1[q]? = H[q]?) : HX D (sA a e x σ) H1 := by
  refine h1.arr (j := j) (by omega) hk rfl rfl rfl rfl (fun b hb => ⟨up2_g hb, rfl⟩) ?_ z oq
  have ex : ai (sA a e x σ) a = fun j => if j = e then x else ai σ a j := by
    funext i
    exact up2_e
  unfold arX
  rw [if_pos hj, ex]
  show H1[a]? = some (vp_cell _ _)
  rw [e1, arr_st]
  rfl
theorem x_iast (C : Cx (wX D) Y cc own ret d mc ms) {a e : Nat} {x : Int32} (hk : kd σ a = 11) (he : e < ln σ a) (h31 : e < 2 ^ 31) (hd : decode cc pc = .ok (.iastore, 1)) (hq : pc + 1 = q) (g : Zj (wX D) Y (sA a e x σ) k n q lo st) : Zj (wX D) Y σ k n pc lo (.int x :: .int (nI e) :: .ref a :: st) := by
  subst hq
  intro H locs ls h1 h2 h3 h4
  refine W.iast C.1 C.2.1 (h1.2.1 a 0 (by decide) hk) ((C.hK.1.2 0 _ rfl).1 (ln σ a) (fun j => .int (ai σ a j))) (fun q => by cases q) (by show ¬ (nI e < 0 ∨ (arrV _ _ _).slots.size ≤ _); rw [arrV_size]; exact in_nI he h31) rfl rfl hd fun H1 e1 z oq => ?_
  rw [nI_clamp h31] at e1
  exact g H1 _ ls (h1.stA (j := 0) (by decide) hk e1 z oq) h2 (h3.put z oq (x_A h2 hk)) h4
theorem x_bast (C : Cx (wX D) Y cc own ret d mc ms) {a e : Nat} {x : Int32} (hk : kd σ a = 12) (he : e < ln σ a) (h31 : e < 2 ^ 31) (hn : narrow .byte (.int x) = .int x) (hd : decode cc pc = .ok (.bastore, 1)) (hq : pc + 1 = q) (g : Zj (wX D) Y (sA a e x σ) k n q lo st) : Zj (wX D) Y σ k n pc lo (.int x :: .int (nI e) :: .ref a :: st) := by
  subst hq
  intro H locs ls h1 h2 h3 h4
  refine W.bast C.1 C.2.1 (h1.2.1 a 1 (by decide) hk) ((C.hK.1.2 1 _ rfl).1 (ln σ a) (fun j => .int (ai σ a j))) (fun q => by cases q) (by show ¬ (nI e < 0 ∨ (arrV _ _ _).slots.size ≤ _); rw [arrV_size]; exact in_nI he h31) rfl rfl hd fun H1 e1 z oq => ?_
  rw [nI_clamp h31, hn] at e1
  exact g H1 _ ls (h1.stA (j := 1) (by decide) hk e1 z oq) h2 (h3.put z oq (x_A h2 hk)) h4
theorem x_zast (C : Cx (wX D) Y cc own ret d mc ms) {a e : Nat} {x : Int32} (hk : kd σ a = 13) (he : e < ln σ a) (h31 : e < 2 ^ 31) (hn : narrow .boolean (.int x) = .int x) (hd : decode cc pc = .ok (.bastore, 1)) (hq : pc + 1 = q) (g : Zj (wX D) Y (sA a e x σ) k n q lo st) : Zj (wX D) Y σ k n pc lo (.int x :: .int (nI e) :: .ref a :: st) := by
  subst hq
  intro H locs ls h1 h2 h3 h4
  refine W.zast C.1 C.2.1 (h1.2.1 a 2 (by decide) hk) ((C.hK.1.2 2 _ rfl).1 (ln σ a) (fun j => .int (ai σ a j))) (fun q => by cases q) (by show ¬ (nI e < 0 ∨ (arrV _ _ _).slots.size ≤ _); rw [arrV_size]; exact in_nI he h31) rfl rfl hd fun H1 e1 z oq => ?_
  rw [nI_clamp h31, hn] at e1
  exact g H1 _ ls (h1.stA (j := 2) (by decide) hk e1 z oq) h2 (h3.put z oq (x_A h2 hk)) h4
/-- arrays of references: number j (3 Bin, 4 Cursor, 5 State), elements of the class En -/
def enX (j : Nat) : String := match j with
  | 3 => "CrowdedBins$Bin"
  | 4 => "CrowdedBins$Cursor"
  | _ => "CrowdedBins$State"
theorem tys_e {j : Nat} (h3 : 3 ≤ j) (h6 : j < 6) : (tysX D)[j]? = some (D.2.1 j, .object (enX j)) := by
  rcases (show j = 3 ∨ j = 4 ∨ j = 5 by omega) with rfl | rfl | rfl <;> rfl
theorem ar_q {j a : Nat} (h3 : 3 ≤ j) : arX D σ a j = .inl (D.2.1 j, ln σ a, .inr (.inr (.inr (.inr (ar σ a))))) := by
  unfold arX
  rw [if_neg (by omega)]
theorem x_aald (C : Cx (wX D) Y cc own ret d mc ms) {a e : Nat} (j : Nat) (h3 : 3 ≤ j) (h6 : j < 6) (hk : kd σ a = j + 11) (he : e < ln σ a) (h31 : e < 2 ^ 31) (hd : decode cc pc = .ok (.aaload, 1)) (hq : pc + 1 = q) (g : Zj (wX D) Y σ k n q lo (va_rf (ar σ a e) :: st)) : Zj (wX D) Y σ k n pc lo (.int (nI e) :: .ref a :: st) := by
  subst hq
  refine fun H locs ls h1 h2 h3' h4 => va_aldq (ws := [(a, .inl (D.2.1 j, ln σ a, .inr (.inr (.inr (.inr (ar σ a))))))]) C.1 C.2.1 C.hK.1 (fun i q hi => by cases i with | zero => cases hi; have := h1.2.1 a j h6 hk; rw [ar_q h3] at this; exact this | succ i => simp at hi) 0 j rfl (tys_e h3 h6) (in_nI he h31) hd ?_
  rw [nI_clamp h31]
  exact g H locs ls h1 h2 h3' h4
theorem HX.stQ {H H1 : Heap} (h1 : HX D σ H) {a e j : Nat} {r : Option Nat} (h3 : 3 ≤ j) (h6 : j < 6) (hk : kd σ a = j + 11) (e1 : H1[a]? = some ((vp_cell (D.2.1 j) (ln σ a, .inr (.inr (.inr (.inr (ar σ a)))))).setSlot e (va_rf r))) (z : H1.size = H.size) (oq : ∀ q : Nat, q ≠ a → H1[q]? = H[q]?) : HX D (sQ a e r σ) H1 := by
  refine h1.arr (j := j) h6 hk rfl rfl rfl rfl (fun b hb => ⟨rfl, up2_g hb⟩) ?_ z oq
  have ex : ar (sQ a e r σ) a = fun j => if j = e then r else ar σ a j := by
    funext i
    exact up2_e
  rw [ar_q h3, ex]
  show H1[a]? = some (vp_cell _ _)
  rw [e1, arr_sq]
  rfl
theorem x_aastN (C : Cx (wX D) Y cc own ret d mc ms) {a e : Nat} (j : Nat) (h3 : 3 ≤ j) (h6 : j < 6) (hk : kd σ a = j + 11) (he : e < ln σ a) (h31 : e < 2 ^ 31) (hd : decode cc pc = .ok (.aastore, 1)) (hq : pc + 1 = q) (g : Zj (wX D) Y (sQ a e none σ) k n q lo st) : Zj (wX D) Y σ k n pc lo (.null :: .int (nI e) :: .ref a :: st) := by
  subst hq
  intro H locs ls h1 h2 h3' h4
  have hat := h1.2.1 a j h6 hk
  rw [ar_q h3] at hat
  refine va_WaastN (C := enX j) C.1 C.2.1 hat ((C.hK.1.2 j _ (tys_e h3 h6)).1 (ln σ a) (fun i => va_rf (ar σ a i))) (fun h => by cases h) (by show ¬ (nI e < 0 ∨ (arrV _ _ _).slots.size ≤ _); rw [arrV_size]; exact in_nI he h31) rfl rfl hd fun H1 e1 z oq => ?_
  rw [nI_clamp h31] at e1
  exact g H1 _ ls (h1.stQ (r := none) h3 h6 hk e1 z oq) h2 (h3'.put z oq (x_A h2 hk)) h4
theorem x_aast (C : Cx (wX D) Y cc own ret d mc ms) {a e b c : Nat} {Cn : String} {T : u_T} {ty : Nat → FieldType} (j : Nat) (h3 : 3 ≤ j) (h6 : j < 6) (hk : kd σ a = j + 11) (hC : KC c Cn T ty) (hb : kd σ b = c + 1) (hs : Cn = enX j ∨ Cond.castable Cn (enX j) ∈ lw_tbl) (he : e < ln σ a) (h31 : e < 2 ^ 31) (hd : decode cc pc = .ok (.aastore, 1)) (hq : pc + 1 = q) (g : Zj (wX D) Y (sQ a e (some b) σ) k n q lo st) : Zj (wX D) Y σ k n pc lo (.ref b :: .int (nI e) :: .ref a :: st) := by
  subst hq
  intro H locs ls h1 h2 h3' h4
  have hat := h1.2.1 a j h6 hk
  rw [ar_q h3] at hat
  obtain ⟨r', hr', cellV, g1, g2, g3, -⟩ := h1.1 b c hC.1 hb
  have hcls := (C.hK.1.1 c _ hC.2.1).2
  obtain ⟨kA, comp, k1, k2, k3, -⟩ := (C.hK.1.2 j _ (tys_e h3 h6)).2
  obtain ⟨kC, hkC, -⟩ := hcls.2
  have hasg : (y_s Y).vm.assignable (D.1.1 c) comp = true := by
    rcases hs with hs | hs
    · have hcomp : comp = D.1.1 c := Option.some.inj (k3.symm.trans (by rw [← hs]; exact hcls.1))
      rw [hcomp]
      exact va_assign hcls
    · exact vb_asgC (C.hK.2.1 _ hs rfl) comp (D.1.1 c) k3 hcls.1
  obtain ⟨kcomp, hkcomp, -⟩ := Vm.findClass_spec k3
  refine W.aast C.1 C.2.1 hat (fun q h => by cases h) (fun h => by cases h) k1 k2 rfl hkcomp ⟨nI_pos h31, by show _ < (arrV _ _ _).slots.size; rw [arrV_size, nI_clamp h31]; exact he⟩ g1 (fun q h => by rw [g3] at h; cases h) (by rw [g2]; exact hkC) (by rw [g2]; exact hasg) rfl rfl hd fun H1 e1 z oq => ?_
  rw [nI_clamp h31] at e1
  exact g H1 _ ls (h1.stQ (r := some b) h3 h6 hk e1 z oq) h2 (h3'.put z oq (x_A h2 hk)) h4
theorem x_alen (C : Cx (wX D) Y cc own ret d mc ms) {a : Nat} (hk : kd σ a = 11) (hd : decode cc pc = .ok (.arraylength, 1)) (hq : pc + 1 = q) (g : Zj (wX D) Y σ k n q lo (.int (nI (ln σ a)) :: st)) : Zj (wX D) Y σ k n pc lo (.ref a :: st) := by
  subst hq
  exact fun H locs ls h1 h2 h3 h4 => va_alen (ws := [(a, arX D σ a 0)]) (v := nI (ln σ a)) C.1 C.2.1 C.hK.1 (fun i q hi => by cases i with | zero => cases hi; exact h1.2.1 a 0 (by decide) hk | succ i => simp at hi) 0 0 rfl rfl rfl hd (g H locs ls h1 h2 h3 h4)
theorem fsX_nO {t qn c b : Nat} (h : b ≠ qn) : fsX c (nO t qn σ) b = fsX c σ b := by
  unfold fsX
  refine List.map_congr_left fun k _ => ?_
  unfold fv
  show (bif isI (gf c k) then Value.int (if b = qn then 0 else fi σ (gf c k) b) else va_rf (if b = qn then none else fr σ (gf c k) b)) = _
  rw [if_neg h, if_neg h]
theorem x_new (C : Cx (wX D) Y cc own ret d mc ms) {c idx : Nat} {Cn : String} {T : u_T} {ty : Nat → FieldType} (hC : KC c Cn T ty) (hl : Cond.classLink own idx Cn ∈ lw_all) (hi : Cond.instantiable Cn (nF c) ∈ lw_all) (hini : Cond.initialized Cn ∈ lw_all) (hdf : ∀ j, j < nF c → defaultValue (ty j) = bif isI (gf c j) then .int 0 else .null) (hk : k + 1 ≤ mc) (hn : n + nF c ≤ ms) (hd : decode cc pc = .ok (.new idx, 3)) (hq : pc + 3 = q) (g : ∀ a, kd σ a = 0 → Zj (wX D) Y (nO (c + 1) a σ) (k + 1) (n + nF c) q lo (.ref a :: st)) : Zj (wX D) Y σ k n pc lo st := by
  subst hq
  intro H locs ls h1 h2 h3 h4
  have hKn := C.hK.1.1 c _ hC.2.1
  refine W.newcK C.1 C.2.1 C.ow (C.hts _ hl) (C.hts _ hi) (C.hts _ hini) rfl hd (by rw [C.R]; exact hk) (by rw [C.R]; exact hn) hKn.2.1 rfl fun H1 kC hkC e1 z1 o1 => ?_
  have hob := u_born ty C.hts hC.2.2.1 hKn hkC e1 hC.2.2.2.1
  obtain ⟨h0, hX⟩ := h1.more (σ' := nO (c + 1) H.size σ) (t := c + 1) rfl (fun b hb => ⟨fun c' => fsX_nO hb, rfl, rfl, rfl⟩) (Or.inl ⟨c, hC.1, rfl, ⟨_, hC.2.1, hob.to fun j hj => by
    show defaultValue (ty j) = (fsX c (nO (c + 1) H.size σ) H.size).getD j .null
    simp only [List.getD_eq_getElem?_getD, fsX_at hj, Option.getD_some]
    rw [hdf j hj]
    unfold fv
    show _ = (bif isI (gf c j) then Value.int (if H.size = H.size then 0 else fi σ (gf c j) H.size) else va_rf (if H.size = H.size then none else fr σ (gf c j) H.size))
    rw [if_pos rfl, if_pos rfl]
    rfl⟩⟩) z1 o1
  refine g H.size h0 H1 locs ls hX (fun b hb => ?_) ⟨Nat.le_trans h3.1 (by omega), fun x g1 g2 => (o1 x (Nat.lt_of_lt_of_le g1 h3.1)).trans (h3.2.1 x g1 g2), h3.2.2⟩ h4
  by_cases e : b = H.size
  · rw [e]
    exact C.hA _ h3.1
  · refine h2 b ?_
    have hb : va_up (kd σ) H.size (c + 1) b ≠ 0 := hb
    unfold va_up at hb
    rw [if_neg e] at hb
    exact hb
theorem x_newa (C : Cx (wX D) Y cc own ret d mc ms) {L : Nat} (j : Nat) (hj : j < 3) {at' : ArrayType} {ty : FieldType} (hat : newarray.typeOf at' = ty) (hw : Cond.arrayClass ty ∈ lw_all) (ht : (tysX D)[j]? = some (D.2.1 j, ty)) (hdv : defaultValue ty = .int 0) (hcb : componentBytes ty ≤ 4) (hfc : ∀ U : State, ∀ cA, va_RA U cA ty → U.vm.findClass ("[" ++ ty.toString) = some cA) (hL : L ≤ 2000) (hk : k + 1 ≤ mc) (hn : n + L ≤ ms) (hd : decode cc pc = .ok (.newarray at', 2)) (hq : pc + 2 = q) (g : ∀ a, kd σ a = 0 → Zj (wX D) Y (nA (j + 11) L a σ) (k + 1) (n + L) q lo (.ref a :: st)) : Zj (wX D) Y σ k n pc lo (.int (nI L) :: st) := by
  subst hq
  subst hat
  intro H locs ls h1 h2 h3 h4
  refine va_newaK C.1 C.2.1 (C.hts _ hw) rfl hd rfl (nI_pos (by omega)) (nI_clamp (by omega)) (Nat.le_trans (Nat.mul_le_mul hL hcb) (by decide)) (by rw [C.R]; exact hk) (by rw [C.R]; exact hn) rfl fun H1 cA e1 z1 o1 hAr hNm => ?_
  have e3 : cA = D.2.1 j := Option.some.inj (hNm.symm.trans (hfc _ _ (C.hK.1.2 j _ ht).2))
  subst e3
  obtain ⟨h0, hX⟩ := h1.more (σ' := nA (j + 11) L H.size σ) (t := j + 11) rfl (fun b hb => ⟨fun c' => rfl, if_neg hb, if_neg hb, if_neg hb⟩) (Or.inr ⟨j, by omega, rfl, by
    unfold arX
    rw [if_pos hj]
    show H1[H.size]? = some (vp_cell (D.2.1 j) (va_up (ln σ) H.size L H.size, .inl (va_up (ai σ) H.size (fun _ => 0) H.size)))
    rw [e1, show va_up (ln σ) H.size L H.size = L from if_pos rfl, show va_up (ai σ) H.size (fun _ => (0 : Int32)) H.size = fun _ => 0 from if_pos rfl, vp_cell_i, hdv]⟩) z1 o1
  refine g H.size h0 H1 locs ls hX (fun b hb => ?_) ⟨Nat.le_trans h3.1 (by omega), fun x g1 g2 => (o1 x (Nat.lt_of_lt_of_le g1 h3.1)).trans (h3.2.1 x g1 g2), h3.2.2⟩ h4
  by_cases e : b = H.size
  · rw [e]
    exact C.hA _ h3.1
  · refine h2 b ?_
    have hb : va_up (kd σ) H.size (j + 11) b ≠ 0 := hb
    unfold va_up at hb
    rw [if_neg e] at hb
    exact hb
theorem x_rcv {a c : Nat} {Cn : String} {T : u_T} {ty : Nat → FieldType} (hC : KC c Cn T ty) (hk : kd σ a = c + 1) : Rcv (wX D) σ Cn a := fun U H h1 hK => va_recv (q := (Cn, T, nF c)) hK.1 (fun i q hi => (by cases i with | zero => cases hi; exact h1.1 a c hC.1 hk | succ i => simp at hi : va_at D.1 clX q H)) (ws := [(a, .inr (c, fsX c σ a))]) (ci := c) (q0 := 0) hC.2.1 rfl
theorem x_instS (C : Cx (wX D) Y cc own ret d mc ms) {a c idx : Nat} {Cn : String} {T : u_T} {ty : Nat → FieldType} (hC : KC c Cn T ty) (hk : kd σ a = c + 1) (hl : Cond.classLink own idx Cn ∈ lw_all) (hd : decode cc pc = .ok (.instanceof idx, 3)) (hq : pc + 3 = q) (g : Zj (wX D) Y σ k n q lo (.int (bI true) :: st)) : Zj (wX D) Y σ k n pc lo (.ref a :: st) := by
  subst hq
  exact fun H locs ls h1 h2 h3 h4 => va_instS C.1 C.2.1 C.ow (C.hts _ hl) (C.hK.1.1 c _ hC.2.1).2 (x_rcv hC hk _ H h1 C.hK) hd (g H locs ls h1 h2 h3 h4)
theorem x_instN (C : Cx (wX D) Y cc own ret d mc ms) {a c idx : Nat} {Cn nm : String} {T : u_T} {ty : Nat → FieldType} (hC : KC c Cn T ty) (hk : kd σ a = c + 1) (hl : Cond.classLink own idx nm ∈ lw_all) (hc : va_Nc Cn nm (y_s Y)) (hd : decode cc pc = .ok (.instanceof idx, 3)) (hq : pc + 3 = q) (g : Zj (wX D) Y σ k n q lo (.int (bI false) :: st)) : Zj (wX D) Y σ k n pc lo (.ref a :: st) := by
  subst hq
  exact fun H locs ls h1 h2 h3 h4 => va_instNo C.1 C.2.1 C.ow (C.hts _ hl) hc (x_rcv hC hk _ H h1 C.hK) hd (g H locs ls h1 h2 h3 h4)
end ZA
