/-! THE TWIN: its world. τ.1: int fields by number; τ.2: arrays by the number of their field -/
set_option maxRecDepth 10000
abbrev Tw : Type := (Nat → Int32) × (Nat → Nat → Int32)
abbrev Dt : Type := va_G × ClassId
abbrev clT : List vw_C := [(RX5, TX5, 20)]
def upA (f : Nat → Nat → Int32) (j i : Nat) (x : Int32) : Nat → Nat → Int32 := fun a => if a = j then upd (f j) i x else f a
def tfs (ad : Nat → Nat) (τ : Tw) : List Value := [.ref (ad 0), .ref (ad 1), .ref (ad 2), .int (τ.1 3), .ref (ad 4), .int (τ.1 5), .ref (ad 6), .int (τ.1 7), .int (τ.1 8), .ref (ad 9), .ref (ad 10), .ref (ad 11), .ref (ad 12), .ref (ad 13), .int (τ.1 14), .ref (ad 15), .int (τ.1 16), .int (τ.1 17), .int (τ.1 18), .int (τ.1 19)]
def wsT (D : Dt) (o : Nat) (ad : Nat → Nat) (τ : Tw) : va_W := [(o, .inr (0, tfs ad τ)), (ad 0, .inl (D.2, 218, .inl (τ.2 0))), (ad 1, .inl (D.2, 1308, .inl (τ.2 1))), (ad 2, .inl (D.2, 218, .inl (τ.2 2))), (ad 4, .inl (D.2, 5, .inl (τ.2 4))), (ad 6, .inl (D.2, 120, .inl (τ.2 6))), (ad 9, .inl (D.2, 3, .inl (τ.2 9))), (ad 10, .inl (D.2, 3, .inl (τ.2 10))), (ad 11, .inl (D.2, 3, .inl (τ.2 11))), (ad 12, .inl (D.2, 3, .inl (τ.2 12))), (ad 13, .inl (D.2, 50, .inl (τ.2 13))), (ad 15, .inl (D.2, 50, .inl (τ.2 15)))]
def HT (D : Dt) (o : Nat) (ad : Nat → Nat) (τ : Tw) (H : Heap) : Prop := va_P D.1 clT (wsT D o ad τ) H ∧ va_D (fun _ => True) (wsT D o ad τ)
def DT (D : Dt) (o : Nat) (ad : Nat → Nat) (τ : Tw) (q : Nat) : Prop := ∃ (k : Nat) (e : va_E), (wsT D o ad τ)[k]? = some (q, e)
def KT (D : Dt) (U : State) : Prop := va_K D.1 clT [(D.2, .int)] U
abbrev wT (D : Dt) (o : Nat) (ad : Nat → Nat) : Wd Tw := (HT D o ad, DT D o ad, KT D)
theorem KTok {D : Dt} : KKok (KT D) := ⟨fun U g mk a h => va_K.moved (u := U) (U := U.calling g mk a) (Vm.Alike.refl U.vm) h, fun s U hW h => va_K.moved hW.alike h⟩
/-- the τ with an int field, an array's place set -/
def sF (k : Nat) (x : Int32) (τ : Tw) : Tw := (upd τ.1 k x, τ.2)
def sE (j i : Nat) (x : Int32) (τ : Tw) : Tw := (τ.1, upA τ.2 j i x)
section ZT
variable {D : Dt} {o : Nat} {ad : Nat → Nat} {Y : Fz} {cc : ByteArray} {ret : Option FieldType} {d mc ms : Nat} {τ : Tw} {k n pc q : Nat} {lo : Lo} {st : List Value}
theorem rcT : Rcv (wT D o ad) τ RX5 o := fun U H h1 hK => va_recv hK h1.1 (ci := 0) (q0 := 0) rfl rfl
theorem dT {A : Nat → Prop} {H : Heap} (h1 : HT D o ad τ H) (h2 : ∀ q, DT D o ad τ q → A q) : va_D A (wsT D o ad τ) := ⟨h1.2.1, fun k q hk => h2 q.1 ⟨k, q.2, hk⟩⟩
theorem dT2 {A : Nat → Prop} {ws : va_W} (h : va_D A ws) : va_D (fun _ => True) ws := h.weaken (fun _ _ _ _ => trivial)
theorem dT3 {A : Nat → Prop} {τ' : Tw} (h : va_D A (wsT D o ad τ')) : ∀ q, DT D o ad τ' q → A q := fun q ⟨k, e, hk⟩ => h.2 k (q, e) hk
/-- s -/
theorem tg_7 (C : Cx (wT D o ad) Y cc RX5 ret d mc ms) (hd : decode cc pc = .ok (.getfield 7, 3)) (hq : pc + 3 = q) (g : Zj (wT D o ad) Y τ k n q lo (.ref (ad 0) :: st)) : Zj (wT D o ad) Y τ k n pc lo (.ref o :: st) := by
  subst hq; exact fun H locs ls h1 h2 h3 h4 => va_get (T := TX5) (N := 20) (ci := 0) C.1 C.2.1 C.hts in_X5 C.ow C.hK h1.1 0 rfl rfl 0 (by decide) (C.hts _ q828) (fun x h => h) rfl hd (g H locs ls h1 h2 h3 h4)
/-- past -/
theorem tg_13 (C : Cx (wT D o ad) Y cc RX5 ret d mc ms) (hd : decode cc pc = .ok (.getfield 13, 3)) (hq : pc + 3 = q) (g : Zj (wT D o ad) Y τ k n q lo (.ref (ad 1) :: st)) : Zj (wT D o ad) Y τ k n pc lo (.ref o :: st) := by
  subst hq; exact fun H locs ls h1 h2 h3 h4 => va_get (T := TX5) (N := 20) (ci := 0) C.1 C.2.1 C.hts in_X5 C.ow C.hK h1.1 0 rfl rfl 1 (by decide) (C.hts _ q829) (fun x h => h) rfl hd (g H locs ls h1 h2 h3 h4)
/-- kept -/
theorem tg_16 (C : Cx (wT D o ad) Y cc RX5 ret d mc ms) (hd : decode cc pc = .ok (.getfield 16, 3)) (hq : pc + 3 = q) (g : Zj (wT D o ad) Y τ k n q lo (.ref (ad 2) :: st)) : Zj (wT D o ad) Y τ k n pc lo (.ref o :: st) := by
  subst hq; exact fun H locs ls h1 h2 h3 h4 => va_get (T := TX5) (N := 20) (ci := 0) C.1 C.2.1 C.hts in_X5 C.ow C.hK h1.1 0 rfl rfl 2 (by decide) (C.hts _ q830) (fun x h => h) rfl hd (g H locs ls h1 h2 h3 h4)
/-- refused -/
theorem tg_19 (C : Cx (wT D o ad) Y cc RX5 ret d mc ms) (hd : decode cc pc = .ok (.getfield 19, 3)) (hq : pc + 3 = q) (g : Zj (wT D o ad) Y τ k n q lo (.ref (ad 4) :: st)) : Zj (wT D o ad) Y τ k n pc lo (.ref o :: st) := by
  subst hq; exact fun H locs ls h1 h2 h3 h4 => va_get (T := TX5) (N := 20) (ci := 0) C.1 C.2.1 C.hts in_X5 C.ow C.hK h1.1 0 rfl rfl 4 (by decide) (C.hts _ q832) (fun x h => h) rfl hd (g H locs ls h1 h2 h3 h4)
/-- text -/
theorem tg_22 (C : Cx (wT D o ad) Y cc RX5 ret d mc ms) (hd : decode cc pc = .ok (.getfield 22, 3)) (hq : pc + 3 = q) (g : Zj (wT D o ad) Y τ k n q lo (.ref (ad 6) :: st)) : Zj (wT D o ad) Y τ k n pc lo (.ref o :: st) := by
  subst hq; exact fun H locs ls h1 h2 h3 h4 => va_get (T := TX5) (N := 20) (ci := 0) C.1 C.2.1 C.hts in_X5 C.ow C.hK h1.1 0 rfl rfl 6 (by decide) (C.hts _ q834) (fun x h => h) rfl hd (g H locs ls h1 h2 h3 h4)
/-- way -/
theorem tg_25 (C : Cx (wT D o ad) Y cc RX5 ret d mc ms) (hd : decode cc pc = .ok (.getfield 25, 3)) (hq : pc + 3 = q) (g : Zj (wT D o ad) Y τ k n q lo (.ref (ad 9) :: st)) : Zj (wT D o ad) Y τ k n pc lo (.ref o :: st) := by
  subst hq; exact fun H locs ls h1 h2 h3 h4 => va_get (T := TX5) (N := 20) (ci := 0) C.1 C.2.1 C.hts in_X5 C.ow C.hK h1.1 0 rfl rfl 9 (by decide) (C.hts _ q837) (fun x h => h) rfl hd (g H locs ls h1 h2 h3 h4)
/-- nextKey -/
theorem tg_28 (C : Cx (wT D o ad) Y cc RX5 ret d mc ms) (hd : decode cc pc = .ok (.getfield 28, 3)) (hq : pc + 3 = q) (g : Zj (wT D o ad) Y τ k n q lo (.ref (ad 10) :: st)) : Zj (wT D o ad) Y τ k n pc lo (.ref o :: st) := by
  subst hq; exact fun H locs ls h1 h2 h3 h4 => va_get (T := TX5) (N := 20) (ci := 0) C.1 C.2.1 C.hts in_X5 C.ow C.hK h1.1 0 rfl rfl 10 (by decide) (C.hts _ q838) (fun x h => h) rfl hd (g H locs ls h1 h2 h3 h4)
/-- lastKey -/
theorem tg_31 (C : Cx (wT D o ad) Y cc RX5 ret d mc ms) (hd : decode cc pc = .ok (.getfield 31, 3)) (hq : pc + 3 = q) (g : Zj (wT D o ad) Y τ k n q lo (.ref (ad 11) :: st)) : Zj (wT D o ad) Y τ k n pc lo (.ref o :: st) := by
  subst hq; exact fun H locs ls h1 h2 h3 h4 => va_get (T := TX5) (N := 20) (ci := 0) C.1 C.2.1 C.hts in_X5 C.ow C.hK h1.1 0 rfl rfl 11 (by decide) (C.hts _ q839) (fun x h => h) rfl hd (g H locs ls h1 h2 h3 h4)
/-- knows -/
theorem tg_34 (C : Cx (wT D o ad) Y cc RX5 ret d mc ms) (hd : decode cc pc = .ok (.getfield 34, 3)) (hq : pc + 3 = q) (g : Zj (wT D o ad) Y τ k n q lo (.ref (ad 12) :: st)) : Zj (wT D o ad) Y τ k n pc lo (.ref o :: st) := by
  subst hq; exact fun H locs ls h1 h2 h3 h4 => va_get (T := TX5) (N := 20) (ci := 0) C.1 C.2.1 C.hts in_X5 C.ow C.hK h1.1 0 rfl rfl 12 (by decide) (C.hts _ q840) (fun x h => h) rfl hd (g H locs ls h1 h2 h3 h4)
/-- held -/
theorem tg_37 (C : Cx (wT D o ad) Y cc RX5 ret d mc ms) (hd : decode cc pc = .ok (.getfield 37, 3)) (hq : pc + 3 = q) (g : Zj (wT D o ad) Y τ k n q lo (.ref (ad 13) :: st)) : Zj (wT D o ad) Y τ k n pc lo (.ref o :: st) := by
  subst hq; exact fun H locs ls h1 h2 h3 h4 => va_get (T := TX5) (N := 20) (ci := 0) C.1 C.2.1 C.hts in_X5 C.ow C.hK h1.1 0 rfl rfl 13 (by decide) (C.hts _ q841) (fun x h => h) rfl hd (g H locs ls h1 h2 h3 h4)
/-- walk -/
theorem tg_40 (C : Cx (wT D o ad) Y cc RX5 ret d mc ms) (hd : decode cc pc = .ok (.getfield 40, 3)) (hq : pc + 3 = q) (g : Zj (wT D o ad) Y τ k n q lo (.ref (ad 15) :: st)) : Zj (wT D o ad) Y τ k n pc lo (.ref o :: st) := by
  subst hq; exact fun H locs ls h1 h2 h3 h4 => va_get (T := TX5) (N := 20) (ci := 0) C.1 C.2.1 C.hts in_X5 C.ow C.hK h1.1 0 rfl rfl 15 (by decide) (C.hts _ q843) (fun x h => h) rfl hd (g H locs ls h1 h2 h3 h4)
/-- known -/
theorem tg_48 (C : Cx (wT D o ad) Y cc RX5 ret d mc ms) (hd : decode cc pc = .ok (.getfield 48, 3)) (hq : pc + 3 = q) (g : Zj (wT D o ad) Y τ k n q lo (.int (τ.1 3) :: st)) : Zj (wT D o ad) Y τ k n pc lo (.ref o :: st) := by
  subst hq; exact fun H locs ls h1 h2 h3 h4 => va_get (T := TX5) (N := 20) (ci := 0) C.1 C.2.1 C.hts in_X5 C.ow C.hK h1.1 0 rfl rfl 3 (by decide) (C.hts _ q831) (fun x h => h) rfl hd (g H locs ls h1 h2 h3 h4)
theorem tp_48 (C : Cx (wT D o ad) Y cc RX5 ret d mc ms) {x : Int32} (hd : decode cc pc = .ok (.putfield 48, 3)) (hq : pc + 3 = q) (g : Zj (wT D o ad) Y (sF 3 x τ) k n q lo st) : Zj (wT D o ad) Y τ k n pc lo (.int x :: .ref o :: st) := by
  subst hq; exact fun H locs ls h1 h2 h3 h4 => va_put (T := TX5) (N := 20) (ci := 0) C.1 C.2.1 C.hts in_X5 tyX5 tyX5_ok nmX5 C.ow C.hK h1.1 (dT h1 h2) h3 0 rfl rfl 3 (by decide) (C.hts _ q831) (fun x h => h) rfl (ty := .int) (by decide +kernel) rfl rfl (Nat.le_of_ble_eq_true rfl) hd (fun H1 locs1 hP hD hS => g H1 locs1 ls ⟨hP, dT2 hD⟩ (dT3 (τ' := sF 3 x τ) hD) hS h4)
/-- many -/
theorem tg_58 (C : Cx (wT D o ad) Y cc RX5 ret d mc ms) (hd : decode cc pc = .ok (.getfield 58, 3)) (hq : pc + 3 = q) (g : Zj (wT D o ad) Y τ k n q lo (.int (τ.1 14) :: st)) : Zj (wT D o ad) Y τ k n pc lo (.ref o :: st) := by
  subst hq; exact fun H locs ls h1 h2 h3 h4 => va_get (T := TX5) (N := 20) (ci := 0) C.1 C.2.1 C.hts in_X5 C.ow C.hK h1.1 0 rfl rfl 14 (by decide) (C.hts _ q842) (fun x h => h) rfl hd (g H locs ls h1 h2 h3 h4)
theorem tp_58 (C : Cx (wT D o ad) Y cc RX5 ret d mc ms) {x : Int32} (hd : decode cc pc = .ok (.putfield 58, 3)) (hq : pc + 3 = q) (g : Zj (wT D o ad) Y (sF 14 x τ) k n q lo st) : Zj (wT D o ad) Y τ k n pc lo (.int x :: .ref o :: st) := by
  subst hq; exact fun H locs ls h1 h2 h3 h4 => va_put (T := TX5) (N := 20) (ci := 0) C.1 C.2.1 C.hts in_X5 tyX5 tyX5_ok nmX5 C.ow C.hK h1.1 (dT h1 h2) h3 0 rfl rfl 14 (by decide) (C.hts _ q842) (fun x h => h) rfl (ty := .int) (by decide +kernel) rfl rfl (Nat.le_of_ble_eq_true rfl) hd (fun H1 locs1 hP hD hS => g H1 locs1 ls ⟨hP, dT2 hD⟩ (dT3 (τ' := sF 14 x τ) hD) hS h4)
/-- from -/
theorem tg_82 (C : Cx (wT D o ad) Y cc RX5 ret d mc ms) (hd : decode cc pc = .ok (.getfield 82, 3)) (hq : pc + 3 = q) (g : Zj (wT D o ad) Y τ k n q lo (.int (τ.1 17) :: st)) : Zj (wT D o ad) Y τ k n pc lo (.ref o :: st) := by
  subst hq; exact fun H locs ls h1 h2 h3 h4 => va_get (T := TX5) (N := 20) (ci := 0) C.1 C.2.1 C.hts in_X5 C.ow C.hK h1.1 0 rfl rfl 17 (by decide) (C.hts _ q845) (fun x h => h) rfl hd (g H locs ls h1 h2 h3 h4)
theorem tp_82 (C : Cx (wT D o ad) Y cc RX5 ret d mc ms) {x : Int32} (hd : decode cc pc = .ok (.putfield 82, 3)) (hq : pc + 3 = q) (g : Zj (wT D o ad) Y (sF 17 x τ) k n q lo st) : Zj (wT D o ad) Y τ k n pc lo (.int x :: .ref o :: st) := by
  subst hq; exact fun H locs ls h1 h2 h3 h4 => va_put (T := TX5) (N := 20) (ci := 0) C.1 C.2.1 C.hts in_X5 tyX5 tyX5_ok nmX5 C.ow C.hK h1.1 (dT h1 h2) h3 0 rfl rfl 17 (by decide) (C.hts _ q845) (fun x h => h) rfl (ty := .int) (by decide +kernel) rfl rfl (Nat.le_of_ble_eq_true rfl) hd (fun H1 locs1 hP hD hS => g H1 locs1 ls ⟨hP, dT2 hD⟩ (dT3 (τ' := sF 17 x τ) hD) hS h4)
/-- to -/
theorem tg_85 (C : Cx (wT D o ad) Y cc RX5 ret d mc ms) (hd : decode cc pc = .ok (.getfield 85, 3)) (hq : pc + 3 = q) (g : Zj (wT D o ad) Y τ k n q lo (.int (τ.1 18) :: st)) : Zj (wT D o ad) Y τ k n pc lo (.ref o :: st) := by
  subst hq; exact fun H locs ls h1 h2 h3 h4 => va_get (T := TX5) (N := 20) (ci := 0) C.1 C.2.1 C.hts in_X5 C.ow C.hK h1.1 0 rfl rfl 18 (by decide) (C.hts _ q846) (fun x h => h) rfl hd (g H locs ls h1 h2 h3 h4)
theorem tp_85 (C : Cx (wT D o ad) Y cc RX5 ret d mc ms) {x : Int32} (hd : decode cc pc = .ok (.putfield 85, 3)) (hq : pc + 3 = q) (g : Zj (wT D o ad) Y (sF 18 x τ) k n q lo st) : Zj (wT D o ad) Y τ k n pc lo (.int x :: .ref o :: st) := by
  subst hq; exact fun H locs ls h1 h2 h3 h4 => va_put (T := TX5) (N := 20) (ci := 0) C.1 C.2.1 C.hts in_X5 tyX5 tyX5_ok nmX5 C.ow C.hK h1.1 (dT h1 h2) h3 0 rfl rfl 18 (by decide) (C.hts _ q846) (fun x h => h) rfl (ty := .int) (by decide +kernel) rfl rfl (Nat.le_of_ble_eq_true rfl) hd (fun H1 locs1 hP hD hS => g H1 locs1 ls ⟨hP, dT2 hD⟩ (dT3 (τ' := sF 18 x τ) hD) hS h4)
/-- rootOver -/
theorem tg_88 (C : Cx (wT D o ad) Y cc RX5 ret d mc ms) (hd : decode cc pc = .ok (.getfield 88, 3)) (hq : pc + 3 = q) (g : Zj (wT D o ad) Y τ k n q lo (.int (τ.1 16) :: st)) : Zj (wT D o ad) Y τ k n pc lo (.ref o :: st) := by
  subst hq; exact fun H locs ls h1 h2 h3 h4 => va_get (T := TX5) (N := 20) (ci := 0) C.1 C.2.1 C.hts in_X5 C.ow C.hK h1.1 0 rfl rfl 16 (by decide) (C.hts _ q844) (fun x h => h) rfl hd (g H locs ls h1 h2 h3 h4)
theorem tp_88 (C : Cx (wT D o ad) Y cc RX5 ret d mc ms) {x : Int32} (hd : decode cc pc = .ok (.putfield 88, 3)) (hq : pc + 3 = q) (g : Zj (wT D o ad) Y (sF 16 x τ) k n q lo st) : Zj (wT D o ad) Y τ k n pc lo (.int x :: .ref o :: st) := by
  subst hq; exact fun H locs ls h1 h2 h3 h4 => va_put (T := TX5) (N := 20) (ci := 0) C.1 C.2.1 C.hts in_X5 tyX5 tyX5_ok nmX5 C.ow C.hK h1.1 (dT h1 h2) h3 0 rfl rfl 16 (by decide) (C.hts _ q844) (fun x h => h) rfl (ty := .int) (by decide +kernel) rfl rfl (Nat.le_of_ble_eq_true rfl) hd (fun H1 locs1 hP hD hS => g H1 locs1 ls ⟨hP, dT2 hD⟩ (dT3 (τ' := sF 16 x τ) hD) hS h4)
/-- changes -/
theorem tg_108 (C : Cx (wT D o ad) Y cc RX5 ret d mc ms) (hd : decode cc pc = .ok (.getfield 108, 3)) (hq : pc + 3 = q) (g : Zj (wT D o ad) Y τ k n q lo (.int (τ.1 5) :: st)) : Zj (wT D o ad) Y τ k n pc lo (.ref o :: st) := by
  subst hq; exact fun H locs ls h1 h2 h3 h4 => va_get (T := TX5) (N := 20) (ci := 0) C.1 C.2.1 C.hts in_X5 C.ow C.hK h1.1 0 rfl rfl 5 (by decide) (C.hts _ q833) (fun x h => h) rfl hd (g H locs ls h1 h2 h3 h4)
theorem tp_108 (C : Cx (wT D o ad) Y cc RX5 ret d mc ms) {x : Int32} (hd : decode cc pc = .ok (.putfield 108, 3)) (hq : pc + 3 = q) (g : Zj (wT D o ad) Y (sF 5 x τ) k n q lo st) : Zj (wT D o ad) Y τ k n pc lo (.int x :: .ref o :: st) := by
  subst hq; exact fun H locs ls h1 h2 h3 h4 => va_put (T := TX5) (N := 20) (ci := 0) C.1 C.2.1 C.hts in_X5 tyX5 tyX5_ok nmX5 C.ow C.hK h1.1 (dT h1 h2) h3 0 rfl rfl 5 (by decide) (C.hts _ q833) (fun x h => h) rfl (ty := .int) (by decide +kernel) rfl rfl (Nat.le_of_ble_eq_true rfl) hd (fun H1 locs1 hP hD hS => g H1 locs1 ls ⟨hP, dT2 hD⟩ (dT3 (τ' := sF 5 x τ) hD) hS h4)
/-- typed -/
theorem tg_207 (C : Cx (wT D o ad) Y cc RX5 ret d mc ms) (hd : decode cc pc = .ok (.getfield 207, 3)) (hq : pc + 3 = q) (g : Zj (wT D o ad) Y τ k n q lo (.int (τ.1 7) :: st)) : Zj (wT D o ad) Y τ k n pc lo (.ref o :: st) := by
  subst hq; exact fun H locs ls h1 h2 h3 h4 => va_get (T := TX5) (N := 20) (ci := 0) C.1 C.2.1 C.hts in_X5 C.ow C.hK h1.1 0 rfl rfl 7 (by decide) (C.hts _ q835) (fun x h => h) rfl hd (g H locs ls h1 h2 h3 h4)
theorem tp_207 (C : Cx (wT D o ad) Y cc RX5 ret d mc ms) {x : Int32} (hd : decode cc pc = .ok (.putfield 207, 3)) (hq : pc + 3 = q) (g : Zj (wT D o ad) Y (sF 7 x τ) k n q lo st) : Zj (wT D o ad) Y τ k n pc lo (.int x :: .ref o :: st) := by
  subst hq; exact fun H locs ls h1 h2 h3 h4 => va_put (T := TX5) (N := 20) (ci := 0) C.1 C.2.1 C.hts in_X5 tyX5 tyX5_ok nmX5 C.ow C.hK h1.1 (dT h1 h2) h3 0 rfl rfl 7 (by decide) (C.hts _ q835) (fun x h => h) rfl (ty := .int) (by decide +kernel) rfl rfl (Nat.le_of_ble_eq_true rfl) hd (fun H1 locs1 hP hD hS => g H1 locs1 ls ⟨hP, dT2 hD⟩ (dT3 (τ' := sF 7 x τ) hD) hS h4)
/-- at -/
theorem tg_210 (C : Cx (wT D o ad) Y cc RX5 ret d mc ms) (hd : decode cc pc = .ok (.getfield 210, 3)) (hq : pc + 3 = q) (g : Zj (wT D o ad) Y τ k n q lo (.int (τ.1 8) :: st)) : Zj (wT D o ad) Y τ k n pc lo (.ref o :: st) := by
  subst hq; exact fun H locs ls h1 h2 h3 h4 => va_get (T := TX5) (N := 20) (ci := 0) C.1 C.2.1 C.hts in_X5 C.ow C.hK h1.1 0 rfl rfl 8 (by decide) (C.hts _ q836) (fun x h => h) rfl hd (g H locs ls h1 h2 h3 h4)
theorem tp_210 (C : Cx (wT D o ad) Y cc RX5 ret d mc ms) {x : Int32} (hd : decode cc pc = .ok (.putfield 210, 3)) (hq : pc + 3 = q) (g : Zj (wT D o ad) Y (sF 8 x τ) k n q lo st) : Zj (wT D o ad) Y τ k n pc lo (.int x :: .ref o :: st) := by
  subst hq; exact fun H locs ls h1 h2 h3 h4 => va_put (T := TX5) (N := 20) (ci := 0) C.1 C.2.1 C.hts in_X5 tyX5 tyX5_ok nmX5 C.ow C.hK h1.1 (dT h1 h2) h3 0 rfl rfl 8 (by decide) (C.hts _ q836) (fun x h => h) rfl (ty := .int) (by decide +kernel) rfl rfl (Nat.le_of_ble_eq_true rfl) hd (fun H1 locs1 hP hD hS => g H1 locs1 ls ⟨hP, dT2 hD⟩ (dT3 (τ' := sF 8 x τ) hD) hS h4)
/-- told -/
theorem tg_216 (C : Cx (wT D o ad) Y cc RX5 ret d mc ms) (hd : decode cc pc = .ok (.getfield 216, 3)) (hq : pc + 3 = q) (g : Zj (wT D o ad) Y τ k n q lo (.int (τ.1 19) :: st)) : Zj (wT D o ad) Y τ k n pc lo (.ref o :: st) := by
  subst hq; exact fun H locs ls h1 h2 h3 h4 => va_get (T := TX5) (N := 20) (ci := 0) C.1 C.2.1 C.hts in_X5 C.ow C.hK h1.1 0 rfl rfl 19 (by decide) (C.hts _ q847) (fun x h => h) rfl hd (g H locs ls h1 h2 h3 h4)
theorem tp_216 (C : Cx (wT D o ad) Y cc RX5 ret d mc ms) {x : Int32} (hd : decode cc pc = .ok (.putfield 216, 3)) (hq : pc + 3 = q) (g : Zj (wT D o ad) Y (sF 19 x τ) k n q lo st) : Zj (wT D o ad) Y τ k n pc lo (.int x :: .ref o :: st) := by
  subst hq; exact fun H locs ls h1 h2 h3 h4 => va_put (T := TX5) (N := 20) (ci := 0) C.1 C.2.1 C.hts in_X5 tyX5 tyX5_ok nmX5 C.ow C.hK h1.1 (dT h1 h2) h3 0 rfl rfl 19 (by decide) (C.hts _ q847) (fun x h => h) rfl (ty := .int) (by decide +kernel) rfl rfl (Nat.le_of_ble_eq_true rfl) hd (fun H1 locs1 hP hD hS => g H1 locs1 ls ⟨hP, dT2 hD⟩ (dT3 (τ' := sF 19 x τ) hD) hS h4)
/-- s[..] -/
theorem ta_ld0 (C : Cx (wT D o ad) Y cc RX5 ret d mc ms) {e : Nat} (hd : decode cc pc = .ok (.iaload, 1)) (hq : pc + 1 = q) (he : e < 218) (g : Zj (wT D o ad) Y τ k n q lo (.int (τ.2 0 e) :: st)) : Zj (wT D o ad) Y τ k n pc lo (.int (nI e) :: .ref (ad 0) :: st) := by
  subst hq; refine fun H locs ls h1 h2 h3 h4 => va_iald C.1 C.2.1 C.hK h1.1 1 0 rfl rfl (vp_in_nI he (by decide)) hd ?_
  rw [nI_clamp (by omega)]; exact g H locs ls h1 h2 h3 h4
theorem ta_st0 (C : Cx (wT D o ad) Y cc RX5 ret d mc ms) {e : Nat} {x : Int32} (hd : decode cc pc = .ok (.iastore, 1)) (hq : pc + 1 = q) (he : e < 218) (g : Zj (wT D o ad) Y (sE 0 e x τ) k n q lo st) : Zj (wT D o ad) Y τ k n pc lo (.int x :: .int (nI e) :: .ref (ad 0) :: st) := by
  subst hq; refine fun H locs ls h1 h2 h3 h4 => va_iast C.1 C.2.1 C.hK h1.1 (dT h1 h2) h3 1 0 rfl rfl (vp_in_nI he (by decide)) hd (fun H1 locs1 hP hD hS => ?_)
  rw [nI_clamp (by omega)] at hP hD; exact g H1 locs1 ls ⟨hP, dT2 hD⟩ (dT3 (τ' := sE 0 e x τ) hD) hS h4
/-- past[..] -/
theorem ta_ld1 (C : Cx (wT D o ad) Y cc RX5 ret d mc ms) {e : Nat} (hd : decode cc pc = .ok (.iaload, 1)) (hq : pc + 1 = q) (he : e < 1308) (g : Zj (wT D o ad) Y τ k n q lo (.int (τ.2 1 e) :: st)) : Zj (wT D o ad) Y τ k n pc lo (.int (nI e) :: .ref (ad 1) :: st) := by
  subst hq; refine fun H locs ls h1 h2 h3 h4 => va_iald C.1 C.2.1 C.hK h1.1 2 0 rfl rfl (vp_in_nI he (by decide)) hd ?_
  rw [nI_clamp (by omega)]; exact g H locs ls h1 h2 h3 h4
theorem ta_st1 (C : Cx (wT D o ad) Y cc RX5 ret d mc ms) {e : Nat} {x : Int32} (hd : decode cc pc = .ok (.iastore, 1)) (hq : pc + 1 = q) (he : e < 1308) (g : Zj (wT D o ad) Y (sE 1 e x τ) k n q lo st) : Zj (wT D o ad) Y τ k n pc lo (.int x :: .int (nI e) :: .ref (ad 1) :: st) := by
  subst hq; refine fun H locs ls h1 h2 h3 h4 => va_iast C.1 C.2.1 C.hK h1.1 (dT h1 h2) h3 2 0 rfl rfl (vp_in_nI he (by decide)) hd (fun H1 locs1 hP hD hS => ?_)
  rw [nI_clamp (by omega)] at hP hD; exact g H1 locs1 ls ⟨hP, dT2 hD⟩ (dT3 (τ' := sE 1 e x τ) hD) hS h4
/-- kept[..] -/
theorem ta_ld2 (C : Cx (wT D o ad) Y cc RX5 ret d mc ms) {e : Nat} (hd : decode cc pc = .ok (.iaload, 1)) (hq : pc + 1 = q) (he : e < 218) (g : Zj (wT D o ad) Y τ k n q lo (.int (τ.2 2 e) :: st)) : Zj (wT D o ad) Y τ k n pc lo (.int (nI e) :: .ref (ad 2) :: st) := by
  subst hq; refine fun H locs ls h1 h2 h3 h4 => va_iald C.1 C.2.1 C.hK h1.1 3 0 rfl rfl (vp_in_nI he (by decide)) hd ?_
  rw [nI_clamp (by omega)]; exact g H locs ls h1 h2 h3 h4
theorem ta_st2 (C : Cx (wT D o ad) Y cc RX5 ret d mc ms) {e : Nat} {x : Int32} (hd : decode cc pc = .ok (.iastore, 1)) (hq : pc + 1 = q) (he : e < 218) (g : Zj (wT D o ad) Y (sE 2 e x τ) k n q lo st) : Zj (wT D o ad) Y τ k n pc lo (.int x :: .int (nI e) :: .ref (ad 2) :: st) := by
  subst hq; refine fun H locs ls h1 h2 h3 h4 => va_iast C.1 C.2.1 C.hK h1.1 (dT h1 h2) h3 3 0 rfl rfl (vp_in_nI he (by decide)) hd (fun H1 locs1 hP hD hS => ?_)
  rw [nI_clamp (by omega)] at hP hD; exact g H1 locs1 ls ⟨hP, dT2 hD⟩ (dT3 (τ' := sE 2 e x τ) hD) hS h4
/-- refused[..] -/
theorem ta_ld4 (C : Cx (wT D o ad) Y cc RX5 ret d mc ms) {e : Nat} (hd : decode cc pc = .ok (.iaload, 1)) (hq : pc + 1 = q) (he : e < 5) (g : Zj (wT D o ad) Y τ k n q lo (.int (τ.2 4 e) :: st)) : Zj (wT D o ad) Y τ k n pc lo (.int (nI e) :: .ref (ad 4) :: st) := by
  subst hq; refine fun H locs ls h1 h2 h3 h4 => va_iald C.1 C.2.1 C.hK h1.1 4 0 rfl rfl (vp_in_nI he (by decide)) hd ?_
  rw [nI_clamp (by omega)]; exact g H locs ls h1 h2 h3 h4
theorem ta_st4 (C : Cx (wT D o ad) Y cc RX5 ret d mc ms) {e : Nat} {x : Int32} (hd : decode cc pc = .ok (.iastore, 1)) (hq : pc + 1 = q) (he : e < 5) (g : Zj (wT D o ad) Y (sE 4 e x τ) k n q lo st) : Zj (wT D o ad) Y τ k n pc lo (.int x :: .int (nI e) :: .ref (ad 4) :: st) := by
  subst hq; refine fun H locs ls h1 h2 h3 h4 => va_iast C.1 C.2.1 C.hK h1.1 (dT h1 h2) h3 4 0 rfl rfl (vp_in_nI he (by decide)) hd (fun H1 locs1 hP hD hS => ?_)
  rw [nI_clamp (by omega)] at hP hD; exact g H1 locs1 ls ⟨hP, dT2 hD⟩ (dT3 (τ' := sE 4 e x τ) hD) hS h4
/-- text[..] -/
theorem ta_ld6 (C : Cx (wT D o ad) Y cc RX5 ret d mc ms) {e : Nat} (hd : decode cc pc = .ok (.iaload, 1)) (hq : pc + 1 = q) (he : e < 120) (g : Zj (wT D o ad) Y τ k n q lo (.int (τ.2 6 e) :: st)) : Zj (wT D o ad) Y τ k n pc lo (.int (nI e) :: .ref (ad 6) :: st) := by
  subst hq; refine fun H locs ls h1 h2 h3 h4 => va_iald C.1 C.2.1 C.hK h1.1 5 0 rfl rfl (vp_in_nI he (by decide)) hd ?_
  rw [nI_clamp (by omega)]; exact g H locs ls h1 h2 h3 h4
theorem ta_st6 (C : Cx (wT D o ad) Y cc RX5 ret d mc ms) {e : Nat} {x : Int32} (hd : decode cc pc = .ok (.iastore, 1)) (hq : pc + 1 = q) (he : e < 120) (g : Zj (wT D o ad) Y (sE 6 e x τ) k n q lo st) : Zj (wT D o ad) Y τ k n pc lo (.int x :: .int (nI e) :: .ref (ad 6) :: st) := by
  subst hq; refine fun H locs ls h1 h2 h3 h4 => va_iast C.1 C.2.1 C.hK h1.1 (dT h1 h2) h3 5 0 rfl rfl (vp_in_nI he (by decide)) hd (fun H1 locs1 hP hD hS => ?_)
  rw [nI_clamp (by omega)] at hP hD; exact g H1 locs1 ls ⟨hP, dT2 hD⟩ (dT3 (τ' := sE 6 e x τ) hD) hS h4
/-- way[..] -/
theorem ta_ld9 (C : Cx (wT D o ad) Y cc RX5 ret d mc ms) {e : Nat} (hd : decode cc pc = .ok (.iaload, 1)) (hq : pc + 1 = q) (he : e < 3) (g : Zj (wT D o ad) Y τ k n q lo (.int (τ.2 9 e) :: st)) : Zj (wT D o ad) Y τ k n pc lo (.int (nI e) :: .ref (ad 9) :: st) := by
  subst hq; refine fun H locs ls h1 h2 h3 h4 => va_iald C.1 C.2.1 C.hK h1.1 6 0 rfl rfl (vp_in_nI he (by decide)) hd ?_
  rw [nI_clamp (by omega)]; exact g H locs ls h1 h2 h3 h4
theorem ta_st9 (C : Cx (wT D o ad) Y cc RX5 ret d mc ms) {e : Nat} {x : Int32} (hd : decode cc pc = .ok (.iastore, 1)) (hq : pc + 1 = q) (he : e < 3) (g : Zj (wT D o ad) Y (sE 9 e x τ) k n q lo st) : Zj (wT D o ad) Y τ k n pc lo (.int x :: .int (nI e) :: .ref (ad 9) :: st) := by
  subst hq; refine fun H locs ls h1 h2 h3 h4 => va_iast C.1 C.2.1 C.hK h1.1 (dT h1 h2) h3 6 0 rfl rfl (vp_in_nI he (by decide)) hd (fun H1 locs1 hP hD hS => ?_)
  rw [nI_clamp (by omega)] at hP hD; exact g H1 locs1 ls ⟨hP, dT2 hD⟩ (dT3 (τ' := sE 9 e x τ) hD) hS h4
/-- nextKey[..] -/
theorem ta_ld10 (C : Cx (wT D o ad) Y cc RX5 ret d mc ms) {e : Nat} (hd : decode cc pc = .ok (.iaload, 1)) (hq : pc + 1 = q) (he : e < 3) (g : Zj (wT D o ad) Y τ k n q lo (.int (τ.2 10 e) :: st)) : Zj (wT D o ad) Y τ k n pc lo (.int (nI e) :: .ref (ad 10) :: st) := by
  subst hq; refine fun H locs ls h1 h2 h3 h4 => va_iald C.1 C.2.1 C.hK h1.1 7 0 rfl rfl (vp_in_nI he (by decide)) hd ?_
  rw [nI_clamp (by omega)]; exact g H locs ls h1 h2 h3 h4
theorem ta_st10 (C : Cx (wT D o ad) Y cc RX5 ret d mc ms) {e : Nat} {x : Int32} (hd : decode cc pc = .ok (.iastore, 1)) (hq : pc + 1 = q) (he : e < 3) (g : Zj (wT D o ad) Y (sE 10 e x τ) k n q lo st) : Zj (wT D o ad) Y τ k n pc lo (.int x :: .int (nI e) :: .ref (ad 10) :: st) := by
  subst hq; refine fun H locs ls h1 h2 h3 h4 => va_iast C.1 C.2.1 C.hK h1.1 (dT h1 h2) h3 7 0 rfl rfl (vp_in_nI he (by decide)) hd (fun H1 locs1 hP hD hS => ?_)
  rw [nI_clamp (by omega)] at hP hD; exact g H1 locs1 ls ⟨hP, dT2 hD⟩ (dT3 (τ' := sE 10 e x τ) hD) hS h4
/-- lastKey[..] -/
theorem ta_ld11 (C : Cx (wT D o ad) Y cc RX5 ret d mc ms) {e : Nat} (hd : decode cc pc = .ok (.iaload, 1)) (hq : pc + 1 = q) (he : e < 3) (g : Zj (wT D o ad) Y τ k n q lo (.int (τ.2 11 e) :: st)) : Zj (wT D o ad) Y τ k n pc lo (.int (nI e) :: .ref (ad 11) :: st) := by
  subst hq; refine fun H locs ls h1 h2 h3 h4 => va_iald C.1 C.2.1 C.hK h1.1 8 0 rfl rfl (vp_in_nI he (by decide)) hd ?_
  rw [nI_clamp (by omega)]; exact g H locs ls h1 h2 h3 h4
theorem ta_st11 (C : Cx (wT D o ad) Y cc RX5 ret d mc ms) {e : Nat} {x : Int32} (hd : decode cc pc = .ok (.iastore, 1)) (hq : pc + 1 = q) (he : e < 3) (g : Zj (wT D o ad) Y (sE 11 e x τ) k n q lo st) : Zj (wT D o ad) Y τ k n pc lo (.int x :: .int (nI e) :: .ref (ad 11) :: st) := by
  subst hq; refine fun H locs ls h1 h2 h3 h4 => va_iast C.1 C.2.1 C.hK h1.1 (dT h1 h2) h3 8 0 rfl rfl (vp_in_nI he (by decide)) hd (fun H1 locs1 hP hD hS => ?_)
  rw [nI_clamp (by omega)] at hP hD; exact g H1 locs1 ls ⟨hP, dT2 hD⟩ (dT3 (τ' := sE 11 e x τ) hD) hS h4
/-- knows[..] -/
theorem ta_ld12 (C : Cx (wT D o ad) Y cc RX5 ret d mc ms) {e : Nat} (hd : decode cc pc = .ok (.iaload, 1)) (hq : pc + 1 = q) (he : e < 3) (g : Zj (wT D o ad) Y τ k n q lo (.int (τ.2 12 e) :: st)) : Zj (wT D o ad) Y τ k n pc lo (.int (nI e) :: .ref (ad 12) :: st) := by
  subst hq; refine fun H locs ls h1 h2 h3 h4 => va_iald C.1 C.2.1 C.hK h1.1 9 0 rfl rfl (vp_in_nI he (by decide)) hd ?_
  rw [nI_clamp (by omega)]; exact g H locs ls h1 h2 h3 h4
theorem ta_st12 (C : Cx (wT D o ad) Y cc RX5 ret d mc ms) {e : Nat} {x : Int32} (hd : decode cc pc = .ok (.iastore, 1)) (hq : pc + 1 = q) (he : e < 3) (g : Zj (wT D o ad) Y (sE 12 e x τ) k n q lo st) : Zj (wT D o ad) Y τ k n pc lo (.int x :: .int (nI e) :: .ref (ad 12) :: st) := by
  subst hq; refine fun H locs ls h1 h2 h3 h4 => va_iast C.1 C.2.1 C.hK h1.1 (dT h1 h2) h3 9 0 rfl rfl (vp_in_nI he (by decide)) hd (fun H1 locs1 hP hD hS => ?_)
  rw [nI_clamp (by omega)] at hP hD; exact g H1 locs1 ls ⟨hP, dT2 hD⟩ (dT3 (τ' := sE 12 e x τ) hD) hS h4
/-- held[..] -/
theorem ta_ld13 (C : Cx (wT D o ad) Y cc RX5 ret d mc ms) {e : Nat} (hd : decode cc pc = .ok (.iaload, 1)) (hq : pc + 1 = q) (he : e < 50) (g : Zj (wT D o ad) Y τ k n q lo (.int (τ.2 13 e) :: st)) : Zj (wT D o ad) Y τ k n pc lo (.int (nI e) :: .ref (ad 13) :: st) := by
  subst hq; refine fun H locs ls h1 h2 h3 h4 => va_iald C.1 C.2.1 C.hK h1.1 10 0 rfl rfl (vp_in_nI he (by decide)) hd ?_
  rw [nI_clamp (by omega)]; exact g H locs ls h1 h2 h3 h4
theorem ta_st13 (C : Cx (wT D o ad) Y cc RX5 ret d mc ms) {e : Nat} {x : Int32} (hd : decode cc pc = .ok (.iastore, 1)) (hq : pc + 1 = q) (he : e < 50) (g : Zj (wT D o ad) Y (sE 13 e x τ) k n q lo st) : Zj (wT D o ad) Y τ k n pc lo (.int x :: .int (nI e) :: .ref (ad 13) :: st) := by
  subst hq; refine fun H locs ls h1 h2 h3 h4 => va_iast C.1 C.2.1 C.hK h1.1 (dT h1 h2) h3 10 0 rfl rfl (vp_in_nI he (by decide)) hd (fun H1 locs1 hP hD hS => ?_)
  rw [nI_clamp (by omega)] at hP hD; exact g H1 locs1 ls ⟨hP, dT2 hD⟩ (dT3 (τ' := sE 13 e x τ) hD) hS h4
/-- walk[..] -/
theorem ta_ld15 (C : Cx (wT D o ad) Y cc RX5 ret d mc ms) {e : Nat} (hd : decode cc pc = .ok (.iaload, 1)) (hq : pc + 1 = q) (he : e < 50) (g : Zj (wT D o ad) Y τ k n q lo (.int (τ.2 15 e) :: st)) : Zj (wT D o ad) Y τ k n pc lo (.int (nI e) :: .ref (ad 15) :: st) := by
  subst hq; refine fun H locs ls h1 h2 h3 h4 => va_iald C.1 C.2.1 C.hK h1.1 11 0 rfl rfl (vp_in_nI he (by decide)) hd ?_
  rw [nI_clamp (by omega)]; exact g H locs ls h1 h2 h3 h4
theorem ta_st15 (C : Cx (wT D o ad) Y cc RX5 ret d mc ms) {e : Nat} {x : Int32} (hd : decode cc pc = .ok (.iastore, 1)) (hq : pc + 1 = q) (he : e < 50) (g : Zj (wT D o ad) Y (sE 15 e x τ) k n q lo st) : Zj (wT D o ad) Y τ k n pc lo (.int x :: .int (nI e) :: .ref (ad 15) :: st) := by
  subst hq; refine fun H locs ls h1 h2 h3 h4 => va_iast C.1 C.2.1 C.hK h1.1 (dT h1 h2) h3 11 0 rfl rfl (vp_in_nI he (by decide)) hd (fun H1 locs1 hP hD hS => ?_)
  rw [nI_clamp (by omega)] at hP hD; exact g H1 locs1 ls ⟨hP, dT2 hD⟩ (dT3 (τ' := sE 15 e x τ) hD) hS h4
end ZT
theorem g_X5_44 : GS RX5 44 yX5_in cX5_in 3 (some .boolean) 3 := ⟨lw_S q901 q902 q86 q903, by decide +kernel, by decide⟩
theorem g_X5_54 : GV RX5 54 RX5 yX5_hashOf cX5_hashOf 3 (some .int) 1 := ⟨lw_V q936 q938 qs45 q86 q939, ⟨rfl, by decide +kernel⟩, by decide⟩
theorem g_X5_61 : GV RX5 61 RX5 yX5_binOf cX5_binOf 2 (some .int) 1 := ⟨lw_V q932 q934 qs44 q86 q935, ⟨rfl, by decide +kernel⟩, by decide⟩
theorem g_X5_64 : GV RX5 64 RX5 yX5_holds cX5_holds 4 none 1 := ⟨lw_V q1037 q1039 qs61 q86 q1040, ⟨rfl, by decide +kernel⟩, by decide⟩
theorem g_X5_68 : GV RX5 68 RX5 yX5_isAhead cX5_isAhead 5 (some .boolean) 2 := ⟨lw_V q1041 q1043 qs62 q86 q1044, ⟨rfl, by decide +kernel⟩, by decide⟩
theorem g_X5_76 : GS RX5 76 yX5_priority cX5_priority 1 (some .int) 1 := ⟨lw_S q1049 q1050 q86 q1051, by decide +kernel, by decide⟩
theorem g_X5_79 : GV RX5 79 RX5 yX5_inOrder cX5_inOrder 5 none 1 := ⟨lw_V q1033 q1035 qs60 q86 q1036, ⟨rfl, by decide +kernel⟩, by decide⟩
theorem g_X5_91 : GV RX5 91 RX5 yX5_rootOf cX5_rootOf 7 (some .int) 2 := ⟨lw_V q1045 q1047 qs63 q86 q1048, ⟨rfl, by decide +kernel⟩, by decide⟩
theorem g_X5_95 : GV RX5 95 RX5 yX5_isTree cX5_isTree 2 (some .boolean) 1 := ⟨lw_V q945 q947 qs47 q86 q948, ⟨rfl, by decide +kernel⟩, by decide⟩
theorem g_X5_99 : GV RX5 99 RX5 yX5_descends cX5_descends 6 (some .int) 2 := ⟨lw_V q1029 q1031 qs59 q86 q1032, ⟨rfl, by decide +kernel⟩, by decide⟩
theorem g_X5_102 : GV RX5 102 RX5 yX5_manyIn cX5_manyIn 4 (some .int) 1 := ⟨lw_V q949 q951 qs48 q86 q952, ⟨rfl, by decide +kernel⟩, by decide⟩
theorem g_X5_105 : GV RX5 105 RX5 yX5_grows cX5_grows 4 none 0 := ⟨lw_V q953 q955 qs49 q86 q956, ⟨rfl, by decide +kernel⟩, by decide⟩
theorem g_X5_111 : GV RX5 111 RX5 yX5_fits cX5_fits 3 none 2 := ⟨lw_V q941 q943 qs46 q86 q944, ⟨rfl, by decide +kernel⟩, by decide⟩
theorem g_X5_115 : GV RX5 115 RX5 yX5_goes cX5_goes 4 none 1 := ⟨lw_V q957 q959 qs50 q86 q960, ⟨rfl, by decide +kernel⟩, by decide⟩
theorem g_X5_118 : GV RX5 118 RX5 yX5_isLast cX5_isLast 2 (some .boolean) 1 := ⟨lw_V q965 q967 qs52 q86 q968, ⟨rfl, by decide +kernel⟩, by decide⟩
theorem g_X5_121 : GV RX5 121 RX5 yX5_placeOf cX5_placeOf 4 (some .int) 1 := ⟨lw_V q904 q906 qs37 q86 q907, ⟨rfl, by decide +kernel⟩, by decide⟩
theorem g_X5_124 : GV RX5 124 RX5 yX5_comes cX5_comes 4 none 2 := ⟨lw_V q928 q930 qs43 q86 q931, ⟨rfl, by decide +kernel⟩, by decide⟩
theorem g_X5_127 : GV RX5 127 RX5 yX5_moves cX5_moves 6 none 1 := ⟨lw_V q961 q963 qs51 q86 q964, ⟨rfl, by decide +kernel⟩, by decide⟩
theorem g_X5_130 : GS RX5 130 yX5_isKey cX5_isKey 1 (some .boolean) 1 := ⟨lw_S q897 q898 q86 q899, by decide +kernel, by decide⟩
theorem g_X5_133 : GV RX5 133 RX5 yX5_isFull cX5_isFull 1 (some .boolean) 0 := ⟨lw_V q908 q910 qs38 q86 q911, ⟨rfl, by decide +kernel⟩, by decide⟩
theorem g_X5_137 : GV RX5 137 RX5 yX5_refuses cX5_refuses 2 (some .int) 1 := ⟨lw_V q916 q918 qs40 q86 q919, ⟨rfl, by decide +kernel⟩, by decide⟩
theorem g_X5_140 : GV RX5 140 RX5 yX5_mayPut cX5_mayPut 3 (some .boolean) 2 := ⟨lw_V q893 q895 qs36 q86 q896, ⟨rfl, by decide +kernel⟩, by decide⟩
theorem g_X5_143 : GV RX5 143 RX5 yX5_putRefused cX5_putRefused 3 (some .int) 2 := ⟨lw_V q912 q914 qs39 q86 q915, ⟨rfl, by decide +kernel⟩, by decide⟩
theorem g_X5_146 : GV RX5 146 RX5 yX5_aside cX5_aside 2 none 0 := ⟨lw_V q920 q922 qs41 q86 q923, ⟨rfl, by decide +kernel⟩, by decide⟩
theorem g_X5_149 : GV RX5 149 RX5 yX5_putsNow cX5_putsNow 5 (some .int) 2 := ⟨lw_V q924 q926 qs42 q86 q927, ⟨rfl, by decide +kernel⟩, by decide⟩
theorem g_X5_152 : GV RX5 152 RX5 yX5_keeps cX5_keeps 2 none 0 := ⟨lw_V q969 q971 qs53 q86 q972, ⟨rfl, by decide +kernel⟩, by decide⟩
theorem g_X5_155 : GV RX5 155 RX5 yX5_getsNow cX5_getsNow 4 (some .int) 1 := ⟨lw_V q977 q979 qs54 q86 q980, ⟨rfl, by decide +kernel⟩, by decide⟩
theorem g_X5_158 : GV RX5 158 RX5 yX5_removesNow cX5_removesNow 4 (some .int) 1 := ⟨lw_V q989 q991 qs55 q86 q992, ⟨rfl, by decide +kernel⟩, by decide⟩
theorem g_X5_161 : GV RX5 161 RX5 yX5_empties cX5_empties 2 none 0 := ⟨lw_V q1005 q1007 qs57 q86 q1008, ⟨rfl, by decide +kernel⟩, by decide⟩
theorem g_X5_164 : GV RX5 164 RX5 yX5_clearsNow cX5_clearsNow 2 (some .int) 0 := ⟨lw_V q1001 q1003 qs56 q86 q1004, ⟨rfl, by decide +kernel⟩, by decide⟩
theorem g_X5_168 : GV RX5 168 RX5 yX5_stepsTo cX5_stepsTo 5 (some .int) 1 := ⟨lw_V q1025 q1027 qs58 q86 q1028, ⟨rfl, by decide +kernel⟩, by decide⟩
theorem g_X5_171 : GV RX5 171 RX5 yX5_keyAt cX5_keyAt 2 (some .int) 1 := ⟨lw_V q1066 q1068 qs65 q86 q1069, ⟨rfl, by decide +kernel⟩, by decide⟩
theorem g_X5_174 : GV RX5 174 RX5 yX5_deepest cX5_deepest 6 (some .int) 1 := ⟨lw_V q1070 q1072 qs66 q86 q1073, ⟨rfl, by decide +kernel⟩, by decide⟩
theorem g_X5_177 : GV RX5 177 RX5 yX5_binFact cX5_binFact 3 (some .int) 2 := ⟨lw_V q1062 q1064 qs64 q86 q1065, ⟨rfl, by decide +kernel⟩, by decide⟩
theorem g_X5_180 : GV RX5 180 RX5 yX5_rowAt cX5_rowAt 3 (some .int) 2 := ⟨lw_V q1078 q1080 qs67 q86 q1081, ⟨rfl, by decide +kernel⟩, by decide⟩
theorem g_X5_183 : GV RX5 183 RX5 yX5_nodeFact cX5_nodeFact 5 (some .int) 2 := ⟨lw_V q1086 q1088 qs68 q86 q1089, ⟨rfl, by decide +kernel⟩, by decide⟩
theorem g_X5_186 : GV RX5 186 RX5 yX5_countOf cX5_countOf 10 (some .int) 1 := ⟨lw_V q1094 q1096 qs69 q86 q1097, ⟨rfl, by decide +kernel⟩, by decide⟩
theorem g_X5_189 : GV RX5 189 RX5 yX5_keyBy cX5_keyBy 5 (some .int) 2 := ⟨lw_V q1109 q1111 qs71 q86 q1112, ⟨rfl, by decide +kernel⟩, by decide⟩
theorem g_X5_192 : GV RX5 192 RX5 yX5_placeBy cX5_placeBy 4 (some .int) 2 := ⟨lw_V q1121 q1123 qs73 q86 q1124, ⟨rfl, by decide +kernel⟩, by decide⟩
theorem g_X5_195 : GS RX5 195 yX5_isCursor cX5_isCursor 1 (some .boolean) 1 := ⟨lw_S q1102 q1103 q86 q1104, by decide +kernel, by decide⟩
theorem g_X5_198 : GV RX5 198 RX5 yX5_keyOrNone cX5_keyOrNone 3 (some .int) 2 := ⟨lw_V q1105 q1107 qs70 q86 q1108, ⟨rfl, by decide +kernel⟩, by decide⟩
theorem g_X5_201 : GV RX5 201 RX5 yX5_lacks cX5_lacks 2 (some .int) 1 := ⟨lw_V q1117 q1119 qs72 q86 q1120, ⟨rfl, by decide +kernel⟩, by decide⟩
theorem g_X5_204 : GV RX5 204 RX5 yX5_leftOf cX5_leftOf 2 (some .int) 1 := ⟨lw_V q1133 q1135 qs74 q86 q1136, ⟨rfl, by decide +kernel⟩, by decide⟩
theorem g_X5_213 : GV RX5 213 RX5 yX5_here cX5_here 1 (some .int) 0 := ⟨lw_V q1157 q1159 qs76 q86 q1160, ⟨rfl, by decide +kernel⟩, by decide⟩
theorem g_X5_219 : GV RX5 219 RX5 yX5_isFigure cX5_isFigure 1 (some .boolean) 0 := ⟨lw_V q1165 q1167 qs78 q86 q1168, ⟨rfl, by decide +kernel⟩, by decide⟩
theorem g_X5_222 : GV RX5 222 RX5 yX5_isNumber cX5_isNumber 2 (some .boolean) 0 := ⟨lw_V q1161 q1163 qs77 q86 q1164, ⟨rfl, by decide +kernel⟩, by decide⟩
theorem g_X5_225 : GV RX5 225 RX5 yX5_work cX5_work 6 (some .int) 1 := ⟨lw_V q1153 q1155 qs75 q86 q1156, ⟨rfl, by decide +kernel⟩, by decide⟩
theorem g_X5_229 : GV RX5 229 RX5 yX5_toldOf cX5_toldOf 4 (some .int) 1 := ⟨lw_V q1177 q1179 qs79 q86 q1180, ⟨rfl, by decide +kernel⟩, by decide⟩
/-! what the twin's row holds of a core: cm: when a key came, co: the next time -/
def TR (cm : Nat → Nat) (co : Nat) (a : Nat → Int32) (c : Co) : Prop :=
  a 0 = nI (k_es c).length ∧ (∀ i, 1 ≤ i → i ≤ 5 → a i = nI (k_n c i)) ∧ a 6 = nI co ∧ (∀ (e : Nat) (x : Nat × Nat), (k_es c)[e]? = some x → a (7 + e) = nI x.1 ∧ a (56 + e) = nI x.2 ∧ a (105 + e) = nI (cm x.1)) ∧ ∀ b, b < 64 → a (154 + b) = bI (k_tr c b)
def CM (cm : Nat → Nat) (co N : Nat) (c : Co) : Prop := (k_cs c).Pairwise (fun x y => cm x < cm y) ∧ (∀ k ∈ k_cs c, cm k < co) ∧ co ≤ N
def TC (N : Nat) (a : Nat → Int32) (c : Co) : Prop := CI c ∧ N ≤ 1000000 ∧ ∃ cm co, TR cm co a c ∧ CM cm co N c
/-- what a method leaves as it was: all but the fields fs and the arrays as -/
def TF (fs as : List Nat) (τ τ' : Tw) : Prop := (∀ k, k ∉ fs → τ'.1 k = τ.1 k) ∧ ∀ j, j ∉ as → τ'.2 j = τ.2 j
theorem TF.rf {fs as : List Nat} {τ : Tw} : TF fs as τ τ := ⟨fun _ _ => rfl, fun _ _ => rfl⟩
theorem TF.tr {fs as : List Nat} {τ τ1 τ2 : Tw} (h : TF fs as τ τ1) (h2 : TF fs as τ1 τ2) : TF fs as τ τ2 := ⟨fun k hk => (h2.1 k hk).trans (h.1 k hk), fun j hj => (h2.2 j hj).trans (h.2 j hj)⟩
theorem TF.up {fs as fs' as' : List Nat} {τ τ1 : Tw} (h : TF fs as τ τ1) (h1 : ∀ x ∈ fs, x ∈ fs') (h2 : ∀ x ∈ as, x ∈ as') : TF fs' as' τ τ1 := ⟨fun k hk => h.1 k (fun z => hk (h1 k z)), fun j hj => h.2 j (fun z => hj (h2 j z))⟩
theorem TF.sF {fs as : List Nat} {τ τ1 : Tw} (h : TF fs as τ τ1) {k : Nat} (hk : k ∈ fs) (x : Int32) : TF fs as τ (sF k x τ1) := by
  refine ⟨fun j hj => ?_, h.2⟩
  rw [← h.1 j hj]
  exact if_neg (fun z : j = k => hj (by rw [z]; exact hk))
theorem TF.sE {fs as : List Nat} {τ τ1 : Tw} (h : TF fs as τ τ1) {j : Nat} (hj : j ∈ as) (i : Nat) (x : Int32) : TF fs as τ (sE j i x τ1) := by
  refine ⟨h.1, fun a ha => ?_⟩
  rw [← h.2 a ha]
  exact if_neg (fun z : a = j => ha (by rw [z]; exact hj))
theorem sF_s {k : Nat} {x : Int32} {τ : Tw} : (sF k x τ).1 k = x := if_pos rfl
theorem sF_n {k j : Nat} {x : Int32} {τ : Tw} (h : j ≠ k) : (sF k x τ).1 j = τ.1 j := if_neg h
theorem sE_s {j i : Nat} {x : Int32} {τ : Tw} : (sE j i x τ).2 j i = x := by
  show (if j = j then upd (τ.2 j) i x else τ.2 j) i = x
  rw [if_pos rfl]
  exact if_pos rfl
theorem sE_n {j i e : Nat} {x : Int32} {τ : Tw} (h : e ≠ i) : (sE j i x τ).2 j e = τ.2 j e := by
  show (if j = j then upd (τ.2 j) i x else τ.2 j) e = _
  rw [if_pos rfl]
  exact if_neg h
theorem sE_o {j i a : Nat} {x : Int32} {τ : Tw} (h : a ≠ j) : (sE j i x τ).2 a = τ.2 a := if_neg h
section TCs
variable {N : Nat} {a : Nat → Int32} {c : Co}
theorem TC.w (h : TC N a c) : 8 ≤ k_n c 1 ∧ k_n c 1 ≤ 64 := h.1.w
theorem TC.len (h : TC N a c) : (k_es c).length ≤ 49 := h.1.2.2.2.1
theorem TC.a0 (h : TC N a c) : a 0 = nI (k_es c).length := by obtain ⟨-, -, cm, co, h, -⟩ := h; exact h.1
theorem TC.an (h : TC N a c) {i : Nat} (h1 : 1 ≤ i) (h2 : i ≤ 5) : a i = nI (k_n c i) := by obtain ⟨-, -, cm, co, h, -⟩ := h; exact h.2.1 i h1 h2
theorem TC.key (h : TC N a c) {e : Nat} {x : Nat × Nat} (he : (k_es c)[e]? = some x) : a (7 + e) = nI x.1 ∧ x.1 ≤ 999999 := by
  obtain ⟨hc, -, cm, co, h, -⟩ := h
  exact ⟨(h.2.2.2.1 e x he).1, (hc.2.1 x (List.mem_of_getElem? he)).1⟩
theorem TC.val (h : TC N a c) {e : Nat} {x : Nat × Nat} (he : (k_es c)[e]? = some x) : a (56 + e) = nI x.2 ∧ x.2 ≤ 9999 := by
  obtain ⟨hc, -, cm, co, h, -⟩ := h
  exact ⟨(h.2.2.2.1 e x he).2.1, (hc.2.1 x (List.mem_of_getElem? he)).2⟩
theorem TC.tree (h : TC N a c) {b : Nat} (hb : b < 64) : a (154 + b) = bI (k_tr c b) := by obtain ⟨-, -, cm, co, h, -⟩ := h; exact h.2.2.2.2 b hb
theorem at_lt {α : Type} {l : List α} {e : Nat} (h : e < l.length) : ∃ x, l[e]? = some x := ⟨_, List.getElem?_eq_getElem h⟩
end TCs
section ZB
variable {S : Type} {w : Wd S} {Y : Fz} {cc : ByteArray} {own : String} {ret : Option FieldType} {d mc ms : Nat} {σ : S} {k n pc q : Nat} {lo : Lo} {st : List Value}
theorem z_if_eqB (C : Cx w Y cc own ret d mc ms) {b : Bool} {off : Int} {tgt : Nat} (hd : decode cc pc = .ok (.ifCond .eq off, 3)) (ht : (pc : Int) + off = (tgt : Int)) (hq : pc + 3 = q) (gt : b = false → Zj w Y σ k n tgt lo st) (gf : b = true → Zj w Y σ k n q lo st) : Zj w Y σ k n pc lo (.int (bI b) :: st) := z_if_eq C hd ht hq (fun c => gt (bI_0.mp c)) (fun c => gf (bI_n0.mp c))
theorem z_if_neB (C : Cx w Y cc own ret d mc ms) {b : Bool} {off : Int} {tgt : Nat} (hd : decode cc pc = .ok (.ifCond .ne off, 3)) (ht : (pc : Int) + off = (tgt : Int)) (hq : pc + 3 = q) (gt : b = true → Zj w Y σ k n tgt lo st) (gf : b = false → Zj w Y σ k n q lo st) : Zj w Y σ k n pc lo (.int (bI b) :: st) := z_if_ne C hd ht hq (fun c => gt (bI_n0.mp c)) (fun c => gf (bI_0.mp c))
end ZB
