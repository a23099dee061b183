/-! THE CLASS: its world, fields as functions of addresses (a number a field) -/
set_option maxRecDepth 10000
abbrev Sg : Type := (Nat → Nat) × (Nat → Nat → Int32) × (Nat → Nat → Option Nat) × (Nat → Nat) × (Nat → Nat → Int32) × (Nat → Nat → Option Nat)
/-- what kind of cell: 0 none of ours; 1 CrowdedBins 2 Entry 3 List 4 Tree 5 Cursor 6 State 7 Reader 8 Fault; 11 int[] 12 byte[] 13 boolean[] 14 Bin[] 15 Cursor[] 16 State[] -/
abbrev kd (σ : Sg) : Nat → Nat := σ.1
abbrev fi (σ : Sg) : Nat → Nat → Int32 := σ.2.1
abbrev fr (σ : Sg) : Nat → Nat → Option Nat := σ.2.2.1
abbrev ln (σ : Sg) : Nat → Nat := σ.2.2.2.1
abbrev ai (σ : Sg) : Nat → Nat → Int32 := σ.2.2.2.2.1
abbrev ar (σ : Sg) : Nat → Nat → Option Nat := σ.2.2.2.2.2
def up2 {α : Type} (f : Nat → Nat → α) (g a : Nat) (x : α) : Nat → Nat → α := fun g' => if g' = g then (fun a' => if a' = a then x else f g' a') else f g'
def sI (g a : Nat) (x : Int32) (σ : Sg) : Sg := (kd σ, up2 (fi σ) g a x, fr σ, ln σ, ai σ, ar σ)
def sR (g a : Nat) (r : Option Nat) (σ : Sg) : Sg := (kd σ, fi σ, up2 (fr σ) g a r, ln σ, ai σ, ar σ)
def sA (a i : Nat) (x : Int32) (σ : Sg) : Sg := (kd σ, fi σ, fr σ, ln σ, up2 (ai σ) a i x, ar σ)
def sQ (a i : Nat) (r : Option Nat) (σ : Sg) : Sg := (kd σ, fi σ, fr σ, ln σ, ai σ, up2 (ar σ) a i r)
/-- a new object, a new array -/
def nO (t q : Nat) (σ : Sg) : Sg := (va_up (kd σ) q t, fun g a => if a = q then 0 else fi σ g a, fun g a => if a = q then none else fr σ g a, ln σ, ai σ, ar σ)
def nA (t L q : Nat) (σ : Sg) : Sg := (va_up (kd σ) q t, fi σ, fr σ, va_up (ln σ) q L, va_up (ai σ) q (fun _ => 0), va_up (ar σ) q (fun _ => none))
theorem up2_s {α : Type} {f : Nat → Nat → α} {g a : Nat} {x : α} : up2 f g a x g a = x := by unfold up2; rw [if_pos rfl, if_pos rfl]
theorem up2_a {α : Type} {f : Nat → Nat → α} {g a b : Nat} {x : α} (h : b ≠ a) : up2 f g a x g b = f g b := by unfold up2; rw [if_pos rfl, if_neg h]
theorem up2_g {α : Type} {f : Nat → Nat → α} {g g' a : Nat} {x : α} (h : g' ≠ g) : up2 f g a x g' = f g' := by unfold up2; rw [if_neg h]
theorem up2_e {α : Type} {f : Nat → Nat → α} {g a b : Nat} {x : α} : up2 f g a x g b = if b = a then x else f g b := by unfold up2; rw [if_pos rfl]
abbrev clX : List vw_C := [(RX0, TX0, 19), (RX7, TX7, 10), (RX4, TX4, 3), (RX8, TX8, 4), (RX1, TX1, 4), (RX6, TX6, 8), (RX2, TX2, 2), (RX9, TX9, 7)]
def nF (c : Nat) : Nat := match c with
  | 0 => 19 | 1 => 10 | 2 => 3 | 3 => 4 | 4 => 4 | 5 => 8 | 6 => 2 | 7 => 7 | _ => 0
/-- the number of a field -/
def gf (c k : Nat) : Nat := match c with
  | 3 => if k = 3 then 60 else 40 + k
  | _ => 20 * c + k
def isI (g : Nat) : Bool := [1, 4, 5, 6, 7, 8, 9, 12, 13, 15, 20, 21, 22, 23, 42, 82, 83, 104, 105, 106, 107, 120, 145, 146].contains g
def fv (σ : Sg) (c k a : Nat) : Value := bif isI (gf c k) then .int (fi σ (gf c k) a) else va_rf (fr σ (gf c k) a)
def fsX (c : Nat) (σ : Sg) (a : Nat) : List Value := (List.range (nF c)).map (fun k => fv σ c k a)
/-- D: numbers of classes and slots; classes of arrays; the heap as it was; addresses of constants: 0 1 2 the ways, 3 WAYS, 4 5 Throwable's -/
abbrev Dx : Type := va_G × (Nat → ClassId) × Heap × (Nat → Nat)
def arX (D : Dx) (σ : Sg) (a : Nat) : Nat → va_E := fun j => .inl (D.2.1 j, ln σ a, if j < 3 then .inl (ai σ a) else .inr (.inr (.inr (.inr (ar σ a)))))
def HX (D : Dx) (σ : Sg) (H : Heap) : Prop := (∀ a c, c < 8 → kd σ a = c + 1 → va_at D.1 clX (a, .inr (c, fsX c σ a)) H) ∧ (∀ a j, j < 6 → kd σ a = j + 11 → va_at D.1 clX (a, arX D σ a j) H) ∧ (∀ a, kd σ a ≠ 0 → (∃ c, c < 8 ∧ kd σ a = c + 1) ∨ ∃ j, j < 6 ∧ kd σ a = j + 11) ∧ D.2.2.1.size ≤ H.size ∧ ∀ q, q < D.2.2.1.size → H[q]? = D.2.2.1[q]? ∧ kd σ q = 0
abbrev tysX (D : Dx) : List (ClassId × FieldType) := [(D.2.1 0, .int), (D.2.1 1, .byte), (D.2.1 2, .boolean), (D.2.1 3, .object "CrowdedBins$Bin"), (D.2.1 4, .object "CrowdedBins$Cursor"), (D.2.1 5, .object "CrowdedBins$State")]
def isNw (w : Cond) : Bool := match w with
  | .fieldLinkNest .. => true
  | .methodLinkNest .. => true
  | .declares .. => true
  | .castable .. => true
  | _ => false
def wyN (i : Nat) : String := match i with
  | 0 => "CrowdedBins$Way$1"
  | 1 => "CrowdedBins$Way$2"
  | _ => "CrowdedBins$Way$3"
/-- constants as they were at the start -/
def EW (D : Dx) (U : State) : Prop := va_Z "CrowdedBins" "WAYS" "[LCrowdedBins$Way;" (.ref (D.2.2.2 3)) (fun q => D.2.2.1.size ≤ q) U D.2.2.1 ∧ va_T (.object "CrowdedBins$Way") (D.2.2.2 3) 3 (fun j => .ref (D.2.2.2 j)) (fun q => D.2.2.1.size ≤ q) U D.2.2.1 ∧ (∀ i, i < 3 → va_O (wyN i) (D.2.2.2 i) (fun q => D.2.2.1.size ≤ q) U D.2.2.1) ∧ va_Z "java/lang/Throwable" "UNASSIGNED_STACK" "[Ljava/lang/StackTraceElement;" (.ref (D.2.2.2 4)) (fun q => D.2.2.1.size ≤ q) U D.2.2.1 ∧ va_Z "java/lang/Throwable" "SUPPRESSED_SENTINEL" "Ljava/util/List;" (.ref (D.2.2.2 5)) (fun q => D.2.2.1.size ≤ q) U D.2.2.1
theorem EW.moved {D : Dx} {u U : State} (hvm : u.vm.Alike U.vm) (h : EW D u) : EW D U := ⟨h.1.moved hvm, h.2.1.moved hvm, fun i hi => (h.2.2.1 i hi).moved hvm, h.2.2.2.1.moved hvm, h.2.2.2.2.moved hvm⟩
def KX (D : Dx) (U : State) : Prop := va_K D.1 clX (tysX D) U ∧ (∀ w ∈ lw_tbl, isNw w = true → va_Nw w U) ∧ (∀ C, Cond.arrayOver (.object C) ∈ lw_tbl → va_AO C U) ∧ (va_Nc RX4 RX8 U ∧ va_Nc RX8 RX4 U) ∧ EW D U
abbrev wX (D : Dx) : Wd Sg := (HX D, fun σ q => kd σ q ≠ 0, KX D)
theorem KXok {D : Dx} : KKok (KX D) := by
  refine ⟨fun U g mk a h => ⟨va_K.moved (u := U) (U := U.calling g mk a) (Vm.Alike.refl U.vm) h.1, fun w hw hi => ?_, fun C hC => va_AO.moved (u := U) (U := U.calling g mk a) (Vm.Alike.refl U.vm) (h.2.2.1 C hC), ⟨va_Nc.moved (u := U) (U := U.calling g mk a) (Vm.Alike.refl U.vm) h.2.2.2.1.1, va_Nc.moved (u := U) (U := U.calling g mk a) (Vm.Alike.refl U.vm) h.2.2.2.1.2⟩, EW.moved (u := U) (U := U.calling g mk a) (Vm.Alike.refl U.vm) h.2.2.2.2⟩, fun s U hW h => ⟨va_K.moved hW.alike h.1, fun w hw hi => ?_, fun C hC => va_AO.moved hW.alike (h.2.2.1 C hC), ⟨h.2.2.2.1.1.moved hW.alike, h.2.2.2.1.2.moved hW.alike⟩, h.2.2.2.2.moved hW.alike⟩⟩
  · have h1 := h.2.1 w hw hi
    cases w <;> first | exact va_Nw.same (u := U) (U := U.calling g mk a) rfl rfl h1 | cases hi
  · have h1 := h.2.1 w hw hi
    cases w <;> first | exact va_Nw.warmF hW h1 | exact va_Nw.warmM hW h1 | exact va_Nw.warmD hW h1 | exact va_Nw.warmC hW h1 | cases hi
theorem fsX_len {c a : Nat} {σ : Sg} : (fsX c σ a).length = nF c := by simp [fsX]
theorem fsX_at {c a k : Nat} {σ : Sg} (h : k < nF c) : (fsX c σ a)[k]? = some (fv σ c k a) := by
  unfold fsX
  rw [List.getElem?_map, List.getElem?_range h]
  rfl
theorem HX.lt {D : Dx} {σ : Sg} {H : Heap} (h : HX D σ H) {a : Nat} (ha : kd σ a ≠ 0) : a < H.size ∧ D.2.2.1.size ≤ a := by
  constructor
  · rcases h.2.2.1 a ha with ⟨c, hc, e⟩ | ⟨j, hj, e⟩
    · exact (h.1 a c hc e).lt
    · exact (h.2.1 a j hj e).lt
  · rcases Nat.lt_or_ge a D.2.2.1.size with q | q
    · exact absurd (h.2.2.2.2 a q).2 ha
    · exact q
/-- an object's cell is another one now -/
theorem HX.obj {D : Dx} {σ σ' : Sg} {H H' : Heap} (h : HX D σ H) {a c : Nat} (hc : c < 8) (hk : kd σ a = c + 1) (ek : kd σ' = kd σ) (el : ln σ' = ln σ) (ea : ai σ' = ai σ) (eq : ar σ' = ar σ) (hf : ∀ c' b, b ≠ a → fsX c' σ' b = fsX c' σ b)
    (hat : va_at D.1 clX (a, .inr (c, fsX c σ' a)) H') (hz : H'.size = H.size) (ho : ∀ q : Nat, q ≠ a → H'[q]? = H[q]?) : HX D σ' H' := by
  refine ⟨fun b c' hc' hb => ?_, fun b j hj hb => ?_, fun b hb => ?_, ?_, fun q hq => ?_⟩
  · rw [ek] at hb
    by_cases e : b = a
    · subst e
      have : c' = c := by omega
      subst this
      exact hat
    · rw [hf c' b e]
      exact (h.1 b c' hc' hb).kept (ho b e)
  · rw [ek] at hb
    have e : b ≠ a := fun z => by rw [z, hk] at hb; omega
    have := (h.2.1 b j hj hb).kept (ho b e)
    unfold arX at this ⊢
    rw [el, ea, eq]
    exact this
  · rw [ek] at hb ⊢
    exact h.2.2.1 b hb
  · rw [hz]
    exact h.2.2.2.1
  · have := h.2.2.2.2 q hq
    have e : q ≠ a := fun z => by rw [z, hk] at this; exact absurd this.2 (by omega)
    rw [ho q e, ek]
    exact this
theorem HX.arr {D : Dx} {σ σ' : Sg} {H H' : Heap} (h : HX D σ H) {a j : Nat} (hj : j < 6) (hk : kd σ a = j + 11) (ek : kd σ' = kd σ) (el : ln σ' = ln σ) (ef : fi σ' = fi σ) (er : fr σ' = fr σ) (ha : ∀ b, b ≠ a → ai σ' b = ai σ b ∧ ar σ' b = ar σ b)
    (hat : va_at D.1 clX (a, arX D σ' a j) H') (hz : H'.size = H.size) (ho : ∀ q : Nat, q ≠ a → H'[q]? = H[q]?) : HX D σ' H' := by
  refine ⟨fun b c' hc' hb => ?_, fun b j' hj' hb => ?_, fun b hb => ?_, ?_, fun q hq => ?_⟩
  · rw [ek] at hb
    have e : b ≠ a := fun z => by rw [z, hk] at hb; omega
    have := (h.1 b c' hc' hb).kept (ho b e)
    unfold fsX fv at this ⊢
    rw [ef, er]
    exact this
  · rw [ek] at hb
    by_cases e : b = a
    · subst e
      have : j' = j := by omega
      subst this
      exact hat
    · have := (h.2.1 b j' hj' hb).kept (ho b e)
      unfold arX at this ⊢
      rw [el, (ha b e).1, (ha b e).2]
      exact this
  · rw [ek] at hb ⊢
    exact h.2.2.1 b hb
  · rw [hz]
    exact h.2.2.2.1
  · have := h.2.2.2.2 q hq
    have e : q ≠ a := fun z => by rw [z, hk] at this; exact absurd this.2 (by omega)
    rw [ho q e, ek]
    exact this
/-- one cell more -/
theorem HX.more {D : Dx} {σ σ' : Sg} {H H' : Heap} {t : Nat} (h : HX D σ H) (ek : kd σ' = va_up (kd σ) H.size t) (hf : ∀ b, b ≠ H.size → (∀ c, fsX c σ' b = fsX c σ b) ∧ ln σ' b = ln σ b ∧ ai σ' b = ai σ b ∧ ar σ' b = ar σ b)
    (hat : (∃ c, c < 8 ∧ t = c + 1 ∧ va_at D.1 clX (H.size, .inr (c, fsX c σ' H.size)) H') ∨ ∃ j, j < 6 ∧ t = j + 11 ∧ va_at D.1 clX (H.size, arX D σ' H.size j) H') (hz : H'.size = H.size + 1) (ho : ∀ q : Nat, q < H.size → H'[q]? = H[q]?) : kd σ H.size = 0 ∧ HX D σ' H' := by
  have h0 : kd σ H.size = 0 := by
    cases e : kd σ H.size with
    | zero => rfl
    | succ n => exact absurd (h.lt (a := H.size) (by omega)).1 (Nat.lt_irrefl _)
  have hkn : ∀ b, b ≠ H.size → kd σ' b = kd σ b := fun b hb => by rw [ek]; exact if_neg hb
  have hks : kd σ' H.size = t := by rw [ek]; exact if_pos rfl
  refine ⟨h0, fun b c' hc' hb => ?_, fun b j' hj' hb => ?_, fun b hb => ?_, ?_, fun q hq => ?_⟩
  · by_cases e : b = H.size
    · subst e
      rw [hks] at hb
      rcases hat with ⟨c, hc, rfl, ha⟩ | ⟨j, hj, rfl, ha⟩
      · have : c' = c := by omega
        subst this
        exact ha
      · omega
    · rw [hkn b e] at hb
      rw [(hf b e).1 c']
      have := h.1 b c' hc' hb
      exact this.kept (ho b this.lt)
  · by_cases e : b = H.size
    · subst e
      rw [hks] at hb
      rcases hat with ⟨c, hc, rfl, ha⟩ | ⟨j, hj, rfl, ha⟩
      · omega
      · have : j' = j := by omega
        subst this
        exact ha
    · rw [hkn b e] at hb
      have := h.2.1 b j' hj' hb
      have := this.kept (ho b this.lt)
      unfold arX at this ⊢
      rw [(hf b e).2.1, (hf b e).2.2.1, (hf b e).2.2.2]
      exact this
  · by_cases e : b = H.size
    · subst e
      rw [hks]
      rcases hat with ⟨c, hc, e, -⟩ | ⟨j, hj, e, -⟩
      · exact Or.inl ⟨c, hc, e⟩
      · exact Or.inr ⟨j, hj, e⟩
    · rw [hkn b e] at hb ⊢
      exact h.2.2.1 b hb
  · have := h.2.2.2.1
    omega
  · have := h.2.2.2.2 q hq
    have h4 := h.2.2.2.1
    rw [ho q (by omega), hkn q (by omega)]
    exact this
theorem fv_sI {σ : Sg} {c k k' a b g : Nat} {x : Int32} (hg : gf c k = g) (hi : isI g = true) : fv (sI g a x σ) c k a = .int x := by
  unfold fv
  rw [hg, hi]
  show Value.int (up2 (fi σ) g a x g a) = _
  rw [up2_s]
theorem fv_sR {σ : Sg} {c k a g : Nat} {r : Option Nat} (hg : gf c k = g) (hi : isI g = false) : fv (sR g a r σ) c k a = va_rf r := by
  unfold fv
  rw [hg, hi]
  show va_rf (up2 (fr σ) g a r g a) = _
  rw [up2_s]
theorem fsX_sI {σ : Sg} {c k a g : Nat} {x : Int32} (hg : gf c k = g) (hi : isI g = true) (hinj : ∀ j, j < nF c → j ≠ k → gf c j ≠ g) : (fsX c σ a).set k (.int x) = fsX c (sI g a x σ) a := by
  refine List.ext_getElem? fun j => ?_
  by_cases q : j < nF c
  · rw [fsX_at q]
    by_cases e : j = k
    · subst e
      rw [List.getElem?_set_self (by rw [fsX_len]; exact q), fv_sI (k' := 0) (b := 0) hg hi]
    · rw [List.getElem?_set_ne (Ne.symm e), fsX_at q]
      unfold fv
      show _ = some (bif isI (gf c j) then Value.int (up2 (fi σ) g a x (gf c j) a) else va_rf (fr σ (gf c j) a))
      rw [up2_g (hinj j q e)]
  · rw [List.getElem?_eq_none (by rw [List.length_set, fsX_len]; omega), List.getElem?_eq_none (by rw [fsX_len]; omega)]
theorem fsX_sR {σ : Sg} {c k a g : Nat} {r : Option Nat} (hg : gf c k = g) (hi : isI g = false) (hinj : ∀ j, j < nF c → j ≠ k → gf c j ≠ g) : (fsX c σ a).set k (va_rf r) = fsX c (sR g a r σ) a := by
  refine List.ext_getElem? fun j => ?_
  by_cases q : j < nF c
  · rw [fsX_at q]
    by_cases e : j = k
    · subst e
      rw [List.getElem?_set_self (by rw [fsX_len]; exact q), fv_sR hg hi]
    · rw [List.getElem?_set_ne (Ne.symm e), fsX_at q]
      unfold fv
      show _ = some (bif isI (gf c j) then Value.int (fi σ (gf c j) a) else va_rf (up2 (fr σ) g a r (gf c j) a))
      rw [up2_g (hinj j q e)]
  · rw [List.getElem?_eq_none (by rw [List.length_set, fsX_len]; omega), List.getElem?_eq_none (by rw [fsX_len]; omega)]
theorem fsX_oI {σ : Sg} {c a b g : Nat} {x : Int32} (h : b ≠ a) : fsX c (sI g a x σ) b = fsX c σ b := by
  unfold fsX
  refine List.map_congr_left fun k _ => ?_
  unfold fv
  show (bif isI (gf c k) then Value.int (up2 (fi σ) g a x (gf c k) b) else va_rf (fr σ (gf c k) b)) = _
  by_cases e : gf c k = g
  · rw [e, up2_a h]
  · rw [up2_g e]
theorem fsX_oR {σ : Sg} {c a b g : Nat} {r : Option Nat} (h : b ≠ a) : fsX c (sR g a r σ) b = fsX c σ b := by
  unfold fsX
  refine List.map_congr_left fun k _ => ?_
  unfold fv
  show (bif isI (gf c k) then Value.int (fi σ (gf c k) b) else va_rf (up2 (fr σ) g a r (gf c k) b)) = _
  by_cases e : gf c k = g
  · rw [e, up2_a h]
  · rw [up2_g e]
theorem HX.putI {D : Dx} {σ : Sg} {H H' : Heap} (h : HX D σ H) {a c k g : Nat} {x : Int32} (hc : c < 8) (hk : kd σ a = c + 1) (hg : gf c k = g) (hi : isI g = true) (hinj : ∀ j, j < nF c → j ≠ k → gf c j ≠ g)
    (hat : va_at D.1 clX (a, .inr (c, (fsX c σ a).set k (.int x))) H') (hz : H'.size = H.size) (ho : ∀ q : Nat, q ≠ a → H'[q]? = H[q]?) : HX D (sI g a x σ) H' :=
  h.obj hc hk rfl rfl rfl rfl (fun c' b hb => fsX_oI hb) (by rw [← fsX_sI hg hi hinj]; exact hat) hz ho
theorem HX.putR {D : Dx} {σ : Sg} {H H' : Heap} (h : HX D σ H) {a c k g : Nat} {r : Option Nat} (hc : c < 8) (hk : kd σ a = c + 1) (hg : gf c k = g) (hi : isI g = false) (hinj : ∀ j, j < nF c → j ≠ k → gf c j ≠ g)
    (hat : va_at D.1 clX (a, .inr (c, (fsX c σ a).set k (va_rf r))) H') (hz : H'.size = H.size) (ho : ∀ q : Nat, q ≠ a → H'[q]? = H[q]?) : HX D (sR g a r σ) H' :=
  h.obj hc hk rfl rfl rfl rfl (fun c' b hb => fsX_oR hb) (by rw [← fsX_sR hg hi hinj]; exact hat) hz ho
section ZX
variable {D : Dx} {Y : Fz} {cc : ByteArray} {own : String} {ret : Option FieldType} {d mc ms : Nat} {σ : Sg} {k n pc q : Nat} {lo : Lo} {st : List Value}
/-- what the table of classes says of the class number c -/
def KC (c : Nat) (Cn : String) (T : u_T) (ty : Nat → FieldType) : Prop := c < 8 ∧ clX[c]? = some (Cn, T, nF c) ∧ (∀ w ∈ u_ws Cn T (nF c), w ∈ lw_all) ∧ (∀ k, k < nF c → parseFieldDescriptor (T k).2.2.1 = some (ty k)) ∧ ∀ a, a < nF c → ∀ b, b < nF c → a ≠ b → (T a).2.1 ≠ (T b).2.1
theorem x_get (C : Cx (wX D) Y cc own ret d mc ms) {a c j idx : Nat} {Cn ref : String} {T : u_T} {ty : Nat → FieldType} (hC : KC c Cn T ty) (hk : kd σ a = c + 1) (hj : j < nF c) (hw : Cond.fieldLink own idx ref (T j).2.1 (T j).2.2.1 ∈ lw_all) (hr : (T j).1 = ref) (hd : decode cc pc = .ok (.getfield idx, 3)) (hq : pc + 3 = q) (g : Zj (wX D) Y σ k n q lo (fv σ c j a :: st)) : Zj (wX D) Y σ k n pc lo (.ref a :: st) := by
  subst hq
  subst hr
  exact fun H locs ls h1 h2 h3 h4 => va_get (ws := [(a, .inr (c, fsX c σ a))]) C.1 C.2.1 C.hts hC.2.2.1 C.ow C.hK.1 (fun i q hi => by cases i with | zero => cases hi; exact h1.1 a c hC.1 hk | succ i => simp at hi) 0 rfl hC.2.1 j hj (C.hts _ hw) (fun x h => h) (fsX_at hj) hd (g H locs ls h1 h2 h3 h4)
theorem x_getN (C : Cx (wX D) Y cc own ret d mc ms) {a c j idx : Nat} {Cn ref host : String} {T : u_T} {ty : Nat → FieldType} (hC : KC c Cn T ty) (hk : kd σ a = c + 1) (hj : j < nF c) (hw : Cond.fieldLinkNest own idx ref (T j).2.1 (T j).2.2.1 host ∈ lw_tbl) (hr : (T j).1 = ref) (hd : decode cc pc = .ok (.getfield idx, 3)) (hq : pc + 3 = q) (g : Zj (wX D) Y σ k n q lo (fv σ c j a :: st)) : Zj (wX D) Y σ k n pc lo (.ref a :: st) := by
  subst hq
  subst hr
  exact fun H locs ls h1 h2 h3 h4 => va_getN (ws := [(a, .inr (c, fsX c σ a))]) C.1 C.2.1 C.hts hC.2.2.1 C.ow C.hK.1 (fun i q hi => by cases i with | zero => cases hi; exact h1.1 a c hC.1 hk | succ i => simp at hi) 0 rfl hC.2.1 j hj (va_Nw.use rfl (C.hK.2.1 _ hw rfl)) (fun x h => h) (fsX_at hj) hd (g H locs ls h1 h2 h3 h4)
/-- a store: what comes behind it -/
def PutOk (D : Dx) (Y : Fz) (σ : Sg) (k n q : Nat) (lo : Lo) (st : List Value) (a c j : Nat) (v : Value) : Prop := ∀ (H H' : Heap) (locs : List Loc) (ls : Array Slot), HX D σ H → (∀ q, kd σ q ≠ 0 → y_A Y q) → va_at D.1 clX (a, .inr (c, (fsX c σ a).set j v)) H' → H'.size = H.size → (∀ q : Nat, q ≠ a → H'[q]? = H[q]?) → va_S (y_A Y) (y_s Y).heap H' locs → loHas ls (y_n Y) lo → Wy Y H' locs k n (F0 (y_m Y) q ls st)
theorem PutOk.I {a c j g : Nat} {x : Int32} (hc : c < 8) (hk : kd σ a = c + 1) (hg : gf c j = g) (hi : isI g = true) (hinj : ∀ i, i < nF c → i ≠ j → gf c i ≠ g) (z : Zj (wX D) Y (sI g a x σ) k n q lo st) : PutOk D Y σ k n q lo st a c j (.int x) := fun H H' locs ls h1 h2 hat hz ho hS h4 => z H' locs ls (h1.putI hc hk hg hi hinj hat hz ho) h2 hS h4
theorem PutOk.R {a c j g : Nat} {r : Option Nat} (hc : c < 8) (hk : kd σ a = c + 1) (hg : gf c j = g) (hi : isI g = false) (hinj : ∀ i, i < nF c → i ≠ j → gf c i ≠ g) (z : Zj (wX D) Y (sR g a r σ) k n q lo st) : PutOk D Y σ k n q lo st a c j (va_rf r) := fun H H' locs ls h1 h2 hat hz ho hS h4 => z H' locs ls (h1.putR hc hk hg hi hinj hat hz ho) h2 hS h4
theorem x_put (C : Cx (wX D) Y cc own ret d mc ms) {a c j idx : Nat} {Cn ref : String} {T : u_T} {ty : Nat → FieldType} {v : Value} (hC : KC c Cn T ty) (hk : kd σ a = c + 1) (hj : j < nF c) (hw : Cond.fieldLink own idx ref (T j).2.1 (T j).2.2.1 ∈ lw_all) (hr : (T j).1 = ref) (hfin : (T j).2.2.2 = false) (hn : narrow (ty j) v = v) (hfit : fits (ty j) v = true) (hd : decode cc pc = .ok (.putfield idx, 3)) (hq : pc + 3 = q) (g : PutOk D Y σ k n q lo st a c j v) : Zj (wX D) Y σ k n pc lo (v :: .ref a :: st) := by
  subst hq
  subst hr
  intro H locs ls h1 h2 h3 h4
  have hts := C.hts
  obtain ⟨hc8, hc, hin, hty, hnm⟩ := hC
  have hap := va_apart (own := own) hts hin ty hty hnm C.hK.1 hc
  obtain ⟨r, g1, cell, q1, q2, q3, q4⟩ := h1.1 a c hc8 hk
  have hr : r = (Cn, T, nF c) := Option.some.inj (g1.symm.trans hc)
  subst hr
  obtain ⟨hS, hfc, kC, hkC, hkind⟩ := C.hK.1.1 c _ hc
  obtain ⟨cf, kf, fi', f, hi, hsl⟩ := hS j hj
  have hlay := hts _ (hin _ (u_in_lay hj))
  unfold u_lay at hlay
  rw [if_neg (by rw [hfin]; decide)] at hlay
  have hst := (u_facts hfc hkC (u_lays hts hin hj) hi).1
  have h6 := u_store hfc hkC hkind hlay hi (hty j hj) hn hfit
  refine W.putK C.1 C.2.1 (f := f) ⟨C.ow, hts _ hw, ⟨_, _, _, hi⟩, hst⟩ (by rw [q2]; exact h6) q1 q3 (by rw [hsl]; exact k2_hasslot (q4 j hj)) rfl rfl hd fun H' e1 e2 e3 => ?_
  rw [hsl] at e1 ⊢
  exact g H H' _ ls h1 h2 ⟨_, hc, t_OB.to (V := updV (vp_V (fsX c σ a)) j v) ⟨_, e1, q2, q3, t_set q4 hap hj v⟩ (fun i _ => vp_updV_set (by rw [fsX_len]; exact hj) v i)⟩ e2 e3 (h3.put e2 e3 (h2 a (by show kd σ a ≠ 0; rw [hk]; omega))) h4
theorem x_putN (C : Cx (wX D) Y cc own ret d mc ms) {a c j idx : Nat} {Cn ref host : String} {T : u_T} {ty : Nat → FieldType} {v : Value} (hC : KC c Cn T ty) (hk : kd σ a = c + 1) (hj : j < nF c) (hw : Cond.fieldLinkNest own idx ref (T j).2.1 (T j).2.2.1 host ∈ lw_tbl) (hr : (T j).1 = ref) (hfin : (T j).2.2.2 = false) (hn : narrow (ty j) v = v) (hfit : fits (ty j) v = true) (hd : decode cc pc = .ok (.putfield idx, 3)) (hq : pc + 3 = q) (g : PutOk D Y σ k n q lo st a c j v) : Zj (wX D) Y σ k n pc lo (v :: .ref a :: st) := by
  subst hq
  subst hr
  intro H locs ls h1 h2 h3 h4
  have hts := C.hts
  obtain ⟨hc8, hc, hin, hty, hnm⟩ := hC
  have hap := va_apart (own := own) hts hin ty hty hnm C.hK.1 hc
  obtain ⟨r, g1, cell, q1, q2, q3, q4⟩ := h1.1 a c hc8 hk
  have hr : r = (Cn, T, nF c) := Option.some.inj (g1.symm.trans hc)
  subst hr
  obtain ⟨hS, hfc, kC, hkC, hkind⟩ := C.hK.1.1 c _ hc
  obtain ⟨cf, kf, fi', f, hi, hsl⟩ := hS j hj
  have hlay := hts _ (hin _ (u_in_lay hj))
  unfold u_lay at hlay
  rw [if_neg (by rw [hfin]; decide)] at hlay
  have hst := (u_facts hfc hkC (u_lays hts hin hj) hi).1
  have h6 := u_store hfc hkC hkind hlay hi (hty j hj) hn hfit
  refine va_WputK C.1 C.2.1 (f := f) C.ow (va_Nw.use rfl (C.hK.2.1 _ hw rfl)) hi hst (by rw [q2]; exact h6) q1 q3 (by rw [hsl]; exact k2_hasslot (q4 j hj)) rfl rfl hd fun H' e1 e2 e3 => ?_
  rw [hsl] at e1 ⊢
  exact g H H' _ ls h1 h2 ⟨_, hc, t_OB.to (V := updV (vp_V (fsX c σ a)) j v) ⟨_, e1, q2, q3, t_set q4 hap hj v⟩ (fun i _ => vp_updV_set (by rw [fsX_len]; exact hj) v i)⟩ e2 e3 (h3.put e2 e3 (h2 a (by show kd σ a ≠ 0; rw [hk]; omega))) h4
theorem x_putF (C : Cx (wX D) Y cc own ret d mc ms) (hN : (y_meth Y).name = "<init>") {a c j idx : Nat} {Cn ref : String} {T : u_T} {ty : Nat → FieldType} {v : Value} (hC : KC c Cn T ty) (hk : kd σ a = c + 1) (hj : j < nF c) (hw : Cond.fieldLink own idx ref (T j).2.1 (T j).2.2.1 ∈ lw_all) (hr : (T j).1 = ref) (ho : (T j).1 = own) (hfin : (T j).2.2.2 = true) (hn : narrow (ty j) v = v) (hfit : fits (ty j) v = true) (hd : decode cc pc = .ok (.putfield idx, 3)) (hq : pc + 3 = q) (g : PutOk D Y σ k n q lo st a c j v) : Zj (wX D) Y σ k n pc lo (v :: .ref a :: st) := by
  subst hq
  subst hr
  intro H locs ls h1 h2 h3 h4
  have hts := C.hts
  obtain ⟨hc8, hc, hin, hty, hnm⟩ := hC
  have hap := va_apart (own := own) hts hin ty hty hnm C.hK.1 hc
  obtain ⟨r, g1, cell, q1, q2, q3, q4⟩ := h1.1 a c hc8 hk
  have hr : r = (Cn, T, nF c) := Option.some.inj (g1.symm.trans hc)
  subst hr
  obtain ⟨hS, hfc, kC, hkC, hkind⟩ := C.hK.1.1 c _ hc
  obtain ⟨cf, kf, fi', f, hi, hsl⟩ := hS j hj
  have hlay := hts _ (hin _ (u_in_lay hj))
  unfold u_lay at hlay
  rw [if_pos hfin] at hlay
  have hst := (u_facts hfc hkC (u_lays hts hin hj) hi).1
  have hcf : (y_m Y).cls = cf := by
    obtain ⟨_, _, c', _, _, _, -, -, hf', -, -, -, hown2, -⟩ := Cond.laysFinal_spec hlay
    have e1 : c' = cf := by have := hi.symm.trans hf'; simp at this; exact this.1.symm
    rw [ho] at hown2
    rw [← e1]; exact Option.some.inj (C.ow.symm.trans hown2)
  have h6 := u_fits hfc hkC hkind (Or.inr hlay) hi (hty j hj) hn hfit
  refine W.putFinK C.1 C.2.1 C.ow (hts _ hw) hi hst hcf hN (by rw [q2]; exact h6) q1 q3 (by rw [hsl]; exact k2_hasslot (q4 j hj)) rfl rfl hd fun H' e1 e2 e3 => ?_
  rw [hsl] at e1 ⊢
  exact g H H' _ ls h1 h2 ⟨_, hc, t_OB.to (V := updV (vp_V (fsX c σ a)) j v) ⟨_, e1, q2, q3, t_set q4 hap hj v⟩ (fun i _ => vp_updV_set (by rw [fsX_len]; exact hj) v i)⟩ e2 e3 (h3.put e2 e3 (h2 a (by show kd σ a ≠ 0; rw [hk]; omega))) h4
end ZX
theorem KC0 : KC 0 RX0 TX0 tyX0 := ⟨by decide, rfl, in_X0, tyX0_ok, nmX0⟩
theorem KC1 : KC 1 RX7 TX7 tyX7 := ⟨by decide, rfl, in_X7, tyX7_ok, nmX7⟩
theorem KC2 : KC 2 RX4 TX4 tyX4 := ⟨by decide, rfl, in_X4, tyX4_ok, nmX4⟩
theorem KC3 : KC 3 RX8 TX8 tyX8 := ⟨by decide, rfl, in_X8, tyX8_ok, nmX8⟩
theorem KC4 : KC 4 RX1 TX1 tyX1 := ⟨by decide, rfl, in_X1, tyX1_ok, nmX1⟩
theorem KC5 : KC 5 RX6 TX6 tyX6 := ⟨by decide, rfl, in_X6, tyX6_ok, nmX6⟩
theorem KC6 : KC 6 RX2 TX2 tyX2 := ⟨by decide, rfl, in_X2, tyX2_ok, nmX2⟩
theorem KC7 : KC 7 RX9 TX9 tyX9 := ⟨by decide, rfl, in_X9, tyX9_ok, nmX9⟩
