/-! THE LAYER: a walk over an abstract state. w: a world (which heap holds a state; which cells are its own; what the tables say); Y: the frame; Zj: the judgement -/
set_option maxRecDepth 10000
abbrev Lo : Type := List (Option Value)
def loHas (ls : Array Slot) (nL : Nat) (lo : Lo) : Prop := ls.size = nL ∧ lv_wf ls ∧ lo.length ≤ nL ∧ ∀ (i : Nat) (v : Value), lo[i]? = some (some v) → ls[i]? = some (.val v)
def loL (lo : Lo) : List (Nat × Value) := (List.range lo.length).filterMap fun i => (lo[i]?.join).map fun v => (i, v)
theorem mem_loL {lo : Lo} {i : Nat} {v : Value} : (i, v) ∈ loL lo ↔ lo[i]? = some (some v) := by
  unfold loL
  rw [List.mem_filterMap]
  constructor
  · rintro ⟨j, hj, h⟩
    have hj := List.mem_range.mp hj
    cases e : lo[j]? with
    | none => rw [e] at h; cases h
    | some x =>
      rw [e] at h
      cases x with
      | none => cases h
      | some y =>
        have h : some (j, y) = some (i, v) := h
        cases h
        exact e
  · intro h
    refine ⟨i, List.mem_range.mpr (List.getElem?_eq_some_iff.mp h).1, ?_⟩
    rw [h]
    rfl
theorem lv_of_lo {ls : Array Slot} {nL : Nat} {lo : Lo} (h : loHas ls nL lo) : lv_has ls nL (loL lo) := ⟨h.1, h.2.1, fun q hq => h.2.2.2 q.1 q.2 (mem_loL.mp hq)⟩
theorem lo_of_lv {ls : Array Slot} {nL : Nat} {lo : Lo} {l : List (Nat × Value)} (h : lv_has ls nL l) (hl : lo.length ≤ nL) (hm : ∀ (i : Nat) (v : Value), lo[i]? = some (some v) → (i, v) ∈ l) : loHas ls nL lo := ⟨h.1, h.2.1, hl, fun i v hv => h.2.2 (i, v) (hm i v hv)⟩
theorem lo_at {ls : Array Slot} {nL : Nat} {lo : Lo} (h : loHas ls nL lo) {i : Nat} {v : Value} (hv : lo[i]? = some (some v)) : ls[i]? = some (.val v) := h.2.2.2 i v hv
/-- a value ahead of which a store is safe -/
def loC (x : Option Value) : Prop := x = none ∨ ∃ v : Value, x = some v ∧ v.category = 1
theorem loC_n : loC none := Or.inl rfl
theorem loC_i {x : Int32} : loC (some (.int x)) := Or.inr ⟨_, rfl, rfl⟩
theorem loC_r {a : Nat} : loC (some (.ref a)) := Or.inr ⟨_, rfl, rfl⟩
theorem loC_u : loC (some .null) := Or.inr ⟨_, rfl, rfl⟩
theorem cat_rf (r : Option Nat) : (va_rf r).category = 1 := by cases r <;> rfl
theorem loC_q {r : Option Nat} : loC (some (va_rf r)) := Or.inr ⟨_, rfl, cat_rf r⟩
theorem lo_store1 {ls' : Array Slot} {nL : Nat} {lo : Lo} {i : Nat} {v : Value} (hl : lo.length ≤ nL) (hp : ∀ j : Nat, j + 1 = i → ∀ x, lo[j]? = some x → loC x)
    (h : lv_has ls' nL ((i, v) :: (loL lo).filter (fun q => !(q.1 == i) && !(q.1 + 1 == i && q.2.category == 2)))) : loHas ls' nL (lo.set i (some v)) := by
  refine lo_of_lv h (by rw [List.length_set]; exact hl) fun j w hw => ?_
  by_cases e : j = i
  · subst e
    have hlt : j < lo.length := by
      have := (List.getElem?_eq_some_iff.mp hw).1
      rwa [List.length_set] at this
    rw [List.getElem?_set_self hlt] at hw
    cases hw
    exact List.mem_cons_self
  · rw [List.getElem?_set_ne (Ne.symm e)] at hw
    refine List.mem_cons_of_mem _ (List.mem_filter.mpr ⟨mem_loL.mpr hw, ?_⟩)
    by_cases e2 : j + 1 = i
    · rcases hp j e2 _ hw with h0 | ⟨v0, h0, h1⟩
      · cases h0
      · cases h0
        simp [e, h1]
    · simp [e, e2]
theorem lo_store2 {ls' : Array Slot} {nL : Nat} {lo : Lo} {i : Nat} {v : Value} (hl : lo.length ≤ nL) (hp : ∀ j : Nat, j + 1 = i → ∀ x, lo[j]? = some x → loC x)
    (h : lv_has ls' nL ((i, v) :: (loL lo).filter (fun q => !(q.1 == i) && (!(q.1 == i + 1) && !(q.1 + 1 == i && q.2.category == 2))))) : loHas ls' nL ((lo.set i (some v)).set (i + 1) none) := by
  refine lo_of_lv h (by rw [List.length_set, List.length_set]; exact hl) fun j w hw => ?_
  by_cases e1 : j = i + 1
  · subst e1
    have hlt := (List.getElem?_eq_some_iff.mp hw).1
    rw [List.length_set] at hlt
    rw [List.getElem?_set_self hlt] at hw
    cases hw
  rw [List.getElem?_set_ne (Ne.symm e1)] at hw
  by_cases e : j = i
  · subst e
    have hlt : j < lo.length := by
      have := (List.getElem?_eq_some_iff.mp hw).1
      rwa [List.length_set] at this
    rw [List.getElem?_set_self hlt] at hw
    cases hw
    exact List.mem_cons_self
  · rw [List.getElem?_set_ne (Ne.symm e)] at hw
    refine List.mem_cons_of_mem _ (List.mem_filter.mpr ⟨mem_loL.mpr hw, ?_⟩)
    by_cases e2 : j + 1 = i
    · rcases hp j e2 _ hw with h0 | ⟨v0, h0, h1⟩
      · cases h0
      · cases h0
        simp [e, e1, h1]
    · simp [e, e1, e2]
def loS : Slot → Option Value
  | .val v => some v
  | _ => none
def loEntry (av : List Value) (n : Nat) : Lo := (lg_sl av).map loS ++ List.replicate (n - (lg_sl av).length) none
theorem lo_entry (av : List Value) {n : Nat} (h : (lg_sl av).length ≤ n) : loHas ((lg_sl av ++ List.replicate (n - (lg_sl av).length) Slot.unset).toArray) n (loEntry av n) := by
  have h0 := lv_entry av h
  refine ⟨h0.1, h0.2.1, ?_, fun i v hv => ?_⟩
  · simp only [loEntry, List.length_append, List.length_map, List.length_replicate]
    omega
  · rw [List.getElem?_toArray]
    unfold loEntry at hv
    by_cases hi : i < (lg_sl av).length
    · rw [List.getElem?_append_left (by rw [List.length_map]; exact hi), List.getElem?_map] at hv
      rw [List.getElem?_append_left hi]
      cases e : (lg_sl av)[i]? with
      | none => rw [e] at hv; cases hv
      | some x =>
        rw [e] at hv
        cases x with
        | val y =>
          have hv : some (some y) = some (some v) := hv
          cases hv
          rfl
        | _ => cases hv
    · rw [List.getElem?_append_right (by rw [List.length_map]; omega)] at hv
      have hv := List.mem_of_getElem? hv
      exact absurd (List.eq_of_mem_replicate hv) (by intro z; cases z)
abbrev Wd (S : Type) : Type := (S → Heap → Prop) × (S → Nat → Prop) × (State → Prop)
abbrev Cz : Type := Program × Launch × Env × Room × State × MethodId × Array Value × List Frame × Method × Code
abbrev Fz : Type := Cz × (Nat → Prop) × Nat × (State → Prop)
abbrev y_p (Y : Fz) : Program := Y.1.1
abbrev y_l (Y : Fz) : Launch := Y.1.2.1
abbrev y_e (Y : Fz) : Env := Y.1.2.2.1
abbrev y_R (Y : Fz) : Room := Y.1.2.2.2.1
abbrev y_s (Y : Fz) : State := Y.1.2.2.2.2.1
abbrev y_m (Y : Fz) : MethodId := Y.1.2.2.2.2.2.1
abbrev y_args (Y : Fz) : Array Value := Y.1.2.2.2.2.2.2.1
abbrev y_below (Y : Fz) : List Frame := Y.1.2.2.2.2.2.2.2.1
abbrev y_meth (Y : Fz) : Method := Y.1.2.2.2.2.2.2.2.2.1
abbrev y_c (Y : Fz) : Code := Y.1.2.2.2.2.2.2.2.2.2
abbrev y_A (Y : Fz) : Nat → Prop := Y.2.1
abbrev y_n (Y : Fz) : Nat := Y.2.2.1
abbrev y_Q (Y : Fz) : State → Prop := Y.2.2.2
abbrev Wy (Y : Fz) (H : Heap) (locs : List Loc) (k n : Nat) (g : JFrame) : Prop := W (y_p Y) (y_l Y) (y_e Y) (y_R Y) (y_s Y) (y_m Y) (y_args Y) (y_below Y) (y_meth Y) (y_c Y) H locs k n (y_Q Y) g
def Zj {S : Type} (w : Wd S) (Y : Fz) (σ : S) (k n pc : Nat) (lo : Lo) (st : List Value) : Prop :=
  ∀ (H : Heap) (locs : List Loc) (ls : Array Slot), w.1 σ H → (∀ q, w.2.1 σ q → y_A Y q) → va_S (y_A Y) (y_s Y).heap H locs → loHas ls (y_n Y) lo → Wy Y H locs k n (F0 (y_m Y) pc ls st)
abbrev rmz (d mc ms : Nat) : Room := { frames := d + 1, cells := mc, slots := ms, locals := 100 * (d + 1) }
def Qg {S : Type} (w : Wd S) (A : Nat → Prop) (Post : Option Value → S → Prop) : Array Value → State → Outcome → State → Prop := fun _ st oc t =>
  (∃ (v : Option Value) (σ' : S), oc = .returned v ∧ Post v σ' ∧ w.1 σ' t.heap ∧ ∀ q, w.2.1 σ' q → A q) ∧ va_F A st t
def Fr {S : Type} (w : Wd S) (σ : S) (sz : Nat) : Nat → Prop := fun q => w.2.1 σ q ∨ sz ≤ q
def KKok (K : State → Prop) : Prop := (∀ (U : State) (g : JFrame) (mk : MethodId) (a : Array Value), K U → K (U.calling g mk a)) ∧ ∀ s U : State, s.WarmedH U.vm → K s → K U
/-- a contract: in any heap that holds σ the method, called with av, returns v and leaves σ' with Post v σ'; mc new cells of ms slots at most; d: its depth of calls -/
def Ct {S : Type} (w : Wd S) (y : MethodName) (cc : ByteArray) (nL : Nat) (ret : Option FieldType) (av : List Value) (σ : S) (Post : Option Value → S → Prop) (d mc ms : Nat) : Prop :=
  ∀ (l : Launch) (sz : Nat), Met l y (ws_ y cc nL ret) (rmz d mc ms) (va_Pc av (fun U => U.heap.size = sz ∧ w.1 σ U.heap ∧ w.2.2 U)) (Qg w (Fr w σ sz) Post) mc ms (Fr w σ sz)
/-- what is known all through a method -/
def Cx {S : Type} (w : Wd S) (Y : Fz) (cc : ByteArray) (own : String) (ret : Option FieldType) (d mc ms : Nat) : Prop :=
  (y_p Y).tables.exec = Jvm.exec ∧ (y_c Y).code = cc ∧ (y_c Y).maxLocals = y_n Y ∧ (y_s Y).vm.findClass own = some (y_m Y).cls ∧ (∀ v ∈ lw_all, v.before (y_args Y) (y_s Y) = true) ∧
  w.2.2 (y_s Y) ∧ KKok w.2.2 ∧ (∀ q, (y_s Y).heap.size ≤ q → y_A Y q) ∧ (y_meth Y).locks = false ∧ (y_meth Y).sig.returnType = ret ∧
  y_R Y = rmz d mc ms
/-- what is owed at the end of a method -/
def Qx {S : Type} (w : Wd S) (Y : Fz) (Post : Option Value → S → Prop) (mc ms : Nat) : Prop := y_Q Y = MQ (y_below Y) (Qg w (y_A Y) Post) (y_args Y) (y_s Y) mc ms (y_A Y)
theorem Ct.of {S : Type} {w : Wd S} {y : MethodName} {cc : ByteArray} {nL : Nat} {ret : Option FieldType} {av : List Value} {σ : S} {Post : Option Value → S → Prop} {d mc ms : Nat} (hKK : KKok w.2.2) (hy : plainName y.cls = true) (hlen : (lg_sl av).length ≤ nL) {lo : Lo} (hlo : loEntry av nL = lo)
    (body : ∀ Y : Fz, Cx w Y cc y.cls ret d mc ms → Qx w Y Post mc ms → (y_meth Y).name = y.name → Zj w Y σ 0 0 0 lo []) : Ct w y cc nL ret av σ Post d mc ms := by
  intro l sz
  refine Met.ofW (cc := cc) (maxL := nL) (ret := ret) hy rfl ?_
  intro p e s m args below meth c s₁ B hml hv
  obtain ⟨rfl, hsz, hH, hK⟩ := hv
  have hts := atoms_spec (ws := ws_ y cc nL ret) B.pre
  have hts : ∀ v ∈ lw_all, v.before _ s = true := fun v h => hts v (List.mem_cons_of_mem _ h)
  have hown : s.vm.findClass y.cls = some m.cls := findClass_of_methodNamed B.named
  subst hsz
  subst hlo
  rw [lg_entry_eq]
  exact body ((p, l, e, rmz d mc ms, s, m, av.toArray, below, meth, c), Fr w σ s.heap.size, nL, MQ below (Qg w (Fr w σ s.heap.size) Post) av.toArray s mc ms (Fr w σ s.heap.size))
    ⟨B.exec, B.bytes, hml, hown, hts, hK, hKK, fun q h => Or.inr h, B.notSynchronized, B.returns, rfl⟩ rfl (name_of_methodNamed B.named B.method).1 s.heap [] _ hH (fun q h => Or.inl h) va_S.rf (lo_entry av hlen)
