/-! returns and calls -/
section ZC
variable {S : Type} {w : Wd S} {Y : Fz} {cc : ByteArray} {own : String} {ret : Option FieldType} {Post : Option Value → S → Prop} {d mc ms : Nat} {σ : S} {k n pc q : Nat} {lo : Lo} {st : List Value}
theorem Cx.hts (C : Cx w Y cc own ret d mc ms) : ∀ v ∈ lw_all, v.before (y_args Y) (y_s Y) = true := C.2.2.2.2.1
theorem Cx.ow (C : Cx w Y cc own ret d mc ms) : (y_s Y).vm.findClass own = some (y_m Y).cls := C.2.2.2.1
theorem Cx.hK (C : Cx w Y cc own ret d mc ms) : w.2.2 (y_s Y) := C.2.2.2.2.2.1
theorem Cx.KK (C : Cx w Y cc own ret d mc ms) : KKok w.2.2 := C.2.2.2.2.2.2.1
theorem Cx.hA (C : Cx w Y cc own ret d mc ms) : ∀ q, (y_s Y).heap.size ≤ q → y_A Y q := C.2.2.2.2.2.2.2.1
theorem Cx.locks (C : Cx w Y cc own ret d mc ms) : (y_meth Y).locks = false := C.2.2.2.2.2.2.2.2.1
theorem Cx.hr (C : Cx w Y cc own ret d mc ms) : (y_meth Y).sig.returnType = ret := C.2.2.2.2.2.2.2.2.2.1
theorem Cx.R (C : Cx w Y cc own ret d mc ms) : y_R Y = rmz d mc ms := C.2.2.2.2.2.2.2.2.2.2
theorem z_iret (C : Cx w Y cc own (some .int) d mc ms) (hQ : Qx w Y Post mc ms) {v : Int32} (hd : decode cc pc = .ok (.ireturn, 1)) (hk : k ≤ mc) (hn : n ≤ ms) (hp : Post (some (.int v)) σ) : Zj w Y σ k n pc lo [.int v] := by
  intro H locs ls h1 h2 h3 h4
  unfold Wy
  rw [show y_Q Y = _ from hQ]
  exact W.widen hk hn (W.iret (hlocks := C.locks) C.1 C.2.1 C.hr (fun t ht hW => ⟨⟨_, σ, rfl, hp, by rw [ht]; exact h1, h2⟩, h3.F ht⟩) h3.2.2 hd)
theorem z_zret (C : Cx w Y cc own (some .boolean) d mc ms) (hQ : Qx w Y Post mc ms) {v : Int32} (hd : decode cc pc = .ok (.ireturn, 1)) (hk : k ≤ mc) (hn : n ≤ ms) (hv : narrow .boolean (.int v) = .int v) (hp : Post (some (.int v)) σ) : Zj w Y σ k n pc lo [.int v] := by
  intro H locs ls h1 h2 h3 h4
  unfold Wy
  rw [show y_Q Y = _ from hQ]
  exact W.widen hk hn (W.zret (hlocks := C.locks) C.1 C.2.1 C.hr hv (fun t ht hW => ⟨⟨_, σ, rfl, hp, by rw [ht]; exact h1, h2⟩, h3.F ht⟩) h3.2.2 hd)
theorem z_vret (C : Cx w Y cc own none d mc ms) (hQ : Qx w Y Post mc ms) (hd : decode cc pc = .ok (.return_, 1)) (hk : k ≤ mc) (hn : n ≤ ms) (hp : Post none σ) : Zj w Y σ k n pc lo [] := by
  intro H locs ls h1 h2 h3 h4
  unfold Wy
  rw [show y_Q Y = _ from hQ]
  exact W.widen hk hn (W.vret (hlocks := C.locks) C.1 C.2.1 C.hr (fun t ht hW => ⟨⟨_, σ, rfl, hp, by rw [ht]; exact h1, h2⟩, h3.F ht⟩) h3.2.2 hd)
theorem z_lret (C : Cx w Y cc own (some .long) d mc ms) (hQ : Qx w Y Post mc ms) {v : Int64} (hd : decode cc pc = .ok (.lreturn, 1)) (hk : k ≤ mc) (hn : n ≤ ms) (hp : Post (some (.long v)) σ) : Zj w Y σ k n pc lo [.long v] := by
  intro H locs ls h1 h2 h3 h4
  unfold Wy
  rw [show y_Q Y = _ from hQ]
  exact W.widen hk hn (W.lret (hlocks := C.locks) C.1 C.2.1 C.hr (fun t ht hW => ⟨⟨_, σ, rfl, hp, by rw [ht]; exact h1, h2⟩, h3.F ht⟩) h3.2.2 hd)
theorem z_aret {rt : FieldType} (C : Cx w Y cc own (some rt) d mc ms) (hQ : Qx w Y Post mc ms) (hrt : (∃ n, rt = .object n) ∨ ∃ t, rt = .array t) {r : Option Nat} (hd : decode cc pc = .ok (.areturn, 1)) (hk : k ≤ mc) (hn : n ≤ ms) (hp : Post (some (va_rf r)) σ) : Zj w Y σ k n pc lo [va_rf r] := by
  intro H locs ls h1 h2 h3 h4
  unfold Wy
  rw [show y_Q Y = _ from hQ]
  exact W.widen hk hn (W.aret (hlocks := C.locks) C.1 C.2.1 C.hr hrt (by cases r; exact Or.inl rfl; exact Or.inr ⟨_, rfl⟩) (fun t ht hW => ⟨⟨_, σ, rfl, hp, by rw [ht]; exact h1, h2⟩, h3.F ht⟩) h3.2.2 hd)
theorem z_widen {k' n' : Nat} (hk : k ≤ k') (hn : n ≤ n') (g : Zj w Y σ k' n' pc lo st) : Zj w Y σ k n pc lo st := fun H locs ls h1 h2 h3 h4 => W.widen hk hn (g H locs ls h1 h2 h3 h4)
/-- behind a call -/
theorem z_ofRun {av : List Value} {rest : List Value} {P : Option Value → S → Prop} {mc' ms' : Nat} (C : Cx w Y cc own ret d mc ms)
    (hrun : ∀ (H : Heap) (locs : List Loc) (ls : Array Slot), w.1 σ H → loHas ls (y_n Y) lo → va_Run (y_p Y) (y_l Y) (y_e Y) (y_R Y) (y_s Y) (y_m Y) (y_args Y) (y_below Y) (y_meth Y) (y_c Y) H locs k n mc' ms' (F0 (y_m Y) pc ls st) rest (Qg w (Fr w σ H.size) P av.toArray) (Fr w σ H.size))
    (hq : pc + 3 = q) (kk : ∀ (v : Option Value) (σ' : S), P v σ' → Zj w Y σ' (k + mc') (n + ms') q lo (v.toList ++ rest)) : Zj w Y σ k n pc lo st := by
  subst hq
  intro H locs ls h1 h2 h3 h4 T hT X
  obtain ⟨v, st₀, t, T', L, h0, X', hL, e1, e2, ⟨⟨v', σ', hv, hp, hh, hdm⟩, hz, hkk⟩, go⟩ := hrun H locs ls h1 h4 T hT X
  cases hv
  rw [h0] at hz hkk
  have hFA : ∀ q, Fr w σ H.size q → y_A Y q := fun q h => h.elim (h2 q) (fun h => C.hA q (Nat.le_trans h3.1 h))
  obtain ⟨t2, a1, b1⟩ := kk v σ' hp T'.heap (locs ++ L) ls (by rw [e1]; exact hh) (fun q h => hFA q (hdm q h))
    ⟨Nat.le_trans h3.1 (by rw [e1]; exact hz), fun q g1 g2 => by rw [e1, hkk q (Nat.lt_of_lt_of_le g1 h3.1) (fun z => g2 (hFA q z))]; exact h3.2.1 q g1 g2, fun x hx => by
      rcases List.mem_append.mp hx with h | h
      · exact h3.2.2 x h
      · exact hFA _ (hL x h)⟩ h4 T' rfl X'
  exact ⟨t2, go t2 a1, b1⟩
abbrev hdOf (y : MethodName) (nn : Nat) : Prop := y.cls ≠ "java/lang/invoke/MethodHandle" ∧ y.cls ≠ "java/lang/invoke/VarHandle" ∧ (parseMethodDescriptor y.desc).map (fun d => d.parameters.length) = some nn
def GV (own : String) (idx : Nat) (Cn : String) (y : MethodName) (b : ByteArray) (L : Nat) (r : Option FieldType) (nn : Nat) : Prop := GoodIn lw_all (wsV own idx Cn y (ws_ y b L r)) ∧ (y.cls = Cn ∧ hdOf y nn) ∧ L ≤ 80
def GS (own : String) (idx : Nat) (y : MethodName) (b : ByteArray) (L : Nat) (r : Option FieldType) (nn : Nat) : Prop := GoodIn lw_all (va_wsS own idx y (ws_ y b L r)) ∧ hdOf y nn ∧ L ≤ 80
def Rcv (w : Wd S) (σ : S) (Cn : String) (b : Nat) : Prop := ∀ (U : State) (H : Heap), w.1 σ H → w.2.2 U → ∃ cell : Cell, H[b]? = some cell ∧ cell.vm.isStatics = false ∧ U.vm.findClass Cn = some cell.cls
theorem Ct.blind {sz : Nat} {av : List Value} (hKK : KKok w.2.2) : FrameBlind (va_Pc av (fun U => U.heap.size = sz ∧ w.1 σ U.heap ∧ w.2.2 U)) := fun a U g mk h => ⟨h.1, h.2.1, h.2.2.1, hKK.1 U g mk a h.2.2.2⟩
theorem Ct.start (C : Cx w Y cc own ret d mc ms) {av : List Value} {H : Heap} (h1 : w.1 σ H) : ∀ U : State, U.heap = H → (y_s Y).WarmedH U.vm → va_Pc av (fun U => U.heap.size = H.size ∧ w.1 σ U.heap ∧ w.2.2 U) av.toArray U := fun U hU hW => ⟨rfl, by rw [hU], by rw [hU]; exact h1, C.KK.2 _ U hW C.hK⟩
variable {y : MethodName} {bytes : ByteArray} {maxL idx nn b : Nat} {ret' : Option FieldType} {As rest : List Value} {P : Option Value → S → Prop} {d' mc' ms' : Nat} {Cn : String}
theorem hR_of (C : Cx w Y cc own ret d mc ms) (hdd : d' < d) (hL : maxL ≤ 80) : (rmz d' mc' ms').frames + 1 ≤ (y_R Y).frames ∧ 8 + (maxL + 11) + (rmz d' mc' ms').locals ≤ (y_R Y).locals := by
  rw [C.R]
  show d' + 1 + 1 ≤ d + 1 ∧ 8 + (maxL + 11) + 100 * (d' + 1) ≤ 100 * (d + 1)
  omega
theorem hf_of (C : Cx w Y cc own ret d mc ms) (hc : k + mc' ≤ mc) (hs : n + ms' ≤ ms) : k + mc' ≤ (y_R Y).cells ∧ n + ms' ≤ (y_R Y).slots := by
  rw [C.R]
  exact ⟨hc, hs⟩
theorem z_callV (C : Cx w Y cc own ret d mc ms) (hM : Ct w y bytes maxL ret' (.ref b :: As) σ P d' mc' ms') (g : GV own idx Cn y bytes maxL ret' nn) (hr : Rcv w σ Cn b) (hd : decode cc pc = .ok (.invokevirtual idx, 3)) (hq : pc + 3 = q) (hst : st = As.reverse ++ .ref b :: rest) (hn : As.length = nn) (hW : (rest.map fun v => v.category).sum ≤ 8)
    (hdd : d' < d) (hc : k + mc' ≤ mc) (hs : n + ms' ≤ ms) (kk : ∀ (v : Option Value) (σ' : S), P v σ' → Zj w Y σ' (k + mc') (n + ms') q lo (v.toList ++ rest)) : Zj w Y σ k n pc lo st :=
  z_ofRun C (fun H locs ls h1 h4 => va_runV ⟨C.1, C.2.1, C.2.2.1, C.ow, C.hts⟩ (hM (y_l Y) H.size) (cwV nn C.hts g.1 rfl rfl rfl g.2.1 (hR_of C hdd g.2.2)) ⟨Ct.blind C.KK, hr _ H h1 C.hK, Ct.start C h1⟩ rfl hn h4.1 hst (lv_room hW) hd (hf_of C hc hs)) hq kk
theorem z_callS (C : Cx w Y cc own ret d mc ms) (hM : Ct w y bytes maxL ret' As σ P d' mc' ms') (g : GS own idx y bytes maxL ret' nn) (hd : decode cc pc = .ok (.invokestatic idx, 3)) (hq : pc + 3 = q) (hst : st = As.reverse ++ rest) (hn : As.length = nn) (hW : (rest.map fun v => v.category).sum ≤ 8)
    (hdd : d' < d) (hc : k + mc' ≤ mc) (hs : n + ms' ≤ ms) (kk : ∀ (v : Option Value) (σ' : S), P v σ' → Zj w Y σ' (k + mc') (n + ms') q lo (v.toList ++ rest)) : Zj w Y σ k n pc lo st :=
  z_ofRun C (fun H locs ls h1 h4 => va_runS ⟨C.1, C.2.1, C.2.2.1, C.ow, C.hts⟩ (hM (y_l Y) H.size) (va_cwS nn C.hts g.1 rfl rfl rfl g.2.1 (hR_of C hdd g.2.2)) ⟨Ct.blind C.KK, Ct.start C h1⟩ rfl hn h4.1 hst (lv_room hW) hd (hf_of C hc hs)) hq kk
/-- posts -/
def PE (v : Option Value) (σ1 : S) : Option Value → S → Prop := fun v' σ' => v' = v ∧ σ' = σ1
def PI (p : Int32 → S → Prop) : Option Value → S → Prop := fun v σ' => ∃ x : Int32, v = some (.int x) ∧ p x σ'
def PV (p : S → Prop) : Option Value → S → Prop := fun v σ' => v = none ∧ p σ'
def PQ (p : Option Nat → S → Prop) : Option Value → S → Prop := fun v σ' => ∃ r : Option Nat, v = some (va_rf r) ∧ p r σ'
/-- calls that make nothing -/
theorem z_callVi (C : Cx w Y cc own ret d mc ms) {p : Int32 → S → Prop} (hM : Ct w y bytes maxL ret' (.ref b :: As) σ (PI p) d' 0 0) (g : GV own idx Cn y bytes maxL ret' nn) (hr : Rcv w σ Cn b) (hd : decode cc pc = .ok (.invokevirtual idx, 3)) (hq : pc + 3 = q) (hst : st = As.reverse ++ .ref b :: rest) (hn : As.length = nn) (hW : (rest.map fun v => v.category).sum ≤ 8)
    (hdd : d' < d) (hc : k ≤ mc) (hs : n ≤ ms) (kk : ∀ (x : Int32) (σ' : S), p x σ' → Zj w Y σ' k n q lo (.int x :: rest)) : Zj w Y σ k n pc lo st :=
  z_callV C hM g hr hd hq hst hn hW hdd hc hs (fun v σ' h => by obtain ⟨x, rfl, h⟩ := h; exact kk x σ' h)
theorem z_callVv (C : Cx w Y cc own ret d mc ms) {p : S → Prop} (hM : Ct w y bytes maxL ret' (.ref b :: As) σ (PV p) d' 0 0) (g : GV own idx Cn y bytes maxL ret' nn) (hr : Rcv w σ Cn b) (hd : decode cc pc = .ok (.invokevirtual idx, 3)) (hq : pc + 3 = q) (hst : st = As.reverse ++ .ref b :: rest) (hn : As.length = nn) (hW : (rest.map fun v => v.category).sum ≤ 8)
    (hdd : d' < d) (hc : k ≤ mc) (hs : n ≤ ms) (kk : ∀ σ' : S, p σ' → Zj w Y σ' k n q lo rest) : Zj w Y σ k n pc lo st :=
  z_callV C hM g hr hd hq hst hn hW hdd hc hs (fun v σ' h => by obtain ⟨rfl, h⟩ := h; exact kk σ' h)
theorem z_callVe (C : Cx w Y cc own ret d mc ms) {v1 : Option Value} {σ1 : S} (hM : Ct w y bytes maxL ret' (.ref b :: As) σ (PE v1 σ1) d' 0 0) (g : GV own idx Cn y bytes maxL ret' nn) (hr : Rcv w σ Cn b) (hd : decode cc pc = .ok (.invokevirtual idx, 3)) (hq : pc + 3 = q) (hst : st = As.reverse ++ .ref b :: rest) (hn : As.length = nn) (hW : (rest.map fun v => v.category).sum ≤ 8)
    (hdd : d' < d) (hc : k ≤ mc) (hs : n ≤ ms) (kk : Zj w Y σ1 k n q lo (v1.toList ++ rest)) : Zj w Y σ k n pc lo st :=
  z_callV C hM g hr hd hq hst hn hW hdd hc hs (fun v σ' h => by obtain ⟨rfl, rfl⟩ := h; exact kk)
theorem z_callSe (C : Cx w Y cc own ret d mc ms) {v1 : Option Value} {σ1 : S} (hM : Ct w y bytes maxL ret' As σ (PE v1 σ1) d' 0 0) (g : GS own idx y bytes maxL ret' nn) (hd : decode cc pc = .ok (.invokestatic idx, 3)) (hq : pc + 3 = q) (hst : st = As.reverse ++ rest) (hn : As.length = nn) (hW : (rest.map fun v => v.category).sum ≤ 8)
    (hdd : d' < d) (hc : k ≤ mc) (hs : n ≤ ms) (kk : Zj w Y σ1 k n q lo (v1.toList ++ rest)) : Zj w Y σ k n pc lo st :=
  z_callS C hM g hd hq hst hn hW hdd hc hs (fun v σ' h => by obtain ⟨rfl, rfl⟩ := h; exact kk)
end ZC
