/-! THE CLASS: calls of all kinds -/
set_option maxRecDepth 10000
section ZC2
variable {S : Type} {w : Wd S} {Y : Fz} {cc : ByteArray} {own : String} {ret : Option FieldType} {Post : Option Value → S → Prop} {d mc ms : Nat} {σ : S} {k n pc q : Nat} {lo : Lo} {st : List Value}
variable {x y : MethodName} {bytes : ByteArray} {maxL idx nn b : Nat} {ret' : Option FieldType} {As rest : List Value} {P : Option Value → S → Prop} {d' mc' ms' : Nat} {Cn owner host : String}
def GI (own : String) (idx : Nat) (y : MethodName) (b : ByteArray) (L nn : Nat) : Prop := Cond.code y b L none ∈ lw_all ∧ Cond.initialized y.cls ∈ lw_all ∧ Cond.methodLink own idx y ∈ lw_all ∧ Cond.instanceMethod y ∈ lw_all ∧ y.name = "<init>" ∧ hdOf y nn ∧ L ≤ 80
theorem z_callI (C : Cx w Y cc own ret d mc ms) (hM : Ct w y bytes maxL none (.ref b :: As) σ P d' mc' ms') (g : GI own idx y bytes maxL nn) (hd : decode cc pc = .ok (.invokespecial idx, 3)) (hq : pc + 3 = q) (hst : st = As.reverse ++ .ref b :: rest) (hn : As.length = nn) (hW : (rest.map fun v => v.category).sum ≤ 8)
    (hdd : d' < d) (hc : k + mc' ≤ mc) (hs : n + ms' ≤ ms) (kk : ∀ (v : Option Value) (σ' : S), P v σ' → Zj w Y σ' (k + mc') (n + ms') q lo (v.toList ++ rest)) : Zj w Y σ k n pc lo st :=
  z_ofRun C (fun H locs ls h1 h4 => va_runI ⟨C.1, C.2.1, C.2.2.1, C.ow, C.hts⟩ (hM (y_l Y) H.size) (cwI nn C.hts (lw_meth g.1) rfl rfl rfl (C.hts _ g.2.1) (C.hts _ g.2.2.1) (C.hts _ g.2.2.2.1) g.2.2.2.2.1 g.2.2.2.2.2.1 (hR_of C hdd g.2.2.2.2.2.2)) ⟨Ct.blind C.KK, Ct.start C h1⟩ rfl hn h4.1 hst (lv_room hW) hd (hf_of C hc hs)) hq kk
/-- nest mates -/
def GIN (own : String) (idx : Nat) (y : MethodName) (host : String) (b : ByteArray) (L nn : Nat) : Prop := Cond.code y b L none ∈ lw_all ∧ Cond.initialized y.cls ∈ lw_all ∧ Cond.methodLinkNest own idx y host ∈ lw_tbl ∧ Cond.instanceMethod y ∈ lw_all ∧ y.name = "<init>" ∧ hdOf y nn ∧ L ≤ 80
theorem z_callIN (C : Cx w Y cc own ret d mc ms) (hM : Ct w y bytes maxL none (.ref b :: As) σ P d' mc' ms') (g : GIN own idx y host bytes maxL nn) (hl : va_Nw (.methodLinkNest own idx y host) (y_s Y)) (hd : decode cc pc = .ok (.invokespecial idx, 3)) (hq : pc + 3 = q) (hst : st = As.reverse ++ .ref b :: rest) (hn : As.length = nn) (hW : (rest.map fun v => v.category).sum ≤ 8)
    (hdd : d' < d) (hc : k + mc' ≤ mc) (hs : n + ms' ≤ ms) (kk : ∀ (v : Option Value) (σ' : S), P v σ' → Zj w Y σ' (k + mc') (n + ms') q lo (v.toList ++ rest)) : Zj w Y σ k n pc lo st :=
  z_ofRun C (fun H locs ls h1 h4 => va_runIN ⟨C.1, C.2.1, C.2.2.1, C.ow, C.hts⟩ (hM (y_l Y) H.size) ⟨va_cnB nn C.hts (lw_meth g.1) rfl rfl rfl hl (C.hts _ g.2.1) g.2.2.2.2.2.1 (hR_of C hdd g.2.2.2.2.2.2), g.2.2.2.2.1, C.hts _ g.2.2.2.1⟩ ⟨Ct.blind C.KK, Ct.start C h1⟩ rfl hn h4.1 hst (lv_room hW) hd (hf_of C hc hs)) hq kk
def GVN (own : String) (idx : Nat) (Cn : String) (y : MethodName) (host : String) (b : ByteArray) (L : Nat) (r : Option FieldType) (nn : Nat) : Prop := Cond.code y b L r ∈ lw_all ∧ Cond.initialized y.cls ∈ lw_all ∧ Cond.methodLinkNest own idx y host ∈ lw_tbl ∧ Cond.instanceMethod y ∈ lw_all ∧ Cond.selects Cn y y ∈ lw_all ∧ hdOf y nn ∧ L ≤ 80
theorem z_callVN (C : Cx w Y cc own ret d mc ms) (hM : Ct w y bytes maxL ret' (.ref b :: As) σ P d' mc' ms') (g : GVN own idx Cn y host bytes maxL ret' nn) (hl : va_Nw (.methodLinkNest own idx y host) (y_s Y)) (hr : Rcv w σ Cn b) (hd : decode cc pc = .ok (.invokevirtual idx, 3)) (hq : pc + 3 = q) (hst : st = As.reverse ++ .ref b :: rest) (hn : As.length = nn) (hW : (rest.map fun v => v.category).sum ≤ 8)
    (hdd : d' < d) (hc : k + mc' ≤ mc) (hs : n + ms' ≤ ms) (kk : ∀ (v : Option Value) (σ' : S), P v σ' → Zj w Y σ' (k + mc') (n + ms') q lo (v.toList ++ rest)) : Zj w Y σ k n pc lo st :=
  z_ofRun C (fun H locs ls h1 h4 => va_runVN ⟨C.1, C.2.1, C.2.2.1, C.ow, C.hts⟩ (hM (y_l Y) H.size) ⟨va_cnB nn C.hts (lw_meth g.1) rfl rfl rfl hl (C.hts _ g.2.1) g.2.2.2.2.2.1 (hR_of C hdd g.2.2.2.2.2.2), C.hts _ g.2.2.2.1, C.hts _ g.2.2.2.2.1⟩ ⟨Ct.blind C.KK, hr _ H h1 C.hK, Ct.start C h1⟩ rfl hn h4.1 hst (lv_room hW) hd (hf_of C hc hs)) hq kk
def GSN (own : String) (idx : Nat) (y : MethodName) (host : String) (b : ByteArray) (L : Nat) (r : Option FieldType) (nn : Nat) : Prop := Cond.code y b L r ∈ lw_all ∧ Cond.initialized y.cls ∈ lw_all ∧ Cond.methodLinkNest own idx y host ∈ lw_tbl ∧ Cond.static y ∈ lw_all ∧ hdOf y nn ∧ L ≤ 80
theorem z_callSN (C : Cx w Y cc own ret d mc ms) (hM : Ct w y bytes maxL ret' As σ P d' mc' ms') (g : GSN own idx y host bytes maxL ret' nn) (hl : va_Nw (.methodLinkNest own idx y host) (y_s Y)) (hd : decode cc pc = .ok (.invokestatic idx, 3)) (hq : pc + 3 = q) (hst : st = As.reverse ++ rest) (hn : As.length = nn) (hW : (rest.map fun v => v.category).sum ≤ 8)
    (hdd : d' < d) (hc : k + mc' ≤ mc) (hs : n + ms' ≤ ms) (kk : ∀ (v : Option Value) (σ' : S), P v σ' → Zj w Y σ' (k + mc') (n + ms') q lo (v.toList ++ rest)) : Zj w Y σ k n pc lo st :=
  z_ofRun C (fun H locs ls h1 h4 => va_runSN ⟨C.1, C.2.1, C.2.2.1, C.ow, C.hts⟩ (hM (y_l Y) H.size) ⟨va_cnB nn C.hts (lw_meth g.1) rfl rfl rfl hl (C.hts _ g.2.1) g.2.2.2.2.1 (hR_of C hdd g.2.2.2.2.2), C.hts _ g.2.2.2.1, trivial⟩ ⟨Ct.blind C.KK, Ct.start C h1⟩ rfl hn h4.1 hst (lv_room hW) hd (hf_of C hc hs)) hq kk
/-- inherited, overriding and abstract methods: x is named, y runs -/
def GU (own : String) (idx : Nat) (Cn owner : String) (x y : MethodName) (b : ByteArray) (L : Nat) (r : Option FieldType) (nn : Nat) : Prop := GoodIn lw_all (va_wsU own idx Cn owner x y (ws_ y b L r)) ∧ (owner ≠ "java/lang/invoke/MethodHandle" ∧ owner ≠ "java/lang/invoke/VarHandle" ∧ (parseMethodDescriptor x.desc).map (fun d => d.parameters.length) = some nn) ∧ L ≤ 80
theorem lw_U {C : String} {b : ByteArray} {L : Nat} {r : Option FieldType} (h1 : Cond.methodLink own idx x ∈ lw_all) (h2 : Cond.sameMethod x.cls owner x.name x.desc ∈ lw_all) (h3 : Cond.selects C x y ∈ lw_all) (h4 : Cond.instanceMethod y ∈ lw_all) (h5 : Cond.initialized y.cls ∈ lw_all) (h6 : Cond.code y b L r ∈ lw_all) : GoodIn lw_all (va_wsU own idx C owner x y (ws_ y b L r)) := by
  refine lw_app (fun w h => ?_) (lw_meth h6)
  simp only [List.mem_cons, List.not_mem_nil, or_false] at h
  rcases h with rfl | rfl | rfl | rfl | rfl
  · exact h1
  · exact h2
  · exact h3
  · exact h4
  · exact h5
abbrev CU (Y : Fz) (own Cn owner : String) (idx : Nat) (x y : MethodName) (bytes : ByteArray) (maxL : Nat) (ret' : Option FieldType) (d' mc' ms' nn : Nat) : Prop := va_CU (y_R Y) (y_s Y) (y_args Y) own Cn owner idx x y bytes maxL ret' (ws_ y bytes maxL ret') (rmz d' mc' ms') mc' ms' nn
/-- the method named is the one that runs -/
theorem cuU (C : Cx w Y cc own ret d mc ms) (g : GU own idx Cn owner x y bytes maxL ret' nn) (hyx : y = ⟨owner, x.name, x.desc⟩) (hdd : d' < d) : CU Y own Cn owner idx x y bytes maxL ret' d' mc' ms' nn := va_cwU nn C.hts g.1 rfl rfl rfl hyx g.2.1 (hR_of C hdd g.2.2)
/-- what is named is abstract -/
theorem cuA (C : Cx w Y cc own ret d mc ms) (g : GU own idx Cn owner x y bytes maxL ret' nn) (hz : va_Nw (.declares ⟨owner, x.name, x.desc⟩) (y_s Y)) (hdd : d' < d) : CU Y own Cn owner idx x y bytes maxL ret' d' mc' ms' nn := va_cwA nn C.hts g.1 rfl rfl rfl hz g.2.1 (hR_of C hdd g.2.2)
/-- what is named has code of its own, that isn't run -/
theorem cuO (C : Cx w Y cc own ret d mc ms) (g : GU own idx Cn owner x y bytes maxL ret' nn) {b0 : ByteArray} {m0 : Nat} {r0 : Option FieldType} (h0 : Cond.code ⟨owner, x.name, x.desc⟩ b0 m0 r0 ∈ lw_all) (h1 : Cond.instanceMethod ⟨owner, x.name, x.desc⟩ ∈ lw_all) (hdd : d' < d) : CU Y own Cn owner idx x y bytes maxL ret' d' mc' ms' nn := by
  refine va_cwO nn C.hts (fun w h => ?_) rfl rfl rfl h0 g.2.1 (hR_of C hdd g.2.2)
  unfold va_wsO at h
  have g1 := g.1
  unfold va_wsU at g1
  simp only [List.cons_append, List.nil_append, List.mem_cons] at h g1
  rcases h with h | h | h | h
  · exact g1 w (by simp only [List.mem_cons]; exact Or.inl h)
  · exact g1 w (by simp only [List.mem_cons]; exact Or.inr (Or.inl h))
  · rw [h]; exact lw_self _ h1
  · exact g1 w (by simp only [List.mem_cons]; exact Or.inr (Or.inr h))
theorem z_callU (C : Cx w Y cc own ret d mc ms) (hM : Ct w y bytes maxL ret' (.ref b :: As) σ P d' mc' ms') (cw : CU Y own Cn owner idx x y bytes maxL ret' d' mc' ms' nn) (hr : Rcv w σ Cn b) (hd : decode cc pc = .ok (.invokevirtual idx, 3)) (hq : pc + 3 = q) (hst : st = As.reverse ++ .ref b :: rest) (hn : As.length = nn) (hW : (rest.map fun v => v.category).sum ≤ 8)
    (hc : k + mc' ≤ mc) (hs : n + ms' ≤ ms) (kk : ∀ (v : Option Value) (σ' : S), P v σ' → Zj w Y σ' (k + mc') (n + ms') q lo (v.toList ++ rest)) : Zj w Y σ k n pc lo st :=
  z_ofRun C (fun H locs ls h1 h4 => va_runU ⟨C.1, C.2.1, C.2.2.1, C.ow, C.hts⟩ (hM (y_l Y) H.size) cw ⟨Ct.blind C.KK, hr _ H h1 C.hK, Ct.start C h1⟩ rfl hn h4.1 hst (lv_room hW) hd (hf_of C hc hs)) hq kk
/-- super.f(..) -/
def GSU (own : String) (idx : Nat) (y : MethodName) (b : ByteArray) (L : Nat) (r : Option FieldType) (nn : Nat) : Prop := GoodIn lw_all (va_wsSU own idx y (ws_ y b L r)) ∧ (y.name ≠ "<init>" ∧ (parseMethodDescriptor y.desc).map (fun d => d.parameters.length) = some nn) ∧ L ≤ 80
theorem lw_SU {b : ByteArray} {L : Nat} {r : Option FieldType} (h1 : Cond.methodLink own idx y ∈ lw_all) (h2 : Cond.sameMethod y.cls y.cls y.name y.desc ∈ lw_all) (h3 : Cond.superclass own y.cls ∈ lw_all) (h4 : Cond.instanceMethod y ∈ lw_all) (h5 : Cond.initialized y.cls ∈ lw_all) (h6 : Cond.code y b L r ∈ lw_all) : GoodIn lw_all (va_wsSU own idx y (ws_ y b L r)) := by
  refine lw_app (fun w h => ?_) (lw_meth h6)
  simp only [List.mem_cons, List.not_mem_nil, or_false] at h
  rcases h with rfl | rfl | rfl | rfl | rfl
  · exact h1
  · exact h2
  · exact h3
  · exact h4
  · exact h5
theorem z_callSU (C : Cx w Y cc own ret d mc ms) (hM : Ct w y bytes maxL ret' (.ref b :: As) σ P d' mc' ms') (g : GSU own idx y bytes maxL ret' nn) {cC : ClassId} (hat : ClassAt (y_s Y) Cn cC) (hr : Rcv w σ Cn b) (hd : decode cc pc = .ok (.invokespecial idx, 3)) (hq : pc + 3 = q) (hst : st = As.reverse ++ .ref b :: rest) (hn : As.length = nn) (hW : (rest.map fun v => v.category).sum ≤ 8)
    (hdd : d' < d) (hc : k + mc' ≤ mc) (hs : n + ms' ≤ ms) (kk : ∀ (v : Option Value) (σ' : S), P v σ' → Zj w Y σ' (k + mc') (n + ms') q lo (v.toList ++ rest)) : Zj w Y σ k n pc lo st :=
  z_ofRun C (fun H locs ls h1 h4 => va_runSU hat ⟨C.1, C.2.1, C.2.2.1, C.ow, C.hts⟩ (hM (y_l Y) H.size) (va_cwSU nn C.hts g.1 rfl rfl rfl g.2.1 (hR_of C hdd g.2.2)) ⟨Ct.blind C.KK, hr _ H h1 C.hK, Ct.start C h1⟩ rfl hn h4.1 hst (lv_room hW) hd (hf_of C hc hs)) hq kk
end ZC2
