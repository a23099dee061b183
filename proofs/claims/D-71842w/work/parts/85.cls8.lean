/-! calls that may throw; handlers; arraycopy -/
set_option maxRecDepth 10000
section AT
variable {p : Program} {l : Launch} {e : Env} {R : Room} {s : State} {m : MethodId} {args : Array Value} {below : List Frame} {meth : Method} {c : Code} {H : Heap} {locs : List Loc} {cells slots : Nat} {Q : State → Prop} {ls : Array Slot} {rest : List Value}
theorem zz_athrow {cc : ByteArray} {pc : Nat} (hexec : p.tables.exec = Jvm.exec) (hb : c.code = cc) {q : Addr} (hdg : decode cc pc = .ok (.athrow, 1)) (k : vx_W p l e R s m args below meth c H locs cells slots Q (F0 m pc ls rest) q) : W p l e R s m args below meth c H locs cells slots Q (F0 m pc ls (.ref q :: rest)) := by
  intro T hT X
  obtain ⟨t, st, hq⟩ := k T hT X
  refine ⟨t, ?_, hq⟩
  have hdg' : decode c.code pc = .ok (.athrow, 1) := by rw [hb]; exact hdg
  jvm_step X.here [X.here.top, hexec, hdg', athrow.wp_sem]
  exact st
end AT
theorem met_ofWH {l : Launch} {y : MethodName} {ws ws' : List Cond} {rm : Room} {Pc : Array Value → State → Prop} {Qc : Array Value → State → Outcome → State → Prop} {mc ms : Nat} {free : Addr → Prop} {cc : ByteArray} {maxL : Nat} {ret : Option FieldType} {hh : List (Nat × Nat × Nat × Nat)}
    (hy : plainName y.cls = true) (hw : ws = Cond.codeWith y cc maxL ret hh :: ws')
    (body : ∀ p e s m args below meth c s₁, BodyLoose p l y (headSpec ws rm) cc maxL ret e s m args below meth c s₁ → c.maxLocals = maxL → Pc args s →
      W p l e (headSpec ws rm).room s m args below meth c s.heap [] 0 0 (MQ below Qc args s mc ms free) (entryFrame m args maxL)) : Met l y ws rm Pc Qc mc ms free := by
  refine MetFree.of_bodyS (code := cc) (maxLocals := maxL) (ret := ret) hy ?_ ?_
  · intro args s m h hn
    obtain ⟨m9, meth, c, hn9, h1, h2, h3, h4, -, h5, h6, -⟩ := Cond.codeWith_spec (atoms_spec (ws := ws) h _ (by rw [hw]; exact List.mem_cons_self))
    cases hn.symm.trans hn9
    exact ⟨meth, c, h1, h2, h3, h4, h5, h6⟩
  · intro p e s m args below meth c s₁ B hml hP _
    have hh0 : s₁.heap = s.heap := by rw [B.state]; rfl
    obtain ⟨t, a1, o, b1, b2, b3⟩ := body p e s m args below meth c s₁ B hml hP s₁ hh0 (Stand.of_body B)
    exact ⟨t, o, a1, b1, b2, b3⟩
section ZT
/-- what is said of a throw: the object, the state -/
def XG {S : Type} (w : Wd S) (A : Nat → Prop) (PX : Nat → S → Prop) : Addr → String → State → State → Prop := fun q E st t => E = RX9 ∧ ∃ σ' : S, PX q σ' ∧ w.1 σ' t.heap ∧ (∀ x, w.2.1 σ' x → A x) ∧ va_F A st t
def CtX {S : Type} (w : Wd S) (y : MethodName) (cc : ByteArray) (nL : Nat) (ret : Option FieldType) (av : List Value) (σ : S) (Post : Option Value → S → Prop) (PX : Nat → S → Prop) (d mc ms : Nat) : Prop :=
  ∀ (l : Launch) (sz : Nat), vx_Met l y (ws_ y cc nL ret) (rmz d mc ms) (va_Pc av (fun U => U.heap.size = sz ∧ w.1 σ U.heap ∧ w.2.2 U)) (Qg w (Fr w σ sz) Post) (XG w (Fr w σ sz) PX) mc ms (Fr w σ sz)
def QxX {S : Type} (w : Wd S) (Y : Fz) (Post : Option Value → S → Prop) (PX : Nat → S → Prop) (mc ms : Nat) : Prop := y_Q Y = vx_MQ (y_below Y) (Qg w (y_A Y) Post) (XG w (y_A Y) PX) (y_args Y) (y_s Y) mc ms (y_A Y) ∧ ∀ x ∈ (y_c Y).exceptionTable.toList, False
def CtW {S : Type} (w : Wd S) (y : MethodName) (cc : ByteArray) (nL : Nat) (ret : Option FieldType) (hh : List (Nat × Nat × Nat × Nat)) (av : List Value) (σ : S) (Post : Option Value → S → Prop) (d mc ms : Nat) : Prop :=
  ∀ (l : Launch) (sz : Nat), Met l y (wsW_ y cc nL ret hh) (rmz d mc ms) (va_Pc av (fun U => U.heap.size = sz ∧ w.1 σ U.heap ∧ w.2.2 U)) (Qg w (Fr w σ sz) Post) mc ms (Fr w σ sz)
theorem CtX.of {S : Type} {w : Wd S} {y : MethodName} {cc : ByteArray} {nL : Nat} {ret : Option FieldType} {av : List Value} {σ : S} {Post : Option Value → S → Prop} {PX : Nat → S → Prop} {d mc ms : Nat} (hKK : KKok w.2.2) (hy : plainName y.cls = true) (hlen : (lg_sl av).length ≤ nL) {lo : Lo} (hlo : loEntry av nL = lo)
    (body : ∀ Y : Fz, Cx w Y cc y.cls ret d mc ms → QxX w Y Post PX mc ms → (y_meth Y).name = y.name → Zj w Y σ 0 0 0 lo []) : CtX w y cc nL ret av σ Post PX d mc ms := by
  intro l sz
  refine vx_ofW (cc := cc) (maxL := nL) (ret := ret) hy rfl ?_
  intro p e s m args below meth c s₁ B hml ht hv
  obtain ⟨rfl, hsz, hH, hK⟩ := hv
  have hts := atoms_spec (ws := ws_ y cc nL ret) B.pre
  have hts : ∀ v ∈ lw_all, v.before _ s = true := fun v h => hts v (List.mem_cons_of_mem _ h)
  have hown : s.vm.findClass y.cls = some m.cls := findClass_of_methodNamed B.named
  subst hsz
  subst hlo
  rw [lg_entry_eq]
  exact body ((p, l, e, rmz d mc ms, s, m, av.toArray, below, meth, c), Fr w σ s.heap.size, nL, vx_MQ below (Qg w (Fr w σ s.heap.size) Post) (XG w (Fr w σ s.heap.size) PX) av.toArray s mc ms (Fr w σ s.heap.size))
    ⟨B.exec, B.bytes, hml, hown, hts, hK, hKK, fun q h => Or.inr h, B.notSynchronized, B.returns, rfl⟩ ⟨rfl, ht⟩ (name_of_methodNamed B.named B.method).1 s.heap [] _ hH (fun q h => Or.inl h) va_S.rf (lo_entry av hlen)
theorem CtW.of {S : Type} {w : Wd S} {y : MethodName} {cc : ByteArray} {nL : Nat} {ret : Option FieldType} {hh : List (Nat × Nat × Nat × Nat)} {av : List Value} {σ : S} {Post : Option Value → S → Prop} {d mc ms : Nat} (hKK : KKok w.2.2) (hy : plainName y.cls = true) (hlen : (lg_sl av).length ≤ nL) {lo : Lo} (hlo : loEntry av nL = lo)
    (body : ∀ Y : Fz, Cx w Y cc y.cls ret d mc ms → Qx w Y Post mc ms → (y_c Y).exceptionTable.toList = tableOf hh → Zj w Y σ 0 0 0 lo []) : CtW w y cc nL ret hh av σ Post d mc ms := by
  intro l sz
  refine met_ofWH (cc := cc) (maxL := nL) (ret := ret) (hh := hh) hy rfl ?_
  intro p e s m args below meth c s₁ B hml hv
  obtain ⟨rfl, hsz, hH, hK⟩ := hv
  have hts0 := atoms_spec (ws := wsW_ y cc nL ret hh) B.pre
  have hts : ∀ v ∈ lw_all, v.before _ s = true := fun v h => hts0 v (List.mem_cons_of_mem _ h)
  have hown : s.vm.findClass y.cls = some m.cls := findClass_of_methodNamed B.named
  have htab := vx_table (x := y) B (hts0 _ List.mem_cons_self)
  subst hsz
  subst hlo
  rw [lg_entry_eq]
  exact body ((p, l, e, rmz d mc ms, s, m, av.toArray, below, meth, c), Fr w σ s.heap.size, nL, MQ below (Qg w (Fr w σ s.heap.size) Post) av.toArray s mc ms (Fr w σ s.heap.size))
    ⟨B.exec, B.bytes, hml, hown, hts, hK, hKK, fun q h => Or.inr h, B.notSynchronized, B.returns, rfl⟩ rfl htab s.heap [] _ hH (fun q h => Or.inl h) va_S.rf (lo_entry av hlen)
/-- q is thrown over the frame -/
def Zt {S : Type} (w : Wd S) (Y : Fz) (σ : S) (k n pc : Nat) (lo : Lo) (st : List Value) (q : Nat) : Prop :=
  ∀ (H : Heap) (locs : List Loc) (ls : Array Slot), w.1 σ H → (∀ x, w.2.1 σ x → y_A Y x) → va_S (y_A Y) (y_s Y).heap H locs → loHas ls (y_n Y) lo → vx_W (y_p Y) (y_l Y) (y_e Y) (y_R Y) (y_s Y) (y_m Y) (y_args Y) (y_below Y) (y_meth Y) (y_c Y) H locs k n (y_Q Y) (F0 (y_m Y) pc ls st) q
section ZT1
variable {S : Type} {w : Wd S} {Y : Fz} {cc : ByteArray} {own : String} {ret : Option FieldType} {Post : Option Value → S → Prop} {PX : Nat → S → Prop} {d mc ms : Nat} {σ : S} {k n pc q : Nat} {lo : Lo} {st : List Value}
theorem zx_iret (C : Cx w Y cc own (some .int) d mc ms) (hQ : QxX w Y Post PX mc ms) {v : Int32} (hd : decode cc pc = .ok (.ireturn, 1)) (hk : k ≤ mc) (hn : n ≤ ms) (hp : Post (some (.int v)) σ) : Zj w Y σ k n pc lo [.int v] := by
  intro H locs ls h1 h2 h3 h4
  unfold Wy
  rw [show y_Q Y = _ from hQ.1]
  exact vx_ret (W.widen hk hn (W.iret (hlocks := C.locks) C.1 C.2.1 C.hr (fun t ht hW => ⟨⟨_, σ, rfl, hp, by rw [ht]; exact h1, h2⟩, h3.F ht⟩) h3.2.2 hd))
variable {y : MethodName} {bytes : ByteArray} {maxL idx nn b : Nat} {ret' : Option FieldType} {As rest : List Value} {P : Option Value → S → Prop} {QX : Nat → S → Prop} {d' mc' ms' : Nat} {Cn : String}
theorem z_callVX (C : Cx w Y cc own ret d mc ms) (hM : CtX w y bytes maxL ret' (.ref b :: As) σ P QX d' mc' ms') (g : GV own idx Cn y bytes maxL ret' nn) (hr : Rcv w σ Cn b) (hd : decode cc pc = .ok (.invokevirtual idx, 3)) (hq : pc + 3 = q) (hst : st = As.reverse ++ .ref b :: rest) (hn : As.length = nn) (hW : (rest.map fun v => v.category).sum ≤ 8)
    (hdd : d' < d) (hc : k + mc' ≤ mc) (hs : n + ms' ≤ ms) (kk : ∀ (v : Option Value) (σ' : S), P v σ' → Zj w Y σ' (k + mc') (n + ms') q lo (v.toList ++ rest)) (kx : ∀ (x : Nat) (σ' : S), QX x σ' → Zt w Y σ' (k + mc') (n + ms') pc lo rest x) : Zj w Y σ k n pc lo st := by
  subst hq
  intro H locs ls h1 h2 h3 h4 T hT X
  have hFA : ∀ q, Fr w σ H.size q → y_A Y q := fun q h => h.elim (h2 q) (fun h => C.hA q (Nat.le_trans h3.1 h))
  rcases vx_runV (g := F0 (y_m Y) pc ls st) ⟨C.1, C.2.1, C.2.2.1, C.ow, C.hts⟩ (hM (y_l Y) H.size) (cwV nn C.hts g.1 rfl rfl rfl g.2.1 (hR_of C hdd g.2.2)) ⟨Ct.blind C.KK, hr _ H h1 C.hK, Ct.start C h1⟩ rfl hn h4.1 hst (lv_room hW) hd (hf_of C hc hs) T hT X with ⟨v, st₀, t, T', L, h0, X', hL, e1, e2, ⟨⟨v', σ', hv, hp, hh, hdm⟩, hz, hkk⟩, go⟩ | ⟨x, st₀, t, T', L, E, ce, h0, X', hL, e1, e2, ⟨hE, σ', hp, hh, hdm, hz, hkk⟩, hce, hcv, hcl, go⟩
  · cases hv
    rw [h0] at hz hkk
    obtain ⟨t2, a1, b1⟩ := kk v σ' hp T'.heap (locs ++ L) ls (by rw [e1]; exact hh) (fun q h => hFA q (hdm q h))
      ⟨Nat.le_trans h3.1 (by rw [e1]; exact hz), fun q g1 g2 => by rw [e1, hkk q (Nat.lt_of_lt_of_le g1 h3.1) (fun z => g2 (hFA q z))]; exact h3.2.1 q g1 g2, fun x hx => by
        rcases List.mem_append.mp hx with h | h
        · exact h3.2.2 x h
        · exact hFA _ (hL x h)⟩ h4 T' rfl X'
    exact ⟨t2, go t2 a1, b1⟩
  · rw [h0] at hz hkk
    obtain ⟨t2, a1, b1⟩ := kx x σ' hp T'.heap (locs ++ L) ls (by rw [e1]; exact hh) (fun q h => hFA q (hdm q h))
      ⟨Nat.le_trans h3.1 (by rw [e1]; exact hz), fun q g1 g2 => by rw [e1, hkk q (Nat.lt_of_lt_of_le g1 h3.1) (fun z => g2 (hFA q z))]; exact h3.2.1 q g1 g2, fun x hx => by
        rcases List.mem_append.mp hx with h | h
        · exact h3.2.2 x h
        · exact hFA _ (hL x h)⟩ h4 T' rfl X'
    exact ⟨t2, go.trans a1, b1⟩
end ZT1
section ZT2
variable {D : Dx} {Y : Fz} {cc : ByteArray} {own : String} {ret : Option FieldType} {Post : Option Value → Sg → Prop} {PX : Nat → Sg → Prop} {d mc ms : Nat} {σ : Sg} {k n pc q : Nat} {lo : Lo} {st : List Value}
theorem x_fcell (C : Cx (wX D) Y cc own ret d mc ms) {H : Heap} (h1 : HX D σ H) (hk8 : kd σ q = 8) : ∃ ce : Cell, H[q]? = some ce ∧ ce.vm = .none ∧ (y_s Y).vm.findClass RX9 = some ce.cls := by
  obtain ⟨r', hr', cell, g1, g2, g3, -⟩ := h1.1 q 7 (by decide) hk8
  have hcls := (C.hK.1.1 7 _ KC7.2.1).2
  exact ⟨cell, g1, g3, by rw [g2]; exact hcls.1⟩
theorem zt_out (C : Cx (wX D) Y cc own ret d mc ms) (hQ : QxX (wX D) Y Post PX mc ms) (hk8 : kd σ q = 8) (hp : PX q σ) (hk : k ≤ mc) (hn : n ≤ ms) : Zt (wX D) Y σ k n pc lo st q := by
  intro H locs ls h1 h2 h3 h4
  rw [show y_Q Y = _ from hQ.1]
  obtain ⟨ce, g1, g2, g3⟩ := x_fcell C h1 hk8
  exact vx_out (E := RX9) (fun x hx => (hQ.2 x hx).elim) C.locks g1 g2 g3 (fun t ht hal => ⟨rfl, σ, hp, by rw [ht]; exact h1, h2, h3.F ht⟩) h3.2.2 hk hn
theorem z_athrow (C : Cx (wX D) Y cc own ret d mc ms) (hQ : QxX (wX D) Y Post PX mc ms) (hd : decode cc pc = .ok (.athrow, 1)) (hk8 : kd σ q = 8) (hp : PX q σ) (hk : k ≤ mc) (hn : n ≤ ms) : Zj (wX D) Y σ k n pc lo [.ref q] := by
  intro H locs ls h1 h2 h3 h4
  exact zz_athrow C.1 C.2.1 hd (zt_out (pc := pc) (lo := lo) (st := []) C hQ hk8 hp hk hn H locs ls h1 h2 h3 h4)
/-- caught by the first row of the table -/
theorem zt_catch (C : Cx (wX D) Y cc own ret d mc ms) {a b c i : Nat} {hh : List (Nat × Nat × Nat × Nat)} (ht : (y_c Y).exceptionTable.toList = tableOf ((a, b, c, i) :: hh)) (hcv : covers ⟨a, b, c, i⟩ pc = true) (h0 : i ≠ 0) (hl : Cond.classLink own i RX9 ∈ lw_all) (hk8 : kd σ q = 8) (g : Zj (wX D) Y σ k n c lo [.ref q]) : Zt (wX D) Y σ k n pc lo st q := by
  intro H locs ls h1 h2 h3 h4
  obtain ⟨ce, g1, g2, g3⟩ := x_fcell C h1 hk8
  exact vx_catch (E := RX9) (name := RX9) C.ow [] ⟨a, b, c, i⟩ (tableOf hh) ht (fun z hz => by cases hz) hcv h0 (C.hts _ hl) (va_Nw.use rfl (C.hK.2.1 _ q715 rfl)) g1 g2 g3 (g H locs ls h1 h2 h3 h4)
/-- a static's value -/
theorem x_us13 (C : Cx (wX D) Y cc RJ1 ret d mc ms) (hd : decode cc pc = .ok (.getstatic 13, 3)) (hq : pc + 3 = q) (g : Zj (wX D) Y σ k n q lo (.ref (D.2.2.2 4) :: st)) : Zj (wX D) Y σ k n pc lo st := by
  subst hq
  intro H locs ls h1 h2 h3 h4
  obtain ⟨cf, kf, fi, f, a, cell, e1, e2, e3, e4, e5, e6, e7, e8⟩ := C.hK.2.2.2.2.2.2.2.1
  exact W.gets C.1 C.2.1 C.ow (C.hts _ q737) e1 e2 e3 e4 (h1.old e5) (fun e => by rw [e] at e6; cases e6) e7 rfl hd (g H locs ls h1 h2 h3 h4)
theorem x_us20 (C : Cx (wX D) Y cc RJ1 ret d mc ms) (hd : decode cc pc = .ok (.getstatic 20, 3)) (hq : pc + 3 = q) (g : Zj (wX D) Y σ k n q lo (.ref (D.2.2.2 5) :: st)) : Zj (wX D) Y σ k n pc lo st := by
  subst hq
  intro H locs ls h1 h2 h3 h4
  obtain ⟨cf, kf, fi, f, a, cell, e1, e2, e3, e4, e5, e6, e7, e8⟩ := C.hK.2.2.2.2.2.2.2.2
  exact W.gets C.1 C.2.1 C.ow (C.hts _ q739) e1 e2 e3 e4 (h1.old e5) (fun e => by rw [e] at e6; cases e6) e7 rfl hd (g H locs ls h1 h2 h3 h4)
theorem xp_J1 (C : Cx (wX D) Y cc RJ1 ret d mc ms) {a j idx : Nat} (hk : kd σ a = 8) (hj : j < 4) {r : Option Nat} (hw : Cond.fieldLink RJ1 idx RJ1 (TX9 j).2.1 (TX9 j).2.2.1 ∈ lw_all) (hd : decode cc pc = .ok (.putfield idx, 3)) (hq : pc + 3 = q) (g : Zj (wX D) Y (sR (140 + j) a r σ) k n q lo st) : Zj (wX D) Y σ k n pc lo (va_rf r :: .ref a :: st) := by
  rcases (show j = 0 ∨ j = 1 ∨ j = 2 ∨ j = 3 by omega) with rfl | rfl | rfl | rfl
  · exact x_put C KC7 hk (by decide) hw rfl rfl (nrw_q rfl fun _ => rfl) (fit_q rfl fun _ => rfl) hd hq (PutOk.R (by decide) hk rfl rfl (by decide) g)
  · exact x_put C KC7 hk (by decide) hw rfl rfl (nrw_q rfl fun _ => rfl) (fit_q rfl fun _ => rfl) hd hq (PutOk.R (by decide) hk rfl rfl (by decide) g)
  · exact x_put C KC7 hk (by decide) hw rfl rfl (nrw_q rfl fun _ => rfl) (fit_q rfl fun _ => rfl) hd hq (PutOk.R (by decide) hk rfl rfl (by decide) g)
  · exact x_put C KC7 hk (by decide) hw rfl rfl (nrw_q rfl fun _ => rfl) (fit_q rfl fun _ => rfl) hd hq (PutOk.R (by decide) hk rfl rfl (by decide) g)
/-- System.arraycopy of four ints -/
def cpA (a0 a : Nat) (σ : Sg) : Sg := (kd σ, fi σ, fr σ, ln σ, fun x => if x = a then va_cpy (ai σ a0) (ai σ a) 0 0 4 else ai σ x, ar σ)
theorem x_copy (C : Cx (wX D) Y cc own ret d mc ms) {a0 a idx : Nat} (k0 : kd σ a0 = 11) (k1 : kd σ a = 11) (l0 : ln σ a0 = 4) (l1 : ln σ a = 4) (hl : Cond.methodLink own idx arraycopyName ∈ lw_all) (hnat : Cond.native arraycopyName ∈ lw_all) (hstat : Cond.static arraycopyName ∈ lw_all) (hdd : 0 < d) (hW : (st.map fun v => v.category).sum ≤ 8) (hd : decode cc pc = .ok (.invokestatic idx, 3)) (hq : pc + 3 = q) (g : Zj (wX D) Y (cpA a0 a σ) k n q lo st) : Zj (wX D) Y σ k n pc lo (.int (nI 4) :: .int (nI 0) :: .ref a :: .int (nI 0) :: .ref a0 :: st) := by
  subst hq
  intro H locs ls h1 h2 h3 h4 T hT X
  have hc0 : H[a0]? = some (vp_cell (D.2.1 0) (4, .inl (ai σ a0))) := by
    have := h1.2.1 a0 0 (by decide) k0
    unfold arX at this
    rw [if_pos (by decide), l0] at this
    exact this
  have hc1 : H[a]? = some (vp_cell (D.2.1 0) (4, .inl (ai σ a))) := by
    have := h1.2.1 a 0 (by decide) k1
    unfold arX at this
    rw [if_pos (by decide), l1] at this
    exact this
  obtain ⟨-, kk0, hk0, cm0, hkk0⟩ := (C.hK.1.2 0 _ rfl).1 4 (fun j => .int (ai σ a0 j))
  obtain ⟨-, kk1, hk1, cm1, hkk1⟩ := (C.hK.1.2 0 _ rfl).1 4 (fun j => .int (ai σ a j))
  have hnw : nativeFrameWords "java/lang/System" "arraycopy" 5 ≤ 60 := by decide +kernel
  obtain ⟨vm', X', step⟩ := X.arraycopy C.1 C.ow (C.hts _ hl) (C.hts _ hnat) (C.hts _ hstat) (C.hts _ q91) (src := a0) (dst := a) (cs := vp_cell (D.2.1 0) (4, .inl (ai σ a0))) (cd := vp_cell (D.2.1 0) (4, .inl (ai σ a))) (srcPos := nI 0) (destPos := nI 0) (n := nI 4) (by rw [hT]; exact hc0) (by rw [hT]; exact hc1)
    (fun _ h => by cases h) (fun _ h => by cases h) (fun h => by cases h) (fun h => by cases h) hk0 hk1 hkk0 hkk1 (by rfl) (by decide) (by decide) (by decide)
    (by show ¬ _ > ((arrV (D.2.1 0) 4 (fun j => .int (ai σ a0 j))).slots.size : Int); rw [arrV_size]; decide)
    (by show ¬ _ > ((arrV (D.2.1 0) 4 (fun j => .int (ai σ a j))).slots.size : Int); rw [arrV_size]; decide)
    (fun vm₁ _ i hi => by
      have hi : i < 4 := hi
      have e : (vp_cell (D.2.1 0) (4, .inl (ai σ a0))).slots.getD ((nI 0).toNatClampNeg + i) .null = .int (ai σ a0 ((nI 0).toNatClampNeg + i)) := by
        show (arrV (D.2.1 0) 4 (fun j => .int (ai σ a0 j))).slots.getD _ _ = _
        rw [Array.getD_eq_getD_getElem?, arrV_read _ _ (by show 0 + i < 4; omega)]
        rfl
      refine ⟨?_, ?_⟩
      · rw [e]
        rfl
      · rw [e]
        exact trivial)
    (g := F0 (y_m Y) pc ls (.int (nI 4) :: .int (nI 0) :: .ref a :: .int (nI 0) :: .ref a0 :: st)) rfl (by rw [C.2.2.1]; exact h4.1) (rest := st) rfl (by rw [C.2.1]; exact hd) (by rw [C.R]; show 1 ≤ d + 1; omega) (by rw [C.R]; show 2 * 0 + _ + _ ≤ 100 * (d + 1); omega)
  have e1 : copied (vp_cell (D.2.1 0) (4, .inl (ai σ a0))) (vp_cell (D.2.1 0) (4, .inl (ai σ a))) (nI 0) (nI 0) (nI 4) = vp_cell (D.2.1 0) (4, .inl (va_cpy (ai σ a0) (ai σ a) 0 0 4)) := va_copied (fun z => .int z) (D.2.1 0) (D.2.1 0) (ai σ a0) (ai σ a) (by show (nI 0).toNatClampNeg + (nI 4).toNatClampNeg ≤ 4; decide)
  rw [e1] at X' step
  have hlt : a < H.size := (Array.getElem?_eq_some_iff.mp hc1).1
  have hheap : ((T.setVm vm').setCell a (vp_cell (D.2.1 0) (4, .inl (va_cpy (ai σ a0) (ai σ a) 0 0 4)))).heap = H.setIfInBounds a (vp_cell (D.2.1 0) (4, .inl (va_cpy (ai σ a0) (ai σ a) 0 0 4))) := by rw [← hT]; rfl
  have oq : ∀ q : Nat, q ≠ a → (H.setIfInBounds a (vp_cell (D.2.1 0) (4, .inl (va_cpy (ai σ a0) (ai σ a) 0 0 4))))[q]? = H[q]? := fun q hq => by simp [Array.getElem?_setIfInBounds, Ne.symm hq]
  have hsa : (H.setIfInBounds a (vp_cell (D.2.1 0) (4, .inl (va_cpy (ai σ a0) (ai σ a) 0 0 4))))[a]? = some (vp_cell (D.2.1 0) (4, .inl (va_cpy (ai σ a0) (ai σ a) 0 0 4))) := by simp [Array.getElem?_setIfInBounds, hlt]
  have hAa : y_A Y a := h2 a (by show kd σ a ≠ 0; omega)
  have hX' : HX D (cpA a0 a σ) (H.setIfInBounds a (vp_cell (D.2.1 0) (4, .inl (va_cpy (ai σ a0) (ai σ a) 0 0 4)))) := by
    refine h1.arr (j := 0) (by decide) k1 rfl rfl rfl rfl (fun b hb => ⟨if_neg hb, rfl⟩) ?_ (by simp) oq
    unfold arX
    rw [if_pos (by decide)]
    show _ = some (vp_cell (D.2.1 0) (ln σ a, .inl (if a = a then va_cpy (ai σ a0) (ai σ a) 0 0 4 else ai σ a)))
    rw [if_pos rfl, l1]
    exact hsa
  obtain ⟨t, a1, b1⟩ := g _ _ ls hX' h2 ⟨by simp; exact h3.1, fun q g1 g2 => by
      rw [oq q (fun e => g2 (by rw [e]; exact hAa))]
      exact h3.2.1 q g1 g2, fun q hq => by
      rcases List.mem_append.mp hq with h | h
      · exact h3.2.2 q h
      · obtain ⟨z, -, hz⟩ := List.mem_map.mp h
        rw [← hz]
        exact hAa⟩ h4 _ hheap X'
  exact ⟨t, step t a1, b1⟩
end ZT2
end ZT
