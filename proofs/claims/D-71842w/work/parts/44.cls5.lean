/-! COLD CALLS: a method whose class no word calls initialised (the ways): the callee's walk is taken as it is, its frame pushed by hand -/
section Cold
def CtC {S : Type} (w : Wd S) (y : MethodName) (cc : ByteArray) (nL : Nat) (ret : Option FieldType) (av : List Value) (σ : S) (Post : Option Value → S → Prop) (d mc ms : Nat) : Prop :=
  ∀ (l : Launch) (sz : Nat) (p : Program) (e : Env) (s : State) (m : MethodId) (below : List Frame) (meth : Method) (c : Code), s.methodNamed? y = some m → s.vm.method? m = some meth → meth.sig.returnType = ret → meth.locks = false → c.code = cc → c.maxLocals = nL → p.tables.exec = Jvm.exec → (∀ v ∈ lw_all, v.before av.toArray s = true) → s.heap.size = sz → w.1 σ s.heap → w.2.2 s →
    W p l e (rmz d mc ms) s m av.toArray below meth c s.heap [] 0 0 (MQ below (Qg w (Fr w σ sz) Post) av.toArray s mc ms (Fr w σ sz)) (entryFrame m av.toArray nL)
theorem CtC.of {S : Type} {w : Wd S} {y : MethodName} {cc : ByteArray} {nL : Nat} {ret : Option FieldType} {av : List Value} {σ : S} {Post : Option Value → S → Prop} {d mc ms : Nat} (hKK : KKok w.2.2) (hlen : (lg_sl av).length ≤ nL) {lo : Lo} (hlo : loEntry av nL = lo)
    (body : ∀ Y : Fz, Cx w Y cc y.cls ret d mc ms → Qx w Y Post mc ms → (y_meth Y).name = y.name → Zj w Y σ 0 0 0 lo []) : CtC w y cc nL ret av σ Post d mc ms := by
  intro l sz p e s m below meth c hn hm hr hlk hb hml hx hts hsz hH hK
  have hown : s.vm.findClass y.cls = some m.cls := findClass_of_methodNamed hn
  subst hsz
  subst hlo
  rw [lg_entry_eq]
  exact body ((p, l, e, rmz d mc ms, s, m, av.toArray, below, meth, c), Fr w σ s.heap.size, nL, MQ below (Qg w (Fr w σ s.heap.size) Post) av.toArray s mc ms (Fr w σ s.heap.size))
    ⟨hx, hb, hml, hown, hts, hK, hKK, fun q h => Or.inr h, hlk, hr, rfl⟩ rfl (name_of_methodNamed hn hm).1 s.heap [] _ hH (fun q h => Or.inl h) va_S.rf (lo_entry av hlen)
variable {l : Launch} {R : Room} {p : Program} {e : Env} {below : List Frame} {s : State} {sargs : Array Value} {S : Type} {w : Wd S} {y : MethodName} {cc : ByteArray} {nL : Nat} {ret : Option FieldType} {av : List Value} {σ : S} {Post : Option Value → S → Prop} {d mc ms sz : Nat}
/-- the callee's walk, from the invoking instruction on -/
theorem CtC.back (hM : CtC w y cc nL ret av σ Post d mc ms) (hy : plainFor y = true) (hexec : p.tables.exec = Jvm.exec) (hts : ∀ v ∈ lw_all, v.before sargs s = true) (hcd : Cond.code y cc nL ret ∈ lw_all) (hKK : KKok w.2.2)
    (hfr : (rmz d mc ms).frames + 1 ≤ R.frames) (hlo : 8 + (nL + 11) + (rmz d mc ms).locals ≤ R.locals) : Back l R p e below s sargs y 3 8 (PreOf R mc ms (va_Pc av (fun U => U.heap.size = sz ∧ w.1 σ U.heap ∧ w.2.2 U))) (PostOf (Qg w (Fr w σ sz) Post) mc ms (Fr w σ sz)) := by
  intro m meth c A g ig mk a X hg hsize hdg hW hn hp
  obtain ⟨U, Ls, c0, s0⟩ := A
  obtain ⟨hc1, hs1, hPa⟩ := hp
  dsimp only [Pt.U, Pt.locs, Pt.cells, Pt.slots] at hc1 hs1 hPa X hn ⊢
  obtain ⟨ea, hsz, hH, hK⟩ := hPa
  subst ea
  have htU : ∀ (a' : Array Value) (V : State), s.WarmedH V.vm → ∀ v ∈ lw_all, v.before a' V = true := fun a' V hV v hv => pay_in hts lw_self v hv a' V hV
  obtain ⟨methY, cY, hmY, hcY, hbY, hlY, hrY, hkY, -, -⟩ := Cond.code_spec hn (htU av.toArray U X.warmed _ hcd)
  have h : At U g.method c below := by rw [hg]; exact X.here
  have hroom := X.room_calling (g := g) (args' := av.toArray) (R' := rmz d mc ms) hsize hmY hcY hfr (by rw [hlY]; omega) hc1 hs1
  have hfc := State.frames_calling h.top g mk av.toArray
  have hcur := State.cur_lt_of_frames hfc
  have hft := State.frames_setTop' g h.top
  have hcode : (U.calling g mk av.toArray).code? g.method = some c := by
    have := h.code
    rw [State.code?_eq] at this ⊢
    simpa [State.calling, State.pushFrame, State.setFrames] using this
  have hhears : (U.calling g mk av.toArray).hears mk (.java g :: U.frames.tail) = true := by simp [State.hears, hcode, hdg, Except.toOption]
  have hnC : (U.calling g mk av.toArray).methodNamed? y = some mk := hn
  have hmC : (U.calling g mk av.toArray).vm.method? mk = some methY := hmY
  obtain ⟨s1, es1⟩ : ∃ s1, s1 = (U.calling g mk av.toArray).setFrames (.java (entryFrame mk av.toArray nL) :: .java g :: U.frames.tail) := ⟨_, rfl⟩
  have hf1 : s1.frames = .java (entryFrame mk av.toArray nL) :: .java g :: U.frames.tail := by rw [es1]; exact State.frames_setFrames _ hcur
  have ht1 := State.topJava?_of_frames hf1
  have hAt : At s1 mk cY (.java g :: U.frames.tail) :=
    ⟨by rw [ht1]; rfl, ⟨[], by rw [hf1]; rfl⟩, by rw [es1]; exact h.running, by rw [es1]; simpa [State.calling] using h.runnable, by rw [es1]; simpa [State.calling] using h.alone,
      by rw [es1, State.code?_eq]; show ((U.calling g mk av.toArray).vm.method? mk).bind _ = _; rw [hmC]; exact hcY, by rw [es1]; exact State.plainMethod.of_named (s := U.calling g mk av.toArray) hy hnC hmC⟩
  obtain ⟨th, hth, -⟩ := State.frames_cons hfc
  have hX1 : Stand p l e (rmz d mc ms) (U.calling g mk av.toArray) mk av.toArray (.java g :: U.frames.tail) methY cY s1 [] 0 0 := by
    refine ⟨X.admits, X.cas, X.clock, hfc, hroom, hhears, hmC, hcY, hAt, by rw [hf1]; rfl, by rw [es1]; exact State.WarmedH.refl _, by rw [es1, State.stackLimits_setFrames], by rw [es1, State.stackBytes_setFrames], ?_⟩
    have h0 := (State.sameButNew.refl (U.calling g mk av.toArray) hth).setFrames (.java (entryFrame mk av.toArray nL) :: .java g :: U.frames.tail) hcur
    rw [es1]
    exact h0
  obtain ⟨t0, ht0⟩ : ∃ t, (U.setTop g).threads[(U.setTop g).cur]? = some t := by
    obtain ⟨t, ht, -⟩ := State.frames_cons hft
    exact ⟨t, ht⟩
  have hcur0 : (U.setTop g).cur < (U.setTop g).threads.size := (Array.getElem?_eq_some_iff.mp ht0).1
  have hback : (U.calling g mk av.toArray).setFrames (.java g :: U.frames.tail) = U.setTop g := by
    show ((U.setTop g).setFrames _).setFrames _ = _
    rw [State.setFrames_setFrames, ← hft, State.setFrames_self ht0]
  have hstep : (doInvoke e (U.setTop g) [] mk av.toArray).1 = s1.setTop (entryFrame mk av.toArray nL) := by
    have hfull : e.platform.stackFull (U.setTop g).me (U.setTop g).frames cY.maxLocals = false := by
      obtain ⟨-, h1, -, h2⟩ := State.hasRoom_stack hroom
      rw [hfc, List.length_cons] at h1
      rw [State.localsInUse_invoking hfc hmC hcY] at h2
      have hw := stackUse_le_stackWeight (.java g :: U.frames.tail)
      rw [← hback, State.frames_setFrames _ hcur]
      exact Platform.stackFull_eq_false (by rw [State.stackLimits_setFrames]; omega) (by rw [State.stackLimits_setFrames]; omega)
    rw [(doInvoke_java (s := U.setTop g) (e := e) (meth := methY) (code := cY) hmY hcY hkY hfull).1, State.setTop_self ht1, es1]
    show (U.setTop g).setFrames _ = ((U.setTop g).setFrames _).setFrames _
    rw [State.setFrames_setFrames, hft, hlY]
    rfl
  have hheap : (U.calling g mk av.toArray).heap = U.heap := rfl
  obtain ⟨s2, hsteps, o, hrun, hend, hq, L, hfe, hL⟩ := hM l sz p e (U.calling g mk av.toArray) mk (.java g :: U.frames.tail) methY cY hnC hmC hrY hkY hbY hlY hexec (htU _ _ X.warmed) hsz hH (hKK.1 U g mk _ hK) s1 (by rw [es1]; rfl) hX1
  rw [← hstep] at hsteps
  have htl : U.frames.tail = below := X.tail
  rw [htl] at hsteps hend
  obtain ⟨⟨v, rfl⟩, hW2, e2, q2, q3, q4, q5, q6⟩ := id hfe
  have e3 : s2 = ({ (U.calling g mk av.toArray).setFrames s2.frames with heap := s2.heap, slotsUsed := s2.slotsUsed } : State).setVm s2.vm := by
    have h5 : s2 = ({ s2 with vm := (U.calling g mk av.toArray).vm } : State).setVm s2.vm := rfl
    rw [e2] at h5
    exact h5
  obtain ⟨c2, i2, len2, hc2, hd2, hf2⟩ := hend
  have hW' : U.WarmedH s2.vm := hW2
  have hcc : c2 = c := by
    have h1 : s2.code? g.method = U.code? g.method := by
      rw [State.code?_eq, State.code?_eq, hW'.alike.method?]
    exact Option.some.inj (hc2.symm.trans (h1.trans h.code))
  subst hcc
  have hlen : len2 = 3 := by rw [hdg] at hd2; cases hd2; rfl
  subst hlen
  obtain ⟨g0, hg0⟩ := Option.isSome_iff_exists.mp h.top
  obtain ⟨r, hr⟩ := State.topJava?_eq_some.mp hg0
  have hrb : r = below := by rw [hr] at htl; exact htl
  have hs2 : s2 = (({ U with heap := s2.heap, slotsUsed := s2.slotsUsed } : State).setVm s2.vm).setTop { g with pc := g.pc + 3, stack := v.toList ++ g.stack } := by
    have hr' : (({ U with heap := s2.heap, slotsUsed := s2.slotsUsed } : State).setVm s2.vm).frames = .java g0 :: r := hr
    refine e3.trans ?_
    rw [hf2, State.calling_eq h.top, State.setFrames_setFrames, State.setTop_of_frames _ hr', hrb]
    rfl
  have hsame : U.sameButNew ({ U with heap := s2.heap, slotsUsed := s2.slotsUsed } : State) L mc ms := by
    refine ⟨?_, q2, q3, q4, q5, q6⟩
    obtain ⟨t, ht, -⟩ := State.frames_cons hr
    show ({ U with heap := s2.heap, slotsUsed := s2.slotsUsed } : State) = { U.setFrames U.frames with heap := s2.heap, slotsUsed := s2.slotsUsed }
    rw [State.setFrames_self ht]
  subst hg
  refine ⟨v, ⟨(({ U with heap := s2.heap, slotsUsed := s2.slotsUsed } : State).setVm s2.vm), Ls ++ L, c0 + mc, s0 + ms⟩,
    ⟨X.admits, X.cas, X.clock, X.frames, X.room, X.hears, X.method, X.code, (X.here.setHeapUsed s2.heap s2.slotsUsed).setVm hW'.alike, X.tail, State.WarmedH.trans X.warmed hW', X.limits, X.bytes, X.same.trans (hsame.setVm s.vm)⟩,
    ⟨g, mk, s2, L, rfl, rfl, hq, rfl, hL, rfl, rfl⟩, ?_⟩
  show Steps p.tables e below _ ((({ U with heap := s2.heap, slotsUsed := s2.slotsUsed } : State).setVm s2.vm).setTop { g with pc := g.pc + 3, stack := v.toList ++ g.stack })
  rw [← hs2]
  obtain ⟨nn, hnn, wn⟩ := hsteps
  exact ⟨nn, hnn, fun k hk => Within.weaken (mid := [.java g]) (wn k hk)⟩
end Cold
section Cold2
variable {S : Type} {w : Wd S} {Y : Fz} {cc : ByteArray} {own : String} {ret : Option FieldType} {d mc ms : Nat} {σ : S} {k n pc q : Nat} {lo : Lo} {st : List Value}
variable {x y : MethodName} {bytes : ByteArray} {maxL idx nn b : Nat} {ret' : Option FieldType} {As rest : List Value} {P : Option Value → S → Prop} {d' mc' ms' : Nat} {Cn owner : String}
def GC (own : String) (idx : Nat) (Cn owner : String) (x y : MethodName) (b : ByteArray) (L : Nat) (r : Option FieldType) (nn : Nat) : Prop := Cond.code y b L r ∈ lw_all ∧ plainFor y = true ∧ Cond.methodLink own idx x ∈ lw_all ∧ Cond.sameMethod x.cls owner x.name x.desc ∈ lw_all ∧ Cond.selects Cn x y ∈ lw_all ∧ Cond.instanceMethod y ∈ lw_all ∧ (owner ≠ "java/lang/invoke/MethodHandle" ∧ owner ≠ "java/lang/invoke/VarHandle") ∧ (parseMethodDescriptor x.desc).map (fun d => d.parameters.length) = some nn ∧ L ≤ 80
theorem z_callC (C : Cx w Y cc own ret d mc ms) (hM : CtC w y bytes maxL ret' (.ref b :: As) σ P d' mc' ms') (g : GC own idx Cn owner x y bytes maxL ret' nn) (hdec : va_Decl (y_s Y) ⟨owner, x.name, x.desc⟩) (hr : Rcv w σ Cn b) (hd : decode cc pc = .ok (.invokevirtual idx, 3)) (hq : pc + 3 = q) (hst : st = As.reverse ++ .ref b :: rest) (hn : As.length = nn) (hW : (rest.map fun v => v.category).sum ≤ 8)
    (hdd : d' < d) (hc : k + mc' ≤ mc) (hs : n + ms' ≤ ms) (kk : ∀ (v : Option Value) (σ' : S), P v σ' → Zj w Y σ' (k + mc') (n + ms') q lo (v.toList ++ rest)) : Zj w Y σ k n pc lo st :=
  z_ofRun (mc' := mc') (ms' := ms') (av := .ref b :: As) (rest := rest) (P := P) C (fun H locs ls h1 h4 => by
    obtain ⟨g1, g2, g3, g4, g5, g6, g7, g8, g9⟩ := g
    have hR := hR_of (mc' := mc') (ms' := ms') C hdd g9
    have hf := hf_of (k := k) (n := n) (mc' := mc') (ms' := ms') C hc hs
    have hK := CtC.back (l := y_l Y) (R := y_R Y) (p := y_p Y) (e := y_e Y) (below := y_below Y) (s := y_s Y) (sargs := y_args Y) (sz := H.size) hM g2 C.1 C.hts g1 C.KK hR.1 hR.2
    intro T hT X
    obtain ⟨cellB, hcB, hoB, hclB⟩ := hr _ H h1 C.hK
    have hlen : ∀ sig, parseMethodDescriptor x.desc = some sig → As.length = sig.parameters.length := fun sig h => by
      rw [h] at g8
      exact hn.trans (Option.some.inj g8).symm
    obtain ⟨v, vm1, ⟨U', l2, c2, s2⟩, hW1, X', ⟨g', mk, t, L, e1, e2, hq', h1', hL, h2, h3⟩, st'⟩ := va_callVU X C.1 (C := Cn) (owner := owner) (bytes := bytes) (maxL := maxL) (ret := ret') C.ow (C.hts _ g3) (C.hts _ g4) hdec g7 (C.hts _ g5) (C.hts _ g6) (C.hts _ g1) hK (by rw [hT]; exact hcB) hoB hclB (g := F0 (y_m Y) pc ls st) rfl (h4.1.trans C.2.2.1.symm) (argsL := As) (rest := rest) hlen hst (lv_room hW) (by rw [C.2.1]; exact hd)
      (fun vm1 hW1 => ⟨hf.1, hf.2, Ct.start C h1 (T.setVm vm1) hT hW1⟩)
    dsimp only [Pt.U, Pt.locs, Pt.cells, Pt.slots] at X' e1 e2 h1' h2 h3 st'
    subst h1'; subst h2; subst h3
    exact ⟨v, (T.setVm vm1).calling g' mk (Value.ref b :: As).toArray, t, U', L, hT, X', hL, e1, e2, hq', st'⟩) hq kk
end Cold2
