/-! THE CLASS: the ways, Math.max and min, arrays of references -/
set_option maxRecDepth 10000
section Cold3
variable {S : Type} {w : Wd S} {Y : Fz} {cc : ByteArray} {own : String} {ret : Option FieldType} {d mc ms : Nat} {σ : S} {k n pc q : Nat} {lo : Lo} {st : List Value}
variable {y : MethodName} {bytes : ByteArray} {maxL idx nn b : Nat} {ret' : Option FieldType} {As rest : List Value} {P : Option Value → S → Prop} {d' mc' ms' : Nat} {Cn : String}
def GCV (own : String) (idx : Nat) (Cn : String) (y : MethodName) (b : ByteArray) (L : Nat) (r : Option FieldType) (nn : Nat) : Prop := Cond.code y b L r ∈ lw_all ∧ plainFor y = true ∧ Cond.methodLink own idx y ∈ lw_all ∧ Cond.selects Cn y y ∈ lw_all ∧ Cond.instanceMethod y ∈ lw_all ∧ hdOf y nn ∧ L ≤ 80
theorem z_callCV (C : Cx w Y cc own ret d mc ms) (hM : CtC w y bytes maxL ret' (.ref b :: As) σ P d' mc' ms') (g : GCV own idx Cn y bytes maxL ret' nn) (hr : Rcv w σ Cn b) (hd : decode cc pc = .ok (.invokevirtual idx, 3)) (hq : pc + 3 = q) (hst : st = As.reverse ++ .ref b :: rest) (hn : As.length = nn) (hW : (rest.map fun v => v.category).sum ≤ 8)
    (hdd : d' < d) (hc : k + mc' ≤ mc) (hs : n + ms' ≤ ms) (kk : ∀ (v : Option Value) (σ' : S), P v σ' → Zj w Y σ' (k + mc') (n + ms') q lo (v.toList ++ rest)) : Zj w Y σ k n pc lo st :=
  z_ofRun (mc' := mc') (ms' := ms') (av := .ref b :: As) (rest := rest) (P := P) C (fun H locs ls h1 h4 => by
    obtain ⟨g1, g2, g3, g5, g6, g7, g9⟩ := g
    have hR := hR_of (mc' := mc') (ms' := ms') C hdd g9
    have hf := hf_of (k := k) (n := n) (mc' := mc') (ms' := ms') C hc hs
    have hK := CtC.back (l := y_l Y) (R := y_R Y) (p := y_p Y) (e := y_e Y) (below := y_below Y) (s := y_s Y) (sargs := y_args Y) (sz := H.size) hM g2 C.1 C.hts g1 C.KK hR.1 hR.2
    intro T hT X
    obtain ⟨cellB, hcB, hoB, hclB⟩ := hr _ H h1 C.hK
    have hlen : ∀ sig, parseMethodDescriptor y.desc = some sig → As.length = sig.parameters.length := fun sig h => by
      have g8 := g7.2.2
      rw [h] at g8
      exact hn.trans (Option.some.inj g8).symm
    obtain ⟨v, vm1, ⟨U', l2, c2, s2⟩, hW1, X', ⟨g', mk, t, L, e1, e2, hq', h1', hL, h2, h3⟩, st'⟩ := callV X C.1 (C := Cn) (bytes := bytes) (maxL := maxL) (ret := ret') C.ow (C.hts _ g3) (C.hts _ g6) (C.hts _ g5) (C.hts _ g1) ⟨g7.1, g7.2.1⟩ hK (by rw [hT]; exact hcB) hoB hclB (g := F0 (y_m Y) pc ls st) rfl (h4.1.trans C.2.2.1.symm) (argsL := As) (rest := rest) hlen hst (lv_room hW) (by rw [C.2.1]; exact hd)
      (fun vm1 hW1 => ⟨hf.1, hf.2, Ct.start C h1 (T.setVm vm1) hT hW1⟩)
    dsimp only [Pt.U, Pt.locs, Pt.cells, Pt.slots] at X' e1 e2 h1' h2 h3 st'
    subst h1'; subst h2; subst h3
    exact ⟨v, (T.setVm vm1).calling g' mk (Value.ref b :: As).toArray, t, U', L, hT, X', hL, e1, e2, hq', st'⟩) hq kk
theorem z_mmax (C : Cx w Y cc own ret d mc ms) {a1 b1 : Int32} (hl : Cond.methodLink own idx Lib.Math.max.name ∈ lw_all) (hst : Cond.static Lib.Math.max.name ∈ lw_all) (hcd : Cond.code Lib.Math.max.name Lib.Math.max.code 2 (some .int) ∈ lw_all) (hd : decode cc pc = .ok (.invokestatic idx, 3)) (hq : pc + 3 = q) (hW : (st.map fun v => v.category).sum ≤ 8) (hk : k ≤ mc) (hn : n ≤ ms) (hdd : 0 < d) (g : Zj w Y σ k n q lo (.int (if a1 < b1 then b1 else a1) :: st)) : Zj w Y σ k n pc lo (.int b1 :: .int a1 :: st) := by
  subst hq
  refine fun H locs ls h1 h2 h3 h4 => va_mmax C.1 C.2.1 (C.2.2.1.trans h4.1.symm) C.ow (C.hts _ hl) (C.hts _ hst) (C.hts _ q90) (C.hts _ hcd) (by rw [C.R]; show 1 ≤ d + 1; omega) (by rw [C.R]; show _ ≤ 100 * (d + 1); omega) (by rw [C.R]; exact hk) (by rw [C.R]; exact hn) hd (g H locs ls h1 h2 h3 h4)
theorem z_mmin (C : Cx w Y cc own ret d mc ms) {a1 b1 : Int32} (hl : Cond.methodLink own idx Lib.Math.min.name ∈ lw_all) (hst : Cond.static Lib.Math.min.name ∈ lw_all) (hcd : Cond.code Lib.Math.min.name Lib.Math.min.code 2 (some .int) ∈ lw_all) (hd : decode cc pc = .ok (.invokestatic idx, 3)) (hq : pc + 3 = q) (hW : (st.map fun v => v.category).sum ≤ 8) (hk : k ≤ mc) (hn : n ≤ ms) (hdd : 0 < d) (g : Zj w Y σ k n q lo (.int (if b1 < a1 then b1 else a1) :: st)) : Zj w Y σ k n pc lo (.int b1 :: .int a1 :: st) := by
  subst hq
  refine fun H locs ls h1 h2 h3 h4 => va_mmin C.1 C.2.1 (C.2.2.1.trans h4.1.symm) C.ow (C.hts _ hl) (C.hts _ hst) (C.hts _ q90) (C.hts _ hcd) (by rw [C.R]; show 1 ≤ d + 1; omega) (by rw [C.R]; show _ ≤ 100 * (d + 1); omega) (by rw [C.R]; exact hk) (by rw [C.R]; exact hn) hd (g H locs ls h1 h2 h3 h4)
end Cold3
section ZW
variable {D : Dx} {Y : Fz} {cc : ByteArray} {own : String} {ret : Option FieldType} {d mc ms : Nat} {σ : Sg} {k n pc q : Nat} {lo : Lo} {st : List Value}
theorem HX.old {H : Heap} (h : HX D σ H) {a : Nat} {cell : Cell} (e : D.2.2.1[a]? = some cell) : H[a]? = some cell := by rw [(h.2.2.2.2 a (Array.getElem?_eq_some_iff.mp e).1).1]; exact e
theorem x_ways (C : Cx (wX D) Y cc RX0 ret d mc ms) (hd : decode cc pc = .ok (.getstatic 310, 3)) (hq : pc + 3 = q) (g : Zj (wX D) Y σ k n q lo (.ref (D.2.2.2 3) :: st)) : Zj (wX D) Y σ k n pc lo st := by
  subst hq
  intro H locs ls h1 h2 h3 h4
  obtain ⟨cf, kf, fi, f, a, cell, e1, e2, e3, e4, e5, e6, e7, e8⟩ := C.hK.2.2.2.2.1
  exact W.gets C.1 C.2.1 C.ow (C.hts _ q623) e1 e2 e3 e4 (h1.old e5) (fun e => by rw [e] at e6; cases e6) e7 rfl hd (g H locs ls h1 h2 h3 h4)
theorem x_wlen (C : Cx (wX D) Y cc own ret d mc ms) (hd : decode cc pc = .ok (.arraylength, 1)) (hq : pc + 1 = q) (g : Zj (wX D) Y σ k n q lo (.int (nI 3) :: st)) : Zj (wX D) Y σ k n pc lo (.ref (D.2.2.2 3) :: st) := by
  subst hq
  intro H locs ls h1 h2 h3 h4
  obtain ⟨cell, e1, e2, e3, e4, e5, e6, e7⟩ := C.hK.2.2.2.2.2.1
  exact W.alen (n := Int32.ofNat 3) C.1 C.2.1 (h1.old e1) e2 e5 rfl rfl hd (g H locs ls h1 h2 h3 h4)
theorem x_wald (C : Cx (wX D) Y cc own ret d mc ms) {i : Nat} (hi : i < 3) (hd : decode cc pc = .ok (.aaload, 1)) (hq : pc + 1 = q) (g : Zj (wX D) Y σ k n q lo (.ref (D.2.2.2 i) :: st)) : Zj (wX D) Y σ k n pc lo (.int (nI i) :: .ref (D.2.2.2 3) :: st) := by
  subst hq
  intro H locs ls h1 h2 h3 h4
  obtain ⟨cell, e1, e2, e3, e4, e5, e6, e7⟩ := C.hK.2.2.2.2.2.1
  exact W.aald C.1 C.2.1 (h1.old e1) e2 rfl e3 (by rw [nI_clamp (by omega)]; intro h; rcases h with h | h; exact absurd h (nI_pos (by omega)); omega) (by rw [nI_clamp (by omega)]; exact e6 i hi) rfl rfl hd (g H locs ls h1 h2 h3 h4)
theorem rcW {i : Nat} (hi : i < 3) : Rcv (wX D) σ (wyN i) (D.2.2.2 i) := fun U H h1 hK => by
  obtain ⟨cell, e1, e2, e3, -⟩ := hK.2.2.2.2.2.2.1 i hi
  exact ⟨cell, h1.old e1, e2, e3⟩
theorem x_anew (C : Cx (wX D) Y cc own ret d mc ms) {L idx : Nat} (j : Nat) (h3 : 3 ≤ j) (h6 : j < 6) (hl : Cond.classLink own idx (enX j) ∈ lw_all) (hov : Cond.arrayOver (.object (enX j)) ∈ lw_tbl) (hL : L ≤ 2000) (hk : k + 1 ≤ mc) (hn : n + L ≤ ms) (hd : decode cc pc = .ok (.anewarray idx, 3)) (hq : pc + 3 = q) (g : ∀ a, kd σ a = 0 → Zj (wX D) Y (nA (j + 11) L a σ) (k + 1) (n + L) q lo (.ref a :: st)) : Zj (wX D) Y σ k n pc lo (.int (nI L) :: st) := by
  subst hq
  intro H locs ls h1 h2 h3' h4
  have hcl : (nI L).toNatClampNeg = L := nI_clamp (by omega)
  refine W.anew C.1 C.2.1 C.ow (C.hts _ hl) (va_AO.use (C.hK.2.2.1 _ hov)) rfl hd rfl (nI_pos (by omega)) (by rw [hcl]; omega) (by rw [C.R]; exact hk) (by rw [C.R, hcl]; exact hn) fun cA kA comp f1 f2 f3 f4 => ?_
  rw [hcl]
  generalize hH1 : H.push ({ cls := cA, slots := Array.replicate L .null, vm := .none } : Cell) = H1
  have z1 : H1.size = H.size + 1 := by rw [← hH1, Array.size_push]
  have e1 : H1[H.size]? = some (arrV cA L (fun _ => .null)) := by rw [← hH1, Array.getElem?_push_size, ← arrV_new]
  have o1 : ∀ q : Nat, q < H.size → H1[q]? = H[q]? := fun q hq => by rw [← hH1, Array.getElem?_push, if_neg (Nat.ne_of_lt hq)]
  have e3 : cA = D.2.1 j := by
    obtain ⟨kA', comp', -, -, -, hfc⟩ := (C.hK.1.2 j _ (tys_e h3 h6)).2
    exact Option.some.inj (f1.symm.trans hfc)
  subst e3
  obtain ⟨h0, hX⟩ := h1.more (σ' := nA (j + 11) L H.size σ) (t := j + 11) rfl (fun b hb => ⟨fun c' => rfl, if_neg hb, if_neg hb, if_neg hb⟩) (Or.inr ⟨j, h6, rfl, by
    rw [ar_q h3]
    show H1[H.size]? = some (vp_cell (D.2.1 j) (va_up (ln σ) H.size L H.size, .inr (.inr (.inr (.inr (va_up (ar σ) H.size (fun _ => none) H.size))))))
    rw [e1, show va_up (ln σ) H.size L H.size = L from if_pos rfl, show va_up (ar σ) H.size (fun _ => (none : Option Nat)) H.size = fun _ => none from if_pos rfl, vp_cell_q]
    rfl⟩) z1 o1
  refine g H.size h0 H1 locs ls hX (fun b hb => ?_) ⟨Nat.le_trans h3'.1 (by omega), fun x g1 g2 => (o1 x (Nat.lt_of_lt_of_le g1 h3'.1)).trans (h3'.2.1 x g1 g2), h3'.2.2⟩ h4
  by_cases e : b = H.size
  · rw [e]
    exact C.hA _ h3'.1
  · refine h2 b ?_
    have hb : va_up (kd σ) H.size (j + 11) b ≠ 0 := hb
    unfold va_up at hb
    rw [if_neg e] at hb
    exact hb
end ZW
