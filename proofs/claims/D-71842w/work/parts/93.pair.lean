/-! THE PAIR: the class's world beside the twin's -/
set_option maxRecDepth 10000
abbrev wP (D : Dx) (E : Dt) : Wd (Sg × va_W) := (fun x H => HX D x.1 H ∧ (wL E).1 x.2 H ∧ ∀ q, (wL E).2.1 x.2 q → kd x.1 q = 0 ∧ D.2.2.1.size ≤ q, fun x q => kd x.1 q ≠ 0 ∨ (wL E).2.1 x.2 q, fun U => KX D U ∧ KT E U)
theorem KPok {D : Dx} {E : Dt} : KKok (wP D E).2.2 := ⟨fun U g mk a h => ⟨KXok.1 U g mk a h.1, KTok.1 U g mk a h.2⟩, fun s U hW h => ⟨KXok.2 s U hW h.1, KTok.2 s U hW h.2⟩⟩
theorem va_at_lt {G : va_G} {cl : List vw_C} {a : Nat} {e : va_E} {H : Heap} (h : va_at G cl (a, e) H) : a < H.size := by
  cases e with
  | inl x => exact (Array.getElem?_eq_some_iff.mp (show H[a]? = some _ from h)).1
  | inr x =>
    obtain ⟨r, hr, cell, g1, -⟩ := h
    exact (Array.getElem?_eq_some_iff.mp g1).1
theorem HX.kept {D : Dx} {σ : Sg} {H H1 : Heap} (h : HX D σ H) (hs : H.size ≤ H1.size) (h1 : ∀ q, kd σ q ≠ 0 → H1[q]? = H[q]?) (h2 : ∀ q, q < D.2.2.1.size → H1[q]? = H[q]?) : HX D σ H1 :=
  ⟨fun a c hc e => (h.1 a c hc e).kept (h1 a (by omega)), fun a j hj e => (h.2.1 a j hj e).kept (h1 a (by omega)), h.2.2.1, Nat.le_trans h.2.2.2.1 hs, fun q hq => ⟨(h2 q hq).trans (h.2.2.2.2 q hq).1, (h.2.2.2.2 q hq).2⟩⟩
section PW
variable {D : Dx} {E : Dt} {σ : Sg} {ws : va_W} {l : Launch} {y : MethodName} {W : List Cond} {rm : Room} {av : List Value} {sz mc ms : Nat}
theorem met_left {Post : Option Value → Sg → Prop} (h : Met l y W rm (va_Pc av (fun U => U.heap.size = sz ∧ HX D σ U.heap ∧ KX D U)) (Qg (wX D) (Fr (wX D) σ sz) Post) mc ms (Fr (wX D) σ sz)) : Met l y W rm (va_Pc av (fun U => U.heap.size = sz ∧ (wP D E).1 (σ, ws) U.heap ∧ (wP D E).2.2 U)) (Qg (wP D E) (Fr (wP D E) (σ, ws) sz) (fun v x => Post v x.1 ∧ x.2 = ws)) mc ms (Fr (wP D E) (σ, ws) sz) := by
  intro p e ha hc hk s m args below hf hap hP hK
  obtain ⟨rfl, hsz, ⟨hX, hL, hd⟩, hKX, hKT⟩ := hP
  obtain ⟨n, o, g1, g2, g3, ⟨⟨v, σ', ho, hp, hX', hdom⟩, hF⟩, L, g5, g6⟩ := h p e ha hc hk s m _ below hf hap ⟨rfl, hsz, hX, hKX⟩ trivial
  have up : ∀ q, Fr (wX D) σ sz q → Fr (wP D E) (σ, ws) sz q := fun q h => h.elim (fun h => Or.inl (Or.inl h)) Or.inr
  have hlt : ∀ q, (wL E).2.1 ws q → q < sz := fun q ⟨k, e, hk⟩ => by rw [← hsz]; exact va_at_lt (hL.1 k (q, e) hk)
  have hno : ∀ q, (wL E).2.1 ws q → ¬ Fr (wX D) σ sz q := fun q hq z => z.elim (fun z => z (hd q hq).1) (fun z => absurd (hlt q hq) (by omega))
  have hkp : ∀ q, (wL E).2.1 ws q → (stepsAlone p.tables e n s).heap[q]? = s.heap[q]? := fun q hq => hF.2 q (by rw [hsz]; exact hlt q hq) (hno q hq)
  refine ⟨n, o, g1, g2, g3, ⟨⟨v, (σ', ws), ho, ⟨hp, rfl⟩, ⟨hX', ⟨hL.1.kept (fun k q hk => hkp q.1 ⟨k, q.2, hk⟩), hL.2⟩, fun q hq => ⟨?_, (hd q hq).2⟩⟩, fun q hq => ?_⟩, hF.1, fun q h1 h2 => hF.2 q h1 (fun z => h2 (up q z))⟩, L, g5, fun q hq => up _ (g6 q hq)⟩
  · by_cases z : kd σ' q = 0
    · exact z
    · exact absurd (hdom q z) (hno q hq)
  · rcases hq with hq | hq
    · exact up q (hdom q hq)
    · exact Or.inl (Or.inr hq)
theorem met_right {Post : Option Value → va_W → Prop} (h : Met l y W rm (va_Pc av (fun U => U.heap.size = sz ∧ (wL E).1 ws U.heap ∧ KT E U)) (Qg (wL E) (Fr (wL E) ws sz) Post) mc ms (Fr (wL E) ws sz)) : Met l y W rm (va_Pc av (fun U => U.heap.size = sz ∧ (wP D E).1 (σ, ws) U.heap ∧ (wP D E).2.2 U)) (Qg (wP D E) (Fr (wP D E) (σ, ws) sz) (fun v x => Post v x.2 ∧ x.1 = σ)) mc ms (Fr (wP D E) (σ, ws) sz) := by
  intro p e ha hc hk s m args below hf hap hP hK
  obtain ⟨rfl, hsz, ⟨hX, hL, hd⟩, hKX, hKT⟩ := hP
  obtain ⟨n, o, g1, g2, g3, ⟨⟨v, ws', ho, hp, hL', hdom⟩, hF⟩, L, g5, g6⟩ := h p e ha hc hk s m _ below hf hap ⟨rfl, hsz, hL, hKT⟩ trivial
  have up : ∀ q, Fr (wL E) ws sz q → Fr (wP D E) (σ, ws) sz q := fun q h => h.elim (fun h => Or.inl (Or.inr h)) Or.inr
  have hlt : ∀ q, kd σ q ≠ 0 → q < sz := fun q hq => by rw [← hsz]; exact (hX.lt hq).1
  have hno : ∀ q, kd σ q ≠ 0 → ¬ Fr (wL E) ws sz q := fun q hq z => z.elim (fun z => hq (hd q z).1) (fun z => absurd (hlt q hq) (by omega))
  have hbs : ∀ q, q < D.2.2.1.size → ¬ Fr (wL E) ws sz q := fun q hq z => z.elim (fun z => absurd (hd q z).2 (by omega)) (fun z => absurd hX.2.2.2.1 (by omega))
  refine ⟨n, o, g1, g2, g3, ⟨⟨v, (σ, ws'), ho, ⟨hp, rfl⟩, ⟨hX.kept hF.1 (fun q hq => hF.2 q (by rw [hsz]; exact hlt q hq) (hno q hq)) (fun q hq => hF.2 q (Nat.lt_of_lt_of_le hq hX.2.2.2.1) (hbs q hq)), hL', fun q hq => ?_⟩, fun q hq => ?_⟩, hF.1, fun q h1 h2 => hF.2 q h1 (fun z => h2 (up q z))⟩, L, g5, fun q hq => up _ (g6 q hq)⟩
  · refine ⟨?_, ?_⟩
    · by_cases z : kd σ q = 0
      · exact z
      · exact absurd (hdom q hq) (hno q z)
    · rcases Nat.lt_or_ge q D.2.2.1.size with z | z
      · exact absurd (hdom q hq) (hbs q z)
      · exact z
  · rcases hq with hq | hq
    · exact Or.inl (Or.inl hq)
    · exact up q (hdom q hq)
variable {cc : ByteArray} {nL : Nat} {ret : Option FieldType} {d : Nat} {hh : List (Nat × Nat × Nat × Nat)}
theorem Ct.left {Post : Option Value → Sg → Prop} (h : Ct (wX D) y cc nL ret av σ Post d mc ms) : Ct (wP D E) y cc nL ret av (σ, ws) (fun v x => Post v x.1 ∧ x.2 = ws) d mc ms := fun l sz => met_left (h l sz)
theorem CtW.left {Post : Option Value → Sg → Prop} (h : CtW (wX D) y cc nL ret hh av σ Post d mc ms) : CtW (wP D E) y cc nL ret hh av (σ, ws) (fun v x => Post v x.1 ∧ x.2 = ws) d mc ms := fun l sz => met_left (h l sz)
theorem Ct.right {Post : Option Value → va_W → Prop} (h : Ct (wL E) y cc nL ret av ws Post d mc ms) : Ct (wP D E) y cc nL ret av (σ, ws) (fun v x => Post v x.2 ∧ x.1 = σ) d mc ms := fun l sz => met_right (h l sz)
theorem Ct.tw {o : Nat} {ad : Nat → Nat} {τ : Tw} {Post : Option Value → Tw → Prop} (h : Ct (wT E o ad) y cc nL ret av τ Post d mc ms) : Ct (wL E) y cc nL ret av (wsT E o ad τ) (fun v x => ∃ τ', x = wsT E o ad τ' ∧ Post v τ') d mc ms := by
  intro l sz p e ha hc hk s m args below hf hap hP hK
  obtain ⟨n, o', g1, g2, g3, ⟨⟨v, τ', ho, hp, hX', hdom⟩, hF⟩, L, g5, g6⟩ := h l sz p e ha hc hk s m args below hf hap hP trivial
  exact ⟨n, o', g1, g2, g3, ⟨⟨v, wsT E o ad τ', ho, ⟨τ', rfl, hp⟩, hX', hdom⟩, hF⟩, L, g5, g6⟩
end PW
section PR
variable {D : Dx} {E : Dt} {Y : Fz} {cc : ByteArray} {own : String} {ret : Option FieldType} {d mc ms : Nat} {x : Sg × va_W} {σ : Sg} {ws : va_W} {k n pc q : Nat} {lo : Lo} {st : List Value}
theorem Cx.pair (C : Cx (wX D) Y cc own ret d mc ms) (hT : KT E (y_s Y)) : Cx (wP D E) Y cc own ret d mc ms := ⟨C.1, C.2.1, C.2.2.1, C.2.2.2.1, C.2.2.2.2.1, ⟨C.hK, hT⟩, KPok, C.2.2.2.2.2.2.2⟩
theorem z_alone (g : Zj (wP D E) Y (σ, []) k n pc lo st) : Zj (wX D) Y σ k n pc lo st := fun H locs ls h1 h2 h3 h4 =>
  g H locs ls ⟨h1, ⟨fun k q hk => (by cases hk), fun i j p q hi => (by cases hi), fun k q hk => (by cases hk)⟩, fun q ⟨k, e, hk⟩ => (by cases hk)⟩ (fun q hq => hq.elim (h2 q) (fun ⟨k, e, hk⟩ => by cases hk)) h3 h4
/-- a twin made -/
theorem p_newT (C : Cx (wP D E) Y cc own ret d mc ms) {idx : Nat} (hl : Cond.classLink own idx RX5 ∈ lw_all) (hi : Cond.instantiable RX5 20 ∈ lw_all) (hini : Cond.initialized RX5 ∈ lw_all) (hk : k + 1 ≤ mc) (hn : n + 20 ≤ ms) (hd : decode cc pc = .ok (.new idx, 3)) (hq : pc + 3 = q) (g : ∀ a, Zj (wP D E) Y (σ, [(a, .inr (0, fs5))]) (k + 1) (n + 20) q lo (.ref a :: st)) : Zj (wP D E) Y (σ, []) k n pc lo st := by
  subst hq
  intro H locs ls h1 h2 h3 h4
  have hKn := C.hK.2.1 0 (RX5, TX5, 20) rfl
  refine W.newcK C.1 C.2.1 C.ow (C.hts _ hl) (C.hts _ hi) (C.hts _ hini) rfl hd (by rw [C.R]; exact hk) (by rw [C.R]; exact hn) hKn.2.1 rfl fun H1 kC hkC e1 z1 o1 => ?_
  have hob := u_born tyX5 C.hts in_X5 hKn hkC e1 tyX5_ok
  have h0 : kd σ H.size = 0 := by
    by_cases z : kd σ H.size = 0
    · exact z
    · exact absurd (h1.1.lt z).1 (by omega)
  refine g H.size H1 locs ls ⟨h1.1.kept (by omega) (fun q hq => o1 q (h1.1.lt hq).1) (fun q hq => o1 q (Nat.lt_of_lt_of_le hq h1.1.2.2.2.1)), ⟨fun i e he => ?_, fun i j p q hi hj _ => ?_, fun _ _ _ => trivial⟩, fun q ⟨i, e, he⟩ => ?_⟩ (fun b hb => ?_) ⟨Nat.le_trans h3.1 (by omega), fun x g1 g2 => (o1 x (Nat.lt_of_lt_of_le g1 h3.1)).trans (h3.2.1 x g1 g2), h3.2.2⟩ h4
  · cases i with
    | zero =>
      cases he
      exact ⟨_, rfl, hob.to fun j hj => by
        rcases (show j = 0 ∨ j = 1 ∨ j = 2 ∨ j = 3 ∨ j = 4 ∨ j = 5 ∨ j = 6 ∨ j = 7 ∨ j = 8 ∨ j = 9 ∨ j = 10 ∨ j = 11 ∨ j = 12 ∨ j = 13 ∨ j = 14 ∨ j = 15 ∨ j = 16 ∨ j = 17 ∨ j = 18 ∨ j = 19 by have : j < 20 := hj; omega) with rfl | rfl | rfl | rfl | rfl | rfl | rfl | rfl | rfl | rfl | rfl | rfl | rfl | rfl | rfl | rfl | rfl | rfl | rfl | rfl <;> rfl⟩
    | succ i => simp at he
  · cases i with
    | zero =>
      cases j with
      | zero => rfl
      | succ j => simp at hj
    | succ i => simp at hi
  · cases i with
    | zero => cases he; exact ⟨h0, h1.1.2.2.2.1⟩
    | succ i => simp at he
  · rcases hb with hb | ⟨i, e, he⟩
    · exact h2 b (Or.inl hb)
    · cases i with
      | zero => cases he; exact C.hA _ h3.1
      | succ i => simp at he
/-- the script -/
theorem p_ald (C : Cx (wP D E) Y cc own ret d mc ms) {b L e : Nat} {xs : Nat → Int32} (hX : va_X b L xs (y_s Y) D.2.2.1) (he : e < L) (h31 : e < 2 ^ 31) (hd : decode cc pc = .ok (.iaload, 1)) (hq : pc + 1 = q) (g : Zj (wP D E) Y x k n q lo (.int (xs e) :: st)) : Zj (wP D E) Y x k n pc lo (.int (nI e) :: .ref b :: st) := by
  subst hq
  intro H locs ls h1 h2 h3 h4
  obtain ⟨scr, hs, ha, hk, hz, hv⟩ := hX
  have hb := (Array.getElem?_eq_some_iff.mp hs).1
  refine W.iald C.1 C.2.1 ((h1.1.2.2.2.2 b hb).1.trans hs) ha hk (v := .int (xs e)) ?_ ?_ rfl rfl hd (g H locs ls h1 h2 h3 h4)
  · rw [nI_clamp h31, hz]
    intro z
    rcases z with z | z
    · have := Int32.lt_iff_toInt_lt.mp z
      rw [nI_toInt h31] at this
      have h0 : (0 : Int32).toInt = 0 := by decide
      omega
    · omega
  · rw [nI_clamp h31]; exact hv e he
theorem p_alen (C : Cx (wP D E) Y cc own ret d mc ms) {b L : Nat} {xs : Nat → Int32} (hX : va_X b L xs (y_s Y) D.2.2.1) (hd : decode cc pc = .ok (.arraylength, 1)) (hq : pc + 1 = q) (g : Zj (wP D E) Y x k n q lo (.int (nI L) :: st)) : Zj (wP D E) Y x k n pc lo (.ref b :: st) := by
  subst hq
  intro H locs ls h1 h2 h3 h4
  obtain ⟨scr, hs, ha, hk, hz, hv⟩ := hX
  have hb := (Array.getElem?_eq_some_iff.mp hs).1
  exact W.alen C.1 C.2.1 ((h1.1.2.2.2.2 b hb).1.trans hs) ha (n := nI L) (by rw [hz]; rfl) rfl rfl hd (g H locs ls h1 h2 h3 h4)
/-- a method with handlers is called -/
def GVW (own : String) (idx : Nat) (Cn : String) (y : MethodName) (b : ByteArray) (L : Nat) (r : Option FieldType) (hh : List (Nat × Nat × Nat × Nat)) (nn : Nat) : Prop := GoodIn lw_all (wsV own idx Cn y (wsW_ y b L r hh)) ∧ (y.cls = Cn ∧ hdOf y nn) ∧ L ≤ 80
end PR
