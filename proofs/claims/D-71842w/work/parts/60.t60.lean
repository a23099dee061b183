/-! THE CLASS: frames by leave; rows of bins -/
set_option maxRecDepth 10000
/-- what was there stays, but for int fields (pi), references (pr), arrays (pa) that may be written -/
def FR (pi pr : Nat → Nat → Prop) (pa : Nat → Prop) (σ σ' : Sg) : Prop := (∀ x, kd σ x ≠ 0 → kd σ' x = kd σ x ∧ ln σ' x = ln σ x) ∧ (∀ g x, kd σ x ≠ 0 → ¬ pi g x → fi σ' g x = fi σ g x) ∧ (∀ g x, kd σ x ≠ 0 → ¬ pr g x → fr σ' g x = fr σ g x) ∧ ∀ x, kd σ x ≠ 0 → ¬ pa x → ai σ' x = ai σ x ∧ ar σ' x = ar σ x
section FRs
variable {pi pr pi' pr' : Nat → Nat → Prop} {pa pa' : Nat → Prop} {σ σ1 σ2 : Sg}
theorem FR.rf : FR pi pr pa σ σ := ⟨fun _ _ => ⟨rfl, rfl⟩, fun _ _ _ _ => rfl, fun _ _ _ _ => rfl, fun _ _ _ => ⟨rfl, rfl⟩⟩
theorem FR.nz (h : FR pi pr pa σ σ1) {x : Nat} (hx : kd σ x ≠ 0) : kd σ1 x ≠ 0 := by rw [(h.1 x hx).1]; exact hx
theorem FR.ek (h : FR pi pr pa σ σ1) {x n : Nat} (hx : kd σ x = n + 1) : kd σ1 x = n + 1 := by rw [(h.1 x (by omega)).1]; exact hx
theorem FR.z (h : FR pi pr pa σ σ1) {x : Nat} (hx : kd σ1 x = 0) : kd σ x = 0 := by
  rcases Nat.eq_zero_or_pos (Prod.fst σ x) with e | e
  · exact e
  · exact absurd hx (h.nz (Nat.pos_iff_ne_zero.mp e))
theorem FR.tr (h : FR pi pr pa σ σ1) (h2 : FR pi pr pa σ1 σ2) : FR pi pr pa σ σ2 :=
  ⟨fun x hx => ⟨(h2.1 x (h.nz hx)).1.trans (h.1 x hx).1, (h2.1 x (h.nz hx)).2.trans (h.1 x hx).2⟩, fun g x hx hp => (h2.2.1 g x (h.nz hx) hp).trans (h.2.1 g x hx hp), fun g x hx hp => (h2.2.2.1 g x (h.nz hx) hp).trans (h.2.2.1 g x hx hp), fun x hx hp => ⟨(h2.2.2.2 x (h.nz hx) hp).1.trans (h.2.2.2 x hx hp).1, (h2.2.2.2 x (h.nz hx) hp).2.trans (h.2.2.2 x hx hp).2⟩⟩
theorem FR.mono (h : FR pi pr pa σ σ1) (h1 : ∀ g x, Prod.fst σ x ≠ 0 → pi g x → pi' g x) (h2 : ∀ g x, Prod.fst σ x ≠ 0 → pr g x → pr' g x) (h3 : ∀ x, Prod.fst σ x ≠ 0 → pa x → pa' x) : FR pi' pr' pa' σ σ1 := ⟨h.1, fun g x hx hp => h.2.1 g x hx (fun z => hp (h1 g x hx z)), fun g x hx hp => h.2.2.1 g x hx (fun z => hp (h2 g x hx z)), fun x hx hp => h.2.2.2 x hx (fun z => hp (h3 x hx z))⟩
theorem FR.wI (h : FR pi pr pa σ σ1) {g a : Nat} {x : Int32} (hp : Prod.fst σ a ≠ 0 → pi g a) : FR pi pr pa σ (sI g a x σ1) := ⟨h.1, fun g' y hy hn => by
  rw [fi_sI, if_neg (fun z => hn (by rw [z.1, z.2]; exact hp (z.2 ▸ hy)))]
  exact h.2.1 g' y hy hn, h.2.2.1, h.2.2.2⟩
theorem FR.wR (h : FR pi pr pa σ σ1) {g a : Nat} {r : Option Nat} (hp : Prod.fst σ a ≠ 0 → pr g a) : FR pi pr pa σ (sR g a r σ1) := ⟨h.1, h.2.1, fun g' y hy hn => by
  rw [fr_sR, if_neg (fun z => hn (by rw [z.1, z.2]; exact hp (z.2 ▸ hy)))]
  exact h.2.2.1 g' y hy hn, h.2.2.2⟩
theorem FR.wA (h : FR pi pr pa σ σ1) {a i : Nat} {x : Int32} (hp : Prod.fst σ a ≠ 0 → pa a) : FR pi pr pa σ (sA a i x σ1) := ⟨h.1, h.2.1, h.2.2.1, fun y hy hn => by
  have e : y ≠ a := fun z => hn (by rw [z]; exact hp (z ▸ hy))
  exact ⟨(show up2 (ai σ1) a i x y = ai σ1 y from up2_g e).trans (h.2.2.2 y hy hn).1, (h.2.2.2 y hy hn).2⟩⟩
theorem FR.wQ (h : FR pi pr pa σ σ1) {a i : Nat} {x : Option Nat} (hp : Prod.fst σ a ≠ 0 → pa a) : FR pi pr pa σ (sQ a i x σ1) := ⟨h.1, h.2.1, h.2.2.1, fun y hy hn => by
  have e : y ≠ a := fun z => hn (by rw [z]; exact hp (z ▸ hy))
  exact ⟨(h.2.2.2 y hy hn).1, (show up2 (ar σ1) a i x y = ar σ1 y from up2_g e).trans (h.2.2.2 y hy hn).2⟩⟩
theorem FR.wO (h : FR pi pr pa σ σ1) {t a : Nat} (ha : Prod.fst σ1 a = 0) : FR pi pr pa σ (nO t a σ1) := by
  have hz := h.z ha
  have e : ∀ y, Prod.fst σ y ≠ 0 → y ≠ a := fun y hy z => hy (by rw [z]; exact hz)
  refine ⟨fun y hy => ⟨(show va_up (Prod.fst σ1) a t y = _ from if_neg (e y hy)).trans (h.1 y hy).1, (h.1 y hy).2⟩, fun g y hy hn => (show (if y = a then 0 else fi σ1 g y) = _ from if_neg (e y hy)).trans (h.2.1 g y hy hn), fun g y hy hn => (show (if y = a then none else fr σ1 g y) = _ from if_neg (e y hy)).trans (h.2.2.1 g y hy hn), h.2.2.2⟩
theorem FR.wB (h : FR pi pr pa σ σ1) {t L a : Nat} (ha : Prod.fst σ1 a = 0) : FR pi pr pa σ (nA t L a σ1) := by
  have hz := h.z ha
  have e : ∀ y, Prod.fst σ y ≠ 0 → y ≠ a := fun y hy z => hy (by rw [z]; exact hz)
  refine ⟨fun y hy => ⟨(show va_up (Prod.fst σ1) a t y = _ from if_neg (e y hy)).trans (h.1 y hy).1, (show va_up (ln σ1) a L y = _ from if_neg (e y hy)).trans (h.1 y hy).2⟩, h.2.1, h.2.2.1, fun y hy hn => ⟨(show va_up (ai σ1) a _ y = _ from if_neg (e y hy)).trans (h.2.2.2 y hy hn).1, (show va_up (ar σ1) a _ y = _ from if_neg (e y hy)).trans (h.2.2.2 y hy hn).2⟩⟩
theorem FR.ofF2 {ad : Nat → Nat} {S : List Nat} (h : F2 ad S σ σ1) (hp : ∀ g k, k ∈ S → g = 28 ∨ g = 29 → pr g (ad k)) : FR pi pr pa σ σ1 := by
  obtain ⟨h1, h2, h3, h4, h5, h6, h7⟩ := h
  refine ⟨fun x _ => by rw [h1, h3]; exact ⟨rfl, rfl⟩, fun g x _ _ => by rw [h2], fun g x hx hn => ?_, fun x _ _ => by rw [h4, h5]; exact ⟨rfl, rfl⟩⟩
  by_cases e : g = 28 ∨ g = 29
  · exact h7 g x (fun k hk z => hn (by rw [z]; exact hp g k hk e))
  · rw [h6 g (fun z => e (Or.inl z)) (fun z => e (Or.inr z))]
theorem FR.ofSF {gs : List Nat} {gm B : Nat} (h : SF gs gm B σ σ1) (h1 : pi gm B) (h2 : ∀ g x, g ∈ gs → fr σ1 g x ≠ fr σ g x → pr g x) : FR pi pr pa σ σ1 := by
  obtain ⟨e1, e2, e3, e4, e5, e6⟩ := h
  refine ⟨fun x _ => by rw [e1, e2]; exact ⟨rfl, rfl⟩, fun g x _ hn => e6 g x (fun z => hn (by rw [z.1, z.2]; exact h1)), fun g x hx hn => ?_, fun x _ _ => by rw [e3, e4]; exact ⟨rfl, rfl⟩⟩
  by_cases e : g ∈ gs
  · exact Classical.byContradiction fun z => hn (h2 g x e z)
  · rw [e5 g e]
theorem FR.app {gp gn gf gl gm B a : Nat} (hg : G4 gp gn gf gl) (h0 : pi gm B) (h1 : pr gl B) (h2 : pr gp a) (h3 : pr gf B) (h4 : pr gn a) (h5 : ∀ l, fr σ gl B = some l → pr gn l) : FR pi pr pa σ (appS gp gn gf gl gm B a σ) := by
  refine FR.ofSF (appS_SF hg) h0 (fun g x _ hne => ?_)
  rw [appS_fr hg] at hne
  by_cases c1 : g = gl ∧ x = B
  · rw [c1.1, c1.2]; exact h1
  rw [if_neg c1] at hne
  by_cases c2 : g = gp ∧ x = a
  · rw [c2.1, c2.2]; exact h2
  rw [if_neg c2] at hne
  by_cases c3 : fr σ gl B = none ∧ g = gf ∧ x = B
  · rw [c3.2.1, c3.2.2]; exact h3
  rw [if_neg c3] at hne
  by_cases c4 : g = gn ∧ fr σ gl B = some x
  · rw [c4.1]; exact h5 x c4.2
  rw [if_neg c4] at hne
  by_cases c5 : g = gn ∧ x = a
  · rw [c5.1, c5.2]; exact h4
  rw [if_neg c5] at hne
  exact absurd rfl hne
theorem FR.del {gp gn gf gl gm B a : Nat} (hg : G4 gp gn gf gl) (hp : fr σ gp a ≠ some a) (h0 : pi gm B) (h1 : pr gl B) (h3 : pr gf B) (h4 : ∀ p, fr σ gp a = some p → pr gn p) (h5 : ∀ q, fr σ gn a = some q → pr gp q) : FR pi pr pa σ (delS gp gn gf gl gm B a σ) := by
  refine FR.ofSF (delS_SF hg hp) h0 (fun g x _ hne => ?_)
  rw [delS_fr hg hp] at hne
  by_cases c1 : fr σ gp a = none ∧ g = gf ∧ x = B
  · rw [c1.2.1, c1.2.2]; exact h3
  rw [if_neg c1] at hne
  by_cases c2 : g = gn ∧ fr σ gp a = some x
  · rw [c2.1]; exact h4 x c2.2
  rw [if_neg c2] at hne
  by_cases c3 : fr σ gn a = none ∧ g = gl ∧ x = B
  · rw [c3.2.1, c3.2.2]; exact h1
  rw [if_neg c3] at hne
  by_cases c4 : g = gp ∧ fr σ gn a = some x
  · rw [c4.1]; exact h5 x c4.2
  rw [if_neg c4] at hne
  exact absurd rfl hne
end FRs
/-- a bin at b holds the keys L as they came; t: it is a tree -/
def RW (ad hs : Nat → Nat) (σ : Sg) (b : Nat) (L : List Nat) (t : Bool) : Prop := kd σ b = (if t = true then 4 else 3) ∧ fi σ 42 b = nI L.length ∧ DL (fr σ 27) (fr σ 26) (fr σ 40 b) (fr σ 41 b) (L.map ad) ∧ (t = true → ∃ M : List Nat, M.Perm L ∧ M.Pairwise (tlt hs) ∧ TT ad (fr σ 28) (fr σ 29) M.length M (fr σ 60 b))
/-- a chain -/
def CH (ad : Nat → Nat) (nx : Nat → Option Nat) : List Nat → Option Nat → Prop
  | [], r => r = none
  | k :: t, r => r = some (ad k) ∧ CH ad nx t (nx (ad k))
def qi (b : Nat) (g x : Nat) : Prop := g = 42 ∧ x = b
def qr (ad : Nat → Nat) (S : List Nat) (b : Nat) (g x : Nat) : Prop := ((g = 40 ∨ g = 41 ∨ g = 60) ∧ x = b) ∨ (26 ≤ g ∧ g ≤ 29) ∧ ∃ k ∈ S, x = ad k
abbrev FB (ad : Nat → Nat) (S : List Nat) (b : Nat) (σ σ' : Sg) : Prop := FR (qi b) (qr ad S b) (fun _ => False) σ σ'
section RWs
variable {pi pr : Nat → Nat → Prop} {pa : Nat → Prop} {ad hs : Nat → Nat} {σ σ' : Sg} {b : Nat} {L : List Nat} {t : Bool}
theorem RW.k34 (h : RW ad hs σ b L t) : kd σ b = 3 ∨ kd σ b = 4 := by
  have := h.1
  cases t
  · exact Or.inl this
  · exact Or.inr this
theorem RW.nz (h : RW ad hs σ b L t) : kd σ b ≠ 0 := by rcases h.k34 with z | z <;> omega
theorem RW.keep (h : RW ad hs σ b L t) (hF : FR pi pr pa σ σ') (hE : ∀ k ∈ L, kd σ (ad k) ≠ 0) (h1 : ¬ pi 42 b) (h2 : ∀ g, g = 40 ∨ g = 41 ∨ g = 60 → ¬ pr g b) (h3 : ∀ k ∈ L, ∀ g, 26 ≤ g → g ≤ 29 → ¬ pr g (ad k)) : RW ad hs σ' b L t := by
  have hn := h.nz
  obtain ⟨a1, a2, a3, a4⟩ := h
  refine ⟨by rw [(hF.1 b hn).1]; exact a1, by rw [hF.2.1 42 b hn h1]; exact a2, ?_, fun ht => ?_⟩
  · refine a3.other (fun x hx => ?_) ⟨hF.2.2.1 40 b hn (h2 40 (by simp)), hF.2.2.1 41 b hn (h2 41 (by simp))⟩
    obtain ⟨k, hk, rfl⟩ := List.mem_map.mp hx
    exact ⟨hF.2.2.1 27 _ (hE k hk) (h3 k hk 27 (by decide) (by decide)), hF.2.2.1 26 _ (hE k hk) (h3 k hk 26 (by decide) (by decide))⟩
  · obtain ⟨M, m1, m2, m3⟩ := a4 ht
    refine ⟨M, m1, m2, ?_⟩
    rw [hF.2.2.1 60 b hn (h2 60 (by simp))]
    exact m3.congr fun k hk => by
      have hk := m1.mem_iff.mp hk
      exact ⟨hF.2.2.1 28 _ (hE k hk) (h3 k hk 28 (by decide) (by decide)), hF.2.2.1 29 _ (hE k hk) (h3 k hk 29 (by decide) (by decide))⟩
theorem EN.nz (h : EN ad hs σ L) : ∀ k ∈ L, kd σ (ad k) ≠ 0 := fun k hk z => by have := (h k hk).1; omega
theorem EN.keep (h : EN ad hs σ L) (hF : FR pi pr pa σ σ') (h1 : ∀ k ∈ L, ∀ g, g = 20 ∨ g = 22 ∨ g = 23 → ¬ pi g (ad k)) : EN ad hs σ' L := fun k hk => by
  have hn := h.nz k hk
  obtain ⟨a1, a2, a3, a4, a5, a6⟩ := h k hk
  exact ⟨by rw [(hF.1 _ hn).1]; exact a1, by rw [hF.2.1 20 _ hn (h1 k hk 20 (by simp))]; exact a2, by rw [hF.2.1 22 _ hn (h1 k hk 22 (by simp))]; exact a3, by rw [hF.2.1 23 _ hn (h1 k hk 23 (by simp))]; exact a4, a5, a6⟩
theorem EN.sub {S : List Nat} (h : EN ad hs σ L) (hs' : ∀ k ∈ S, k ∈ L) : EN ad hs σ S := fun k hk => h k (hs' k hk)
theorem EN.fb {S S' : List Nat} (h : EN ad hs σ L) (hF : FB ad S' b σ σ') : EN ad hs σ' L := h.keep hF (fun k _ g hg z => by rcases hg with rfl | rfl | rfl <;> exact absurd z.1 (by decide))
theorem FR.fbmono {S S' : List Nat} (h : FB ad S b σ σ') (hs' : ∀ k ∈ S, k ∈ S') : FB ad S' b σ σ' := h.mono (fun _ _ _ z => z) (fun g x _ z => z.elim Or.inl (fun z => Or.inr ⟨z.1, by obtain ⟨k, hk, e⟩ := z.2; exact ⟨k, hs' k hk, e⟩⟩)) (fun _ _ z => z)
/-- another bin's row -/
theorem RW.fb {b' : Nat} {S : List Nat} (h : RW ad hs σ b L t) (hF : FB ad S b' σ σ') (hb : b ≠ b') (hE : EN ad hs σ (S ++ L)) (hd : ∀ k ∈ L, k ∉ S) : RW ad hs σ' b L t :=
  h.keep hF (fun k hk => hE.nz k (by simp [hk])) (fun z => hb z.2) (fun g hg z => by
    rcases z with z | ⟨z, -⟩
    · exact hb z.2
    · omega) (fun k hk g h1 h2 z => by
    rcases z with ⟨z, -⟩ | ⟨-, j, hj, e⟩
    · omega
    · have := hE.inj (by simp [hk]) (by simp [hj]) e
      subst this
      exact hd k hk hj)
theorem CH.of {nx : Nat → Option Nat} : ∀ {L : List Nat}, (∀ i k, L[i]? = some k → nx (ad k) = (L[i + 1]?).map ad) → CH ad nx L ((L[0]?).map ad)
  | [], _ => rfl
  | k :: t, h => ⟨rfl, by
      have h0 := h 0 k rfl
      rw [h0]
      exact CH.of (L := t) (fun i x hx => h (i + 1) x hx)⟩
theorem DL.ch {nx pv : Nat → Option Nat} {hd tl : Option Nat} (h : DL nx pv hd tl (L.map ad)) : CH ad nx L hd := by
  obtain ⟨-, h1, -, h2, -⟩ := h
  rw [h1, List.getElem?_map]
  refine CH.of (fun i k hi => ?_)
  rw [h2 i (ad k) (by rw [List.getElem?_map, hi]; rfl), List.getElem?_map]
theorem CH.congr {nx nx' : Nat → Option Nat} : ∀ {L : List Nat} {r : Option Nat}, CH ad nx L r → (∀ k ∈ L, nx' (ad k) = nx (ad k)) → CH ad nx' L r
  | [], _, h, _ => h
  | k :: t, _, h, hc => ⟨h.1, by rw [hc k (by simp)]; exact CH.congr h.2 (fun x hx => hc x (by simp [hx]))⟩
end RWs
theorem tlt_split {hs : Nat → Nat} {e : Nat} : ∀ {M : List Nat}, M.Pairwise (tlt hs) → e ∉ M → ∃ A B, M = A ++ B ∧ (∀ x ∈ A, tlt hs x e) ∧ ∀ x ∈ B, tlt hs e x
  | [], _, _ => ⟨[], [], rfl, by simp, by simp⟩
  | y :: t, h, he => by
    rw [List.pairwise_cons] at h
    have hne : e ≠ y := fun z => he (by simp [z])
    by_cases c : tlt hs e y
    · refine ⟨[], y :: t, rfl, by simp, fun x hx => ?_⟩
      rcases List.mem_cons.mp hx with rfl | hx
      · exact c
      · have := h.1 x hx
        unfold tlt at *
        omega
    · obtain ⟨A, B, h1, h2, h3⟩ := tlt_split (e := e) h.2 (fun z => he (List.mem_cons_of_mem _ z))
      refine ⟨y :: A, B, by rw [h1]; rfl, fun x hx => ?_, h3⟩
      rcases List.mem_cons.mp hx with rfl | hx
      · unfold tlt at *
        omega
      · exact h2 x hx
theorem tlt_ins {hs : Nat → Nat} {e : Nat} {A B : List Nat} (h : (A ++ B).Pairwise (tlt hs)) (hA : ∀ x ∈ A, tlt hs x e) (hB : ∀ x ∈ B, tlt hs e x) : (A ++ e :: B).Pairwise (tlt hs) := by
  rw [List.pairwise_append] at h ⊢
  refine ⟨h.1, List.pairwise_cons.mpr ⟨hB, h.2.1⟩, fun x hx y hy => ?_⟩
  rcases List.mem_cons.mp hy with rfl | hy
  · exact hA x hx
  · exact h.2.2 x hx y hy
theorem tlt_nd {hs : Nat → Nat} {M : List Nat} (h : M.Pairwise (tlt hs)) : M.Nodup := h.imp fun {a b} z e => by subst e; unfold tlt at z; omega
theorem G4b : G4 26 27 40 41 := by unfold G4; decide
theorem G4o : G4 24 25 2 3 := by unfold G4; decide
section XN
variable {D : Dx} {Y : Fz} {cc : ByteArray} {own : String} {ret : Option FieldType} {d mc ms : Nat} {σ : Sg} {k n pc q : Nat} {lo : Lo} {st : List Value}
theorem x_newN (C : Cx (wX D) Y cc own ret d mc ms) {c idx m : Nat} {Cn : String} {T : u_T} {ty : Nat → FieldType} (hm : nF c = m) (hC : KC c Cn T ty) (hl : Cond.classLink own idx Cn ∈ lw_all) (hi : Cond.instantiable Cn (nF c) ∈ lw_all) (hini : Cond.initialized Cn ∈ lw_all) (hdf : ∀ j, j < nF c → defaultValue (ty j) = bif isI (gf c j) then .int 0 else .null) (hk : k + 1 ≤ mc) (hn : n + m ≤ ms) (hd : decode cc pc = .ok (.new idx, 3)) (hq : pc + 3 = q) (g : ∀ a, kd σ a = 0 → Zj (wX D) Y (nO (c + 1) a σ) (k + 1) (n + m) q lo (.ref a :: st)) : Zj (wX D) Y σ k n pc lo st := by
  subst hm
  exact x_new C hC hl hi hini hdf hk hn hd hq g
end XN
