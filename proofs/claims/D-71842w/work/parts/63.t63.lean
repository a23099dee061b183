/-! THE CLASS: the bins -/
set_option maxRecDepth 10000
section ZX3
variable {D : Dx} {Y : Fz} {cc : ByteArray} {own : String} {ret : Option FieldType} {d mc ms : Nat} {σ : Sg} {k n pc q : Nat} {lo : Lo} {st : List Value}
theorem x_isT (C : Cx (wX D) Y cc own ret d mc ms) {a idx : Nat} {t : Bool} (hk : kd σ a = if t = true then 4 else 3) (hl : Cond.classLink own idx "CrowdedBins$Tree" ∈ lw_all) (hd : decode cc pc = .ok (.instanceof idx, 3)) (hq : pc + 3 = q) (g : Zj (wX D) Y σ k n q lo (.int (bI t) :: st)) : Zj (wX D) Y σ k n pc lo (.ref a :: st) := by
  cases t with
  | true => exact x_instS C KC3 hk hl hd hq g
  | false => exact x_instN C KC2 hk hl C.hK.2.2.2.1.1 hd hq g
theorem x_isL (C : Cx (wX D) Y cc own ret d mc ms) {a idx : Nat} {t : Bool} (hk : kd σ a = if t = true then 4 else 3) (hl : Cond.classLink own idx "CrowdedBins$List" ∈ lw_all) (hd : decode cc pc = .ok (.instanceof idx, 3)) (hq : pc + 3 = q) (g : Zj (wX D) Y σ k n q lo (.int (bI (!t)) :: st)) : Zj (wX D) Y σ k n pc lo (.ref a :: st) := by
  cases t with
  | true => exact x_instN C KC3 hk hl C.hK.2.2.2.1.2 hd hq g
  | false => exact x_instS C KC2 hk hl hd hq g
theorem x_aastB (C : Cx (wX D) Y cc own ret d mc ms) {a e b : Nat} (hk : kd σ a = 14) (hb : kd σ b = 3 ∨ kd σ b = 4) (he : e < ln σ a) (h31 : e < 2 ^ 31) (hd : decode cc pc = .ok (.aastore, 1)) (hq : pc + 1 = q) (g : Zj (wX D) Y (sQ a e (some b) σ) k n q lo st) : Zj (wX D) Y σ k n pc lo (.ref b :: .int (nI e) :: .ref a :: st) :=
  hb.elim (fun hb => x_aast C 3 (by decide) (by decide) hk KC2 hb (Or.inr q1191) he h31 hd hq g) (fun hb => x_aast C 3 (by decide) (by decide) hk KC3 hb (Or.inr q1192) he h31 hd hq g)
end ZX3
/-- bins: those that live (lv) lie in the array bs -/
def BX (ad hs : Nat → Nat) (bs : Nat) (σ : Sg) (B : Nat → Nat) (lv : Nat → Prop) (R : Nat → List Nat) (T : Nat → Bool) : Prop := (∀ x, lv x → x < 64 ∧ ar σ bs x = some (B x) ∧ RW ad hs σ (B x) (R x) (T x)) ∧ (∀ x y, lv x → lv y → B x = B y → x = y) ∧ ∀ x y, lv x → lv y → x ≠ y → ∀ k ∈ R x, k ∉ R y
section BXs
variable {pi pr : Nat → Nat → Prop} {pa : Nat → Prop} {ad hs : Nat → Nat} {σ σ' : Sg} {bs : Nat} {B B' : Nat → Nat} {lv lv' : Nat → Prop} {R R' : Nat → List Nat} {T T' : Nat → Bool}
theorem BX.sub (h : BX ad hs bs σ B lv R T) (hl : ∀ x, lv' x → lv x) : BX ad hs bs σ B lv' R T := ⟨fun x hx => h.1 x (hl x hx), fun x y hx hy => h.2.1 x y (hl x hx) (hl y hy), fun x y hx hy => h.2.2 x y (hl x hx) (hl y hy)⟩
theorem BX.eq (h : BX ad hs bs σ B lv R T) (hl : ∀ x, lv x → R' x = R x ∧ T' x = T x) : BX ad hs bs σ B lv R' T' := ⟨fun x hx => by rw [(hl x hx).1, (hl x hx).2]; exact h.1 x hx, h.2.1, fun x y hx hy => by rw [(hl x hx).1, (hl y hy).1]; exact h.2.2 x y hx hy⟩
theorem BX.keep (h : BX ad hs bs σ B lv R T) (hF : FR pi pr pa σ σ') (hb : kd σ bs = 14) (hp : ¬ pa bs) (h1 : ∀ x, lv x → ¬ pi 42 (B x) ∧ ∀ g, g = 40 ∨ g = 41 ∨ g = 60 → ¬ pr g (B x)) (h2 : ∀ x, lv x → ∀ k ∈ R x, kd σ (ad k) ≠ 0 ∧ ∀ g, 26 ≤ g → g ≤ 29 → ¬ pr g (ad k)) : BX ad hs bs σ' B lv R T :=
  ⟨fun x hx => ⟨(h.1 x hx).1, by rw [(hF.2.2.2 bs (by omega) hp).2]; exact (h.1 x hx).2.1, (h.1 x hx).2.2.keep hF (fun k hk => (h2 x hx k hk).1) (h1 x hx).1 (h1 x hx).2 (fun k hk => (h2 x hx k hk).2)⟩, h.2.1, h.2.2⟩
theorem BX.sq {x : Nat} {r : Option Nat} (h : BX ad hs bs σ B lv R T) (hx : ¬ lv x) : BX ad hs bs (sQ bs x r σ) B lv R T := ⟨fun y hy => ⟨(h.1 y hy).1, (show up2 (ar σ) bs x r bs y = _ from up2_a (fun z => hx (z ▸ hy))).trans (h.1 y hy).2.1, (h.1 y hy).2.2⟩, h.2⟩
theorem BX.add {x : Nat} (h : BX ad hs bs σ B lv R T) (hx : x < 64) (ha : ar σ bs x = some (B' x)) (hw : RW ad hs σ (B' x) (R' x) (T' x)) (hB : ∀ y, lv y → B' y = B y ∧ R' y = R y ∧ T' y = T y) (hd : ∀ y, lv y → y ≠ x → B y ≠ B' x) (hdis : ∀ y, lv y → y ≠ x → ∀ k ∈ R' x, k ∉ R y) (hlv : ∀ y, lv' y → y = x ∨ lv y) : BX ad hs bs σ B' lv' R' T' := by
  refine ⟨fun y hy => ?_, fun y z hy hz e => ?_, fun y z hy hz e k hk => ?_⟩
  · rcases hlv y hy with rfl | hy
    · exact ⟨hx, ha, hw⟩
    · rw [(hB y hy).1, (hB y hy).2.1, (hB y hy).2.2]
      exact h.1 y hy
  · by_cases ey : y = x
    · by_cases ez : z = x
      · rw [ey, ez]
      · have hz := (hlv z hz).resolve_left ez
        rw [ey, (hB z hz).1] at e
        exact absurd e.symm (hd z hz ez)
    · have hy := (hlv y hy).resolve_left ey
      by_cases ez : z = x
      · rw [ez, (hB y hy).1] at e
        exact absurd e (hd y hy ey)
      · have hz := (hlv z hz).resolve_left ez
        rw [(hB y hy).1, (hB z hz).1] at e
        exact h.2.1 y z hy hz e
  · by_cases ey : y = x
    · have hz := (hlv z hz).resolve_left (fun w => e (ey.trans w.symm))
      rw [(hB z hz).2.1]
      exact hdis z hz (fun w => e (ey.trans w.symm)) k (ey ▸ hk)
    · have hy := (hlv y hy).resolve_left ey
      rw [(hB y hy).2.1] at hk
      by_cases ez : z = x
      · intro hk2
        exact hdis y hy ey k (ez ▸ hk2) hk
      · have hz := (hlv z hz).resolve_left ez
        rw [(hB z hz).2.1]
        exact h.2.2 y z hy hz e k hk
theorem BX.fk {S K : List Nat} (h : BX ad hs bs σ B lv R T) (hF : FK ad S σ σ') (hb : kd σ bs = 14) (hE : EN ad hs σ K) (hS : ∀ k ∈ S, k ∈ K) (hR : ∀ x, lv x → ∀ k ∈ R x, k ∈ K ∧ k ∉ S) : BX ad hs bs σ' B lv R T := by
  refine h.keep hF hb id (fun x hx => ⟨id, fun g hg z => by omega⟩) (fun x hx k hk => ⟨hE.nz k (hR x hx k hk).1, fun g h1 h2 z => ?_⟩)
  obtain ⟨-, j, hj, e⟩ := z
  have := hE.inj (hR x hx k hk).1 (hS j hj) e
  subst this
  exact (hR x hx k hk).2 hj
theorem BX.fb {S K : List Nat} {b : Nat} (h : BX ad hs bs σ B lv R T) (hF : FB ad S b σ σ') (hb : kd σ bs = 14) (hE : EN ad hs σ K) (hS : ∀ k ∈ S, k ∈ K) (hR : ∀ x, lv x → ∀ k ∈ R x, k ∈ K ∧ k ∉ S) (hn : ∀ x, lv x → B x ≠ b) : BX ad hs bs σ' B lv R T := by
  refine h.keep hF hb id (fun x hx => ⟨fun z => hn x hx z.2, fun g hg z => z.elim (fun z => hn x hx z.2) (fun z => by omega)⟩) (fun x hx k hk => ⟨hE.nz k (hR x hx k hk).1, fun g h1 h2 z => ?_⟩)
  rcases z with ⟨z, -⟩ | ⟨-, j, hj, e⟩
  · omega
  · have := hE.inj (hR x hx k hk).1 (hS j hj) e
    subst this
    exact (hR x hx k hk).2 hj
end BXs
theorem FK.fb {ad : Nat → Nat} {S S' : List Nat} {σ σ1 σ2 : Sg} {a : Nat} (h : FK ad S σ σ1) (h2 : FB ad S' a σ1 σ2) (hs : ∀ k ∈ S', k ∈ S) (ha : kd σ a = 0) : FK ad S σ σ2 :=
  FK.of (FR.tr (FR.mono h (fun _ _ _ z => z.elim) (fun _ _ _ z => Or.inr z) (fun _ _ z => z)) (FR.fbmono h2 hs)) ha
theorem FK.tr {ad : Nat → Nat} {S S' : List Nat} {σ σ1 σ2 : Sg} (h : FK ad S σ σ1) (h2 : FK ad S' σ1 σ2) (hs : ∀ k ∈ S', k ∈ S) : FK ad S σ σ2 := FR.tr h (FR.mono h2 (fun _ _ _ z => z) (fun g x _ z => ⟨z.1, by obtain ⟨k, hk, e⟩ := z.2; exact ⟨k, hs k hk, e⟩⟩) (fun _ _ z => z))
theorem EN.fk {ad hs : Nat → Nat} {S L : List Nat} {σ σ1 : Sg} (h : EN ad hs σ L) (hF : FK ad S σ σ1) : EN ad hs σ1 L := h.keep hF (fun _ _ _ _ => id)
/-- by fields alone -/
abbrev FG (li lr la : List Nat) (σ σ' : Sg) : Prop := FR (fun g _ => g ∈ li) (fun g _ => g ∈ lr) (fun x => x ∈ la) σ σ'
theorem FR.gi {li lr la : List Nat} {σ σ' : Sg} (h : FG li lr la σ σ') {g x : Nat} (hx : kd σ x ≠ 0) (hg : g ∉ li) : fi σ' g x = fi σ g x := h.2.1 g x hx hg
theorem FR.gr {li lr la : List Nat} {σ σ' : Sg} (h : FG li lr la σ σ') {g x : Nat} (hx : kd σ x ≠ 0) (hg : g ∉ lr) : fr σ' g x = fr σ g x := h.2.2.1 g x hx hg
theorem FR.up {li lr la li' lr' la' : List Nat} {σ σ' : Sg} (h : FG li lr la σ σ') (h1 : ∀ x ∈ li, x ∈ li') (h2 : ∀ x ∈ lr, x ∈ lr') (h3 : ∀ x ∈ la, x ∈ la') : FG li' lr' la' σ σ' := FR.mono h (fun g _ _ z => h1 g z) (fun g _ _ z => h2 g z) (fun x _ z => h3 x z)
theorem FK.fg {ad : Nat → Nat} {S : List Nat} {σ σ' : Sg} {li lr la : List Nat} (h : FK ad S σ σ') (h2 : ∀ x ∈ [26, 27, 28, 29], x ∈ lr) : FG li lr la σ σ' := FR.mono h (fun _ _ _ z => z.elim) (fun g _ _ z => h2 g (by have := z.1; simp; omega)) (fun _ _ z => z.elim)
theorem FR.fbg {ad : Nat → Nat} {S : List Nat} {b : Nat} {σ σ' : Sg} {li lr la : List Nat} (h : FB ad S b σ σ') (h1 : 42 ∈ li) (h2 : ∀ x ∈ [26, 27, 28, 29, 40, 41, 60], x ∈ lr) : FG li lr la σ σ' := FR.mono h (fun g _ _ z => by rw [z.1]; exact h1) (fun g _ _ z => h2 g (by rcases z with ⟨z, -⟩ | ⟨z, -⟩ <;> simp <;> omega)) (fun _ _ z => z.elim)
def MO (o bs : Nat) (σ : Sg) : Prop := kd σ o = 1 ∧ fr σ 0 o = some bs ∧ kd σ bs = 14 ∧ ln σ bs = 64
theorem MO.keep {o bs : Nat} {σ σ' : Sg} {pi pr : Nat → Nat → Prop} {pa : Nat → Prop} (h : MO o bs σ) (hF : FR pi pr pa σ σ') (h0 : ¬ pr 0 o) : MO o bs σ' := by
  obtain ⟨h1, h2, h3, h4⟩ := h
  exact ⟨hF.ek h1, by rw [hF.2.2.1 0 o (by omega) h0]; exact h2, hF.ek h3, by rw [(hF.1 bs (by omega)).2]; exact h4⟩
/-- the bins hold what the core says -/
def XB (ad : Nat → Nat) (o bs : Nat) (σ : Sg) (B : Nat → Nat) (c : Co) : Prop := EN ad (k_h c) σ (k_cs c) ∧ BX ad (k_h c) bs σ B (fun x => x < k_n c 1) (k_row c) (k_tr c) ∧ (∀ x, k_n c 1 ≤ x → x < 64 → ar σ bs x = none) ∧ fi σ 1 o = nI (k_n c 1) ∧ fi σ 5 o = nI (k_n c 2) ∧ fi σ 6 o = nI (k_n c 3)
