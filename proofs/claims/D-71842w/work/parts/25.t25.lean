/-! the core changed: tables that grow, entries that come, go, move -/
def setN (c : Co) (i v : Nat) : Co := (k_es c, k_cs c, fun j => if j = i then v else k_n c j, k_tr c)
def setT (c : Co) (f : Nat → Bool) : Co := (k_es c, k_cs c, k_n c, f)
def upB (f : Nat → Bool) (b : Nat) (v : Bool) : Nat → Bool := fun x => if x = b then v else f x
/-- the table, twice as wide -/
def k_grow (c : Co) : Co := setT (setN c 1 (2 * k_n c 1)) (fun x => if x < k_n c 1 then k_tr c x && decide (2 < k_mi (setN c 1 (2 * k_n c 1)) x) else if x < k_n c 1 + k_n c 1 then k_tr c (x - k_n c 1) && decide (2 < k_mi (setN c 1 (2 * k_n c 1)) x) else k_tr c x)
def k_fit1 (c : Co) (b : Nat) : Co := if (!k_tr c b && decide (5 < k_mi c b)) = true then (if k_n c 1 < 16 then k_grow c else setT c (upB (k_tr c) b true)) else c
def k_fit2 (c : Co) (all : Nat) : Co := if 3 * k_n c 1 < 4 * all ∧ k_n c 1 < 64 then k_grow c else c
/-- the table behind an entry that came to a bin -/
def k_fit (c : Co) (b all : Nat) : Co := k_fit2 (k_fit1 c b) all
def k_emp (c : Co) : Co := setT (setN c 1 8) (fun _ => false)
def k_del (c : Co) (e : Nat) : Co := ((k_es c).eraseIdx e, (k_cs c).erase (kAt c e), k_n c, k_tr c)
/-- the entry at a place goes -/
def k_go (c : Co) (e : Nat) : Co := setT (k_del c e) (upB (k_tr c) (k_b c (kAt c e)) (k_tr c (k_b c (kAt c e)) && decide (2 < k_mi (k_del c e) (k_b c (kAt c e)))))
def k_mov (c : Co) (e : Nat) : Co := ((k_es c).eraseIdx e ++ ((k_es c)[e]?).toList, k_cs c, k_n c, k_tr c)
def k_add (c : Co) (k v : Nat) : Co := (k_es c ++ [(k, v)], k_cs c ++ [k], k_n c, k_tr c)
/-- an entry comes -/
def k_come (c : Co) (k v : Nat) : Co := if 0 < k_n c 5 ∧ k_n c 5 < (k_es c).length + 1 then k_go (k_fit (k_add c k v) (k_b c k) ((k_es c).length + 1)) 0 else k_fit (k_add c k v) (k_b c k) ((k_es c).length + 1)
theorem CI.w32 {c : Co} (h : CI c) (hw : k_n c 1 < 64) : k_n c 1 ≤ 32 := by
  obtain ⟨-, -, -, -, ⟨j, h1, h2, h3⟩, -⟩ := h
  rw [h3] at hw ⊢
  have : j = 3 ∨ j = 4 ∨ j = 5 ∨ j = 6 := by omega
  rcases this with rfl | rfl | rfl | rfl <;> first | decide | omega
theorem CI.setT {c : Co} (h : CI c) {f : Nat → Bool} (hf : ∀ b, f b = true → b < k_n c 1) : CI (setT c f) := ⟨h.1, h.2.1, h.2.2.1, h.2.2.2.1, h.2.2.2.2.1, h.2.2.2.2.2.1, h.2.2.2.2.2.2.1, h.2.2.2.2.2.2.2.1, h.2.2.2.2.2.2.2.2.1, hf⟩
theorem CI.dbl {c : Co} (h : CI c) (hw : k_n c 1 ≤ 32) : CI (setN c 1 (2 * k_n c 1)) := by
  have hw8 := h.w
  refine ⟨h.1, h.2.1, h.2.2.1, h.2.2.2.1, ?_, h.2.2.2.2.2.1, h.2.2.2.2.2.2.1, h.2.2.2.2.2.2.2.1, h.2.2.2.2.2.2.2.2.1, fun b hb => ?_⟩
  · obtain ⟨j, h1, h2, h3⟩ := h.2.2.2.2.1
    refine ⟨j + 1, by omega, ?_, ?_⟩
    · rcases Nat.lt_or_ge j 6 with q | q
      · omega
      · have : j = 6 := by omega
        subst this
        rw [h3] at hw
        exact absurd hw (by decide)
    · show 2 * k_n c 1 = 2 ^ (j + 1)
      rw [h3, Nat.pow_succ]
      omega
  · have := h.2.2.2.2.2.2.2.2.2 b hb
    show b < 2 * k_n c 1
    omega
theorem CI.grow {c : Co} (h : CI c) (hw : k_n c 1 ≤ 32) : CI (k_grow c) := by
  refine (h.dbl hw).setT fun b hb => ?_
  show b < 2 * k_n c 1
  split at hb
  · omega
  · split at hb
    · omega
    · have := h.2.2.2.2.2.2.2.2.2 b hb
      omega
theorem CI.emp {c : Co} (h : CI c) : CI (k_emp c) := ⟨h.1, h.2.1, h.2.2.1, h.2.2.2.1, ⟨3, by omega, by omega, rfl⟩, h.2.2.2.2.2.1, h.2.2.2.2.2.2.1, h.2.2.2.2.2.2.2.1, h.2.2.2.2.2.2.2.2.1, fun b hb => by cases hb⟩
theorem CI.fit1 {c : Co} (h : CI c) {b : Nat} (hb : b < k_n c 1) : CI (k_fit1 c b) := by
  unfold k_fit1
  split
  · split
    · exact h.grow (by omega)
    · refine h.setT fun x hx => ?_
      unfold upB at hx
      split at hx
      · omega
      · exact h.2.2.2.2.2.2.2.2.2 x hx
  · exact h
theorem CI.fit2 {c : Co} (h : CI c) {all : Nat} : CI (k_fit2 c all) := by
  unfold k_fit2
  split
  · rename_i q
    exact h.grow (h.w32 q.2)
  · exact h
theorem CI.fit {c : Co} (h : CI c) {b all : Nat} (hb : b < k_n c 1) : CI (k_fit c b all) := (h.fit1 hb).fit2
theorem kAt_lt {c : Co} {e : Nat} (h : e < (k_es c).length) : ∃ v, (k_es c)[e]? = some (kAt c e, v) := by
  obtain ⟨x, hx⟩ := at_lt h
  exact ⟨x.2, by rw [hx, kAt_of hx]⟩
theorem perm_eraseIdx {α : Type} : ∀ (l : List α) (e : Nat) (x : α), l[e]? = some x → l.Perm (x :: l.eraseIdx e)
  | [], e, x, h => by simp at h
  | y :: t, 0, x, h => by
    cases h
    exact List.Perm.refl _
  | y :: t, e + 1, x, h => by
    rw [List.getElem?_cons_succ] at h
    rw [List.eraseIdx_cons_succ]
    exact (List.Perm.cons y (perm_eraseIdx t e x h)).trans (List.Perm.swap x y _)
theorem k_del_perm {c : Co} {e : Nat} (h : e < (k_es c).length) : (k_ks c).Perm (kAt c e :: k_ks (k_del c e)) := by
  obtain ⟨v, hv⟩ := kAt_lt h
  exact (perm_eraseIdx _ _ _ hv).map (·.1)
theorem CI.del {c : Co} (h : CI c) {e : Nat} (he : e < (k_es c).length) : CI (k_del c e) := by
  have hp := k_del_perm he
  refine ⟨(List.nodup_cons.mp (hp.nodup_iff.mp h.1)).2, fun x hx => h.2.1 x ((List.eraseIdx_sublist _ _).mem hx), ?_, ?_, h.2.2.2.2⟩
  · have := (h.2.2.1.trans hp).erase (kAt c e)
    rwa [List.erase_cons_head] at this
  · show ((k_es c).eraseIdx e).length ≤ 49
    have := List.length_eraseIdx_le (k_es c) e
    have := h.2.2.2.1
    omega
theorem k_go_eq {c : Co} {e : Nat} {x : Nat} : k_tr (k_go c e) x = if x = k_b c (kAt c e) then (k_tr c (k_b c (kAt c e)) && decide (2 < k_mi (k_del c e) (k_b c (kAt c e)))) else k_tr c x := rfl
theorem CI.go {c : Co} (h : CI c) {e : Nat} (he : e < (k_es c).length) : CI (k_go c e) := by
  refine (h.del he).setT fun x hx => ?_
  show x < k_n c 1
  unfold upB at hx
  split at hx
  · rename_i q
    rw [q]
    exact k_b_lt h _
  · exact h.2.2.2.2.2.2.2.2.2 x hx
theorem CI.mov {c : Co} (h : CI c) {e : Nat} (he : e < (k_es c).length) : CI (k_mov c e) := by
  obtain ⟨v, hv⟩ := kAt_lt he
  have hp : (k_es c).Perm (k_es (k_mov c e)) := by
    show (k_es c).Perm ((k_es c).eraseIdx e ++ ((k_es c)[e]?).toList)
    rw [hv]
    exact (perm_eraseIdx _ _ _ hv).trans (List.perm_append_comm (l₁ := [_]))
  have hk : (k_ks c).Perm (k_ks (k_mov c e)) := hp.map _
  exact ⟨hk.nodup_iff.mp h.1, fun x hx => h.2.1 x (hp.mem_iff.mpr hx), h.2.2.1.trans hk, by rw [← hp.length_eq]; exact h.2.2.2.1, h.2.2.2.2⟩
theorem CI.add {c : Co} (h : CI c) {k v : Nat} (hk : k ≤ 999999) (hv : v ≤ 9999) (hn : k ∉ k_ks c) (hl : (k_es c).length ≤ 48) : CI (k_add c k v) := by
  have e : k_ks (k_add c k v) = k_ks c ++ [k] := by
    show (k_es c ++ [(k, v)]).map (·.1) = _
    rw [List.map_append]
    rfl
  refine ⟨?_, fun x hx => ?_, ?_, ?_, h.2.2.2.2⟩
  · rw [e]
    exact List.nodup_append.mpr ⟨h.1, by simp, fun a ha b hb => by rw [List.mem_singleton.mp hb]; intro z; exact hn (z ▸ ha)⟩
  · rcases List.mem_append.mp hx with hx | hx
    · exact h.2.1 x hx
    · rw [List.mem_singleton.mp hx]; exact ⟨hk, hv⟩
  · rw [e]
    exact h.2.2.1.append_right _
  · show (k_es c ++ [(k, v)]).length ≤ 49
    simp
    omega
section TCm
variable {N : Nat} {a : Nat → Int32} {c : Co}
theorem TC.tr1 (h : TC N a c) {b : Nat} (hb : b < 64) {v : Bool} (hv : v = true → b < k_n c 1) : TC N (upd a (154 + b) (bI v)) (setT c (upB (k_tr c) b v)) := by
  obtain ⟨hc, hN, cm, co, hR, hM⟩ := h
  have hl := hc.2.2.2.1
  refine ⟨hc.setT fun x hx => ?_, hN, cm, co, ⟨?_, fun i h1 h2 => ?_, ?_, fun e x hx => ?_, fun x hx => ?_⟩, hM⟩
  · unfold upB at hx
    split at hx
    · rename_i q; rw [q]; exact hv hx
    · exact hc.2.2.2.2.2.2.2.2.2 x hx
  · rw [pk_un (by omega)]; exact hR.1
  · rw [pk_un (by omega)]; exact hR.2.1 i h1 h2
  · rw [pk_un (by omega)]; exact hR.2.2.1
  · have he : e < (k_es c).length := (List.getElem?_eq_some_iff.mp hx).1
    rw [pk_un (by omega), pk_un (by omega), pk_un (by omega)]
    exact hR.2.2.2.1 e x hx
  · by_cases q : x = b
    · subst q
      rw [pk_us]
      show _ = bI (upB (k_tr c) x v x)
      rw [show upB (k_tr c) x v x = v from if_pos rfl]
    · rw [pk_un (by omega)]
      show _ = bI (upB (k_tr c) b v x)
      rw [show upB (k_tr c) b v x = k_tr c x from if_neg q]
      exact hR.2.2.2.2 x hx
theorem TC.num (h : TC N a c) {i v : Nat} (h1 : 1 ≤ i) (h5 : i ≤ 5) (hc' : CI (setN c i v)) : TC N (upd a i (nI v)) (setN c i v) := by
  obtain ⟨hc, hN, cm, co, hR, hM⟩ := h
  refine ⟨hc', hN, cm, co, ⟨?_, fun j g1 g2 => ?_, ?_, fun e x hx => ?_, fun x hx => ?_⟩, hM⟩
  · rw [pk_un (by omega)]; exact hR.1
  · by_cases q : j = i
    · subst q
      rw [pk_us]
      show _ = nI (if j = j then v else _)
      rw [if_pos rfl]
    · rw [pk_un q]
      show _ = nI (if j = i then v else _)
      rw [if_neg q]
      exact hR.2.1 j g1 g2
  · rw [pk_un (by omega)]; exact hR.2.2.1
  · rw [pk_un (by omega), pk_un (by omega), pk_un (by omega)]
    exact hR.2.2.2.1 e x hx
  · rw [pk_un (by omega)]
    exact hR.2.2.2.2 x hx
end TCm
section T25
variable {D : Dt} {o : Nat} {ad : Nat → Nat}
theorem ct_manyIn' {N : Nat} {c : Co} (τ : Tw) (hT : TC N (τ.2 0) c) (b m : Nat) (hb : b < 2 ^ 31) (hm : k_mi c b = m) : Ct (wT D o ad) yX5_manyIn cX5_manyIn 4 (some .int) [.ref o, .int (nI b)] τ (PE (some (.int (nI m))) τ) 2 0 0 := hm ▸ ct_manyIn τ hT b hb
theorem ct_isTree' {N : Nat} {c : Co} (τ : Tw) (hT : TC N (τ.2 0) c) (b : Nat) (v : Bool) (hb : b < 64) (hv : k_tr c b = v) : Ct (wT D o ad) yX5_isTree cX5_isTree 2 (some .boolean) [.ref o, .int (nI b)] τ (PE (some (.int (bI v))) τ) 0 0 0 := hv ▸ ct_isTree τ hT b hb
set_option maxHeartbeats 2000000 in
theorem ct_grows {N : Nat} {c : Co} (τ : Tw) (hT : TC N (τ.2 0) c) (hw : k_n c 1 ≤ 32) : Ct (wT D o ad) yX5_grows cX5_grows 4 none [.ref o] τ (PV (fun τ' => TF [] [0] τ τ' ∧ TC N (τ'.2 0) (k_grow c) ∧ ∀ i, i ≠ 1 → i < 154 → τ'.2 0 i = τ.2 0 i)) 3 0 0 := by
  refine Ct.of KTok (by decide) (Nat.le_of_ble_eq_true rfl) rfl fun Y C hQ hNm => ?_
  have hw8 := hT.w
  have hlen := hT.len
  generalize hc1 : setN c 1 (2 * k_n c 1) = c1
  have hw1 : k_n c1 1 = 2 * k_n c 1 := by rw [← hc1]; rfl
  have hci1 : CI c1 := by rw [← hc1]; exact hT.1.dbl hw
  have hmi : ∀ x, k_mi c1 x ≤ 49 := fun x => Nat.le_trans (k_mi_le hci1 x) hci1.2.2.2.1
  have trb : ∀ b, b ≤ k_n c 1 → ∃ f : Nat → Bool, f = fun x => if x < b then k_tr c x && decide (2 < k_mi c1 x) else if k_n c 1 ≤ x ∧ x < k_n c 1 + b then k_tr c (x - k_n c 1) && decide (2 < k_mi c1 x) else k_tr c x := fun b _ => ⟨_, rfl⟩
  have loop : ∀ m b, b + m = k_n c 1 → ∀ (τ1 : Tw) (x3 : Option Value), loC x3 → TF [] [0] τ τ1 → (∀ i, i ≠ 1 → i < 154 → τ1.2 0 i = τ.2 0 i) → TC N (τ1.2 0) (setT c1 (fun x => if x < b then k_tr c x && decide (2 < k_mi c1 x) else if k_n c 1 ≤ x ∧ x < k_n c 1 + b then k_tr c (x - k_n c 1) && decide (2 < k_mi c1 x) else k_tr c x)) → Zj (wT D o ad) Y τ1 0 0 18 [some (.ref o), some (.int (nI (k_n c 1))), some (.int (nI b)), x3] [] := by
    intro m
    induction m with
    | zero =>
      intro b hb τ1 x3 hx3 hF hO hTb
      have hb : b = k_n c 1 := hb
      subst hb
      have hfin : TC N (τ1.2 0) (k_grow c) := by
        have e : k_grow c = setT c1 (fun x => if x < k_n c 1 then k_tr c x && decide (2 < k_mi c1 x) else if k_n c 1 ≤ x ∧ x < k_n c 1 + k_n c 1 then k_tr c (x - k_n c 1) && decide (2 < k_mi c1 x) else k_tr c x) := by
          unfold k_grow
          rw [hc1]
          congr 1
          funext x
          by_cases h1 : x < k_n c 1
          · rw [if_pos h1, if_pos h1]
          · rw [if_neg h1, if_neg h1]
            by_cases h2 : x < k_n c 1 + k_n c 1
            · rw [if_pos h2, if_pos ⟨by omega, h2⟩]
            · rw [if_neg h2, if_neg (by omega)]
        rw [e]
        exact hTb
      refine z_il2 (q := 19) C dX5_grows_18 rfl ?_
      refine z_il1 (q := 20) C dX5_grows_19 rfl ?_
      first | refine z_icmp_geN (tgt := 95) (q := 23) C dX5_grows_20 (by decide) rfl (by omega) (by omega) (fun c20 => ?_) (fun c20 => ?_) | refine z_icmp_ge (tgt := 95) (q := 23) C dX5_grows_20 (by decide) rfl (fun c20 => ?_) (fun c20 => ?_)
      · refine z_vret C hQ dX5_grows_95 (Nat.le_refl _) (Nat.le_refl _) ?_
        exact ⟨rfl, hF, hfin, hO⟩
      · exact absurd c20 (by omega)
    | succ m ih =>
      intro b hb τ1 x3 hx3 hF hO hTb
      generalize hfe : (fun x => if x < b then k_tr c x && decide (2 < k_mi c1 x) else if k_n c 1 ≤ x ∧ x < k_n c 1 + b then k_tr c (x - k_n c 1) && decide (2 < k_mi c1 x) else k_tr c x) = f at hTb
      have hfb : f b = k_tr c b := by rw [← hfe]; simp only []; rw [if_neg (by omega), if_neg (by omega)]
      have hst : ∀ v1 v2 : Bool, v1 = (k_tr c b && decide (2 < k_mi c1 b)) → v2 = (k_tr c b && decide (2 < k_mi c1 (k_n c 1 + b))) → ∀ x1 x2 : Int32, x1 = bI v1 → x2 = bI v2 → TC N ((sE 0 (154 + k_n c 1 + b) x2 (sE 0 (154 + b) x1 τ1)).2 0) (setT c1 (fun x => if x < b + 1 then k_tr c x && decide (2 < k_mi c1 x) else if k_n c 1 ≤ x ∧ x < k_n c 1 + (b + 1) then k_tr c (x - k_n c 1) && decide (2 < k_mi c1 x) else k_tr c x)) := by
        intro v1 v2 e1 e2 x1 x2 q1 q2
        rw [sE_j, sE_j, q1, q2]
        have h1 := hTb.tr1 (b := b) (by omega) (v := v1) (fun _ => by show b < k_n c1 1; omega)
        have h2 := h1.tr1 (b := k_n c 1 + b) (by omega) (v := v2) (fun _ => by show k_n c 1 + b < k_n c1 1; omega)
        rw [show 154 + k_n c 1 + b = 154 + (k_n c 1 + b) by omega]
        have e : (fun x => if x < b + 1 then k_tr c x && decide (2 < k_mi c1 x) else if k_n c 1 ≤ x ∧ x < k_n c 1 + (b + 1) then k_tr c (x - k_n c 1) && decide (2 < k_mi c1 x) else k_tr c x) = upB (upB f b v1) (k_n c 1 + b) v2 := by
          funext x
          unfold upB
          by_cases g1 : x = k_n c 1 + b
          · rw [if_pos g1, if_neg (by omega), if_pos (by omega), e2, g1, Nat.add_sub_cancel_left]
          · rw [if_neg g1]
            by_cases g2 : x = b
            · rw [if_pos g2, if_pos (by omega), e1, g2]
            · rw [if_neg g2, ← hfe]
              simp only []
              by_cases g3 : x < b
              · rw [if_pos g3, if_pos (by omega)]
              · rw [if_neg g3, if_neg (by omega)]
                by_cases g4 : k_n c 1 ≤ x ∧ x < k_n c 1 + b
                · rw [if_pos g4, if_pos (by omega)]
                · rw [if_neg g4, if_neg (by omega)]
        rw [e]
        exact h2
      have hmid : ∀ v : Bool, TC N ((sE 0 (154 + b) (bI v) τ1).2 0) (setT c1 (upB f b v)) := fun v => by rw [sE_j]; exact hTb.tr1 (by omega) (fun _ => by show b < k_n c1 1; omega)
      refine z_il2 (q := 19) C dX5_grows_18 rfl ?_
      refine z_il1 (q := 20) C dX5_grows_19 rfl ?_
      first | refine z_icmp_geN (tgt := 95) (q := 23) C dX5_grows_20 (by decide) rfl (by omega) (by omega) (fun c20 => ?_) (fun c20 => ?_) | refine z_icmp_ge (tgt := 95) (q := 23) C dX5_grows_20 (by decide) rfl (fun c20 => ?_) (fun c20 => ?_)
      · exact absurd c20 (by omega)
      · refine z_al0 (q := 24) C dX5_grows_23 rfl ?_
        refine z_il2 (q := 25) C dX5_grows_24 rfl ?_
        refine z_callVe (q := 28) C (ct_isTree' τ1 hTb b (k_tr c b) (by omega) hfb) g_X5_95 rcT dX5_grows_25 rfl rfl rfl (Nat.le_of_ble_eq_true rfl) (by first | decide | omega) (Nat.le_refl _) (Nat.le_refl _) ?_
        refine z_is3 (q := 29) C dX5_grows_28 rfl (by first | exact loC_i | exact loC_r | exact loC_n | exact loC_q | exact loC_u) ?_
        refine z_al0 (q := 30) C dX5_grows_29 rfl ?_
        refine tg_7 (q := 33) C dX5_grows_30 rfl ?_
        refine z_sipush (q := 36) (v := nI 154) C dX5_grows_33 rfl (by decide) ?_
        refine z_il2 (q := 37) C dX5_grows_36 rfl ?_
        first | refine z_iaddN (q := 38) C dX5_grows_37 rfl ?_ | refine z_iadd (q := 38) C dX5_grows_37 rfl ?_
        refine z_il3 (q := 39) C dX5_grows_38 rfl ?_
        first | refine z_if_eqB (tgt := 55) (q := 42) C dX5_grows_39 (by decide) rfl (fun c39 => ?_) (fun c39 => ?_) | refine z_if_eq (tgt := 55) (q := 42) C dX5_grows_39 (by decide) rfl (fun c39 => ?_) (fun c39 => ?_)
        skip
        · refine z_iconst (q := 56) (v := nI 0) C dX5_grows_55 rfl (by decide) ?_
          refine ta_st0 (q := 57) C dX5_grows_56 rfl (by omega) ?_
          refine z_al0 (q := 58) C dX5_grows_57 rfl ?_
          refine tg_7 (q := 61) C dX5_grows_58 rfl ?_
          refine z_sipush (q := 64) (v := nI 154) C dX5_grows_61 rfl (by decide) ?_
          refine z_il1 (q := 65) C dX5_grows_64 rfl ?_
          first | refine z_iaddN (q := 66) C dX5_grows_65 rfl ?_ | refine z_iadd (q := 66) C dX5_grows_65 rfl ?_
          refine z_il2 (q := 67) C dX5_grows_66 rfl ?_
          first | refine z_iaddN (q := 68) C dX5_grows_67 rfl ?_ | refine z_iadd (q := 68) C dX5_grows_67 rfl ?_
          refine z_il3 (q := 69) C dX5_grows_68 rfl ?_
          first | refine z_if_eqB (tgt := 87) (q := 72) C dX5_grows_69 (by decide) rfl (fun c69 => ?_) (fun c69 => ?_) | refine z_if_eq (tgt := 87) (q := 72) C dX5_grows_69 (by decide) rfl (fun c69 => ?_) (fun c69 => ?_)
          · refine z_iconst (q := 88) (v := nI 0) C dX5_grows_87 rfl (by decide) ?_
            refine ta_st0 (q := 89) C dX5_grows_88 rfl (by omega) ?_
            first | refine z_iinc2N (q := 92) C dX5_grows_89 rfl (by first | exact loC_i | exact loC_r | exact loC_n | exact loC_q | exact loC_u) ?_ | refine z_iinc2 (q := 92) C dX5_grows_89 rfl rfl (by first | exact loC_i | exact loC_r | exact loC_n | exact loC_q | exact loC_u) ?_
            refine z_goto (tgt := 18) C dX5_grows_92 (by decide) ?_
            refine ih (b + 1) (by omega) _ _ loC_i ((hF.sE (by decide) _ _).sE (by decide) _ _) (fun i g1 g2 => by rw [sE_n (by omega), sE_n (by omega)]; exact hO i g1 g2) ?_
            first | exact hst false false (by rw [c39]; rfl) (by rw [c39]; rfl) _ _ rfl rfl | exact hst false false (by rw [c39, decide_eq_false (by omega)]; rfl) (by rw [c39, decide_eq_false (by omega)]; rfl) _ _ rfl rfl | exact hst false true (by rw [c39, decide_eq_false (by omega)]; rfl) (by rw [c39, decide_eq_true (by omega)]; rfl) _ _ rfl rfl | exact hst true false (by rw [c39, decide_eq_true (by omega)]; rfl) (by rw [c39, decide_eq_false (by omega)]; rfl) _ _ rfl rfl | exact hst true true (by rw [c39, decide_eq_true (by omega)]; rfl) (by rw [c39, decide_eq_true (by omega)]; rfl) _ _ rfl rfl | (rw [c39] at c69; cases c69)
          · refine z_al0 (q := 73) C dX5_grows_72 rfl ?_
            refine z_il1 (q := 74) C dX5_grows_73 rfl ?_
            refine z_il2 (q := 75) C dX5_grows_74 rfl ?_
            first | refine z_iaddN (q := 76) C dX5_grows_75 rfl ?_ | refine z_iadd (q := 76) C dX5_grows_75 rfl ?_
            refine z_callVe (q := 79) C (ct_manyIn' _ (by first | exact hmid false | exact hmid true) (k_n c 1 + b) (k_mi c1 (k_n c 1 + b)) (by omega) (by rfl)) g_X5_102 rcT dX5_grows_76 rfl rfl rfl (Nat.le_of_ble_eq_true rfl) (by first | decide | omega) (Nat.le_refl _) (Nat.le_refl _) ?_
            refine z_iconst (q := 80) (v := nI 2) C dX5_grows_79 rfl (by decide) ?_
            first | refine z_icmp_leN (tgt := 87) (q := 83) C dX5_grows_80 (by decide) rfl (by have := hmi (k_n c 1 + b); omega) (by omega) (fun c80 => ?_) (fun c80 => ?_) | refine z_icmp_le (tgt := 87) (q := 83) C dX5_grows_80 (by decide) rfl (fun c80 => ?_) (fun c80 => ?_)
            · refine z_iconst (q := 88) (v := nI 0) C dX5_grows_87 rfl (by decide) ?_
              refine ta_st0 (q := 89) C dX5_grows_88 rfl (by omega) ?_
              first | refine z_iinc2N (q := 92) C dX5_grows_89 rfl (by first | exact loC_i | exact loC_r | exact loC_n | exact loC_q | exact loC_u) ?_ | refine z_iinc2 (q := 92) C dX5_grows_89 rfl rfl (by first | exact loC_i | exact loC_r | exact loC_n | exact loC_q | exact loC_u) ?_
              refine z_goto (tgt := 18) C dX5_grows_92 (by decide) ?_
              refine ih (b + 1) (by omega) _ _ loC_i ((hF.sE (by decide) _ _).sE (by decide) _ _) (fun i g1 g2 => by rw [sE_n (by omega), sE_n (by omega)]; exact hO i g1 g2) ?_
              first | exact hst false false (by rw [c39]; rfl) (by rw [c39]; rfl) _ _ rfl rfl | exact hst false false (by rw [c39, decide_eq_false (by omega)]; rfl) (by rw [c39, decide_eq_false (by omega)]; rfl) _ _ rfl rfl | exact hst false true (by rw [c39, decide_eq_false (by omega)]; rfl) (by rw [c39, decide_eq_true (by omega)]; rfl) _ _ rfl rfl | exact hst true false (by rw [c39, decide_eq_true (by omega)]; rfl) (by rw [c39, decide_eq_false (by omega)]; rfl) _ _ rfl rfl | exact hst true true (by rw [c39, decide_eq_true (by omega)]; rfl) (by rw [c39, decide_eq_true (by omega)]; rfl) _ _ rfl rfl | (rw [c39] at c69; cases c69)
            · refine z_iconst (q := 84) (v := nI 1) C dX5_grows_83 rfl (by decide) ?_
              refine z_goto (tgt := 88) C dX5_grows_84 (by decide) ?_
              refine ta_st0 (q := 89) C dX5_grows_88 rfl (by omega) ?_
              first | refine z_iinc2N (q := 92) C dX5_grows_89 rfl (by first | exact loC_i | exact loC_r | exact loC_n | exact loC_q | exact loC_u) ?_ | refine z_iinc2 (q := 92) C dX5_grows_89 rfl rfl (by first | exact loC_i | exact loC_r | exact loC_n | exact loC_q | exact loC_u) ?_
              refine z_goto (tgt := 18) C dX5_grows_92 (by decide) ?_
              refine ih (b + 1) (by omega) _ _ loC_i ((hF.sE (by decide) _ _).sE (by decide) _ _) (fun i g1 g2 => by rw [sE_n (by omega), sE_n (by omega)]; exact hO i g1 g2) ?_
              first | exact hst false false (by rw [c39]; rfl) (by rw [c39]; rfl) _ _ rfl rfl | exact hst false false (by rw [c39, decide_eq_false (by omega)]; rfl) (by rw [c39, decide_eq_false (by omega)]; rfl) _ _ rfl rfl | exact hst false true (by rw [c39, decide_eq_false (by omega)]; rfl) (by rw [c39, decide_eq_true (by omega)]; rfl) _ _ rfl rfl | exact hst true false (by rw [c39, decide_eq_true (by omega)]; rfl) (by rw [c39, decide_eq_false (by omega)]; rfl) _ _ rfl rfl | exact hst true true (by rw [c39, decide_eq_true (by omega)]; rfl) (by rw [c39, decide_eq_true (by omega)]; rfl) _ _ rfl rfl | (rw [c39] at c69; cases c69)
        · refine z_al0 (q := 43) C dX5_grows_42 rfl ?_
          refine z_il2 (q := 44) C dX5_grows_43 rfl ?_
          refine z_callVe (q := 47) C (ct_manyIn' τ1 hTb b (k_mi c1 b) (by omega) rfl) g_X5_102 rcT dX5_grows_44 rfl rfl rfl (Nat.le_of_ble_eq_true rfl) (by first | decide | omega) (Nat.le_refl _) (Nat.le_refl _) ?_
          refine z_iconst (q := 48) (v := nI 2) C dX5_grows_47 rfl (by decide) ?_
          first | refine z_icmp_leN (tgt := 55) (q := 51) C dX5_grows_48 (by decide) rfl (by have := hmi b; omega) (by omega) (fun c48 => ?_) (fun c48 => ?_) | refine z_icmp_le (tgt := 55) (q := 51) C dX5_grows_48 (by decide) rfl (fun c48 => ?_) (fun c48 => ?_)
          · refine z_iconst (q := 56) (v := nI 0) C dX5_grows_55 rfl (by decide) ?_
            refine ta_st0 (q := 57) C dX5_grows_56 rfl (by omega) ?_
            refine z_al0 (q := 58) C dX5_grows_57 rfl ?_
            refine tg_7 (q := 61) C dX5_grows_58 rfl ?_
            refine z_sipush (q := 64) (v := nI 154) C dX5_grows_61 rfl (by decide) ?_
            refine z_il1 (q := 65) C dX5_grows_64 rfl ?_
            first | refine z_iaddN (q := 66) C dX5_grows_65 rfl ?_ | refine z_iadd (q := 66) C dX5_grows_65 rfl ?_
            refine z_il2 (q := 67) C dX5_grows_66 rfl ?_
            first | refine z_iaddN (q := 68) C dX5_grows_67 rfl ?_ | refine z_iadd (q := 68) C dX5_grows_67 rfl ?_
            refine z_il3 (q := 69) C dX5_grows_68 rfl ?_
            first | refine z_if_eqB (tgt := 87) (q := 72) C dX5_grows_69 (by decide) rfl (fun c69 => ?_) (fun c69 => ?_) | refine z_if_eq (tgt := 87) (q := 72) C dX5_grows_69 (by decide) rfl (fun c69 => ?_) (fun c69 => ?_)
            · refine z_iconst (q := 88) (v := nI 0) C dX5_grows_87 rfl (by decide) ?_
              refine ta_st0 (q := 89) C dX5_grows_88 rfl (by omega) ?_
              first | refine z_iinc2N (q := 92) C dX5_grows_89 rfl (by first | exact loC_i | exact loC_r | exact loC_n | exact loC_q | exact loC_u) ?_ | refine z_iinc2 (q := 92) C dX5_grows_89 rfl rfl (by first | exact loC_i | exact loC_r | exact loC_n | exact loC_q | exact loC_u) ?_
              refine z_goto (tgt := 18) C dX5_grows_92 (by decide) ?_
              refine ih (b + 1) (by omega) _ _ loC_i ((hF.sE (by decide) _ _).sE (by decide) _ _) (fun i g1 g2 => by rw [sE_n (by omega), sE_n (by omega)]; exact hO i g1 g2) ?_
              first | exact hst false false (by rw [c39]; rfl) (by rw [c39]; rfl) _ _ rfl rfl | exact hst false false (by rw [c39, decide_eq_false (by omega)]; rfl) (by rw [c39, decide_eq_false (by omega)]; rfl) _ _ rfl rfl | exact hst false true (by rw [c39, decide_eq_false (by omega)]; rfl) (by rw [c39, decide_eq_true (by omega)]; rfl) _ _ rfl rfl | exact hst true false (by rw [c39, decide_eq_true (by omega)]; rfl) (by rw [c39, decide_eq_false (by omega)]; rfl) _ _ rfl rfl | exact hst true true (by rw [c39, decide_eq_true (by omega)]; rfl) (by rw [c39, decide_eq_true (by omega)]; rfl) _ _ rfl rfl | (rw [c39] at c69; cases c69)
            · refine z_al0 (q := 73) C dX5_grows_72 rfl ?_
              refine z_il1 (q := 74) C dX5_grows_73 rfl ?_
              refine z_il2 (q := 75) C dX5_grows_74 rfl ?_
              first | refine z_iaddN (q := 76) C dX5_grows_75 rfl ?_ | refine z_iadd (q := 76) C dX5_grows_75 rfl ?_
              refine z_callVe (q := 79) C (ct_manyIn' _ (by first | exact hmid false | exact hmid true) (k_n c 1 + b) (k_mi c1 (k_n c 1 + b)) (by omega) (by rfl)) g_X5_102 rcT dX5_grows_76 rfl rfl rfl (Nat.le_of_ble_eq_true rfl) (by first | decide | omega) (Nat.le_refl _) (Nat.le_refl _) ?_
              refine z_iconst (q := 80) (v := nI 2) C dX5_grows_79 rfl (by decide) ?_
              first | refine z_icmp_leN (tgt := 87) (q := 83) C dX5_grows_80 (by decide) rfl (by have := hmi (k_n c 1 + b); omega) (by omega) (fun c80 => ?_) (fun c80 => ?_) | refine z_icmp_le (tgt := 87) (q := 83) C dX5_grows_80 (by decide) rfl (fun c80 => ?_) (fun c80 => ?_)
              · refine z_iconst (q := 88) (v := nI 0) C dX5_grows_87 rfl (by decide) ?_
                refine ta_st0 (q := 89) C dX5_grows_88 rfl (by omega) ?_
                first | refine z_iinc2N (q := 92) C dX5_grows_89 rfl (by first | exact loC_i | exact loC_r | exact loC_n | exact loC_q | exact loC_u) ?_ | refine z_iinc2 (q := 92) C dX5_grows_89 rfl rfl (by first | exact loC_i | exact loC_r | exact loC_n | exact loC_q | exact loC_u) ?_
                refine z_goto (tgt := 18) C dX5_grows_92 (by decide) ?_
                refine ih (b + 1) (by omega) _ _ loC_i ((hF.sE (by decide) _ _).sE (by decide) _ _) (fun i g1 g2 => by rw [sE_n (by omega), sE_n (by omega)]; exact hO i g1 g2) ?_
                first | exact hst false false (by rw [c39]; rfl) (by rw [c39]; rfl) _ _ rfl rfl | exact hst false false (by rw [c39, decide_eq_false (by omega)]; rfl) (by rw [c39, decide_eq_false (by omega)]; rfl) _ _ rfl rfl | exact hst false true (by rw [c39, decide_eq_false (by omega)]; rfl) (by rw [c39, decide_eq_true (by omega)]; rfl) _ _ rfl rfl | exact hst true false (by rw [c39, decide_eq_true (by omega)]; rfl) (by rw [c39, decide_eq_false (by omega)]; rfl) _ _ rfl rfl | exact hst true true (by rw [c39, decide_eq_true (by omega)]; rfl) (by rw [c39, decide_eq_true (by omega)]; rfl) _ _ rfl rfl | (rw [c39] at c69; cases c69)
              · refine z_iconst (q := 84) (v := nI 1) C dX5_grows_83 rfl (by decide) ?_
                refine z_goto (tgt := 88) C dX5_grows_84 (by decide) ?_
                refine ta_st0 (q := 89) C dX5_grows_88 rfl (by omega) ?_
                first | refine z_iinc2N (q := 92) C dX5_grows_89 rfl (by first | exact loC_i | exact loC_r | exact loC_n | exact loC_q | exact loC_u) ?_ | refine z_iinc2 (q := 92) C dX5_grows_89 rfl rfl (by first | exact loC_i | exact loC_r | exact loC_n | exact loC_q | exact loC_u) ?_
                refine z_goto (tgt := 18) C dX5_grows_92 (by decide) ?_
                refine ih (b + 1) (by omega) _ _ loC_i ((hF.sE (by decide) _ _).sE (by decide) _ _) (fun i g1 g2 => by rw [sE_n (by omega), sE_n (by omega)]; exact hO i g1 g2) ?_
                first | exact hst false false (by rw [c39]; rfl) (by rw [c39]; rfl) _ _ rfl rfl | exact hst false false (by rw [c39, decide_eq_false (by omega)]; rfl) (by rw [c39, decide_eq_false (by omega)]; rfl) _ _ rfl rfl | exact hst false true (by rw [c39, decide_eq_false (by omega)]; rfl) (by rw [c39, decide_eq_true (by omega)]; rfl) _ _ rfl rfl | exact hst true false (by rw [c39, decide_eq_true (by omega)]; rfl) (by rw [c39, decide_eq_false (by omega)]; rfl) _ _ rfl rfl | exact hst true true (by rw [c39, decide_eq_true (by omega)]; rfl) (by rw [c39, decide_eq_true (by omega)]; rfl) _ _ rfl rfl | (rw [c39] at c69; cases c69)
          · refine z_iconst (q := 52) (v := nI 1) C dX5_grows_51 rfl (by decide) ?_
            refine z_goto (tgt := 56) C dX5_grows_52 (by decide) ?_
            refine ta_st0 (q := 57) C dX5_grows_56 rfl (by omega) ?_
            refine z_al0 (q := 58) C dX5_grows_57 rfl ?_
            refine tg_7 (q := 61) C dX5_grows_58 rfl ?_
            refine z_sipush (q := 64) (v := nI 154) C dX5_grows_61 rfl (by decide) ?_
            refine z_il1 (q := 65) C dX5_grows_64 rfl ?_
            first | refine z_iaddN (q := 66) C dX5_grows_65 rfl ?_ | refine z_iadd (q := 66) C dX5_grows_65 rfl ?_
            refine z_il2 (q := 67) C dX5_grows_66 rfl ?_
            first | refine z_iaddN (q := 68) C dX5_grows_67 rfl ?_ | refine z_iadd (q := 68) C dX5_grows_67 rfl ?_
            refine z_il3 (q := 69) C dX5_grows_68 rfl ?_
            first | refine z_if_eqB (tgt := 87) (q := 72) C dX5_grows_69 (by decide) rfl (fun c69 => ?_) (fun c69 => ?_) | refine z_if_eq (tgt := 87) (q := 72) C dX5_grows_69 (by decide) rfl (fun c69 => ?_) (fun c69 => ?_)
            · refine z_iconst (q := 88) (v := nI 0) C dX5_grows_87 rfl (by decide) ?_
              refine ta_st0 (q := 89) C dX5_grows_88 rfl (by omega) ?_
              first | refine z_iinc2N (q := 92) C dX5_grows_89 rfl (by first | exact loC_i | exact loC_r | exact loC_n | exact loC_q | exact loC_u) ?_ | refine z_iinc2 (q := 92) C dX5_grows_89 rfl rfl (by first | exact loC_i | exact loC_r | exact loC_n | exact loC_q | exact loC_u) ?_
              refine z_goto (tgt := 18) C dX5_grows_92 (by decide) ?_
              refine ih (b + 1) (by omega) _ _ loC_i ((hF.sE (by decide) _ _).sE (by decide) _ _) (fun i g1 g2 => by rw [sE_n (by omega), sE_n (by omega)]; exact hO i g1 g2) ?_
              first | exact hst false false (by rw [c39]; rfl) (by rw [c39]; rfl) _ _ rfl rfl | exact hst false false (by rw [c39, decide_eq_false (by omega)]; rfl) (by rw [c39, decide_eq_false (by omega)]; rfl) _ _ rfl rfl | exact hst false true (by rw [c39, decide_eq_false (by omega)]; rfl) (by rw [c39, decide_eq_true (by omega)]; rfl) _ _ rfl rfl | exact hst true false (by rw [c39, decide_eq_true (by omega)]; rfl) (by rw [c39, decide_eq_false (by omega)]; rfl) _ _ rfl rfl | exact hst true true (by rw [c39, decide_eq_true (by omega)]; rfl) (by rw [c39, decide_eq_true (by omega)]; rfl) _ _ rfl rfl | (rw [c39] at c69; cases c69)
            · refine z_al0 (q := 73) C dX5_grows_72 rfl ?_
              refine z_il1 (q := 74) C dX5_grows_73 rfl ?_
              refine z_il2 (q := 75) C dX5_grows_74 rfl ?_
              first | refine z_iaddN (q := 76) C dX5_grows_75 rfl ?_ | refine z_iadd (q := 76) C dX5_grows_75 rfl ?_
              refine z_callVe (q := 79) C (ct_manyIn' _ (by first | exact hmid false | exact hmid true) (k_n c 1 + b) (k_mi c1 (k_n c 1 + b)) (by omega) (by rfl)) g_X5_102 rcT dX5_grows_76 rfl rfl rfl (Nat.le_of_ble_eq_true rfl) (by first | decide | omega) (Nat.le_refl _) (Nat.le_refl _) ?_
              refine z_iconst (q := 80) (v := nI 2) C dX5_grows_79 rfl (by decide) ?_
              first | refine z_icmp_leN (tgt := 87) (q := 83) C dX5_grows_80 (by decide) rfl (by have := hmi (k_n c 1 + b); omega) (by omega) (fun c80 => ?_) (fun c80 => ?_) | refine z_icmp_le (tgt := 87) (q := 83) C dX5_grows_80 (by decide) rfl (fun c80 => ?_) (fun c80 => ?_)
              · refine z_iconst (q := 88) (v := nI 0) C dX5_grows_87 rfl (by decide) ?_
                refine ta_st0 (q := 89) C dX5_grows_88 rfl (by omega) ?_
                first | refine z_iinc2N (q := 92) C dX5_grows_89 rfl (by first | exact loC_i | exact loC_r | exact loC_n | exact loC_q | exact loC_u) ?_ | refine z_iinc2 (q := 92) C dX5_grows_89 rfl rfl (by first | exact loC_i | exact loC_r | exact loC_n | exact loC_q | exact loC_u) ?_
                refine z_goto (tgt := 18) C dX5_grows_92 (by decide) ?_
                refine ih (b + 1) (by omega) _ _ loC_i ((hF.sE (by decide) _ _).sE (by decide) _ _) (fun i g1 g2 => by rw [sE_n (by omega), sE_n (by omega)]; exact hO i g1 g2) ?_
                first | exact hst false false (by rw [c39]; rfl) (by rw [c39]; rfl) _ _ rfl rfl | exact hst false false (by rw [c39, decide_eq_false (by omega)]; rfl) (by rw [c39, decide_eq_false (by omega)]; rfl) _ _ rfl rfl | exact hst false true (by rw [c39, decide_eq_false (by omega)]; rfl) (by rw [c39, decide_eq_true (by omega)]; rfl) _ _ rfl rfl | exact hst true false (by rw [c39, decide_eq_true (by omega)]; rfl) (by rw [c39, decide_eq_false (by omega)]; rfl) _ _ rfl rfl | exact hst true true (by rw [c39, decide_eq_true (by omega)]; rfl) (by rw [c39, decide_eq_true (by omega)]; rfl) _ _ rfl rfl | (rw [c39] at c69; cases c69)
              · refine z_iconst (q := 84) (v := nI 1) C dX5_grows_83 rfl (by decide) ?_
                refine z_goto (tgt := 88) C dX5_grows_84 (by decide) ?_
                refine ta_st0 (q := 89) C dX5_grows_88 rfl (by omega) ?_
                first | refine z_iinc2N (q := 92) C dX5_grows_89 rfl (by first | exact loC_i | exact loC_r | exact loC_n | exact loC_q | exact loC_u) ?_ | refine z_iinc2 (q := 92) C dX5_grows_89 rfl rfl (by first | exact loC_i | exact loC_r | exact loC_n | exact loC_q | exact loC_u) ?_
                refine z_goto (tgt := 18) C dX5_grows_92 (by decide) ?_
                refine ih (b + 1) (by omega) _ _ loC_i ((hF.sE (by decide) _ _).sE (by decide) _ _) (fun i g1 g2 => by rw [sE_n (by omega), sE_n (by omega)]; exact hO i g1 g2) ?_
                first | exact hst false false (by rw [c39]; rfl) (by rw [c39]; rfl) _ _ rfl rfl | exact hst false false (by rw [c39, decide_eq_false (by omega)]; rfl) (by rw [c39, decide_eq_false (by omega)]; rfl) _ _ rfl rfl | exact hst false true (by rw [c39, decide_eq_false (by omega)]; rfl) (by rw [c39, decide_eq_true (by omega)]; rfl) _ _ rfl rfl | exact hst true false (by rw [c39, decide_eq_true (by omega)]; rfl) (by rw [c39, decide_eq_false (by omega)]; rfl) _ _ rfl rfl | exact hst true true (by rw [c39, decide_eq_true (by omega)]; rfl) (by rw [c39, decide_eq_true (by omega)]; rfl) _ _ rfl rfl | (rw [c39] at c69; cases c69)
  refine z_al0 (q := 1) C dX5_grows_0 rfl ?_
  refine tg_7 (q := 4) C dX5_grows_1 rfl ?_
  refine z_iconst (q := 5) (v := nI 1) C dX5_grows_4 rfl (by decide) ?_
  refine ta_ld0 (q := 6) C dX5_grows_5 rfl (by omega) ?_
  rw [hT.an (by omega) (by omega)]
  refine z_is1 (q := 7) C dX5_grows_6 rfl (by first | exact loC_i | exact loC_r | exact loC_n | exact loC_q | exact loC_u) ?_
  refine z_al0 (q := 8) C dX5_grows_7 rfl ?_
  refine tg_7 (q := 11) C dX5_grows_8 rfl ?_
  refine z_iconst (q := 12) (v := nI 1) C dX5_grows_11 rfl (by decide) ?_
  refine z_iconst (q := 13) (v := nI 2) C dX5_grows_12 rfl (by decide) ?_
  refine z_il1 (q := 14) C dX5_grows_13 rfl ?_
  first | refine z_imulN (q := 15) C dX5_grows_14 rfl ?_ | refine z_imul (q := 15) C dX5_grows_14 rfl ?_
  refine ta_st0 (q := 16) C dX5_grows_15 rfl (by omega) ?_
  refine z_iconst (q := 17) (v := nI 0) C dX5_grows_16 rfl (by decide) ?_
  refine z_is2 (q := 18) C dX5_grows_17 rfl (by first | exact loC_i | exact loC_r | exact loC_n | exact loC_q | exact loC_u) ?_
  refine loop _ 0 (Nat.zero_add _) _ _ loC_n (TF.rf.sE (by decide) _ _) (fun i g1 g2 => sE_n g1) ?_
  rw [sE_j]
  have h1 := hT.num (i := 1) (v := 2 * k_n c 1) (by omega) (by omega) (by rw [hc1]; exact hci1)
  rw [hc1] at h1
  have e : setT c1 (fun x => if x < 0 then k_tr c x && decide (2 < k_mi c1 x) else if k_n c 1 ≤ x ∧ x < k_n c 1 + 0 then k_tr c (x - k_n c 1) && decide (2 < k_mi c1 x) else k_tr c x) = c1 := by
    have : (fun x => if x < 0 then k_tr c x && decide (2 < k_mi c1 x) else if k_n c 1 ≤ x ∧ x < k_n c 1 + 0 then k_tr c (x - k_n c 1) && decide (2 < k_mi c1 x) else k_tr c x) = k_tr c := by
      funext x
      rw [if_neg (by omega), if_neg (by omega)]
    rw [this, ← hc1]
    rfl
  rw [e]
  exact h1
end T25
