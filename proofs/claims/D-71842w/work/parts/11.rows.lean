theorem lo_h0 {lo : Lo} : ∀ j : Nat, j + 1 = 0 → ∀ x, lo[j]? = some x → loC x := fun j h => by cases h
theorem lo_hp {lo : Lo} {j : Nat} {x : Option Value} (hx : lo[j]? = some x) (hp : loC x) : ∀ i : Nat, i + 1 = j + 1 → ∀ x', lo[i]? = some x' → loC x' := by
  intro i hi x' h
  have hi : i = j := by omega
  subst hi
  rw [hx] at h
  cases h
  exact hp
section ZR
variable {S : Type} {w : Wd S} {Y : Fz} {cc : ByteArray} {own : String} {ret : Option FieldType} {d mc ms : Nat} {σ : S} {k n pc q : Nat} {lo : Lo} {st : List Value}
theorem z_iadd (C : Cx w Y cc own ret d mc ms) {x y : Int32} (hd : decode cc pc = .ok (.iadd, 1)) (hq : pc + 1 = q) (g : Zj w Y σ k n q lo (.int (x + y) :: st)) : Zj w Y σ k n pc lo (.int y :: .int x :: st) := by
  subst hq; exact fun H locs ls h1 h2 h3 h4 => lv_iadd C.1 C.2.1 hd (g H locs ls h1 h2 h3 h4)
theorem z_isub (C : Cx w Y cc own ret d mc ms) {x y : Int32} (hd : decode cc pc = .ok (.isub, 1)) (hq : pc + 1 = q) (g : Zj w Y σ k n q lo (.int (x - y) :: st)) : Zj w Y σ k n pc lo (.int y :: .int x :: st) := by
  subst hq; exact fun H locs ls h1 h2 h3 h4 => lv_isub C.1 C.2.1 hd (g H locs ls h1 h2 h3 h4)
theorem z_imul (C : Cx w Y cc own ret d mc ms) {x y : Int32} (hd : decode cc pc = .ok (.imul, 1)) (hq : pc + 1 = q) (g : Zj w Y σ k n q lo (.int (x * y) :: st)) : Zj w Y σ k n pc lo (.int y :: .int x :: st) := by
  subst hq; exact fun H locs ls h1 h2 h3 h4 => lv_imul C.1 C.2.1 hd (g H locs ls h1 h2 h3 h4)
theorem z_iand (C : Cx w Y cc own ret d mc ms) {x y : Int32} (hd : decode cc pc = .ok (.iand, 1)) (hq : pc + 1 = q) (g : Zj w Y σ k n q lo (.int (x &&& y) :: st)) : Zj w Y σ k n pc lo (.int y :: .int x :: st) := by
  subst hq; exact fun H locs ls h1 h2 h3 h4 => lv_iand C.1 C.2.1 hd (g H locs ls h1 h2 h3 h4)
theorem z_ior (C : Cx w Y cc own ret d mc ms) {x y : Int32} (hd : decode cc pc = .ok (.ior, 1)) (hq : pc + 1 = q) (g : Zj w Y σ k n q lo (.int (x ||| y) :: st)) : Zj w Y σ k n pc lo (.int y :: .int x :: st) := by
  subst hq; exact fun H locs ls h1 h2 h3 h4 => lv_ior C.1 C.2.1 hd (g H locs ls h1 h2 h3 h4)
theorem z_ixor (C : Cx w Y cc own ret d mc ms) {x y : Int32} (hd : decode cc pc = .ok (.ixor, 1)) (hq : pc + 1 = q) (g : Zj w Y σ k n q lo (.int (x ^^^ y) :: st)) : Zj w Y σ k n pc lo (.int y :: .int x :: st) := by
  subst hq; exact fun H locs ls h1 h2 h3 h4 => lv_ixor C.1 C.2.1 hd (g H locs ls h1 h2 h3 h4)
theorem z_ishl (C : Cx w Y cc own ret d mc ms) {x y : Int32} (hd : decode cc pc = .ok (.ishl, 1)) (hq : pc + 1 = q) (g : Zj w Y σ k n q lo (.int (x <<< (y &&& 31)) :: st)) : Zj w Y σ k n pc lo (.int y :: .int x :: st) := by
  subst hq; exact fun H locs ls h1 h2 h3 h4 => lv_ishl C.1 C.2.1 hd (g H locs ls h1 h2 h3 h4)
theorem z_ishr (C : Cx w Y cc own ret d mc ms) {x y : Int32} (hd : decode cc pc = .ok (.ishr, 1)) (hq : pc + 1 = q) (g : Zj w Y σ k n q lo (.int (x >>> (y &&& 31)) :: st)) : Zj w Y σ k n pc lo (.int y :: .int x :: st) := by
  subst hq; exact fun H locs ls h1 h2 h3 h4 => lv_ishr C.1 C.2.1 hd (g H locs ls h1 h2 h3 h4)
theorem z_ladd (C : Cx w Y cc own ret d mc ms) {x y : Int64} (hd : decode cc pc = .ok (.ladd, 1)) (hq : pc + 1 = q) (g : Zj w Y σ k n q lo (.long (x + y) :: st)) : Zj w Y σ k n pc lo (.long y :: .long x :: st) := by
  subst hq; exact fun H locs ls h1 h2 h3 h4 => lv_ladd C.1 C.2.1 hd (g H locs ls h1 h2 h3 h4)
theorem z_lmul (C : Cx w Y cc own ret d mc ms) {x y : Int64} (hd : decode cc pc = .ok (.lmul, 1)) (hq : pc + 1 = q) (g : Zj w Y σ k n q lo (.long (x * y) :: st)) : Zj w Y σ k n pc lo (.long y :: .long x :: st) := by
  subst hq; exact fun H locs ls h1 h2 h3 h4 => lv_lmul C.1 C.2.1 hd (g H locs ls h1 h2 h3 h4)
theorem z_land (C : Cx w Y cc own ret d mc ms) {x y : Int64} (hd : decode cc pc = .ok (.land, 1)) (hq : pc + 1 = q) (g : Zj w Y σ k n q lo (.long (x &&& y) :: st)) : Zj w Y σ k n pc lo (.long y :: .long x :: st) := by
  subst hq; exact fun H locs ls h1 h2 h3 h4 => lv_land C.1 C.2.1 hd (g H locs ls h1 h2 h3 h4)
theorem z_idiv (C : Cx w Y cc own ret d mc ms) {x y : Int32} (hd : decode cc pc = .ok (.idiv, 1)) (hq : pc + 1 = q) (hne : ¬ y = 0) (g : Zj w Y σ k n q lo (.int (x / y) :: st)) : Zj w Y σ k n pc lo (.int y :: .int x :: st) := by
  subst hq; exact fun H locs ls h1 h2 h3 h4 => lv_idiv C.1 C.2.1 hd hne (g H locs ls h1 h2 h3 h4)
theorem z_irem (C : Cx w Y cc own ret d mc ms) {x y : Int32} (hd : decode cc pc = .ok (.irem, 1)) (hq : pc + 1 = q) (hne : ¬ y = 0) (g : Zj w Y σ k n q lo (.int (x - x / y * y) :: st)) : Zj w Y σ k n pc lo (.int y :: .int x :: st) := by
  subst hq; exact fun H locs ls h1 h2 h3 h4 => lv_irem C.1 C.2.1 hd hne (g H locs ls h1 h2 h3 h4)
theorem z_lrem (C : Cx w Y cc own ret d mc ms) {x y : Int64} (hd : decode cc pc = .ok (.lrem, 1)) (hq : pc + 1 = q) (hne : ¬ y = 0) (g : Zj w Y σ k n q lo (.long (x - x / y * y) :: st)) : Zj w Y σ k n pc lo (.long y :: .long x :: st) := by
  subst hq; exact fun H locs ls h1 h2 h3 h4 => lv_lrem C.1 C.2.1 hd hne (g H locs ls h1 h2 h3 h4)
theorem z_iaddN (C : Cx w Y cc own ret d mc ms) {a b : Nat} (hd : decode cc pc = .ok (.iadd, 1)) (hq : pc + 1 = q) (g : Zj w Y σ k n q lo (.int (nI (a + b)) :: st)) : Zj w Y σ k n pc lo (.int (nI b) :: .int (nI a) :: st) := by
  refine z_iadd C hd hq ?_
  rw [nI_add]; exact g
theorem z_imulN (C : Cx w Y cc own ret d mc ms) {a b : Nat} (hd : decode cc pc = .ok (.imul, 1)) (hq : pc + 1 = q) (g : Zj w Y σ k n q lo (.int (nI (a * b)) :: st)) : Zj w Y σ k n pc lo (.int (nI b) :: .int (nI a) :: st) := by
  refine z_imul C hd hq ?_
  rw [pk_mul]; exact g
theorem z_isubN (C : Cx w Y cc own ret d mc ms) {a b : Nat} (hd : decode cc pc = .ok (.isub, 1)) (hq : pc + 1 = q) (hab : b ≤ a) (g : Zj w Y σ k n q lo (.int (nI (a - b)) :: st)) : Zj w Y σ k n pc lo (.int (nI b) :: .int (nI a) :: st) := by
  refine z_isub C hd hq ?_
  rw [pk_sub hab]; exact g
theorem z_i2l (C : Cx w Y cc own ret d mc ms) {x : Int32} (hd : decode cc pc = .ok (.i2l, 1)) (hq : pc + 1 = q) (g : Zj w Y σ k n q lo (.long (x.toInt64) :: st)) : Zj w Y σ k n pc lo (.int x :: st) := by
  subst hq; exact fun H locs ls h1 h2 h3 h4 => lv_i2l C.1 C.2.1 hd rfl (g H locs ls h1 h2 h3 h4)
theorem z_i2b (C : Cx w Y cc own ret d mc ms) {x : Int32} (hd : decode cc pc = .ok (.i2b, 1)) (hq : pc + 1 = q) (g : Zj w Y σ k n q lo (.int (x.toInt8.toInt32) :: st)) : Zj w Y σ k n pc lo (.int x :: st) := by
  subst hq; exact fun H locs ls h1 h2 h3 h4 => lv_i2b C.1 C.2.1 hd rfl (g H locs ls h1 h2 h3 h4)
theorem z_l2i (C : Cx w Y cc own ret d mc ms) {x : Int64} (hd : decode cc pc = .ok (.l2i, 1)) (hq : pc + 1 = q) (g : Zj w Y σ k n q lo (.int x.toInt32 :: st)) : Zj w Y σ k n pc lo (.long x :: st) := by
  subst hq; exact fun H locs ls h1 h2 h3 h4 => lv_l2i C.1 C.2.1 hd rfl (g H locs ls h1 h2 h3 h4)
theorem z_lcmp (C : Cx w Y cc own ret d mc ms) {x y : Int64} (hd : decode cc pc = .ok (.lcmp, 1)) (hq : pc + 1 = q) (g : Zj w Y σ k n q lo (.int (lg_cmp x y) :: st)) : Zj w Y σ k n pc lo (.long y :: .long x :: st) := by
  subst hq; exact fun H locs ls h1 h2 h3 h4 => W.lcmp C.1 C.2.1 hd (g H locs ls h1 h2 h3 h4)
theorem z_iconst (C : Cx w Y cc own ret d mc ms) {i : Int} {v : Int32} (hd : decode cc pc = .ok (.iconst i, 1)) (hq : pc + 1 = q) (hv : Int32.ofInt i = v) (g : Zj w Y σ k n q lo (.int v :: st)) : Zj w Y σ k n pc lo st := by
  subst hq; exact fun H locs ls h1 h2 h3 h4 => lv_iconst C.1 C.2.1 hd hv (g H locs ls h1 h2 h3 h4)
theorem z_bipush (C : Cx w Y cc own ret d mc ms) {i : Int} {v : Int32} (hd : decode cc pc = .ok (.bipush i, 2)) (hq : pc + 2 = q) (hv : (Int8.ofInt i).toInt32 = v) (g : Zj w Y σ k n q lo (.int v :: st)) : Zj w Y σ k n pc lo st := by
  subst hq; exact fun H locs ls h1 h2 h3 h4 => lv_bipush C.1 C.2.1 hd hv (g H locs ls h1 h2 h3 h4)
theorem z_sipush (C : Cx w Y cc own ret d mc ms) {i : Int} {v : Int32} (hd : decode cc pc = .ok (.sipush i, 3)) (hq : pc + 3 = q) (hv : (Int16.ofInt i).toInt32 = v) (g : Zj w Y σ k n q lo (.int v :: st)) : Zj w Y σ k n pc lo st := by
  subst hq; exact fun H locs ls h1 h2 h3 h4 => lv_sipush C.1 C.2.1 hd hv (g H locs ls h1 h2 h3 h4)
theorem z_lconst (C : Cx w Y cc own ret d mc ms) {i : Fin 2} {v : Int64} (hd : decode cc pc = .ok (.lconst i, 1)) (hq : pc + 1 = q) (hv : Int64.ofNat (i : Nat) = v) (g : Zj w Y σ k n q lo (.long v :: st)) : Zj w Y σ k n pc lo st := by
  subst hq; exact fun H locs ls h1 h2 h3 h4 => lv_lconst C.1 C.2.1 hd hv (g H locs ls h1 h2 h3 h4)
theorem z_ldc (C : Cx w Y cc own ret d mc ms) {index : Nat} {v : Int32} (hd : decode cc pc = .ok (.ldc index, 2)) (hq : pc + 2 = q) (hw : Jvm.Cond.constant own index v ∈ lw_all) (g : Zj w Y σ k n q lo (.int v :: st)) : Zj w Y σ k n pc lo st := by
  subst hq; exact fun H locs ls h1 h2 h3 h4 => lv_ldc C.1 C.2.1 C.2.2.2.1 (C.2.2.2.2.1 _ hw) hd (g H locs ls h1 h2 h3 h4)
theorem z_ldc2 (C : Cx w Y cc own ret d mc ms) {index : Nat} {v : Int64} (hd : decode cc pc = .ok (.ldc2_w index, 3)) (hq : pc + 3 = q) (hw : Jvm.Cond.constantLong own index v ∈ lw_all) (g : Zj w Y σ k n q lo (.long v :: st)) : Zj w Y σ k n pc lo st := by
  subst hq; exact fun H locs ls h1 h2 h3 h4 => lv_ldc2 C.1 C.2.1 C.2.2.2.1 (C.2.2.2.2.1 _ hw) hd (g H locs ls h1 h2 h3 h4)
theorem z_null (C : Cx w Y cc own ret d mc ms) (hd : decode cc pc = .ok (.aconst_null, 1)) (hq : pc + 1 = q) (g : Zj w Y σ k n q lo (.null :: st)) : Zj w Y σ k n pc lo st := by
  subst hq; exact fun H locs ls h1 h2 h3 h4 => lv_null C.1 C.2.1 hd (g H locs ls h1 h2 h3 h4)
theorem z_dup (C : Cx w Y cc own ret d mc ms) {v : Value} (hd : decode cc pc = .ok (.dup, 1)) (hq : pc + 1 = q) (hc : v.category = 1) (g : Zj w Y σ k n q lo (v :: v :: st)) : Zj w Y σ k n pc lo (v :: st) := by
  subst hq; exact fun H locs ls h1 h2 h3 h4 => lv_dup C.1 C.2.1 hd hc (g H locs ls h1 h2 h3 h4)
theorem z_pop (C : Cx w Y cc own ret d mc ms) {v : Value} (hd : decode cc pc = .ok (.pop, 1)) (hq : pc + 1 = q) (hc : v.category = 1) (g : Zj w Y σ k n q lo st) : Zj w Y σ k n pc lo (v :: st) := by
  subst hq; exact fun H locs ls h1 h2 h3 h4 => lv_pop C.1 C.2.1 hd hc (g H locs ls h1 h2 h3 h4)
theorem z_dup2 (C : Cx w Y cc own ret d mc ms) {v u : Value} (hd : decode cc pc = .ok (.dup2, 1)) (hq : pc + 1 = q) (hc : v.category = 1) (hu : u.category = 1) (g : Zj w Y σ k n q lo (v :: u :: v :: u :: st)) : Zj w Y σ k n pc lo (v :: u :: st) := by
  subst hq; exact fun H locs ls h1 h2 h3 h4 => lv_dup2_11 C.1 C.2.1 hd hc hu (g H locs ls h1 h2 h3 h4)
theorem z_if_eq (C : Cx w Y cc own ret d mc ms) {x : Int32} {off : Int} {tgt : Nat} (hd : decode cc pc = .ok (.ifCond .eq off, 3)) (ht : (pc : Int) + off = (tgt : Int)) (hq : pc + 3 = q) (gt : x = 0 → Zj w Y σ k n tgt lo st) (gf : ¬ x = 0 → Zj w Y σ k n q lo st) : Zj w Y σ k n pc lo (.int x :: st) := by
  subst hq; exact fun H locs ls h1 h2 h3 h4 => lv_if_eq C.1 C.2.1 hd ht (fun c => gt c H locs ls h1 h2 h3 h4) (fun c => gf (by first | exact c | exact Classical.not_not.mp c) H locs ls h1 h2 h3 h4)
theorem z_icmp_eq (C : Cx w Y cc own ret d mc ms) {x y : Int32} {off : Int} {tgt : Nat} (hd : decode cc pc = .ok (.if_icmp .eq off, 3)) (ht : (pc : Int) + off = (tgt : Int)) (hq : pc + 3 = q) (gt : x = y → Zj w Y σ k n tgt lo st) (gf : ¬ x = y → Zj w Y σ k n q lo st) : Zj w Y σ k n pc lo (.int y :: .int x :: st) := by
  subst hq; exact fun H locs ls h1 h2 h3 h4 => lv_icmp_eq C.1 C.2.1 hd ht (fun c => gt c H locs ls h1 h2 h3 h4) (fun c => gf (by first | exact c | exact Classical.not_not.mp c) H locs ls h1 h2 h3 h4)
theorem z_if_ne (C : Cx w Y cc own ret d mc ms) {x : Int32} {off : Int} {tgt : Nat} (hd : decode cc pc = .ok (.ifCond .ne off, 3)) (ht : (pc : Int) + off = (tgt : Int)) (hq : pc + 3 = q) (gt : ¬ x = 0 → Zj w Y σ k n tgt lo st) (gf : x = 0 → Zj w Y σ k n q lo st) : Zj w Y σ k n pc lo (.int x :: st) := by
  subst hq; exact fun H locs ls h1 h2 h3 h4 => lv_if_ne C.1 C.2.1 hd ht (fun c => gt c H locs ls h1 h2 h3 h4) (fun c => gf (by first | exact c | exact Classical.not_not.mp c) H locs ls h1 h2 h3 h4)
theorem z_icmp_ne (C : Cx w Y cc own ret d mc ms) {x y : Int32} {off : Int} {tgt : Nat} (hd : decode cc pc = .ok (.if_icmp .ne off, 3)) (ht : (pc : Int) + off = (tgt : Int)) (hq : pc + 3 = q) (gt : ¬ x = y → Zj w Y σ k n tgt lo st) (gf : x = y → Zj w Y σ k n q lo st) : Zj w Y σ k n pc lo (.int y :: .int x :: st) := by
  subst hq; exact fun H locs ls h1 h2 h3 h4 => lv_icmp_ne C.1 C.2.1 hd ht (fun c => gt c H locs ls h1 h2 h3 h4) (fun c => gf (by first | exact c | exact Classical.not_not.mp c) H locs ls h1 h2 h3 h4)
theorem z_if_lt (C : Cx w Y cc own ret d mc ms) {x : Int32} {off : Int} {tgt : Nat} (hd : decode cc pc = .ok (.ifCond .lt off, 3)) (ht : (pc : Int) + off = (tgt : Int)) (hq : pc + 3 = q) (gt : x < 0 → Zj w Y σ k n tgt lo st) (gf : ¬ x < 0 → Zj w Y σ k n q lo st) : Zj w Y σ k n pc lo (.int x :: st) := by
  subst hq; exact fun H locs ls h1 h2 h3 h4 => lv_if_lt C.1 C.2.1 hd ht (fun c => gt c H locs ls h1 h2 h3 h4) (fun c => gf (by first | exact c | exact Classical.not_not.mp c) H locs ls h1 h2 h3 h4)
theorem z_icmp_lt (C : Cx w Y cc own ret d mc ms) {x y : Int32} {off : Int} {tgt : Nat} (hd : decode cc pc = .ok (.if_icmp .lt off, 3)) (ht : (pc : Int) + off = (tgt : Int)) (hq : pc + 3 = q) (gt : x < y → Zj w Y σ k n tgt lo st) (gf : ¬ x < y → Zj w Y σ k n q lo st) : Zj w Y σ k n pc lo (.int y :: .int x :: st) := by
  subst hq; exact fun H locs ls h1 h2 h3 h4 => lv_icmp_lt C.1 C.2.1 hd ht (fun c => gt c H locs ls h1 h2 h3 h4) (fun c => gf (by first | exact c | exact Classical.not_not.mp c) H locs ls h1 h2 h3 h4)
theorem z_if_ge (C : Cx w Y cc own ret d mc ms) {x : Int32} {off : Int} {tgt : Nat} (hd : decode cc pc = .ok (.ifCond .ge off, 3)) (ht : (pc : Int) + off = (tgt : Int)) (hq : pc + 3 = q) (gt : 0 ≤ x → Zj w Y σ k n tgt lo st) (gf : ¬ 0 ≤ x → Zj w Y σ k n q lo st) : Zj w Y σ k n pc lo (.int x :: st) := by
  subst hq; exact fun H locs ls h1 h2 h3 h4 => lv_if_ge C.1 C.2.1 hd ht (fun c => gt c H locs ls h1 h2 h3 h4) (fun c => gf (by first | exact c | exact Classical.not_not.mp c) H locs ls h1 h2 h3 h4)
theorem z_icmp_ge (C : Cx w Y cc own ret d mc ms) {x y : Int32} {off : Int} {tgt : Nat} (hd : decode cc pc = .ok (.if_icmp .ge off, 3)) (ht : (pc : Int) + off = (tgt : Int)) (hq : pc + 3 = q) (gt : y ≤ x → Zj w Y σ k n tgt lo st) (gf : ¬ y ≤ x → Zj w Y σ k n q lo st) : Zj w Y σ k n pc lo (.int y :: .int x :: st) := by
  subst hq; exact fun H locs ls h1 h2 h3 h4 => lv_icmp_ge C.1 C.2.1 hd ht (fun c => gt c H locs ls h1 h2 h3 h4) (fun c => gf (by first | exact c | exact Classical.not_not.mp c) H locs ls h1 h2 h3 h4)
theorem z_if_gt (C : Cx w Y cc own ret d mc ms) {x : Int32} {off : Int} {tgt : Nat} (hd : decode cc pc = .ok (.ifCond .gt off, 3)) (ht : (pc : Int) + off = (tgt : Int)) (hq : pc + 3 = q) (gt : 0 < x → Zj w Y σ k n tgt lo st) (gf : ¬ 0 < x → Zj w Y σ k n q lo st) : Zj w Y σ k n pc lo (.int x :: st) := by
  subst hq; exact fun H locs ls h1 h2 h3 h4 => lv_if_gt C.1 C.2.1 hd ht (fun c => gt c H locs ls h1 h2 h3 h4) (fun c => gf (by first | exact c | exact Classical.not_not.mp c) H locs ls h1 h2 h3 h4)
theorem z_icmp_gt (C : Cx w Y cc own ret d mc ms) {x y : Int32} {off : Int} {tgt : Nat} (hd : decode cc pc = .ok (.if_icmp .gt off, 3)) (ht : (pc : Int) + off = (tgt : Int)) (hq : pc + 3 = q) (gt : y < x → Zj w Y σ k n tgt lo st) (gf : ¬ y < x → Zj w Y σ k n q lo st) : Zj w Y σ k n pc lo (.int y :: .int x :: st) := by
  subst hq; exact fun H locs ls h1 h2 h3 h4 => lv_icmp_gt C.1 C.2.1 hd ht (fun c => gt c H locs ls h1 h2 h3 h4) (fun c => gf (by first | exact c | exact Classical.not_not.mp c) H locs ls h1 h2 h3 h4)
theorem z_if_le (C : Cx w Y cc own ret d mc ms) {x : Int32} {off : Int} {tgt : Nat} (hd : decode cc pc = .ok (.ifCond .le off, 3)) (ht : (pc : Int) + off = (tgt : Int)) (hq : pc + 3 = q) (gt : x ≤ 0 → Zj w Y σ k n tgt lo st) (gf : ¬ x ≤ 0 → Zj w Y σ k n q lo st) : Zj w Y σ k n pc lo (.int x :: st) := by
  subst hq; exact fun H locs ls h1 h2 h3 h4 => lv_if_le C.1 C.2.1 hd ht (fun c => gt c H locs ls h1 h2 h3 h4) (fun c => gf (by first | exact c | exact Classical.not_not.mp c) H locs ls h1 h2 h3 h4)
theorem z_icmp_le (C : Cx w Y cc own ret d mc ms) {x y : Int32} {off : Int} {tgt : Nat} (hd : decode cc pc = .ok (.if_icmp .le off, 3)) (ht : (pc : Int) + off = (tgt : Int)) (hq : pc + 3 = q) (gt : x ≤ y → Zj w Y σ k n tgt lo st) (gf : ¬ x ≤ y → Zj w Y σ k n q lo st) : Zj w Y σ k n pc lo (.int y :: .int x :: st) := by
  subst hq; exact fun H locs ls h1 h2 h3 h4 => lv_icmp_le C.1 C.2.1 hd ht (fun c => gt c H locs ls h1 h2 h3 h4) (fun c => gf (by first | exact c | exact Classical.not_not.mp c) H locs ls h1 h2 h3 h4)
theorem z_icmp_eqN (C : Cx w Y cc own ret d mc ms) {a b : Nat} {off : Int} {tgt : Nat} (hd : decode cc pc = .ok (.if_icmp .eq off, 3)) (ht : (pc : Int) + off = (tgt : Int)) (hq : pc + 3 = q) (ha : a < 2 ^ 31) (hb : b < 2 ^ 31) (gt : a = b → Zj w Y σ k n tgt lo st) (gf : ¬ a = b → Zj w Y σ k n q lo st) : Zj w Y σ k n pc lo (.int (nI b) :: .int (nI a) :: st) :=
  z_icmp_eq C hd ht hq (fun c => gt ((nI_eq ha hb).mp c)) (fun c => gf (fun z => c ((nI_eq ha hb).mpr z)))
theorem z_icmp_neN (C : Cx w Y cc own ret d mc ms) {a b : Nat} {off : Int} {tgt : Nat} (hd : decode cc pc = .ok (.if_icmp .ne off, 3)) (ht : (pc : Int) + off = (tgt : Int)) (hq : pc + 3 = q) (ha : a < 2 ^ 31) (hb : b < 2 ^ 31) (gt : ¬ a = b → Zj w Y σ k n tgt lo st) (gf : a = b → Zj w Y σ k n q lo st) : Zj w Y σ k n pc lo (.int (nI b) :: .int (nI a) :: st) :=
  z_icmp_ne C hd ht hq (fun c => gt (fun z => c ((nI_eq ha hb).mpr z))) (fun c => gf ((nI_eq ha hb).mp c))
theorem z_icmp_ltN (C : Cx w Y cc own ret d mc ms) {a b : Nat} {off : Int} {tgt : Nat} (hd : decode cc pc = .ok (.if_icmp .lt off, 3)) (ht : (pc : Int) + off = (tgt : Int)) (hq : pc + 3 = q) (ha : a < 2 ^ 31) (hb : b < 2 ^ 31) (gt : a < b → Zj w Y σ k n tgt lo st) (gf : b ≤ a → Zj w Y σ k n q lo st) : Zj w Y σ k n pc lo (.int (nI b) :: .int (nI a) :: st) :=
  z_icmp_lt C hd ht hq (fun c => gt ((nI_ltI ha hb).mp c)) (fun c => gf (Nat.not_lt.mp (fun z => c ((nI_ltI ha hb).mpr z))))
theorem z_icmp_geN (C : Cx w Y cc own ret d mc ms) {a b : Nat} {off : Int} {tgt : Nat} (hd : decode cc pc = .ok (.if_icmp .ge off, 3)) (ht : (pc : Int) + off = (tgt : Int)) (hq : pc + 3 = q) (ha : a < 2 ^ 31) (hb : b < 2 ^ 31) (gt : b ≤ a → Zj w Y σ k n tgt lo st) (gf : a < b → Zj w Y σ k n q lo st) : Zj w Y σ k n pc lo (.int (nI b) :: .int (nI a) :: st) :=
  z_icmp_ge C hd ht hq (fun c => gt ((nI_leI hb ha).mp c)) (fun c => gf (Nat.not_le.mp (fun z => c ((nI_leI hb ha).mpr z))))
theorem z_icmp_gtN (C : Cx w Y cc own ret d mc ms) {a b : Nat} {off : Int} {tgt : Nat} (hd : decode cc pc = .ok (.if_icmp .gt off, 3)) (ht : (pc : Int) + off = (tgt : Int)) (hq : pc + 3 = q) (ha : a < 2 ^ 31) (hb : b < 2 ^ 31) (gt : b < a → Zj w Y σ k n tgt lo st) (gf : a ≤ b → Zj w Y σ k n q lo st) : Zj w Y σ k n pc lo (.int (nI b) :: .int (nI a) :: st) :=
  z_icmp_gt C hd ht hq (fun c => gt ((nI_ltI hb ha).mp c)) (fun c => gf (Nat.not_lt.mp (fun z => c ((nI_ltI hb ha).mpr z))))
theorem z_icmp_leN (C : Cx w Y cc own ret d mc ms) {a b : Nat} {off : Int} {tgt : Nat} (hd : decode cc pc = .ok (.if_icmp .le off, 3)) (ht : (pc : Int) + off = (tgt : Int)) (hq : pc + 3 = q) (ha : a < 2 ^ 31) (hb : b < 2 ^ 31) (gt : a ≤ b → Zj w Y σ k n tgt lo st) (gf : b < a → Zj w Y σ k n q lo st) : Zj w Y σ k n pc lo (.int (nI b) :: .int (nI a) :: st) :=
  z_icmp_le C hd ht hq (fun c => gt ((nI_leI ha hb).mp c)) (fun c => gf (Nat.not_le.mp (fun z => c ((nI_leI ha hb).mpr z))))
theorem z_goto (C : Cx w Y cc own ret d mc ms) {off : Int} {tgt : Nat} (hd : decode cc pc = .ok (.goto off, 3)) (ht : (pc : Int) + off = (tgt : Int)) (g : Zj w Y σ k n tgt lo st) : Zj w Y σ k n pc lo st :=
  fun H locs ls h1 h2 h3 h4 => lv_goto C.1 C.2.1 hd ht (g H locs ls h1 h2 h3 h4)
theorem z_ifnull_r (C : Cx w Y cc own ret d mc ms) {x : Nat} {off : Int} (hd : decode cc pc = .ok (.ifnull off, 3)) (hq : pc + 3 = q) (g : Zj w Y σ k n q lo st) : Zj w Y σ k n pc lo (.ref x :: st) := by
  subst hq; exact fun H locs ls h1 h2 h3 h4 => lv_ifnull C.1 C.2.1 hd (g H locs ls h1 h2 h3 h4)
theorem z_ifnull_u (C : Cx w Y cc own ret d mc ms) {off : Int} {tgt : Nat} (hd : decode cc pc = .ok (.ifnull off, 3)) (ht : (pc : Int) + off = (tgt : Int)) (g : Zj w Y σ k n tgt lo st) : Zj w Y σ k n pc lo (.null :: st) :=
  fun H locs ls h1 h2 h3 h4 => lv_ifnullN C.1 C.2.1 hd ht (g H locs ls h1 h2 h3 h4)
theorem z_ifnonnull_r (C : Cx w Y cc own ret d mc ms) {x : Nat} {off : Int} {tgt : Nat} (hd : decode cc pc = .ok (.ifnonnull off, 3)) (ht : (pc : Int) + off = (tgt : Int)) (g : Zj w Y σ k n tgt lo st) : Zj w Y σ k n pc lo (.ref x :: st) :=
  fun H locs ls h1 h2 h3 h4 => lv_ifnonnull C.1 C.2.1 hd ht (g H locs ls h1 h2 h3 h4)
theorem z_ifnonnull_u (C : Cx w Y cc own ret d mc ms) {off : Int} (hd : decode cc pc = .ok (.ifnonnull off, 3)) (hq : pc + 3 = q) (g : Zj w Y σ k n q lo st) : Zj w Y σ k n pc lo (.null :: st) := by
  subst hq; exact fun H locs ls h1 h2 h3 h4 => lv_ifnonnullN C.1 C.2.1 hd (g H locs ls h1 h2 h3 h4)
theorem z_ifnull (C : Cx w Y cc own ret d mc ms) {r : Option Nat} {off : Int} {tgt : Nat} (hd : decode cc pc = .ok (.ifnull off, 3)) (ht : (pc : Int) + off = (tgt : Int)) (hq : pc + 3 = q) (gt : r = none → Zj w Y σ k n tgt lo st) (gf : ∀ x, r = some x → Zj w Y σ k n q lo st) : Zj w Y σ k n pc lo (va_rf r :: st) := by
  cases r with
  | none => exact z_ifnull_u C hd ht (gt rfl)
  | some x => exact z_ifnull_r C hd hq (gf x rfl)
theorem z_ifnonnull (C : Cx w Y cc own ret d mc ms) {r : Option Nat} {off : Int} {tgt : Nat} (hd : decode cc pc = .ok (.ifnonnull off, 3)) (ht : (pc : Int) + off = (tgt : Int)) (hq : pc + 3 = q) (gt : ∀ x, r = some x → Zj w Y σ k n tgt lo st) (gf : r = none → Zj w Y σ k n q lo st) : Zj w Y σ k n pc lo (va_rf r :: st) := by
  cases r with
  | none => exact z_ifnonnull_u C hd hq (gf rfl)
  | some x => exact z_ifnonnull_r C hd ht (gt x rfl)
theorem z_acmp_eq (C : Cx w Y cc own ret d mc ms) {rx ry : Option Nat} {off : Int} {tgt : Nat} (hd : decode cc pc = .ok (.if_acmp .eq off, 3)) (ht : (pc : Int) + off = (tgt : Int)) (hq : pc + 3 = q) (gt : rx = ry → Zj w Y σ k n tgt lo st) (gf : ¬ rx = ry → Zj w Y σ k n q lo st) : Zj w Y σ k n pc lo (va_rf ry :: va_rf rx :: st) := by
  subst hq; exact fun H locs ls h1 h2 h3 h4 => lv_acmp_eq C.1 C.2.1 hd ht (fun c => gt c H locs ls h1 h2 h3 h4) (fun c => gf (by first | exact c | exact Classical.not_not.mp c) H locs ls h1 h2 h3 h4)
theorem z_acmp_ne (C : Cx w Y cc own ret d mc ms) {rx ry : Option Nat} {off : Int} {tgt : Nat} (hd : decode cc pc = .ok (.if_acmp .ne off, 3)) (ht : (pc : Int) + off = (tgt : Int)) (hq : pc + 3 = q) (gt : ¬ rx = ry → Zj w Y σ k n tgt lo st) (gf : rx = ry → Zj w Y σ k n q lo st) : Zj w Y σ k n pc lo (va_rf ry :: va_rf rx :: st) := by
  subst hq; exact fun H locs ls h1 h2 h3 h4 => lv_acmp_ne C.1 C.2.1 hd ht (fun c => gt c H locs ls h1 h2 h3 h4) (fun c => gf (by first | exact c | exact Classical.not_not.mp c) H locs ls h1 h2 h3 h4)
theorem z_il0 (C : Cx w Y cc own ret d mc ms) {t : Lo} {v : Int32} (hd : decode cc pc = .ok (.iload_n 0, 1)) (hq : pc + 1 = q) (g : Zj w Y σ k n q (some (.int v) :: t) (.int v :: st)) : Zj w Y σ k n pc (some (.int v) :: t) st := by
  subst hq; exact fun H locs ls h1 h2 h3 h4 => lv_iload_n C.1 C.2.1 hd rfl (lo_at (i := 0) h4 rfl) (g H locs ls h1 h2 h3 h4)
theorem z_ll0 (C : Cx w Y cc own ret d mc ms) {t : Lo} {v : Int64} (hd : decode cc pc = .ok (.lload_n 0, 1)) (hq : pc + 1 = q) (g : Zj w Y σ k n q (some (.long v) :: t) (.long v :: st)) : Zj w Y σ k n pc (some (.long v) :: t) st := by
  subst hq; exact fun H locs ls h1 h2 h3 h4 => lv_lload_n C.1 C.2.1 hd rfl (lo_at (i := 0) h4 rfl) (g H locs ls h1 h2 h3 h4)
theorem z_al0 (C : Cx w Y cc own ret d mc ms) {t : Lo} {a : Nat} (hd : decode cc pc = .ok (.aload_n 0, 1)) (hq : pc + 1 = q) (g : Zj w Y σ k n q (some (.ref a) :: t) (.ref a :: st)) : Zj w Y σ k n pc (some (.ref a) :: t) st := by
  subst hq; exact fun H locs ls h1 h2 h3 h4 => lv_aload_n C.1 C.2.1 hd rfl (lo_at (i := 0) h4 rfl) (g H locs ls h1 h2 h3 h4)
theorem z_al0u (C : Cx w Y cc own ret d mc ms) {t : Lo} (hd : decode cc pc = .ok (.aload_n 0, 1)) (hq : pc + 1 = q) (g : Zj w Y σ k n q (some .null :: t) (.null :: st)) : Zj w Y σ k n pc (some .null :: t) st := by
  subst hq; exact fun H locs ls h1 h2 h3 h4 => lv_aload_nN C.1 C.2.1 hd rfl (lo_at (i := 0) h4 rfl) (g H locs ls h1 h2 h3 h4)
theorem z_al0q (C : Cx w Y cc own ret d mc ms) {t : Lo} {r : Option Nat} (hd : decode cc pc = .ok (.aload_n 0, 1)) (hq : pc + 1 = q) (g : Zj w Y σ k n q (some (va_rf r) :: t) (va_rf r :: st)) : Zj w Y σ k n pc (some (va_rf r) :: t) st := by
  cases r with
  | none => exact z_al0u C hd hq g
  | some a => exact z_al0 C hd hq g
theorem z_is0 (C : Cx w Y cc own ret d mc ms) {x0 : Option Value} {t : Lo} {v : Int32} (hd : decode cc pc = .ok (.istore_n 0, 1)) (hq : pc + 1 = q) (g : Zj w Y σ k n q (some (.int v) :: t) st) : Zj w Y σ k n pc (x0 :: t) (.int v :: st) := by
  subst hq; intro H locs ls h1 h2 h3 h4
  exact lv_istore_n C.1 C.2.1 hd rfl (lv_of_lo h4) (Nat.lt_of_lt_of_le (by simp only [List.length_cons]; omega) h4.2.2.1) rfl fun ls' h5 => g H locs ls' h1 h2 h3 (lo_store1 (i := 0) (lo := (x0 :: t)) h4.2.2.1 lo_h0 h5)
theorem z_as0 (C : Cx w Y cc own ret d mc ms) {x0 : Option Value} {t : Lo} {v : Nat} (hd : decode cc pc = .ok (.astore_n 0, 1)) (hq : pc + 1 = q) (g : Zj w Y σ k n q (some (.ref v) :: t) st) : Zj w Y σ k n pc (x0 :: t) (.ref v :: st) := by
  subst hq; intro H locs ls h1 h2 h3 h4
  exact lv_astore_n C.1 C.2.1 hd rfl (lv_of_lo h4) (Nat.lt_of_lt_of_le (by simp only [List.length_cons]; omega) h4.2.2.1) rfl fun ls' h5 => g H locs ls' h1 h2 h3 (lo_store1 (i := 0) (lo := (x0 :: t)) h4.2.2.1 lo_h0 h5)
theorem z_asu0 (C : Cx w Y cc own ret d mc ms) {x0 : Option Value} {t : Lo} (hd : decode cc pc = .ok (.astore_n 0, 1)) (hq : pc + 1 = q) (g : Zj w Y σ k n q (some (.null) :: t) st) : Zj w Y σ k n pc (x0 :: t) (.null :: st) := by
  subst hq; intro H locs ls h1 h2 h3 h4
  exact lv_astore_nN C.1 C.2.1 hd rfl (lv_of_lo h4) (Nat.lt_of_lt_of_le (by simp only [List.length_cons]; omega) h4.2.2.1) rfl fun ls' h5 => g H locs ls' h1 h2 h3 (lo_store1 (i := 0) (lo := (x0 :: t)) h4.2.2.1 lo_h0 h5)
theorem z_as0q (C : Cx w Y cc own ret d mc ms) {x0 : Option Value} {t : Lo} {r : Option Nat} (hd : decode cc pc = .ok (.astore_n 0, 1)) (hq : pc + 1 = q) (g : Zj w Y σ k n q (some (va_rf r) :: t) st) : Zj w Y σ k n pc (x0 :: t) (va_rf r :: st) := by
  cases r with
  | none => exact z_asu0 C hd hq g
  | some a => exact z_as0 C hd hq g
theorem z_ls0 (C : Cx w Y cc own ret d mc ms) {x0 x1 : Option Value} {t : Lo} {v : Int64} (hd : decode cc pc = .ok (.lstore_n 0, 1)) (hq : pc + 1 = q) (g : Zj w Y σ k n q (some (.long v) :: none :: t) st) : Zj w Y σ k n pc (x0 :: x1 :: t) (.long v :: st) := by
  subst hq; intro H locs ls h1 h2 h3 h4
  exact lv_lstore_n C.1 C.2.1 hd rfl (lv_of_lo h4) (Nat.lt_of_lt_of_le (by simp only [List.length_cons]; omega) h4.2.2.1) rfl fun ls' h5 => g H locs ls' h1 h2 h3 (lo_store2 (i := 0) (lo := (x0 :: x1 :: t)) h4.2.2.1 lo_h0 h5)
theorem z_iinc0 (C : Cx w Y cc own ret d mc ms) {t : Lo} {x v : Int32} {c : Int} (hd : decode cc pc = .ok (.iinc 0 c, 3)) (hq : pc + 3 = q) (hv : x + Int32.ofInt c = v) (g : Zj w Y σ k n q (some (.int v) :: t) st) : Zj w Y σ k n pc (some (.int x) :: t) st := by
  subst hq; intro H locs ls h1 h2 h3 h4
  obtain ⟨kk, hkk⟩ := List.getElem?_of_mem (mem_loL.mpr (show (some (.int x) :: t)[0]? = some (some (Value.int x)) from rfl))
  exact lv_iinc C.1 C.2.1 hd (lv_of_lo h4) hkk hv (Nat.lt_of_lt_of_le (by simp only [List.length_cons]; omega) h4.2.2.1) rfl fun ls' h5 => g H locs ls' h1 h2 h3 (lo_store1 (i := 0) (lo := (some (.int x) :: t)) h4.2.2.1 lo_h0 h5)
theorem z_iinc0N (C : Cx w Y cc own ret d mc ms) {t : Lo} {a : Nat} (hd : decode cc pc = .ok (.iinc 0 1, 3)) (hq : pc + 3 = q) (g : Zj w Y σ k n q (some (.int (nI (a + 1))) :: t) st) : Zj w Y σ k n pc (some (.int (nI a)) :: t) st := z_iinc0 C hd hq (nI_1 a) g
theorem z_il1 (C : Cx w Y cc own ret d mc ms) {x0 : Option Value} {t : Lo} {v : Int32} (hd : decode cc pc = .ok (.iload_n 1, 1)) (hq : pc + 1 = q) (g : Zj w Y σ k n q (x0 :: some (.int v) :: t) (.int v :: st)) : Zj w Y σ k n pc (x0 :: some (.int v) :: t) st := by
  subst hq; exact fun H locs ls h1 h2 h3 h4 => lv_iload_n C.1 C.2.1 hd rfl (lo_at (i := 1) h4 rfl) (g H locs ls h1 h2 h3 h4)
theorem z_ll1 (C : Cx w Y cc own ret d mc ms) {x0 : Option Value} {t : Lo} {v : Int64} (hd : decode cc pc = .ok (.lload_n 1, 1)) (hq : pc + 1 = q) (g : Zj w Y σ k n q (x0 :: some (.long v) :: t) (.long v :: st)) : Zj w Y σ k n pc (x0 :: some (.long v) :: t) st := by
  subst hq; exact fun H locs ls h1 h2 h3 h4 => lv_lload_n C.1 C.2.1 hd rfl (lo_at (i := 1) h4 rfl) (g H locs ls h1 h2 h3 h4)
theorem z_al1 (C : Cx w Y cc own ret d mc ms) {x0 : Option Value} {t : Lo} {a : Nat} (hd : decode cc pc = .ok (.aload_n 1, 1)) (hq : pc + 1 = q) (g : Zj w Y σ k n q (x0 :: some (.ref a) :: t) (.ref a :: st)) : Zj w Y σ k n pc (x0 :: some (.ref a) :: t) st := by
  subst hq; exact fun H locs ls h1 h2 h3 h4 => lv_aload_n C.1 C.2.1 hd rfl (lo_at (i := 1) h4 rfl) (g H locs ls h1 h2 h3 h4)
theorem z_al1u (C : Cx w Y cc own ret d mc ms) {x0 : Option Value} {t : Lo} (hd : decode cc pc = .ok (.aload_n 1, 1)) (hq : pc + 1 = q) (g : Zj w Y σ k n q (x0 :: some .null :: t) (.null :: st)) : Zj w Y σ k n pc (x0 :: some .null :: t) st := by
  subst hq; exact fun H locs ls h1 h2 h3 h4 => lv_aload_nN C.1 C.2.1 hd rfl (lo_at (i := 1) h4 rfl) (g H locs ls h1 h2 h3 h4)
theorem z_al1q (C : Cx w Y cc own ret d mc ms) {x0 : Option Value} {t : Lo} {r : Option Nat} (hd : decode cc pc = .ok (.aload_n 1, 1)) (hq : pc + 1 = q) (g : Zj w Y σ k n q (x0 :: some (va_rf r) :: t) (va_rf r :: st)) : Zj w Y σ k n pc (x0 :: some (va_rf r) :: t) st := by
  cases r with
  | none => exact z_al1u C hd hq g
  | some a => exact z_al1 C hd hq g
theorem z_is1 (C : Cx w Y cc own ret d mc ms) {x0 x1 : Option Value} {t : Lo} {v : Int32} (hd : decode cc pc = .ok (.istore_n 1, 1)) (hq : pc + 1 = q) (hp : loC x0) (g : Zj w Y σ k n q (x0 :: some (.int v) :: t) st) : Zj w Y σ k n pc (x0 :: x1 :: t) (.int v :: st) := by
  subst hq; intro H locs ls h1 h2 h3 h4
  exact lv_istore_n C.1 C.2.1 hd rfl (lv_of_lo h4) (Nat.lt_of_lt_of_le (by simp only [List.length_cons]; omega) h4.2.2.1) rfl fun ls' h5 => g H locs ls' h1 h2 h3 (lo_store1 (i := 1) (lo := (x0 :: x1 :: t)) h4.2.2.1 (lo_hp (j := 0) rfl hp) h5)
theorem z_as1 (C : Cx w Y cc own ret d mc ms) {x0 x1 : Option Value} {t : Lo} {v : Nat} (hd : decode cc pc = .ok (.astore_n 1, 1)) (hq : pc + 1 = q) (hp : loC x0) (g : Zj w Y σ k n q (x0 :: some (.ref v) :: t) st) : Zj w Y σ k n pc (x0 :: x1 :: t) (.ref v :: st) := by
  subst hq; intro H locs ls h1 h2 h3 h4
  exact lv_astore_n C.1 C.2.1 hd rfl (lv_of_lo h4) (Nat.lt_of_lt_of_le (by simp only [List.length_cons]; omega) h4.2.2.1) rfl fun ls' h5 => g H locs ls' h1 h2 h3 (lo_store1 (i := 1) (lo := (x0 :: x1 :: t)) h4.2.2.1 (lo_hp (j := 0) rfl hp) h5)
theorem z_asu1 (C : Cx w Y cc own ret d mc ms) {x0 x1 : Option Value} {t : Lo} (hd : decode cc pc = .ok (.astore_n 1, 1)) (hq : pc + 1 = q) (hp : loC x0) (g : Zj w Y σ k n q (x0 :: some (.null) :: t) st) : Zj w Y σ k n pc (x0 :: x1 :: t) (.null :: st) := by
  subst hq; intro H locs ls h1 h2 h3 h4
  exact lv_astore_nN C.1 C.2.1 hd rfl (lv_of_lo h4) (Nat.lt_of_lt_of_le (by simp only [List.length_cons]; omega) h4.2.2.1) rfl fun ls' h5 => g H locs ls' h1 h2 h3 (lo_store1 (i := 1) (lo := (x0 :: x1 :: t)) h4.2.2.1 (lo_hp (j := 0) rfl hp) h5)
theorem z_as1q (C : Cx w Y cc own ret d mc ms) {x0 x1 : Option Value} {t : Lo} {r : Option Nat} (hd : decode cc pc = .ok (.astore_n 1, 1)) (hq : pc + 1 = q) (hp : loC x0) (g : Zj w Y σ k n q (x0 :: some (va_rf r) :: t) st) : Zj w Y σ k n pc (x0 :: x1 :: t) (va_rf r :: st) := by
  cases r with
  | none => exact z_asu1 C hd hq hp g
  | some a => exact z_as1 C hd hq hp g
theorem z_ls1 (C : Cx w Y cc own ret d mc ms) {x0 x1 x2 : Option Value} {t : Lo} {v : Int64} (hd : decode cc pc = .ok (.lstore_n 1, 1)) (hq : pc + 1 = q) (hp : loC x0) (g : Zj w Y σ k n q (x0 :: some (.long v) :: none :: t) st) : Zj w Y σ k n pc (x0 :: x1 :: x2 :: t) (.long v :: st) := by
  subst hq; intro H locs ls h1 h2 h3 h4
  exact lv_lstore_n C.1 C.2.1 hd rfl (lv_of_lo h4) (Nat.lt_of_lt_of_le (by simp only [List.length_cons]; omega) h4.2.2.1) rfl fun ls' h5 => g H locs ls' h1 h2 h3 (lo_store2 (i := 1) (lo := (x0 :: x1 :: x2 :: t)) h4.2.2.1 (lo_hp (j := 0) rfl hp) h5)
theorem z_iinc1 (C : Cx w Y cc own ret d mc ms) {x0 : Option Value} {t : Lo} {x v : Int32} {c : Int} (hd : decode cc pc = .ok (.iinc 1 c, 3)) (hq : pc + 3 = q) (hv : x + Int32.ofInt c = v) (hp : loC x0) (g : Zj w Y σ k n q (x0 :: some (.int v) :: t) st) : Zj w Y σ k n pc (x0 :: some (.int x) :: t) st := by
  subst hq; intro H locs ls h1 h2 h3 h4
  obtain ⟨kk, hkk⟩ := List.getElem?_of_mem (mem_loL.mpr (show (x0 :: some (.int x) :: t)[1]? = some (some (Value.int x)) from rfl))
  exact lv_iinc C.1 C.2.1 hd (lv_of_lo h4) hkk hv (Nat.lt_of_lt_of_le (by simp only [List.length_cons]; omega) h4.2.2.1) rfl fun ls' h5 => g H locs ls' h1 h2 h3 (lo_store1 (i := 1) (lo := (x0 :: some (.int x) :: t)) h4.2.2.1 (lo_hp (j := 0) rfl hp) h5)
theorem z_iinc1N (C : Cx w Y cc own ret d mc ms) {x0 : Option Value} {t : Lo} {a : Nat} (hd : decode cc pc = .ok (.iinc 1 1, 3)) (hq : pc + 3 = q) (hp : loC x0) (g : Zj w Y σ k n q (x0 :: some (.int (nI (a + 1))) :: t) st) : Zj w Y σ k n pc (x0 :: some (.int (nI a)) :: t) st := z_iinc1 C hd hq (nI_1 a) hp g
theorem z_il2 (C : Cx w Y cc own ret d mc ms) {x0 x1 : Option Value} {t : Lo} {v : Int32} (hd : decode cc pc = .ok (.iload_n 2, 1)) (hq : pc + 1 = q) (g : Zj w Y σ k n q (x0 :: x1 :: some (.int v) :: t) (.int v :: st)) : Zj w Y σ k n pc (x0 :: x1 :: some (.int v) :: t) st := by
  subst hq; exact fun H locs ls h1 h2 h3 h4 => lv_iload_n C.1 C.2.1 hd rfl (lo_at (i := 2) h4 rfl) (g H locs ls h1 h2 h3 h4)
theorem z_ll2 (C : Cx w Y cc own ret d mc ms) {x0 x1 : Option Value} {t : Lo} {v : Int64} (hd : decode cc pc = .ok (.lload_n 2, 1)) (hq : pc + 1 = q) (g : Zj w Y σ k n q (x0 :: x1 :: some (.long v) :: t) (.long v :: st)) : Zj w Y σ k n pc (x0 :: x1 :: some (.long v) :: t) st := by
  subst hq; exact fun H locs ls h1 h2 h3 h4 => lv_lload_n C.1 C.2.1 hd rfl (lo_at (i := 2) h4 rfl) (g H locs ls h1 h2 h3 h4)
theorem z_al2 (C : Cx w Y cc own ret d mc ms) {x0 x1 : Option Value} {t : Lo} {a : Nat} (hd : decode cc pc = .ok (.aload_n 2, 1)) (hq : pc + 1 = q) (g : Zj w Y σ k n q (x0 :: x1 :: some (.ref a) :: t) (.ref a :: st)) : Zj w Y σ k n pc (x0 :: x1 :: some (.ref a) :: t) st := by
  subst hq; exact fun H locs ls h1 h2 h3 h4 => lv_aload_n C.1 C.2.1 hd rfl (lo_at (i := 2) h4 rfl) (g H locs ls h1 h2 h3 h4)
theorem z_al2u (C : Cx w Y cc own ret d mc ms) {x0 x1 : Option Value} {t : Lo} (hd : decode cc pc = .ok (.aload_n 2, 1)) (hq : pc + 1 = q) (g : Zj w Y σ k n q (x0 :: x1 :: some .null :: t) (.null :: st)) : Zj w Y σ k n pc (x0 :: x1 :: some .null :: t) st := by
  subst hq; exact fun H locs ls h1 h2 h3 h4 => lv_aload_nN C.1 C.2.1 hd rfl (lo_at (i := 2) h4 rfl) (g H locs ls h1 h2 h3 h4)
theorem z_al2q (C : Cx w Y cc own ret d mc ms) {x0 x1 : Option Value} {t : Lo} {r : Option Nat} (hd : decode cc pc = .ok (.aload_n 2, 1)) (hq : pc + 1 = q) (g : Zj w Y σ k n q (x0 :: x1 :: some (va_rf r) :: t) (va_rf r :: st)) : Zj w Y σ k n pc (x0 :: x1 :: some (va_rf r) :: t) st := by
  cases r with
  | none => exact z_al2u C hd hq g
  | some a => exact z_al2 C hd hq g
theorem z_is2 (C : Cx w Y cc own ret d mc ms) {x0 x1 x2 : Option Value} {t : Lo} {v : Int32} (hd : decode cc pc = .ok (.istore_n 2, 1)) (hq : pc + 1 = q) (hp : loC x1) (g : Zj w Y σ k n q (x0 :: x1 :: some (.int v) :: t) st) : Zj w Y σ k n pc (x0 :: x1 :: x2 :: t) (.int v :: st) := by
  subst hq; intro H locs ls h1 h2 h3 h4
  exact lv_istore_n C.1 C.2.1 hd rfl (lv_of_lo h4) (Nat.lt_of_lt_of_le (by simp only [List.length_cons]; omega) h4.2.2.1) rfl fun ls' h5 => g H locs ls' h1 h2 h3 (lo_store1 (i := 2) (lo := (x0 :: x1 :: x2 :: t)) h4.2.2.1 (lo_hp (j := 1) rfl hp) h5)
theorem z_as2 (C : Cx w Y cc own ret d mc ms) {x0 x1 x2 : Option Value} {t : Lo} {v : Nat} (hd : decode cc pc = .ok (.astore_n 2, 1)) (hq : pc + 1 = q) (hp : loC x1) (g : Zj w Y σ k n q (x0 :: x1 :: some (.ref v) :: t) st) : Zj w Y σ k n pc (x0 :: x1 :: x2 :: t) (.ref v :: st) := by
  subst hq; intro H locs ls h1 h2 h3 h4
  exact lv_astore_n C.1 C.2.1 hd rfl (lv_of_lo h4) (Nat.lt_of_lt_of_le (by simp only [List.length_cons]; omega) h4.2.2.1) rfl fun ls' h5 => g H locs ls' h1 h2 h3 (lo_store1 (i := 2) (lo := (x0 :: x1 :: x2 :: t)) h4.2.2.1 (lo_hp (j := 1) rfl hp) h5)
theorem z_asu2 (C : Cx w Y cc own ret d mc ms) {x0 x1 x2 : Option Value} {t : Lo} (hd : decode cc pc = .ok (.astore_n 2, 1)) (hq : pc + 1 = q) (hp : loC x1) (g : Zj w Y σ k n q (x0 :: x1 :: some (.null) :: t) st) : Zj w Y σ k n pc (x0 :: x1 :: x2 :: t) (.null :: st) := by
  subst hq; intro H locs ls h1 h2 h3 h4
  exact lv_astore_nN C.1 C.2.1 hd rfl (lv_of_lo h4) (Nat.lt_of_lt_of_le (by simp only [List.length_cons]; omega) h4.2.2.1) rfl fun ls' h5 => g H locs ls' h1 h2 h3 (lo_store1 (i := 2) (lo := (x0 :: x1 :: x2 :: t)) h4.2.2.1 (lo_hp (j := 1) rfl hp) h5)
theorem z_as2q (C : Cx w Y cc own ret d mc ms) {x0 x1 x2 : Option Value} {t : Lo} {r : Option Nat} (hd : decode cc pc = .ok (.astore_n 2, 1)) (hq : pc + 1 = q) (hp : loC x1) (g : Zj w Y σ k n q (x0 :: x1 :: some (va_rf r) :: t) st) : Zj w Y σ k n pc (x0 :: x1 :: x2 :: t) (va_rf r :: st) := by
  cases r with
  | none => exact z_asu2 C hd hq hp g
  | some a => exact z_as2 C hd hq hp g
theorem z_ls2 (C : Cx w Y cc own ret d mc ms) {x0 x1 x2 x3 : Option Value} {t : Lo} {v : Int64} (hd : decode cc pc = .ok (.lstore_n 2, 1)) (hq : pc + 1 = q) (hp : loC x1) (g : Zj w Y σ k n q (x0 :: x1 :: some (.long v) :: none :: t) st) : Zj w Y σ k n pc (x0 :: x1 :: x2 :: x3 :: t) (.long v :: st) := by
  subst hq; intro H locs ls h1 h2 h3 h4
  exact lv_lstore_n C.1 C.2.1 hd rfl (lv_of_lo h4) (Nat.lt_of_lt_of_le (by simp only [List.length_cons]; omega) h4.2.2.1) rfl fun ls' h5 => g H locs ls' h1 h2 h3 (lo_store2 (i := 2) (lo := (x0 :: x1 :: x2 :: x3 :: t)) h4.2.2.1 (lo_hp (j := 1) rfl hp) h5)
theorem z_iinc2 (C : Cx w Y cc own ret d mc ms) {x0 x1 : Option Value} {t : Lo} {x v : Int32} {c : Int} (hd : decode cc pc = .ok (.iinc 2 c, 3)) (hq : pc + 3 = q) (hv : x + Int32.ofInt c = v) (hp : loC x1) (g : Zj w Y σ k n q (x0 :: x1 :: some (.int v) :: t) st) : Zj w Y σ k n pc (x0 :: x1 :: some (.int x) :: t) st := by
  subst hq; intro H locs ls h1 h2 h3 h4
  obtain ⟨kk, hkk⟩ := List.getElem?_of_mem (mem_loL.mpr (show (x0 :: x1 :: some (.int x) :: t)[2]? = some (some (Value.int x)) from rfl))
  exact lv_iinc C.1 C.2.1 hd (lv_of_lo h4) hkk hv (Nat.lt_of_lt_of_le (by simp only [List.length_cons]; omega) h4.2.2.1) rfl fun ls' h5 => g H locs ls' h1 h2 h3 (lo_store1 (i := 2) (lo := (x0 :: x1 :: some (.int x) :: t)) h4.2.2.1 (lo_hp (j := 1) rfl hp) h5)
theorem z_iinc2N (C : Cx w Y cc own ret d mc ms) {x0 x1 : Option Value} {t : Lo} {a : Nat} (hd : decode cc pc = .ok (.iinc 2 1, 3)) (hq : pc + 3 = q) (hp : loC x1) (g : Zj w Y σ k n q (x0 :: x1 :: some (.int (nI (a + 1))) :: t) st) : Zj w Y σ k n pc (x0 :: x1 :: some (.int (nI a)) :: t) st := z_iinc2 C hd hq (nI_1 a) hp g
theorem z_il3 (C : Cx w Y cc own ret d mc ms) {x0 x1 x2 : Option Value} {t : Lo} {v : Int32} (hd : decode cc pc = .ok (.iload_n 3, 1)) (hq : pc + 1 = q) (g : Zj w Y σ k n q (x0 :: x1 :: x2 :: some (.int v) :: t) (.int v :: st)) : Zj w Y σ k n pc (x0 :: x1 :: x2 :: some (.int v) :: t) st := by
  subst hq; exact fun H locs ls h1 h2 h3 h4 => lv_iload_n C.1 C.2.1 hd rfl (lo_at (i := 3) h4 rfl) (g H locs ls h1 h2 h3 h4)
theorem z_ll3 (C : Cx w Y cc own ret d mc ms) {x0 x1 x2 : Option Value} {t : Lo} {v : Int64} (hd : decode cc pc = .ok (.lload_n 3, 1)) (hq : pc + 1 = q) (g : Zj w Y σ k n q (x0 :: x1 :: x2 :: some (.long v) :: t) (.long v :: st)) : Zj w Y σ k n pc (x0 :: x1 :: x2 :: some (.long v) :: t) st := by
  subst hq; exact fun H locs ls h1 h2 h3 h4 => lv_lload_n C.1 C.2.1 hd rfl (lo_at (i := 3) h4 rfl) (g H locs ls h1 h2 h3 h4)
theorem z_al3 (C : Cx w Y cc own ret d mc ms) {x0 x1 x2 : Option Value} {t : Lo} {a : Nat} (hd : decode cc pc = .ok (.aload_n 3, 1)) (hq : pc + 1 = q) (g : Zj w Y σ k n q (x0 :: x1 :: x2 :: some (.ref a) :: t) (.ref a :: st)) : Zj w Y σ k n pc (x0 :: x1 :: x2 :: some (.ref a) :: t) st := by
  subst hq; exact fun H locs ls h1 h2 h3 h4 => lv_aload_n C.1 C.2.1 hd rfl (lo_at (i := 3) h4 rfl) (g H locs ls h1 h2 h3 h4)
theorem z_al3u (C : Cx w Y cc own ret d mc ms) {x0 x1 x2 : Option Value} {t : Lo} (hd : decode cc pc = .ok (.aload_n 3, 1)) (hq : pc + 1 = q) (g : Zj w Y σ k n q (x0 :: x1 :: x2 :: some .null :: t) (.null :: st)) : Zj w Y σ k n pc (x0 :: x1 :: x2 :: some .null :: t) st := by
  subst hq; exact fun H locs ls h1 h2 h3 h4 => lv_aload_nN C.1 C.2.1 hd rfl (lo_at (i := 3) h4 rfl) (g H locs ls h1 h2 h3 h4)
theorem z_al3q (C : Cx w Y cc own ret d mc ms) {x0 x1 x2 : Option Value} {t : Lo} {r : Option Nat} (hd : decode cc pc = .ok (.aload_n 3, 1)) (hq : pc + 1 = q) (g : Zj w Y σ k n q (x0 :: x1 :: x2 :: some (va_rf r) :: t) (va_rf r :: st)) : Zj w Y σ k n pc (x0 :: x1 :: x2 :: some (va_rf r) :: t) st := by
  cases r with
  | none => exact z_al3u C hd hq g
  | some a => exact z_al3 C hd hq g
theorem z_is3 (C : Cx w Y cc own ret d mc ms) {x0 x1 x2 x3 : Option Value} {t : Lo} {v : Int32} (hd : decode cc pc = .ok (.istore_n 3, 1)) (hq : pc + 1 = q) (hp : loC x2) (g : Zj w Y σ k n q (x0 :: x1 :: x2 :: some (.int v) :: t) st) : Zj w Y σ k n pc (x0 :: x1 :: x2 :: x3 :: t) (.int v :: st) := by
  subst hq; intro H locs ls h1 h2 h3 h4
  exact lv_istore_n C.1 C.2.1 hd rfl (lv_of_lo h4) (Nat.lt_of_lt_of_le (by simp only [List.length_cons]; omega) h4.2.2.1) rfl fun ls' h5 => g H locs ls' h1 h2 h3 (lo_store1 (i := 3) (lo := (x0 :: x1 :: x2 :: x3 :: t)) h4.2.2.1 (lo_hp (j := 2) rfl hp) h5)
theorem z_as3 (C : Cx w Y cc own ret d mc ms) {x0 x1 x2 x3 : Option Value} {t : Lo} {v : Nat} (hd : decode cc pc = .ok (.astore_n 3, 1)) (hq : pc + 1 = q) (hp : loC x2) (g : Zj w Y σ k n q (x0 :: x1 :: x2 :: some (.ref v) :: t) st) : Zj w Y σ k n pc (x0 :: x1 :: x2 :: x3 :: t) (.ref v :: st) := by
  subst hq; intro H locs ls h1 h2 h3 h4
  exact lv_astore_n C.1 C.2.1 hd rfl (lv_of_lo h4) (Nat.lt_of_lt_of_le (by simp only [List.length_cons]; omega) h4.2.2.1) rfl fun ls' h5 => g H locs ls' h1 h2 h3 (lo_store1 (i := 3) (lo := (x0 :: x1 :: x2 :: x3 :: t)) h4.2.2.1 (lo_hp (j := 2) rfl hp) h5)
theorem z_asu3 (C : Cx w Y cc own ret d mc ms) {x0 x1 x2 x3 : Option Value} {t : Lo} (hd : decode cc pc = .ok (.astore_n 3, 1)) (hq : pc + 1 = q) (hp : loC x2) (g : Zj w Y σ k n q (x0 :: x1 :: x2 :: some (.null) :: t) st) : Zj w Y σ k n pc (x0 :: x1 :: x2 :: x3 :: t) (.null :: st) := by
  subst hq; intro H locs ls h1 h2 h3 h4
  exact lv_astore_nN C.1 C.2.1 hd rfl (lv_of_lo h4) (Nat.lt_of_lt_of_le (by simp only [List.length_cons]; omega) h4.2.2.1) rfl fun ls' h5 => g H locs ls' h1 h2 h3 (lo_store1 (i := 3) (lo := (x0 :: x1 :: x2 :: x3 :: t)) h4.2.2.1 (lo_hp (j := 2) rfl hp) h5)
theorem z_as3q (C : Cx w Y cc own ret d mc ms) {x0 x1 x2 x3 : Option Value} {t : Lo} {r : Option Nat} (hd : decode cc pc = .ok (.astore_n 3, 1)) (hq : pc + 1 = q) (hp : loC x2) (g : Zj w Y σ k n q (x0 :: x1 :: x2 :: some (va_rf r) :: t) st) : Zj w Y σ k n pc (x0 :: x1 :: x2 :: x3 :: t) (va_rf r :: st) := by
  cases r with
  | none => exact z_asu3 C hd hq hp g
  | some a => exact z_as3 C hd hq hp g
theorem z_ls3 (C : Cx w Y cc own ret d mc ms) {x0 x1 x2 x3 x4 : Option Value} {t : Lo} {v : Int64} (hd : decode cc pc = .ok (.lstore_n 3, 1)) (hq : pc + 1 = q) (hp : loC x2) (g : Zj w Y σ k n q (x0 :: x1 :: x2 :: some (.long v) :: none :: t) st) : Zj w Y σ k n pc (x0 :: x1 :: x2 :: x3 :: x4 :: t) (.long v :: st) := by
  subst hq; intro H locs ls h1 h2 h3 h4
  exact lv_lstore_n C.1 C.2.1 hd rfl (lv_of_lo h4) (Nat.lt_of_lt_of_le (by simp only [List.length_cons]; omega) h4.2.2.1) rfl fun ls' h5 => g H locs ls' h1 h2 h3 (lo_store2 (i := 3) (lo := (x0 :: x1 :: x2 :: x3 :: x4 :: t)) h4.2.2.1 (lo_hp (j := 2) rfl hp) h5)
theorem z_iinc3 (C : Cx w Y cc own ret d mc ms) {x0 x1 x2 : Option Value} {t : Lo} {x v : Int32} {c : Int} (hd : decode cc pc = .ok (.iinc 3 c, 3)) (hq : pc + 3 = q) (hv : x + Int32.ofInt c = v) (hp : loC x2) (g : Zj w Y σ k n q (x0 :: x1 :: x2 :: some (.int v) :: t) st) : Zj w Y σ k n pc (x0 :: x1 :: x2 :: some (.int x) :: t) st := by
  subst hq; intro H locs ls h1 h2 h3 h4
  obtain ⟨kk, hkk⟩ := List.getElem?_of_mem (mem_loL.mpr (show (x0 :: x1 :: x2 :: some (.int x) :: t)[3]? = some (some (Value.int x)) from rfl))
  exact lv_iinc C.1 C.2.1 hd (lv_of_lo h4) hkk hv (Nat.lt_of_lt_of_le (by simp only [List.length_cons]; omega) h4.2.2.1) rfl fun ls' h5 => g H locs ls' h1 h2 h3 (lo_store1 (i := 3) (lo := (x0 :: x1 :: x2 :: some (.int x) :: t)) h4.2.2.1 (lo_hp (j := 2) rfl hp) h5)
theorem z_iinc3N (C : Cx w Y cc own ret d mc ms) {x0 x1 x2 : Option Value} {t : Lo} {a : Nat} (hd : decode cc pc = .ok (.iinc 3 1, 3)) (hq : pc + 3 = q) (hp : loC x2) (g : Zj w Y σ k n q (x0 :: x1 :: x2 :: some (.int (nI (a + 1))) :: t) st) : Zj w Y σ k n pc (x0 :: x1 :: x2 :: some (.int (nI a)) :: t) st := z_iinc3 C hd hq (nI_1 a) hp g
theorem z_il4 (C : Cx w Y cc own ret d mc ms) {x0 x1 x2 x3 : Option Value} {t : Lo} {v : Int32} (hd : decode cc pc = .ok (.iload 4, 2)) (hq : pc + 2 = q) (g : Zj w Y σ k n q (x0 :: x1 :: x2 :: x3 :: some (.int v) :: t) (.int v :: st)) : Zj w Y σ k n pc (x0 :: x1 :: x2 :: x3 :: some (.int v) :: t) st := by
  subst hq; exact fun H locs ls h1 h2 h3 h4 => lv_iload C.1 C.2.1 hd (lo_at (i := 4) h4 rfl) (g H locs ls h1 h2 h3 h4)
theorem z_ll4 (C : Cx w Y cc own ret d mc ms) {x0 x1 x2 x3 : Option Value} {t : Lo} {v : Int64} (hd : decode cc pc = .ok (.lload 4, 2)) (hq : pc + 2 = q) (g : Zj w Y σ k n q (x0 :: x1 :: x2 :: x3 :: some (.long v) :: t) (.long v :: st)) : Zj w Y σ k n pc (x0 :: x1 :: x2 :: x3 :: some (.long v) :: t) st := by
  subst hq; exact fun H locs ls h1 h2 h3 h4 => lv_lload C.1 C.2.1 hd (lo_at (i := 4) h4 rfl) (g H locs ls h1 h2 h3 h4)
theorem z_al4 (C : Cx w Y cc own ret d mc ms) {x0 x1 x2 x3 : Option Value} {t : Lo} {a : Nat} (hd : decode cc pc = .ok (.aload 4, 2)) (hq : pc + 2 = q) (g : Zj w Y σ k n q (x0 :: x1 :: x2 :: x3 :: some (.ref a) :: t) (.ref a :: st)) : Zj w Y σ k n pc (x0 :: x1 :: x2 :: x3 :: some (.ref a) :: t) st := by
  subst hq; exact fun H locs ls h1 h2 h3 h4 => lv_aload C.1 C.2.1 hd (lo_at (i := 4) h4 rfl) (g H locs ls h1 h2 h3 h4)
theorem z_al4u (C : Cx w Y cc own ret d mc ms) {x0 x1 x2 x3 : Option Value} {t : Lo} (hd : decode cc pc = .ok (.aload 4, 2)) (hq : pc + 2 = q) (g : Zj w Y σ k n q (x0 :: x1 :: x2 :: x3 :: some .null :: t) (.null :: st)) : Zj w Y σ k n pc (x0 :: x1 :: x2 :: x3 :: some .null :: t) st := by
  subst hq; exact fun H locs ls h1 h2 h3 h4 => lv_aloadN C.1 C.2.1 hd (lo_at (i := 4) h4 rfl) (g H locs ls h1 h2 h3 h4)
theorem z_al4q (C : Cx w Y cc own ret d mc ms) {x0 x1 x2 x3 : Option Value} {t : Lo} {r : Option Nat} (hd : decode cc pc = .ok (.aload 4, 2)) (hq : pc + 2 = q) (g : Zj w Y σ k n q (x0 :: x1 :: x2 :: x3 :: some (va_rf r) :: t) (va_rf r :: st)) : Zj w Y σ k n pc (x0 :: x1 :: x2 :: x3 :: some (va_rf r) :: t) st := by
  cases r with
  | none => exact z_al4u C hd hq g
  | some a => exact z_al4 C hd hq g
theorem z_is4 (C : Cx w Y cc own ret d mc ms) {x0 x1 x2 x3 x4 : Option Value} {t : Lo} {v : Int32} (hd : decode cc pc = .ok (.istore 4, 2)) (hq : pc + 2 = q) (hp : loC x3) (g : Zj w Y σ k n q (x0 :: x1 :: x2 :: x3 :: some (.int v) :: t) st) : Zj w Y σ k n pc (x0 :: x1 :: x2 :: x3 :: x4 :: t) (.int v :: st) := by
  subst hq; intro H locs ls h1 h2 h3 h4
  exact lv_istore C.1 C.2.1 hd (lv_of_lo h4) (Nat.lt_of_lt_of_le (by simp only [List.length_cons]; omega) h4.2.2.1) rfl fun ls' h5 => g H locs ls' h1 h2 h3 (lo_store1 (i := 4) (lo := (x0 :: x1 :: x2 :: x3 :: x4 :: t)) h4.2.2.1 (lo_hp (j := 3) rfl hp) h5)
theorem z_as4 (C : Cx w Y cc own ret d mc ms) {x0 x1 x2 x3 x4 : Option Value} {t : Lo} {v : Nat} (hd : decode cc pc = .ok (.astore 4, 2)) (hq : pc + 2 = q) (hp : loC x3) (g : Zj w Y σ k n q (x0 :: x1 :: x2 :: x3 :: some (.ref v) :: t) st) : Zj w Y σ k n pc (x0 :: x1 :: x2 :: x3 :: x4 :: t) (.ref v :: st) := by
  subst hq; intro H locs ls h1 h2 h3 h4
  exact lv_astore C.1 C.2.1 hd (lv_of_lo h4) (Nat.lt_of_lt_of_le (by simp only [List.length_cons]; omega) h4.2.2.1) rfl fun ls' h5 => g H locs ls' h1 h2 h3 (lo_store1 (i := 4) (lo := (x0 :: x1 :: x2 :: x3 :: x4 :: t)) h4.2.2.1 (lo_hp (j := 3) rfl hp) h5)
theorem z_asu4 (C : Cx w Y cc own ret d mc ms) {x0 x1 x2 x3 x4 : Option Value} {t : Lo} (hd : decode cc pc = .ok (.astore 4, 2)) (hq : pc + 2 = q) (hp : loC x3) (g : Zj w Y σ k n q (x0 :: x1 :: x2 :: x3 :: some (.null) :: t) st) : Zj w Y σ k n pc (x0 :: x1 :: x2 :: x3 :: x4 :: t) (.null :: st) := by
  subst hq; intro H locs ls h1 h2 h3 h4
  exact lv_astoreN C.1 C.2.1 hd (lv_of_lo h4) (Nat.lt_of_lt_of_le (by simp only [List.length_cons]; omega) h4.2.2.1) rfl fun ls' h5 => g H locs ls' h1 h2 h3 (lo_store1 (i := 4) (lo := (x0 :: x1 :: x2 :: x3 :: x4 :: t)) h4.2.2.1 (lo_hp (j := 3) rfl hp) h5)
theorem z_as4q (C : Cx w Y cc own ret d mc ms) {x0 x1 x2 x3 x4 : Option Value} {t : Lo} {r : Option Nat} (hd : decode cc pc = .ok (.astore 4, 2)) (hq : pc + 2 = q) (hp : loC x3) (g : Zj w Y σ k n q (x0 :: x1 :: x2 :: x3 :: some (va_rf r) :: t) st) : Zj w Y σ k n pc (x0 :: x1 :: x2 :: x3 :: x4 :: t) (va_rf r :: st) := by
  cases r with
  | none => exact z_asu4 C hd hq hp g
  | some a => exact z_as4 C hd hq hp g
theorem z_ls4 (C : Cx w Y cc own ret d mc ms) {x0 x1 x2 x3 x4 x5 : Option Value} {t : Lo} {v : Int64} (hd : decode cc pc = .ok (.lstore 4, 2)) (hq : pc + 2 = q) (hp : loC x3) (g : Zj w Y σ k n q (x0 :: x1 :: x2 :: x3 :: some (.long v) :: none :: t) st) : Zj w Y σ k n pc (x0 :: x1 :: x2 :: x3 :: x4 :: x5 :: t) (.long v :: st) := by
  subst hq; intro H locs ls h1 h2 h3 h4
  exact lv_lstore C.1 C.2.1 hd (lv_of_lo h4) (Nat.lt_of_lt_of_le (by simp only [List.length_cons]; omega) h4.2.2.1) rfl fun ls' h5 => g H locs ls' h1 h2 h3 (lo_store2 (i := 4) (lo := (x0 :: x1 :: x2 :: x3 :: x4 :: x5 :: t)) h4.2.2.1 (lo_hp (j := 3) rfl hp) h5)
theorem z_iinc4 (C : Cx w Y cc own ret d mc ms) {x0 x1 x2 x3 : Option Value} {t : Lo} {x v : Int32} {c : Int} (hd : decode cc pc = .ok (.iinc 4 c, 3)) (hq : pc + 3 = q) (hv : x + Int32.ofInt c = v) (hp : loC x3) (g : Zj w Y σ k n q (x0 :: x1 :: x2 :: x3 :: some (.int v) :: t) st) : Zj w Y σ k n pc (x0 :: x1 :: x2 :: x3 :: some (.int x) :: t) st := by
  subst hq; intro H locs ls h1 h2 h3 h4
  obtain ⟨kk, hkk⟩ := List.getElem?_of_mem (mem_loL.mpr (show (x0 :: x1 :: x2 :: x3 :: some (.int x) :: t)[4]? = some (some (Value.int x)) from rfl))
  exact lv_iinc C.1 C.2.1 hd (lv_of_lo h4) hkk hv (Nat.lt_of_lt_of_le (by simp only [List.length_cons]; omega) h4.2.2.1) rfl fun ls' h5 => g H locs ls' h1 h2 h3 (lo_store1 (i := 4) (lo := (x0 :: x1 :: x2 :: x3 :: some (.int x) :: t)) h4.2.2.1 (lo_hp (j := 3) rfl hp) h5)
theorem z_iinc4N (C : Cx w Y cc own ret d mc ms) {x0 x1 x2 x3 : Option Value} {t : Lo} {a : Nat} (hd : decode cc pc = .ok (.iinc 4 1, 3)) (hq : pc + 3 = q) (hp : loC x3) (g : Zj w Y σ k n q (x0 :: x1 :: x2 :: x3 :: some (.int (nI (a + 1))) :: t) st) : Zj w Y σ k n pc (x0 :: x1 :: x2 :: x3 :: some (.int (nI a)) :: t) st := z_iinc4 C hd hq (nI_1 a) hp g
theorem z_il5 (C : Cx w Y cc own ret d mc ms) {x0 x1 x2 x3 x4 : Option Value} {t : Lo} {v : Int32} (hd : decode cc pc = .ok (.iload 5, 2)) (hq : pc + 2 = q) (g : Zj w Y σ k n q (x0 :: x1 :: x2 :: x3 :: x4 :: some (.int v) :: t) (.int v :: st)) : Zj w Y σ k n pc (x0 :: x1 :: x2 :: x3 :: x4 :: some (.int v) :: t) st := by
  subst hq; exact fun H locs ls h1 h2 h3 h4 => lv_iload C.1 C.2.1 hd (lo_at (i := 5) h4 rfl) (g H locs ls h1 h2 h3 h4)
theorem z_ll5 (C : Cx w Y cc own ret d mc ms) {x0 x1 x2 x3 x4 : Option Value} {t : Lo} {v : Int64} (hd : decode cc pc = .ok (.lload 5, 2)) (hq : pc + 2 = q) (g : Zj w Y σ k n q (x0 :: x1 :: x2 :: x3 :: x4 :: some (.long v) :: t) (.long v :: st)) : Zj w Y σ k n pc (x0 :: x1 :: x2 :: x3 :: x4 :: some (.long v) :: t) st := by
  subst hq; exact fun H locs ls h1 h2 h3 h4 => lv_lload C.1 C.2.1 hd (lo_at (i := 5) h4 rfl) (g H locs ls h1 h2 h3 h4)
theorem z_al5 (C : Cx w Y cc own ret d mc ms) {x0 x1 x2 x3 x4 : Option Value} {t : Lo} {a : Nat} (hd : decode cc pc = .ok (.aload 5, 2)) (hq : pc + 2 = q) (g : Zj w Y σ k n q (x0 :: x1 :: x2 :: x3 :: x4 :: some (.ref a) :: t) (.ref a :: st)) : Zj w Y σ k n pc (x0 :: x1 :: x2 :: x3 :: x4 :: some (.ref a) :: t) st := by
  subst hq; exact fun H locs ls h1 h2 h3 h4 => lv_aload C.1 C.2.1 hd (lo_at (i := 5) h4 rfl) (g H locs ls h1 h2 h3 h4)
theorem z_al5u (C : Cx w Y cc own ret d mc ms) {x0 x1 x2 x3 x4 : Option Value} {t : Lo} (hd : decode cc pc = .ok (.aload 5, 2)) (hq : pc + 2 = q) (g : Zj w Y σ k n q (x0 :: x1 :: x2 :: x3 :: x4 :: some .null :: t) (.null :: st)) : Zj w Y σ k n pc (x0 :: x1 :: x2 :: x3 :: x4 :: some .null :: t) st := by
  subst hq; exact fun H locs ls h1 h2 h3 h4 => lv_aloadN C.1 C.2.1 hd (lo_at (i := 5) h4 rfl) (g H locs ls h1 h2 h3 h4)
theorem z_al5q (C : Cx w Y cc own ret d mc ms) {x0 x1 x2 x3 x4 : Option Value} {t : Lo} {r : Option Nat} (hd : decode cc pc = .ok (.aload 5, 2)) (hq : pc + 2 = q) (g : Zj w Y σ k n q (x0 :: x1 :: x2 :: x3 :: x4 :: some (va_rf r) :: t) (va_rf r :: st)) : Zj w Y σ k n pc (x0 :: x1 :: x2 :: x3 :: x4 :: some (va_rf r) :: t) st := by
  cases r with
  | none => exact z_al5u C hd hq g
  | some a => exact z_al5 C hd hq g
theorem z_is5 (C : Cx w Y cc own ret d mc ms) {x0 x1 x2 x3 x4 x5 : Option Value} {t : Lo} {v : Int32} (hd : decode cc pc = .ok (.istore 5, 2)) (hq : pc + 2 = q) (hp : loC x4) (g : Zj w Y σ k n q (x0 :: x1 :: x2 :: x3 :: x4 :: some (.int v) :: t) st) : Zj w Y σ k n pc (x0 :: x1 :: x2 :: x3 :: x4 :: x5 :: t) (.int v :: st) := by
  subst hq; intro H locs ls h1 h2 h3 h4
  exact lv_istore C.1 C.2.1 hd (lv_of_lo h4) (Nat.lt_of_lt_of_le (by simp only [List.length_cons]; omega) h4.2.2.1) rfl fun ls' h5 => g H locs ls' h1 h2 h3 (lo_store1 (i := 5) (lo := (x0 :: x1 :: x2 :: x3 :: x4 :: x5 :: t)) h4.2.2.1 (lo_hp (j := 4) rfl hp) h5)
theorem z_as5 (C : Cx w Y cc own ret d mc ms) {x0 x1 x2 x3 x4 x5 : Option Value} {t : Lo} {v : Nat} (hd : decode cc pc = .ok (.astore 5, 2)) (hq : pc + 2 = q) (hp : loC x4) (g : Zj w Y σ k n q (x0 :: x1 :: x2 :: x3 :: x4 :: some (.ref v) :: t) st) : Zj w Y σ k n pc (x0 :: x1 :: x2 :: x3 :: x4 :: x5 :: t) (.ref v :: st) := by
  subst hq; intro H locs ls h1 h2 h3 h4
  exact lv_astore C.1 C.2.1 hd (lv_of_lo h4) (Nat.lt_of_lt_of_le (by simp only [List.length_cons]; omega) h4.2.2.1) rfl fun ls' h5 => g H locs ls' h1 h2 h3 (lo_store1 (i := 5) (lo := (x0 :: x1 :: x2 :: x3 :: x4 :: x5 :: t)) h4.2.2.1 (lo_hp (j := 4) rfl hp) h5)
theorem z_asu5 (C : Cx w Y cc own ret d mc ms) {x0 x1 x2 x3 x4 x5 : Option Value} {t : Lo} (hd : decode cc pc = .ok (.astore 5, 2)) (hq : pc + 2 = q) (hp : loC x4) (g : Zj w Y σ k n q (x0 :: x1 :: x2 :: x3 :: x4 :: some (.null) :: t) st) : Zj w Y σ k n pc (x0 :: x1 :: x2 :: x3 :: x4 :: x5 :: t) (.null :: st) := by
  subst hq; intro H locs ls h1 h2 h3 h4
  exact lv_astoreN C.1 C.2.1 hd (lv_of_lo h4) (Nat.lt_of_lt_of_le (by simp only [List.length_cons]; omega) h4.2.2.1) rfl fun ls' h5 => g H locs ls' h1 h2 h3 (lo_store1 (i := 5) (lo := (x0 :: x1 :: x2 :: x3 :: x4 :: x5 :: t)) h4.2.2.1 (lo_hp (j := 4) rfl hp) h5)
theorem z_as5q (C : Cx w Y cc own ret d mc ms) {x0 x1 x2 x3 x4 x5 : Option Value} {t : Lo} {r : Option Nat} (hd : decode cc pc = .ok (.astore 5, 2)) (hq : pc + 2 = q) (hp : loC x4) (g : Zj w Y σ k n q (x0 :: x1 :: x2 :: x3 :: x4 :: some (va_rf r) :: t) st) : Zj w Y σ k n pc (x0 :: x1 :: x2 :: x3 :: x4 :: x5 :: t) (va_rf r :: st) := by
  cases r with
  | none => exact z_asu5 C hd hq hp g
  | some a => exact z_as5 C hd hq hp g
theorem z_ls5 (C : Cx w Y cc own ret d mc ms) {x0 x1 x2 x3 x4 x5 x6 : Option Value} {t : Lo} {v : Int64} (hd : decode cc pc = .ok (.lstore 5, 2)) (hq : pc + 2 = q) (hp : loC x4) (g : Zj w Y σ k n q (x0 :: x1 :: x2 :: x3 :: x4 :: some (.long v) :: none :: t) st) : Zj w Y σ k n pc (x0 :: x1 :: x2 :: x3 :: x4 :: x5 :: x6 :: t) (.long v :: st) := by
  subst hq; intro H locs ls h1 h2 h3 h4
  exact lv_lstore C.1 C.2.1 hd (lv_of_lo h4) (Nat.lt_of_lt_of_le (by simp only [List.length_cons]; omega) h4.2.2.1) rfl fun ls' h5 => g H locs ls' h1 h2 h3 (lo_store2 (i := 5) (lo := (x0 :: x1 :: x2 :: x3 :: x4 :: x5 :: x6 :: t)) h4.2.2.1 (lo_hp (j := 4) rfl hp) h5)
theorem z_iinc5 (C : Cx w Y cc own ret d mc ms) {x0 x1 x2 x3 x4 : Option Value} {t : Lo} {x v : Int32} {c : Int} (hd : decode cc pc = .ok (.iinc 5 c, 3)) (hq : pc + 3 = q) (hv : x + Int32.ofInt c = v) (hp : loC x4) (g : Zj w Y σ k n q (x0 :: x1 :: x2 :: x3 :: x4 :: some (.int v) :: t) st) : Zj w Y σ k n pc (x0 :: x1 :: x2 :: x3 :: x4 :: some (.int x) :: t) st := by
  subst hq; intro H locs ls h1 h2 h3 h4
  obtain ⟨kk, hkk⟩ := List.getElem?_of_mem (mem_loL.mpr (show (x0 :: x1 :: x2 :: x3 :: x4 :: some (.int x) :: t)[5]? = some (some (Value.int x)) from rfl))
  exact lv_iinc C.1 C.2.1 hd (lv_of_lo h4) hkk hv (Nat.lt_of_lt_of_le (by simp only [List.length_cons]; omega) h4.2.2.1) rfl fun ls' h5 => g H locs ls' h1 h2 h3 (lo_store1 (i := 5) (lo := (x0 :: x1 :: x2 :: x3 :: x4 :: some (.int x) :: t)) h4.2.2.1 (lo_hp (j := 4) rfl hp) h5)
theorem z_iinc5N (C : Cx w Y cc own ret d mc ms) {x0 x1 x2 x3 x4 : Option Value} {t : Lo} {a : Nat} (hd : decode cc pc = .ok (.iinc 5 1, 3)) (hq : pc + 3 = q) (hp : loC x4) (g : Zj w Y σ k n q (x0 :: x1 :: x2 :: x3 :: x4 :: some (.int (nI (a + 1))) :: t) st) : Zj w Y σ k n pc (x0 :: x1 :: x2 :: x3 :: x4 :: some (.int (nI a)) :: t) st := z_iinc5 C hd hq (nI_1 a) hp g
theorem z_il6 (C : Cx w Y cc own ret d mc ms) {x0 x1 x2 x3 x4 x5 : Option Value} {t : Lo} {v : Int32} (hd : decode cc pc = .ok (.iload 6, 2)) (hq : pc + 2 = q) (g : Zj w Y σ k n q (x0 :: x1 :: x2 :: x3 :: x4 :: x5 :: some (.int v) :: t) (.int v :: st)) : Zj w Y σ k n pc (x0 :: x1 :: x2 :: x3 :: x4 :: x5 :: some (.int v) :: t) st := by
  subst hq; exact fun H locs ls h1 h2 h3 h4 => lv_iload C.1 C.2.1 hd (lo_at (i := 6) h4 rfl) (g H locs ls h1 h2 h3 h4)
theorem z_ll6 (C : Cx w Y cc own ret d mc ms) {x0 x1 x2 x3 x4 x5 : Option Value} {t : Lo} {v : Int64} (hd : decode cc pc = .ok (.lload 6, 2)) (hq : pc + 2 = q) (g : Zj w Y σ k n q (x0 :: x1 :: x2 :: x3 :: x4 :: x5 :: some (.long v) :: t) (.long v :: st)) : Zj w Y σ k n pc (x0 :: x1 :: x2 :: x3 :: x4 :: x5 :: some (.long v) :: t) st := by
  subst hq; exact fun H locs ls h1 h2 h3 h4 => lv_lload C.1 C.2.1 hd (lo_at (i := 6) h4 rfl) (g H locs ls h1 h2 h3 h4)
theorem z_al6 (C : Cx w Y cc own ret d mc ms) {x0 x1 x2 x3 x4 x5 : Option Value} {t : Lo} {a : Nat} (hd : decode cc pc = .ok (.aload 6, 2)) (hq : pc + 2 = q) (g : Zj w Y σ k n q (x0 :: x1 :: x2 :: x3 :: x4 :: x5 :: some (.ref a) :: t) (.ref a :: st)) : Zj w Y σ k n pc (x0 :: x1 :: x2 :: x3 :: x4 :: x5 :: some (.ref a) :: t) st := by
  subst hq; exact fun H locs ls h1 h2 h3 h4 => lv_aload C.1 C.2.1 hd (lo_at (i := 6) h4 rfl) (g H locs ls h1 h2 h3 h4)
theorem z_al6u (C : Cx w Y cc own ret d mc ms) {x0 x1 x2 x3 x4 x5 : Option Value} {t : Lo} (hd : decode cc pc = .ok (.aload 6, 2)) (hq : pc + 2 = q) (g : Zj w Y σ k n q (x0 :: x1 :: x2 :: x3 :: x4 :: x5 :: some .null :: t) (.null :: st)) : Zj w Y σ k n pc (x0 :: x1 :: x2 :: x3 :: x4 :: x5 :: some .null :: t) st := by
  subst hq; exact fun H locs ls h1 h2 h3 h4 => lv_aloadN C.1 C.2.1 hd (lo_at (i := 6) h4 rfl) (g H locs ls h1 h2 h3 h4)
theorem z_al6q (C : Cx w Y cc own ret d mc ms) {x0 x1 x2 x3 x4 x5 : Option Value} {t : Lo} {r : Option Nat} (hd : decode cc pc = .ok (.aload 6, 2)) (hq : pc + 2 = q) (g : Zj w Y σ k n q (x0 :: x1 :: x2 :: x3 :: x4 :: x5 :: some (va_rf r) :: t) (va_rf r :: st)) : Zj w Y σ k n pc (x0 :: x1 :: x2 :: x3 :: x4 :: x5 :: some (va_rf r) :: t) st := by
  cases r with
  | none => exact z_al6u C hd hq g
  | some a => exact z_al6 C hd hq g
theorem z_is6 (C : Cx w Y cc own ret d mc ms) {x0 x1 x2 x3 x4 x5 x6 : Option Value} {t : Lo} {v : Int32} (hd : decode cc pc = .ok (.istore 6, 2)) (hq : pc + 2 = q) (hp : loC x5) (g : Zj w Y σ k n q (x0 :: x1 :: x2 :: x3 :: x4 :: x5 :: some (.int v) :: t) st) : Zj w Y σ k n pc (x0 :: x1 :: x2 :: x3 :: x4 :: x5 :: x6 :: t) (.int v :: st) := by
  subst hq; intro H locs ls h1 h2 h3 h4
  exact lv_istore C.1 C.2.1 hd (lv_of_lo h4) (Nat.lt_of_lt_of_le (by simp only [List.length_cons]; omega) h4.2.2.1) rfl fun ls' h5 => g H locs ls' h1 h2 h3 (lo_store1 (i := 6) (lo := (x0 :: x1 :: x2 :: x3 :: x4 :: x5 :: x6 :: t)) h4.2.2.1 (lo_hp (j := 5) rfl hp) h5)
theorem z_as6 (C : Cx w Y cc own ret d mc ms) {x0 x1 x2 x3 x4 x5 x6 : Option Value} {t : Lo} {v : Nat} (hd : decode cc pc = .ok (.astore 6, 2)) (hq : pc + 2 = q) (hp : loC x5) (g : Zj w Y σ k n q (x0 :: x1 :: x2 :: x3 :: x4 :: x5 :: some (.ref v) :: t) st) : Zj w Y σ k n pc (x0 :: x1 :: x2 :: x3 :: x4 :: x5 :: x6 :: t) (.ref v :: st) := by
  subst hq; intro H locs ls h1 h2 h3 h4
  exact lv_astore C.1 C.2.1 hd (lv_of_lo h4) (Nat.lt_of_lt_of_le (by simp only [List.length_cons]; omega) h4.2.2.1) rfl fun ls' h5 => g H locs ls' h1 h2 h3 (lo_store1 (i := 6) (lo := (x0 :: x1 :: x2 :: x3 :: x4 :: x5 :: x6 :: t)) h4.2.2.1 (lo_hp (j := 5) rfl hp) h5)
theorem z_asu6 (C : Cx w Y cc own ret d mc ms) {x0 x1 x2 x3 x4 x5 x6 : Option Value} {t : Lo} (hd : decode cc pc = .ok (.astore 6, 2)) (hq : pc + 2 = q) (hp : loC x5) (g : Zj w Y σ k n q (x0 :: x1 :: x2 :: x3 :: x4 :: x5 :: some (.null) :: t) st) : Zj w Y σ k n pc (x0 :: x1 :: x2 :: x3 :: x4 :: x5 :: x6 :: t) (.null :: st) := by
  subst hq; intro H locs ls h1 h2 h3 h4
  exact lv_astoreN C.1 C.2.1 hd (lv_of_lo h4) (Nat.lt_of_lt_of_le (by simp only [List.length_cons]; omega) h4.2.2.1) rfl fun ls' h5 => g H locs ls' h1 h2 h3 (lo_store1 (i := 6) (lo := (x0 :: x1 :: x2 :: x3 :: x4 :: x5 :: x6 :: t)) h4.2.2.1 (lo_hp (j := 5) rfl hp) h5)
theorem z_as6q (C : Cx w Y cc own ret d mc ms) {x0 x1 x2 x3 x4 x5 x6 : Option Value} {t : Lo} {r : Option Nat} (hd : decode cc pc = .ok (.astore 6, 2)) (hq : pc + 2 = q) (hp : loC x5) (g : Zj w Y σ k n q (x0 :: x1 :: x2 :: x3 :: x4 :: x5 :: some (va_rf r) :: t) st) : Zj w Y σ k n pc (x0 :: x1 :: x2 :: x3 :: x4 :: x5 :: x6 :: t) (va_rf r :: st) := by
  cases r with
  | none => exact z_asu6 C hd hq hp g
  | some a => exact z_as6 C hd hq hp g
theorem z_ls6 (C : Cx w Y cc own ret d mc ms) {x0 x1 x2 x3 x4 x5 x6 x7 : Option Value} {t : Lo} {v : Int64} (hd : decode cc pc = .ok (.lstore 6, 2)) (hq : pc + 2 = q) (hp : loC x5) (g : Zj w Y σ k n q (x0 :: x1 :: x2 :: x3 :: x4 :: x5 :: some (.long v) :: none :: t) st) : Zj w Y σ k n pc (x0 :: x1 :: x2 :: x3 :: x4 :: x5 :: x6 :: x7 :: t) (.long v :: st) := by
  subst hq; intro H locs ls h1 h2 h3 h4
  exact lv_lstore C.1 C.2.1 hd (lv_of_lo h4) (Nat.lt_of_lt_of_le (by simp only [List.length_cons]; omega) h4.2.2.1) rfl fun ls' h5 => g H locs ls' h1 h2 h3 (lo_store2 (i := 6) (lo := (x0 :: x1 :: x2 :: x3 :: x4 :: x5 :: x6 :: x7 :: t)) h4.2.2.1 (lo_hp (j := 5) rfl hp) h5)
theorem z_iinc6 (C : Cx w Y cc own ret d mc ms) {x0 x1 x2 x3 x4 x5 : Option Value} {t : Lo} {x v : Int32} {c : Int} (hd : decode cc pc = .ok (.iinc 6 c, 3)) (hq : pc + 3 = q) (hv : x + Int32.ofInt c = v) (hp : loC x5) (g : Zj w Y σ k n q (x0 :: x1 :: x2 :: x3 :: x4 :: x5 :: some (.int v) :: t) st) : Zj w Y σ k n pc (x0 :: x1 :: x2 :: x3 :: x4 :: x5 :: some (.int x) :: t) st := by
  subst hq; intro H locs ls h1 h2 h3 h4
  obtain ⟨kk, hkk⟩ := List.getElem?_of_mem (mem_loL.mpr (show (x0 :: x1 :: x2 :: x3 :: x4 :: x5 :: some (.int x) :: t)[6]? = some (some (Value.int x)) from rfl))
  exact lv_iinc C.1 C.2.1 hd (lv_of_lo h4) hkk hv (Nat.lt_of_lt_of_le (by simp only [List.length_cons]; omega) h4.2.2.1) rfl fun ls' h5 => g H locs ls' h1 h2 h3 (lo_store1 (i := 6) (lo := (x0 :: x1 :: x2 :: x3 :: x4 :: x5 :: some (.int x) :: t)) h4.2.2.1 (lo_hp (j := 5) rfl hp) h5)
theorem z_iinc6N (C : Cx w Y cc own ret d mc ms) {x0 x1 x2 x3 x4 x5 : Option Value} {t : Lo} {a : Nat} (hd : decode cc pc = .ok (.iinc 6 1, 3)) (hq : pc + 3 = q) (hp : loC x5) (g : Zj w Y σ k n q (x0 :: x1 :: x2 :: x3 :: x4 :: x5 :: some (.int (nI (a + 1))) :: t) st) : Zj w Y σ k n pc (x0 :: x1 :: x2 :: x3 :: x4 :: x5 :: some (.int (nI a)) :: t) st := z_iinc6 C hd hq (nI_1 a) hp g
theorem z_il7 (C : Cx w Y cc own ret d mc ms) {x0 x1 x2 x3 x4 x5 x6 : Option Value} {t : Lo} {v : Int32} (hd : decode cc pc = .ok (.iload 7, 2)) (hq : pc + 2 = q) (g : Zj w Y σ k n q (x0 :: x1 :: x2 :: x3 :: x4 :: x5 :: x6 :: some (.int v) :: t) (.int v :: st)) : Zj w Y σ k n pc (x0 :: x1 :: x2 :: x3 :: x4 :: x5 :: x6 :: some (.int v) :: t) st := by
  subst hq; exact fun H locs ls h1 h2 h3 h4 => lv_iload C.1 C.2.1 hd (lo_at (i := 7) h4 rfl) (g H locs ls h1 h2 h3 h4)
theorem z_ll7 (C : Cx w Y cc own ret d mc ms) {x0 x1 x2 x3 x4 x5 x6 : Option Value} {t : Lo} {v : Int64} (hd : decode cc pc = .ok (.lload 7, 2)) (hq : pc + 2 = q) (g : Zj w Y σ k n q (x0 :: x1 :: x2 :: x3 :: x4 :: x5 :: x6 :: some (.long v) :: t) (.long v :: st)) : Zj w Y σ k n pc (x0 :: x1 :: x2 :: x3 :: x4 :: x5 :: x6 :: some (.long v) :: t) st := by
  subst hq; exact fun H locs ls h1 h2 h3 h4 => lv_lload C.1 C.2.1 hd (lo_at (i := 7) h4 rfl) (g H locs ls h1 h2 h3 h4)
theorem z_al7 (C : Cx w Y cc own ret d mc ms) {x0 x1 x2 x3 x4 x5 x6 : Option Value} {t : Lo} {a : Nat} (hd : decode cc pc = .ok (.aload 7, 2)) (hq : pc + 2 = q) (g : Zj w Y σ k n q (x0 :: x1 :: x2 :: x3 :: x4 :: x5 :: x6 :: some (.ref a) :: t) (.ref a :: st)) : Zj w Y σ k n pc (x0 :: x1 :: x2 :: x3 :: x4 :: x5 :: x6 :: some (.ref a) :: t) st := by
  subst hq; exact fun H locs ls h1 h2 h3 h4 => lv_aload C.1 C.2.1 hd (lo_at (i := 7) h4 rfl) (g H locs ls h1 h2 h3 h4)
theorem z_al7u (C : Cx w Y cc own ret d mc ms) {x0 x1 x2 x3 x4 x5 x6 : Option Value} {t : Lo} (hd : decode cc pc = .ok (.aload 7, 2)) (hq : pc + 2 = q) (g : Zj w Y σ k n q (x0 :: x1 :: x2 :: x3 :: x4 :: x5 :: x6 :: some .null :: t) (.null :: st)) : Zj w Y σ k n pc (x0 :: x1 :: x2 :: x3 :: x4 :: x5 :: x6 :: some .null :: t) st := by
  subst hq; exact fun H locs ls h1 h2 h3 h4 => lv_aloadN C.1 C.2.1 hd (lo_at (i := 7) h4 rfl) (g H locs ls h1 h2 h3 h4)
theorem z_al7q (C : Cx w Y cc own ret d mc ms) {x0 x1 x2 x3 x4 x5 x6 : Option Value} {t : Lo} {r : Option Nat} (hd : decode cc pc = .ok (.aload 7, 2)) (hq : pc + 2 = q) (g : Zj w Y σ k n q (x0 :: x1 :: x2 :: x3 :: x4 :: x5 :: x6 :: some (va_rf r) :: t) (va_rf r :: st)) : Zj w Y σ k n pc (x0 :: x1 :: x2 :: x3 :: x4 :: x5 :: x6 :: some (va_rf r) :: t) st := by
  cases r with
  | none => exact z_al7u C hd hq g
  | some a => exact z_al7 C hd hq g
theorem z_is7 (C : Cx w Y cc own ret d mc ms) {x0 x1 x2 x3 x4 x5 x6 x7 : Option Value} {t : Lo} {v : Int32} (hd : decode cc pc = .ok (.istore 7, 2)) (hq : pc + 2 = q) (hp : loC x6) (g : Zj w Y σ k n q (x0 :: x1 :: x2 :: x3 :: x4 :: x5 :: x6 :: some (.int v) :: t) st) : Zj w Y σ k n pc (x0 :: x1 :: x2 :: x3 :: x4 :: x5 :: x6 :: x7 :: t) (.int v :: st) := by
  subst hq; intro H locs ls h1 h2 h3 h4
  exact lv_istore C.1 C.2.1 hd (lv_of_lo h4) (Nat.lt_of_lt_of_le (by simp only [List.length_cons]; omega) h4.2.2.1) rfl fun ls' h5 => g H locs ls' h1 h2 h3 (lo_store1 (i := 7) (lo := (x0 :: x1 :: x2 :: x3 :: x4 :: x5 :: x6 :: x7 :: t)) h4.2.2.1 (lo_hp (j := 6) rfl hp) h5)
theorem z_as7 (C : Cx w Y cc own ret d mc ms) {x0 x1 x2 x3 x4 x5 x6 x7 : Option Value} {t : Lo} {v : Nat} (hd : decode cc pc = .ok (.astore 7, 2)) (hq : pc + 2 = q) (hp : loC x6) (g : Zj w Y σ k n q (x0 :: x1 :: x2 :: x3 :: x4 :: x5 :: x6 :: some (.ref v) :: t) st) : Zj w Y σ k n pc (x0 :: x1 :: x2 :: x3 :: x4 :: x5 :: x6 :: x7 :: t) (.ref v :: st) := by
  subst hq; intro H locs ls h1 h2 h3 h4
  exact lv_astore C.1 C.2.1 hd (lv_of_lo h4) (Nat.lt_of_lt_of_le (by simp only [List.length_cons]; omega) h4.2.2.1) rfl fun ls' h5 => g H locs ls' h1 h2 h3 (lo_store1 (i := 7) (lo := (x0 :: x1 :: x2 :: x3 :: x4 :: x5 :: x6 :: x7 :: t)) h4.2.2.1 (lo_hp (j := 6) rfl hp) h5)
theorem z_asu7 (C : Cx w Y cc own ret d mc ms) {x0 x1 x2 x3 x4 x5 x6 x7 : Option Value} {t : Lo} (hd : decode cc pc = .ok (.astore 7, 2)) (hq : pc + 2 = q) (hp : loC x6) (g : Zj w Y σ k n q (x0 :: x1 :: x2 :: x3 :: x4 :: x5 :: x6 :: some (.null) :: t) st) : Zj w Y σ k n pc (x0 :: x1 :: x2 :: x3 :: x4 :: x5 :: x6 :: x7 :: t) (.null :: st) := by
  subst hq; intro H locs ls h1 h2 h3 h4
  exact lv_astoreN C.1 C.2.1 hd (lv_of_lo h4) (Nat.lt_of_lt_of_le (by simp only [List.length_cons]; omega) h4.2.2.1) rfl fun ls' h5 => g H locs ls' h1 h2 h3 (lo_store1 (i := 7) (lo := (x0 :: x1 :: x2 :: x3 :: x4 :: x5 :: x6 :: x7 :: t)) h4.2.2.1 (lo_hp (j := 6) rfl hp) h5)
theorem z_as7q (C : Cx w Y cc own ret d mc ms) {x0 x1 x2 x3 x4 x5 x6 x7 : Option Value} {t : Lo} {r : Option Nat} (hd : decode cc pc = .ok (.astore 7, 2)) (hq : pc + 2 = q) (hp : loC x6) (g : Zj w Y σ k n q (x0 :: x1 :: x2 :: x3 :: x4 :: x5 :: x6 :: some (va_rf r) :: t) st) : Zj w Y σ k n pc (x0 :: x1 :: x2 :: x3 :: x4 :: x5 :: x6 :: x7 :: t) (va_rf r :: st) := by
  cases r with
  | none => exact z_asu7 C hd hq hp g
  | some a => exact z_as7 C hd hq hp g
theorem z_ls7 (C : Cx w Y cc own ret d mc ms) {x0 x1 x2 x3 x4 x5 x6 x7 x8 : Option Value} {t : Lo} {v : Int64} (hd : decode cc pc = .ok (.lstore 7, 2)) (hq : pc + 2 = q) (hp : loC x6) (g : Zj w Y σ k n q (x0 :: x1 :: x2 :: x3 :: x4 :: x5 :: x6 :: some (.long v) :: none :: t) st) : Zj w Y σ k n pc (x0 :: x1 :: x2 :: x3 :: x4 :: x5 :: x6 :: x7 :: x8 :: t) (.long v :: st) := by
  subst hq; intro H locs ls h1 h2 h3 h4
  exact lv_lstore C.1 C.2.1 hd (lv_of_lo h4) (Nat.lt_of_lt_of_le (by simp only [List.length_cons]; omega) h4.2.2.1) rfl fun ls' h5 => g H locs ls' h1 h2 h3 (lo_store2 (i := 7) (lo := (x0 :: x1 :: x2 :: x3 :: x4 :: x5 :: x6 :: x7 :: x8 :: t)) h4.2.2.1 (lo_hp (j := 6) rfl hp) h5)
theorem z_iinc7 (C : Cx w Y cc own ret d mc ms) {x0 x1 x2 x3 x4 x5 x6 : Option Value} {t : Lo} {x v : Int32} {c : Int} (hd : decode cc pc = .ok (.iinc 7 c, 3)) (hq : pc + 3 = q) (hv : x + Int32.ofInt c = v) (hp : loC x6) (g : Zj w Y σ k n q (x0 :: x1 :: x2 :: x3 :: x4 :: x5 :: x6 :: some (.int v) :: t) st) : Zj w Y σ k n pc (x0 :: x1 :: x2 :: x3 :: x4 :: x5 :: x6 :: some (.int x) :: t) st := by
  subst hq; intro H locs ls h1 h2 h3 h4
  obtain ⟨kk, hkk⟩ := List.getElem?_of_mem (mem_loL.mpr (show (x0 :: x1 :: x2 :: x3 :: x4 :: x5 :: x6 :: some (.int x) :: t)[7]? = some (some (Value.int x)) from rfl))
  exact lv_iinc C.1 C.2.1 hd (lv_of_lo h4) hkk hv (Nat.lt_of_lt_of_le (by simp only [List.length_cons]; omega) h4.2.2.1) rfl fun ls' h5 => g H locs ls' h1 h2 h3 (lo_store1 (i := 7) (lo := (x0 :: x1 :: x2 :: x3 :: x4 :: x5 :: x6 :: some (.int x) :: t)) h4.2.2.1 (lo_hp (j := 6) rfl hp) h5)
theorem z_iinc7N (C : Cx w Y cc own ret d mc ms) {x0 x1 x2 x3 x4 x5 x6 : Option Value} {t : Lo} {a : Nat} (hd : decode cc pc = .ok (.iinc 7 1, 3)) (hq : pc + 3 = q) (hp : loC x6) (g : Zj w Y σ k n q (x0 :: x1 :: x2 :: x3 :: x4 :: x5 :: x6 :: some (.int (nI (a + 1))) :: t) st) : Zj w Y σ k n pc (x0 :: x1 :: x2 :: x3 :: x4 :: x5 :: x6 :: some (.int (nI a)) :: t) st := z_iinc7 C hd hq (nI_1 a) hp g
theorem z_il8 (C : Cx w Y cc own ret d mc ms) {x0 x1 x2 x3 x4 x5 x6 x7 : Option Value} {t : Lo} {v : Int32} (hd : decode cc pc = .ok (.iload 8, 2)) (hq : pc + 2 = q) (g : Zj w Y σ k n q (x0 :: x1 :: x2 :: x3 :: x4 :: x5 :: x6 :: x7 :: some (.int v) :: t) (.int v :: st)) : Zj w Y σ k n pc (x0 :: x1 :: x2 :: x3 :: x4 :: x5 :: x6 :: x7 :: some (.int v) :: t) st := by
  subst hq; exact fun H locs ls h1 h2 h3 h4 => lv_iload C.1 C.2.1 hd (lo_at (i := 8) h4 rfl) (g H locs ls h1 h2 h3 h4)
theorem z_ll8 (C : Cx w Y cc own ret d mc ms) {x0 x1 x2 x3 x4 x5 x6 x7 : Option Value} {t : Lo} {v : Int64} (hd : decode cc pc = .ok (.lload 8, 2)) (hq : pc + 2 = q) (g : Zj w Y σ k n q (x0 :: x1 :: x2 :: x3 :: x4 :: x5 :: x6 :: x7 :: some (.long v) :: t) (.long v :: st)) : Zj w Y σ k n pc (x0 :: x1 :: x2 :: x3 :: x4 :: x5 :: x6 :: x7 :: some (.long v) :: t) st := by
  subst hq; exact fun H locs ls h1 h2 h3 h4 => lv_lload C.1 C.2.1 hd (lo_at (i := 8) h4 rfl) (g H locs ls h1 h2 h3 h4)
theorem z_al8 (C : Cx w Y cc own ret d mc ms) {x0 x1 x2 x3 x4 x5 x6 x7 : Option Value} {t : Lo} {a : Nat} (hd : decode cc pc = .ok (.aload 8, 2)) (hq : pc + 2 = q) (g : Zj w Y σ k n q (x0 :: x1 :: x2 :: x3 :: x4 :: x5 :: x6 :: x7 :: some (.ref a) :: t) (.ref a :: st)) : Zj w Y σ k n pc (x0 :: x1 :: x2 :: x3 :: x4 :: x5 :: x6 :: x7 :: some (.ref a) :: t) st := by
  subst hq; exact fun H locs ls h1 h2 h3 h4 => lv_aload C.1 C.2.1 hd (lo_at (i := 8) h4 rfl) (g H locs ls h1 h2 h3 h4)
theorem z_al8u (C : Cx w Y cc own ret d mc ms) {x0 x1 x2 x3 x4 x5 x6 x7 : Option Value} {t : Lo} (hd : decode cc pc = .ok (.aload 8, 2)) (hq : pc + 2 = q) (g : Zj w Y σ k n q (x0 :: x1 :: x2 :: x3 :: x4 :: x5 :: x6 :: x7 :: some .null :: t) (.null :: st)) : Zj w Y σ k n pc (x0 :: x1 :: x2 :: x3 :: x4 :: x5 :: x6 :: x7 :: some .null :: t) st := by
  subst hq; exact fun H locs ls h1 h2 h3 h4 => lv_aloadN C.1 C.2.1 hd (lo_at (i := 8) h4 rfl) (g H locs ls h1 h2 h3 h4)
theorem z_al8q (C : Cx w Y cc own ret d mc ms) {x0 x1 x2 x3 x4 x5 x6 x7 : Option Value} {t : Lo} {r : Option Nat} (hd : decode cc pc = .ok (.aload 8, 2)) (hq : pc + 2 = q) (g : Zj w Y σ k n q (x0 :: x1 :: x2 :: x3 :: x4 :: x5 :: x6 :: x7 :: some (va_rf r) :: t) (va_rf r :: st)) : Zj w Y σ k n pc (x0 :: x1 :: x2 :: x3 :: x4 :: x5 :: x6 :: x7 :: some (va_rf r) :: t) st := by
  cases r with
  | none => exact z_al8u C hd hq g
  | some a => exact z_al8 C hd hq g
theorem z_is8 (C : Cx w Y cc own ret d mc ms) {x0 x1 x2 x3 x4 x5 x6 x7 x8 : Option Value} {t : Lo} {v : Int32} (hd : decode cc pc = .ok (.istore 8, 2)) (hq : pc + 2 = q) (hp : loC x7) (g : Zj w Y σ k n q (x0 :: x1 :: x2 :: x3 :: x4 :: x5 :: x6 :: x7 :: some (.int v) :: t) st) : Zj w Y σ k n pc (x0 :: x1 :: x2 :: x3 :: x4 :: x5 :: x6 :: x7 :: x8 :: t) (.int v :: st) := by
  subst hq; intro H locs ls h1 h2 h3 h4
  exact lv_istore C.1 C.2.1 hd (lv_of_lo h4) (Nat.lt_of_lt_of_le (by simp only [List.length_cons]; omega) h4.2.2.1) rfl fun ls' h5 => g H locs ls' h1 h2 h3 (lo_store1 (i := 8) (lo := (x0 :: x1 :: x2 :: x3 :: x4 :: x5 :: x6 :: x7 :: x8 :: t)) h4.2.2.1 (lo_hp (j := 7) rfl hp) h5)
theorem z_as8 (C : Cx w Y cc own ret d mc ms) {x0 x1 x2 x3 x4 x5 x6 x7 x8 : Option Value} {t : Lo} {v : Nat} (hd : decode cc pc = .ok (.astore 8, 2)) (hq : pc + 2 = q) (hp : loC x7) (g : Zj w Y σ k n q (x0 :: x1 :: x2 :: x3 :: x4 :: x5 :: x6 :: x7 :: some (.ref v) :: t) st) : Zj w Y σ k n pc (x0 :: x1 :: x2 :: x3 :: x4 :: x5 :: x6 :: x7 :: x8 :: t) (.ref v :: st) := by
  subst hq; intro H locs ls h1 h2 h3 h4
  exact lv_astore C.1 C.2.1 hd (lv_of_lo h4) (Nat.lt_of_lt_of_le (by simp only [List.length_cons]; omega) h4.2.2.1) rfl fun ls' h5 => g H locs ls' h1 h2 h3 (lo_store1 (i := 8) (lo := (x0 :: x1 :: x2 :: x3 :: x4 :: x5 :: x6 :: x7 :: x8 :: t)) h4.2.2.1 (lo_hp (j := 7) rfl hp) h5)
theorem z_asu8 (C : Cx w Y cc own ret d mc ms) {x0 x1 x2 x3 x4 x5 x6 x7 x8 : Option Value} {t : Lo} (hd : decode cc pc = .ok (.astore 8, 2)) (hq : pc + 2 = q) (hp : loC x7) (g : Zj w Y σ k n q (x0 :: x1 :: x2 :: x3 :: x4 :: x5 :: x6 :: x7 :: some (.null) :: t) st) : Zj w Y σ k n pc (x0 :: x1 :: x2 :: x3 :: x4 :: x5 :: x6 :: x7 :: x8 :: t) (.null :: st) := by
  subst hq; intro H locs ls h1 h2 h3 h4
  exact lv_astoreN C.1 C.2.1 hd (lv_of_lo h4) (Nat.lt_of_lt_of_le (by simp only [List.length_cons]; omega) h4.2.2.1) rfl fun ls' h5 => g H locs ls' h1 h2 h3 (lo_store1 (i := 8) (lo := (x0 :: x1 :: x2 :: x3 :: x4 :: x5 :: x6 :: x7 :: x8 :: t)) h4.2.2.1 (lo_hp (j := 7) rfl hp) h5)
theorem z_as8q (C : Cx w Y cc own ret d mc ms) {x0 x1 x2 x3 x4 x5 x6 x7 x8 : Option Value} {t : Lo} {r : Option Nat} (hd : decode cc pc = .ok (.astore 8, 2)) (hq : pc + 2 = q) (hp : loC x7) (g : Zj w Y σ k n q (x0 :: x1 :: x2 :: x3 :: x4 :: x5 :: x6 :: x7 :: some (va_rf r) :: t) st) : Zj w Y σ k n pc (x0 :: x1 :: x2 :: x3 :: x4 :: x5 :: x6 :: x7 :: x8 :: t) (va_rf r :: st) := by
  cases r with
  | none => exact z_asu8 C hd hq hp g
  | some a => exact z_as8 C hd hq hp g
theorem z_ls8 (C : Cx w Y cc own ret d mc ms) {x0 x1 x2 x3 x4 x5 x6 x7 x8 x9 : Option Value} {t : Lo} {v : Int64} (hd : decode cc pc = .ok (.lstore 8, 2)) (hq : pc + 2 = q) (hp : loC x7) (g : Zj w Y σ k n q (x0 :: x1 :: x2 :: x3 :: x4 :: x5 :: x6 :: x7 :: some (.long v) :: none :: t) st) : Zj w Y σ k n pc (x0 :: x1 :: x2 :: x3 :: x4 :: x5 :: x6 :: x7 :: x8 :: x9 :: t) (.long v :: st) := by
  subst hq; intro H locs ls h1 h2 h3 h4
  exact lv_lstore C.1 C.2.1 hd (lv_of_lo h4) (Nat.lt_of_lt_of_le (by simp only [List.length_cons]; omega) h4.2.2.1) rfl fun ls' h5 => g H locs ls' h1 h2 h3 (lo_store2 (i := 8) (lo := (x0 :: x1 :: x2 :: x3 :: x4 :: x5 :: x6 :: x7 :: x8 :: x9 :: t)) h4.2.2.1 (lo_hp (j := 7) rfl hp) h5)
theorem z_iinc8 (C : Cx w Y cc own ret d mc ms) {x0 x1 x2 x3 x4 x5 x6 x7 : Option Value} {t : Lo} {x v : Int32} {c : Int} (hd : decode cc pc = .ok (.iinc 8 c, 3)) (hq : pc + 3 = q) (hv : x + Int32.ofInt c = v) (hp : loC x7) (g : Zj w Y σ k n q (x0 :: x1 :: x2 :: x3 :: x4 :: x5 :: x6 :: x7 :: some (.int v) :: t) st) : Zj w Y σ k n pc (x0 :: x1 :: x2 :: x3 :: x4 :: x5 :: x6 :: x7 :: some (.int x) :: t) st := by
  subst hq; intro H locs ls h1 h2 h3 h4
  obtain ⟨kk, hkk⟩ := List.getElem?_of_mem (mem_loL.mpr (show (x0 :: x1 :: x2 :: x3 :: x4 :: x5 :: x6 :: x7 :: some (.int x) :: t)[8]? = some (some (Value.int x)) from rfl))
  exact lv_iinc C.1 C.2.1 hd (lv_of_lo h4) hkk hv (Nat.lt_of_lt_of_le (by simp only [List.length_cons]; omega) h4.2.2.1) rfl fun ls' h5 => g H locs ls' h1 h2 h3 (lo_store1 (i := 8) (lo := (x0 :: x1 :: x2 :: x3 :: x4 :: x5 :: x6 :: x7 :: some (.int x) :: t)) h4.2.2.1 (lo_hp (j := 7) rfl hp) h5)
theorem z_iinc8N (C : Cx w Y cc own ret d mc ms) {x0 x1 x2 x3 x4 x5 x6 x7 : Option Value} {t : Lo} {a : Nat} (hd : decode cc pc = .ok (.iinc 8 1, 3)) (hq : pc + 3 = q) (hp : loC x7) (g : Zj w Y σ k n q (x0 :: x1 :: x2 :: x3 :: x4 :: x5 :: x6 :: x7 :: some (.int (nI (a + 1))) :: t) st) : Zj w Y σ k n pc (x0 :: x1 :: x2 :: x3 :: x4 :: x5 :: x6 :: x7 :: some (.int (nI a)) :: t) st := z_iinc8 C hd hq (nI_1 a) hp g
theorem z_il9 (C : Cx w Y cc own ret d mc ms) {x0 x1 x2 x3 x4 x5 x6 x7 x8 : Option Value} {t : Lo} {v : Int32} (hd : decode cc pc = .ok (.iload 9, 2)) (hq : pc + 2 = q) (g : Zj w Y σ k n q (x0 :: x1 :: x2 :: x3 :: x4 :: x5 :: x6 :: x7 :: x8 :: some (.int v) :: t) (.int v :: st)) : Zj w Y σ k n pc (x0 :: x1 :: x2 :: x3 :: x4 :: x5 :: x6 :: x7 :: x8 :: some (.int v) :: t) st := by
  subst hq; exact fun H locs ls h1 h2 h3 h4 => lv_iload C.1 C.2.1 hd (lo_at (i := 9) h4 rfl) (g H locs ls h1 h2 h3 h4)
theorem z_ll9 (C : Cx w Y cc own ret d mc ms) {x0 x1 x2 x3 x4 x5 x6 x7 x8 : Option Value} {t : Lo} {v : Int64} (hd : decode cc pc = .ok (.lload 9, 2)) (hq : pc + 2 = q) (g : Zj w Y σ k n q (x0 :: x1 :: x2 :: x3 :: x4 :: x5 :: x6 :: x7 :: x8 :: some (.long v) :: t) (.long v :: st)) : Zj w Y σ k n pc (x0 :: x1 :: x2 :: x3 :: x4 :: x5 :: x6 :: x7 :: x8 :: some (.long v) :: t) st := by
  subst hq; exact fun H locs ls h1 h2 h3 h4 => lv_lload C.1 C.2.1 hd (lo_at (i := 9) h4 rfl) (g H locs ls h1 h2 h3 h4)
theorem z_al9 (C : Cx w Y cc own ret d mc ms) {x0 x1 x2 x3 x4 x5 x6 x7 x8 : Option Value} {t : Lo} {a : Nat} (hd : decode cc pc = .ok (.aload 9, 2)) (hq : pc + 2 = q) (g : Zj w Y σ k n q (x0 :: x1 :: x2 :: x3 :: x4 :: x5 :: x6 :: x7 :: x8 :: some (.ref a) :: t) (.ref a :: st)) : Zj w Y σ k n pc (x0 :: x1 :: x2 :: x3 :: x4 :: x5 :: x6 :: x7 :: x8 :: some (.ref a) :: t) st := by
  subst hq; exact fun H locs ls h1 h2 h3 h4 => lv_aload C.1 C.2.1 hd (lo_at (i := 9) h4 rfl) (g H locs ls h1 h2 h3 h4)
theorem z_al9u (C : Cx w Y cc own ret d mc ms) {x0 x1 x2 x3 x4 x5 x6 x7 x8 : Option Value} {t : Lo} (hd : decode cc pc = .ok (.aload 9, 2)) (hq : pc + 2 = q) (g : Zj w Y σ k n q (x0 :: x1 :: x2 :: x3 :: x4 :: x5 :: x6 :: x7 :: x8 :: some .null :: t) (.null :: st)) : Zj w Y σ k n pc (x0 :: x1 :: x2 :: x3 :: x4 :: x5 :: x6 :: x7 :: x8 :: some .null :: t) st := by
  subst hq; exact fun H locs ls h1 h2 h3 h4 => lv_aloadN C.1 C.2.1 hd (lo_at (i := 9) h4 rfl) (g H locs ls h1 h2 h3 h4)
theorem z_al9q (C : Cx w Y cc own ret d mc ms) {x0 x1 x2 x3 x4 x5 x6 x7 x8 : Option Value} {t : Lo} {r : Option Nat} (hd : decode cc pc = .ok (.aload 9, 2)) (hq : pc + 2 = q) (g : Zj w Y σ k n q (x0 :: x1 :: x2 :: x3 :: x4 :: x5 :: x6 :: x7 :: x8 :: some (va_rf r) :: t) (va_rf r :: st)) : Zj w Y σ k n pc (x0 :: x1 :: x2 :: x3 :: x4 :: x5 :: x6 :: x7 :: x8 :: some (va_rf r) :: t) st := by
  cases r with
  | none => exact z_al9u C hd hq g
  | some a => exact z_al9 C hd hq g
theorem z_is9 (C : Cx w Y cc own ret d mc ms) {x0 x1 x2 x3 x4 x5 x6 x7 x8 x9 : Option Value} {t : Lo} {v : Int32} (hd : decode cc pc = .ok (.istore 9, 2)) (hq : pc + 2 = q) (hp : loC x8) (g : Zj w Y σ k n q (x0 :: x1 :: x2 :: x3 :: x4 :: x5 :: x6 :: x7 :: x8 :: some (.int v) :: t) st) : Zj w Y σ k n pc (x0 :: x1 :: x2 :: x3 :: x4 :: x5 :: x6 :: x7 :: x8 :: x9 :: t) (.int v :: st) := by
  subst hq; intro H locs ls h1 h2 h3 h4
  exact lv_istore C.1 C.2.1 hd (lv_of_lo h4) (Nat.lt_of_lt_of_le (by simp only [List.length_cons]; omega) h4.2.2.1) rfl fun ls' h5 => g H locs ls' h1 h2 h3 (lo_store1 (i := 9) (lo := (x0 :: x1 :: x2 :: x3 :: x4 :: x5 :: x6 :: x7 :: x8 :: x9 :: t)) h4.2.2.1 (lo_hp (j := 8) rfl hp) h5)
theorem z_as9 (C : Cx w Y cc own ret d mc ms) {x0 x1 x2 x3 x4 x5 x6 x7 x8 x9 : Option Value} {t : Lo} {v : Nat} (hd : decode cc pc = .ok (.astore 9, 2)) (hq : pc + 2 = q) (hp : loC x8) (g : Zj w Y σ k n q (x0 :: x1 :: x2 :: x3 :: x4 :: x5 :: x6 :: x7 :: x8 :: some (.ref v) :: t) st) : Zj w Y σ k n pc (x0 :: x1 :: x2 :: x3 :: x4 :: x5 :: x6 :: x7 :: x8 :: x9 :: t) (.ref v :: st) := by
  subst hq; intro H locs ls h1 h2 h3 h4
  exact lv_astore C.1 C.2.1 hd (lv_of_lo h4) (Nat.lt_of_lt_of_le (by simp only [List.length_cons]; omega) h4.2.2.1) rfl fun ls' h5 => g H locs ls' h1 h2 h3 (lo_store1 (i := 9) (lo := (x0 :: x1 :: x2 :: x3 :: x4 :: x5 :: x6 :: x7 :: x8 :: x9 :: t)) h4.2.2.1 (lo_hp (j := 8) rfl hp) h5)
theorem z_asu9 (C : Cx w Y cc own ret d mc ms) {x0 x1 x2 x3 x4 x5 x6 x7 x8 x9 : Option Value} {t : Lo} (hd : decode cc pc = .ok (.astore 9, 2)) (hq : pc + 2 = q) (hp : loC x8) (g : Zj w Y σ k n q (x0 :: x1 :: x2 :: x3 :: x4 :: x5 :: x6 :: x7 :: x8 :: some (.null) :: t) st) : Zj w Y σ k n pc (x0 :: x1 :: x2 :: x3 :: x4 :: x5 :: x6 :: x7 :: x8 :: x9 :: t) (.null :: st) := by
  subst hq; intro H locs ls h1 h2 h3 h4
  exact lv_astoreN C.1 C.2.1 hd (lv_of_lo h4) (Nat.lt_of_lt_of_le (by simp only [List.length_cons]; omega) h4.2.2.1) rfl fun ls' h5 => g H locs ls' h1 h2 h3 (lo_store1 (i := 9) (lo := (x0 :: x1 :: x2 :: x3 :: x4 :: x5 :: x6 :: x7 :: x8 :: x9 :: t)) h4.2.2.1 (lo_hp (j := 8) rfl hp) h5)
theorem z_as9q (C : Cx w Y cc own ret d mc ms) {x0 x1 x2 x3 x4 x5 x6 x7 x8 x9 : Option Value} {t : Lo} {r : Option Nat} (hd : decode cc pc = .ok (.astore 9, 2)) (hq : pc + 2 = q) (hp : loC x8) (g : Zj w Y σ k n q (x0 :: x1 :: x2 :: x3 :: x4 :: x5 :: x6 :: x7 :: x8 :: some (va_rf r) :: t) st) : Zj w Y σ k n pc (x0 :: x1 :: x2 :: x3 :: x4 :: x5 :: x6 :: x7 :: x8 :: x9 :: t) (va_rf r :: st) := by
  cases r with
  | none => exact z_asu9 C hd hq hp g
  | some a => exact z_as9 C hd hq hp g
theorem z_ls9 (C : Cx w Y cc own ret d mc ms) {x0 x1 x2 x3 x4 x5 x6 x7 x8 x9 x10 : Option Value} {t : Lo} {v : Int64} (hd : decode cc pc = .ok (.lstore 9, 2)) (hq : pc + 2 = q) (hp : loC x8) (g : Zj w Y σ k n q (x0 :: x1 :: x2 :: x3 :: x4 :: x5 :: x6 :: x7 :: x8 :: some (.long v) :: none :: t) st) : Zj w Y σ k n pc (x0 :: x1 :: x2 :: x3 :: x4 :: x5 :: x6 :: x7 :: x8 :: x9 :: x10 :: t) (.long v :: st) := by
  subst hq; intro H locs ls h1 h2 h3 h4
  exact lv_lstore C.1 C.2.1 hd (lv_of_lo h4) (Nat.lt_of_lt_of_le (by simp only [List.length_cons]; omega) h4.2.2.1) rfl fun ls' h5 => g H locs ls' h1 h2 h3 (lo_store2 (i := 9) (lo := (x0 :: x1 :: x2 :: x3 :: x4 :: x5 :: x6 :: x7 :: x8 :: x9 :: x10 :: t)) h4.2.2.1 (lo_hp (j := 8) rfl hp) h5)
theorem z_iinc9 (C : Cx w Y cc own ret d mc ms) {x0 x1 x2 x3 x4 x5 x6 x7 x8 : Option Value} {t : Lo} {x v : Int32} {c : Int} (hd : decode cc pc = .ok (.iinc 9 c, 3)) (hq : pc + 3 = q) (hv : x + Int32.ofInt c = v) (hp : loC x8) (g : Zj w Y σ k n q (x0 :: x1 :: x2 :: x3 :: x4 :: x5 :: x6 :: x7 :: x8 :: some (.int v) :: t) st) : Zj w Y σ k n pc (x0 :: x1 :: x2 :: x3 :: x4 :: x5 :: x6 :: x7 :: x8 :: some (.int x) :: t) st := by
  subst hq; intro H locs ls h1 h2 h3 h4
  obtain ⟨kk, hkk⟩ := List.getElem?_of_mem (mem_loL.mpr (show (x0 :: x1 :: x2 :: x3 :: x4 :: x5 :: x6 :: x7 :: x8 :: some (.int x) :: t)[9]? = some (some (Value.int x)) from rfl))
  exact lv_iinc C.1 C.2.1 hd (lv_of_lo h4) hkk hv (Nat.lt_of_lt_of_le (by simp only [List.length_cons]; omega) h4.2.2.1) rfl fun ls' h5 => g H locs ls' h1 h2 h3 (lo_store1 (i := 9) (lo := (x0 :: x1 :: x2 :: x3 :: x4 :: x5 :: x6 :: x7 :: x8 :: some (.int x) :: t)) h4.2.2.1 (lo_hp (j := 8) rfl hp) h5)
theorem z_iinc9N (C : Cx w Y cc own ret d mc ms) {x0 x1 x2 x3 x4 x5 x6 x7 x8 : Option Value} {t : Lo} {a : Nat} (hd : decode cc pc = .ok (.iinc 9 1, 3)) (hq : pc + 3 = q) (hp : loC x8) (g : Zj w Y σ k n q (x0 :: x1 :: x2 :: x3 :: x4 :: x5 :: x6 :: x7 :: x8 :: some (.int (nI (a + 1))) :: t) st) : Zj w Y σ k n pc (x0 :: x1 :: x2 :: x3 :: x4 :: x5 :: x6 :: x7 :: x8 :: some (.int (nI a)) :: t) st := z_iinc9 C hd hq (nI_1 a) hp g
theorem z_il10 (C : Cx w Y cc own ret d mc ms) {x0 x1 x2 x3 x4 x5 x6 x7 x8 x9 : Option Value} {t : Lo} {v : Int32} (hd : decode cc pc = .ok (.iload 10, 2)) (hq : pc + 2 = q) (g : Zj w Y σ k n q (x0 :: x1 :: x2 :: x3 :: x4 :: x5 :: x6 :: x7 :: x8 :: x9 :: some (.int v) :: t) (.int v :: st)) : Zj w Y σ k n pc (x0 :: x1 :: x2 :: x3 :: x4 :: x5 :: x6 :: x7 :: x8 :: x9 :: some (.int v) :: t) st := by
  subst hq; exact fun H locs ls h1 h2 h3 h4 => lv_iload C.1 C.2.1 hd (lo_at (i := 10) h4 rfl) (g H locs ls h1 h2 h3 h4)
theorem z_ll10 (C : Cx w Y cc own ret d mc ms) {x0 x1 x2 x3 x4 x5 x6 x7 x8 x9 : Option Value} {t : Lo} {v : Int64} (hd : decode cc pc = .ok (.lload 10, 2)) (hq : pc + 2 = q) (g : Zj w Y σ k n q (x0 :: x1 :: x2 :: x3 :: x4 :: x5 :: x6 :: x7 :: x8 :: x9 :: some (.long v) :: t) (.long v :: st)) : Zj w Y σ k n pc (x0 :: x1 :: x2 :: x3 :: x4 :: x5 :: x6 :: x7 :: x8 :: x9 :: some (.long v) :: t) st := by
  subst hq; exact fun H locs ls h1 h2 h3 h4 => lv_lload C.1 C.2.1 hd (lo_at (i := 10) h4 rfl) (g H locs ls h1 h2 h3 h4)
theorem z_al10 (C : Cx w Y cc own ret d mc ms) {x0 x1 x2 x3 x4 x5 x6 x7 x8 x9 : Option Value} {t : Lo} {a : Nat} (hd : decode cc pc = .ok (.aload 10, 2)) (hq : pc + 2 = q) (g : Zj w Y σ k n q (x0 :: x1 :: x2 :: x3 :: x4 :: x5 :: x6 :: x7 :: x8 :: x9 :: some (.ref a) :: t) (.ref a :: st)) : Zj w Y σ k n pc (x0 :: x1 :: x2 :: x3 :: x4 :: x5 :: x6 :: x7 :: x8 :: x9 :: some (.ref a) :: t) st := by
  subst hq; exact fun H locs ls h1 h2 h3 h4 => lv_aload C.1 C.2.1 hd (lo_at (i := 10) h4 rfl) (g H locs ls h1 h2 h3 h4)
theorem z_al10u (C : Cx w Y cc own ret d mc ms) {x0 x1 x2 x3 x4 x5 x6 x7 x8 x9 : Option Value} {t : Lo} (hd : decode cc pc = .ok (.aload 10, 2)) (hq : pc + 2 = q) (g : Zj w Y σ k n q (x0 :: x1 :: x2 :: x3 :: x4 :: x5 :: x6 :: x7 :: x8 :: x9 :: some .null :: t) (.null :: st)) : Zj w Y σ k n pc (x0 :: x1 :: x2 :: x3 :: x4 :: x5 :: x6 :: x7 :: x8 :: x9 :: some .null :: t) st := by
  subst hq; exact fun H locs ls h1 h2 h3 h4 => lv_aloadN C.1 C.2.1 hd (lo_at (i := 10) h4 rfl) (g H locs ls h1 h2 h3 h4)
theorem z_al10q (C : Cx w Y cc own ret d mc ms) {x0 x1 x2 x3 x4 x5 x6 x7 x8 x9 : Option Value} {t : Lo} {r : Option Nat} (hd : decode cc pc = .ok (.aload 10, 2)) (hq : pc + 2 = q) (g : Zj w Y σ k n q (x0 :: x1 :: x2 :: x3 :: x4 :: x5 :: x6 :: x7 :: x8 :: x9 :: some (va_rf r) :: t) (va_rf r :: st)) : Zj w Y σ k n pc (x0 :: x1 :: x2 :: x3 :: x4 :: x5 :: x6 :: x7 :: x8 :: x9 :: some (va_rf r) :: t) st := by
  cases r with
  | none => exact z_al10u C hd hq g
  | some a => exact z_al10 C hd hq g
theorem z_is10 (C : Cx w Y cc own ret d mc ms) {x0 x1 x2 x3 x4 x5 x6 x7 x8 x9 x10 : Option Value} {t : Lo} {v : Int32} (hd : decode cc pc = .ok (.istore 10, 2)) (hq : pc + 2 = q) (hp : loC x9) (g : Zj w Y σ k n q (x0 :: x1 :: x2 :: x3 :: x4 :: x5 :: x6 :: x7 :: x8 :: x9 :: some (.int v) :: t) st) : Zj w Y σ k n pc (x0 :: x1 :: x2 :: x3 :: x4 :: x5 :: x6 :: x7 :: x8 :: x9 :: x10 :: t) (.int v :: st) := by
  subst hq; intro H locs ls h1 h2 h3 h4
  exact lv_istore C.1 C.2.1 hd (lv_of_lo h4) (Nat.lt_of_lt_of_le (by simp only [List.length_cons]; omega) h4.2.2.1) rfl fun ls' h5 => g H locs ls' h1 h2 h3 (lo_store1 (i := 10) (lo := (x0 :: x1 :: x2 :: x3 :: x4 :: x5 :: x6 :: x7 :: x8 :: x9 :: x10 :: t)) h4.2.2.1 (lo_hp (j := 9) rfl hp) h5)
theorem z_as10 (C : Cx w Y cc own ret d mc ms) {x0 x1 x2 x3 x4 x5 x6 x7 x8 x9 x10 : Option Value} {t : Lo} {v : Nat} (hd : decode cc pc = .ok (.astore 10, 2)) (hq : pc + 2 = q) (hp : loC x9) (g : Zj w Y σ k n q (x0 :: x1 :: x2 :: x3 :: x4 :: x5 :: x6 :: x7 :: x8 :: x9 :: some (.ref v) :: t) st) : Zj w Y σ k n pc (x0 :: x1 :: x2 :: x3 :: x4 :: x5 :: x6 :: x7 :: x8 :: x9 :: x10 :: t) (.ref v :: st) := by
  subst hq; intro H locs ls h1 h2 h3 h4
  exact lv_astore C.1 C.2.1 hd (lv_of_lo h4) (Nat.lt_of_lt_of_le (by simp only [List.length_cons]; omega) h4.2.2.1) rfl fun ls' h5 => g H locs ls' h1 h2 h3 (lo_store1 (i := 10) (lo := (x0 :: x1 :: x2 :: x3 :: x4 :: x5 :: x6 :: x7 :: x8 :: x9 :: x10 :: t)) h4.2.2.1 (lo_hp (j := 9) rfl hp) h5)
theorem z_asu10 (C : Cx w Y cc own ret d mc ms) {x0 x1 x2 x3 x4 x5 x6 x7 x8 x9 x10 : Option Value} {t : Lo} (hd : decode cc pc = .ok (.astore 10, 2)) (hq : pc + 2 = q) (hp : loC x9) (g : Zj w Y σ k n q (x0 :: x1 :: x2 :: x3 :: x4 :: x5 :: x6 :: x7 :: x8 :: x9 :: some (.null) :: t) st) : Zj w Y σ k n pc (x0 :: x1 :: x2 :: x3 :: x4 :: x5 :: x6 :: x7 :: x8 :: x9 :: x10 :: t) (.null :: st) := by
  subst hq; intro H locs ls h1 h2 h3 h4
  exact lv_astoreN C.1 C.2.1 hd (lv_of_lo h4) (Nat.lt_of_lt_of_le (by simp only [List.length_cons]; omega) h4.2.2.1) rfl fun ls' h5 => g H locs ls' h1 h2 h3 (lo_store1 (i := 10) (lo := (x0 :: x1 :: x2 :: x3 :: x4 :: x5 :: x6 :: x7 :: x8 :: x9 :: x10 :: t)) h4.2.2.1 (lo_hp (j := 9) rfl hp) h5)
theorem z_as10q (C : Cx w Y cc own ret d mc ms) {x0 x1 x2 x3 x4 x5 x6 x7 x8 x9 x10 : Option Value} {t : Lo} {r : Option Nat} (hd : decode cc pc = .ok (.astore 10, 2)) (hq : pc + 2 = q) (hp : loC x9) (g : Zj w Y σ k n q (x0 :: x1 :: x2 :: x3 :: x4 :: x5 :: x6 :: x7 :: x8 :: x9 :: some (va_rf r) :: t) st) : Zj w Y σ k n pc (x0 :: x1 :: x2 :: x3 :: x4 :: x5 :: x6 :: x7 :: x8 :: x9 :: x10 :: t) (va_rf r :: st) := by
  cases r with
  | none => exact z_asu10 C hd hq hp g
  | some a => exact z_as10 C hd hq hp g
theorem z_ls10 (C : Cx w Y cc own ret d mc ms) {x0 x1 x2 x3 x4 x5 x6 x7 x8 x9 x10 x11 : Option Value} {t : Lo} {v : Int64} (hd : decode cc pc = .ok (.lstore 10, 2)) (hq : pc + 2 = q) (hp : loC x9) (g : Zj w Y σ k n q (x0 :: x1 :: x2 :: x3 :: x4 :: x5 :: x6 :: x7 :: x8 :: x9 :: some (.long v) :: none :: t) st) : Zj w Y σ k n pc (x0 :: x1 :: x2 :: x3 :: x4 :: x5 :: x6 :: x7 :: x8 :: x9 :: x10 :: x11 :: t) (.long v :: st) := by
  subst hq; intro H locs ls h1 h2 h3 h4
  exact lv_lstore C.1 C.2.1 hd (lv_of_lo h4) (Nat.lt_of_lt_of_le (by simp only [List.length_cons]; omega) h4.2.2.1) rfl fun ls' h5 => g H locs ls' h1 h2 h3 (lo_store2 (i := 10) (lo := (x0 :: x1 :: x2 :: x3 :: x4 :: x5 :: x6 :: x7 :: x8 :: x9 :: x10 :: x11 :: t)) h4.2.2.1 (lo_hp (j := 9) rfl hp) h5)
theorem z_iinc10 (C : Cx w Y cc own ret d mc ms) {x0 x1 x2 x3 x4 x5 x6 x7 x8 x9 : Option Value} {t : Lo} {x v : Int32} {c : Int} (hd : decode cc pc = .ok (.iinc 10 c, 3)) (hq : pc + 3 = q) (hv : x + Int32.ofInt c = v) (hp : loC x9) (g : Zj w Y σ k n q (x0 :: x1 :: x2 :: x3 :: x4 :: x5 :: x6 :: x7 :: x8 :: x9 :: some (.int v) :: t) st) : Zj w Y σ k n pc (x0 :: x1 :: x2 :: x3 :: x4 :: x5 :: x6 :: x7 :: x8 :: x9 :: some (.int x) :: t) st := by
  subst hq; intro H locs ls h1 h2 h3 h4
  obtain ⟨kk, hkk⟩ := List.getElem?_of_mem (mem_loL.mpr (show (x0 :: x1 :: x2 :: x3 :: x4 :: x5 :: x6 :: x7 :: x8 :: x9 :: some (.int x) :: t)[10]? = some (some (Value.int x)) from rfl))
  exact lv_iinc C.1 C.2.1 hd (lv_of_lo h4) hkk hv (Nat.lt_of_lt_of_le (by simp only [List.length_cons]; omega) h4.2.2.1) rfl fun ls' h5 => g H locs ls' h1 h2 h3 (lo_store1 (i := 10) (lo := (x0 :: x1 :: x2 :: x3 :: x4 :: x5 :: x6 :: x7 :: x8 :: x9 :: some (.int x) :: t)) h4.2.2.1 (lo_hp (j := 9) rfl hp) h5)
theorem z_iinc10N (C : Cx w Y cc own ret d mc ms) {x0 x1 x2 x3 x4 x5 x6 x7 x8 x9 : Option Value} {t : Lo} {a : Nat} (hd : decode cc pc = .ok (.iinc 10 1, 3)) (hq : pc + 3 = q) (hp : loC x9) (g : Zj w Y σ k n q (x0 :: x1 :: x2 :: x3 :: x4 :: x5 :: x6 :: x7 :: x8 :: x9 :: some (.int (nI (a + 1))) :: t) st) : Zj w Y σ k n pc (x0 :: x1 :: x2 :: x3 :: x4 :: x5 :: x6 :: x7 :: x8 :: x9 :: some (.int (nI a)) :: t) st := z_iinc10 C hd hq (nI_1 a) hp g
theorem z_il11 (C : Cx w Y cc own ret d mc ms) {x0 x1 x2 x3 x4 x5 x6 x7 x8 x9 x10 : Option Value} {t : Lo} {v : Int32} (hd : decode cc pc = .ok (.iload 11, 2)) (hq : pc + 2 = q) (g : Zj w Y σ k n q (x0 :: x1 :: x2 :: x3 :: x4 :: x5 :: x6 :: x7 :: x8 :: x9 :: x10 :: some (.int v) :: t) (.int v :: st)) : Zj w Y σ k n pc (x0 :: x1 :: x2 :: x3 :: x4 :: x5 :: x6 :: x7 :: x8 :: x9 :: x10 :: some (.int v) :: t) st := by
  subst hq; exact fun H locs ls h1 h2 h3 h4 => lv_iload C.1 C.2.1 hd (lo_at (i := 11) h4 rfl) (g H locs ls h1 h2 h3 h4)
theorem z_ll11 (C : Cx w Y cc own ret d mc ms) {x0 x1 x2 x3 x4 x5 x6 x7 x8 x9 x10 : Option Value} {t : Lo} {v : Int64} (hd : decode cc pc = .ok (.lload 11, 2)) (hq : pc + 2 = q) (g : Zj w Y σ k n q (x0 :: x1 :: x2 :: x3 :: x4 :: x5 :: x6 :: x7 :: x8 :: x9 :: x10 :: some (.long v) :: t) (.long v :: st)) : Zj w Y σ k n pc (x0 :: x1 :: x2 :: x3 :: x4 :: x5 :: x6 :: x7 :: x8 :: x9 :: x10 :: some (.long v) :: t) st := by
  subst hq; exact fun H locs ls h1 h2 h3 h4 => lv_lload C.1 C.2.1 hd (lo_at (i := 11) h4 rfl) (g H locs ls h1 h2 h3 h4)
theorem z_al11 (C : Cx w Y cc own ret d mc ms) {x0 x1 x2 x3 x4 x5 x6 x7 x8 x9 x10 : Option Value} {t : Lo} {a : Nat} (hd : decode cc pc = .ok (.aload 11, 2)) (hq : pc + 2 = q) (g : Zj w Y σ k n q (x0 :: x1 :: x2 :: x3 :: x4 :: x5 :: x6 :: x7 :: x8 :: x9 :: x10 :: some (.ref a) :: t) (.ref a :: st)) : Zj w Y σ k n pc (x0 :: x1 :: x2 :: x3 :: x4 :: x5 :: x6 :: x7 :: x8 :: x9 :: x10 :: some (.ref a) :: t) st := by
  subst hq; exact fun H locs ls h1 h2 h3 h4 => lv_aload C.1 C.2.1 hd (lo_at (i := 11) h4 rfl) (g H locs ls h1 h2 h3 h4)
theorem z_al11u (C : Cx w Y cc own ret d mc ms) {x0 x1 x2 x3 x4 x5 x6 x7 x8 x9 x10 : Option Value} {t : Lo} (hd : decode cc pc = .ok (.aload 11, 2)) (hq : pc + 2 = q) (g : Zj w Y σ k n q (x0 :: x1 :: x2 :: x3 :: x4 :: x5 :: x6 :: x7 :: x8 :: x9 :: x10 :: some .null :: t) (.null :: st)) : Zj w Y σ k n pc (x0 :: x1 :: x2 :: x3 :: x4 :: x5 :: x6 :: x7 :: x8 :: x9 :: x10 :: some .null :: t) st := by
  subst hq; exact fun H locs ls h1 h2 h3 h4 => lv_aloadN C.1 C.2.1 hd (lo_at (i := 11) h4 rfl) (g H locs ls h1 h2 h3 h4)
theorem z_al11q (C : Cx w Y cc own ret d mc ms) {x0 x1 x2 x3 x4 x5 x6 x7 x8 x9 x10 : Option Value} {t : Lo} {r : Option Nat} (hd : decode cc pc = .ok (.aload 11, 2)) (hq : pc + 2 = q) (g : Zj w Y σ k n q (x0 :: x1 :: x2 :: x3 :: x4 :: x5 :: x6 :: x7 :: x8 :: x9 :: x10 :: some (va_rf r) :: t) (va_rf r :: st)) : Zj w Y σ k n pc (x0 :: x1 :: x2 :: x3 :: x4 :: x5 :: x6 :: x7 :: x8 :: x9 :: x10 :: some (va_rf r) :: t) st := by
  cases r with
  | none => exact z_al11u C hd hq g
  | some a => exact z_al11 C hd hq g
theorem z_is11 (C : Cx w Y cc own ret d mc ms) {x0 x1 x2 x3 x4 x5 x6 x7 x8 x9 x10 x11 : Option Value} {t : Lo} {v : Int32} (hd : decode cc pc = .ok (.istore 11, 2)) (hq : pc + 2 = q) (hp : loC x10) (g : Zj w Y σ k n q (x0 :: x1 :: x2 :: x3 :: x4 :: x5 :: x6 :: x7 :: x8 :: x9 :: x10 :: some (.int v) :: t) st) : Zj w Y σ k n pc (x0 :: x1 :: x2 :: x3 :: x4 :: x5 :: x6 :: x7 :: x8 :: x9 :: x10 :: x11 :: t) (.int v :: st) := by
  subst hq; intro H locs ls h1 h2 h3 h4
  exact lv_istore C.1 C.2.1 hd (lv_of_lo h4) (Nat.lt_of_lt_of_le (by simp only [List.length_cons]; omega) h4.2.2.1) rfl fun ls' h5 => g H locs ls' h1 h2 h3 (lo_store1 (i := 11) (lo := (x0 :: x1 :: x2 :: x3 :: x4 :: x5 :: x6 :: x7 :: x8 :: x9 :: x10 :: x11 :: t)) h4.2.2.1 (lo_hp (j := 10) rfl hp) h5)
theorem z_as11 (C : Cx w Y cc own ret d mc ms) {x0 x1 x2 x3 x4 x5 x6 x7 x8 x9 x10 x11 : Option Value} {t : Lo} {v : Nat} (hd : decode cc pc = .ok (.astore 11, 2)) (hq : pc + 2 = q) (hp : loC x10) (g : Zj w Y σ k n q (x0 :: x1 :: x2 :: x3 :: x4 :: x5 :: x6 :: x7 :: x8 :: x9 :: x10 :: some (.ref v) :: t) st) : Zj w Y σ k n pc (x0 :: x1 :: x2 :: x3 :: x4 :: x5 :: x6 :: x7 :: x8 :: x9 :: x10 :: x11 :: t) (.ref v :: st) := by
  subst hq; intro H locs ls h1 h2 h3 h4
  exact lv_astore C.1 C.2.1 hd (lv_of_lo h4) (Nat.lt_of_lt_of_le (by simp only [List.length_cons]; omega) h4.2.2.1) rfl fun ls' h5 => g H locs ls' h1 h2 h3 (lo_store1 (i := 11) (lo := (x0 :: x1 :: x2 :: x3 :: x4 :: x5 :: x6 :: x7 :: x8 :: x9 :: x10 :: x11 :: t)) h4.2.2.1 (lo_hp (j := 10) rfl hp) h5)
theorem z_asu11 (C : Cx w Y cc own ret d mc ms) {x0 x1 x2 x3 x4 x5 x6 x7 x8 x9 x10 x11 : Option Value} {t : Lo} (hd : decode cc pc = .ok (.astore 11, 2)) (hq : pc + 2 = q) (hp : loC x10) (g : Zj w Y σ k n q (x0 :: x1 :: x2 :: x3 :: x4 :: x5 :: x6 :: x7 :: x8 :: x9 :: x10 :: some (.null) :: t) st) : Zj w Y σ k n pc (x0 :: x1 :: x2 :: x3 :: x4 :: x5 :: x6 :: x7 :: x8 :: x9 :: x10 :: x11 :: t) (.null :: st) := by
  subst hq; intro H locs ls h1 h2 h3 h4
  exact lv_astoreN C.1 C.2.1 hd (lv_of_lo h4) (Nat.lt_of_lt_of_le (by simp only [List.length_cons]; omega) h4.2.2.1) rfl fun ls' h5 => g H locs ls' h1 h2 h3 (lo_store1 (i := 11) (lo := (x0 :: x1 :: x2 :: x3 :: x4 :: x5 :: x6 :: x7 :: x8 :: x9 :: x10 :: x11 :: t)) h4.2.2.1 (lo_hp (j := 10) rfl hp) h5)
theorem z_as11q (C : Cx w Y cc own ret d mc ms) {x0 x1 x2 x3 x4 x5 x6 x7 x8 x9 x10 x11 : Option Value} {t : Lo} {r : Option Nat} (hd : decode cc pc = .ok (.astore 11, 2)) (hq : pc + 2 = q) (hp : loC x10) (g : Zj w Y σ k n q (x0 :: x1 :: x2 :: x3 :: x4 :: x5 :: x6 :: x7 :: x8 :: x9 :: x10 :: some (va_rf r) :: t) st) : Zj w Y σ k n pc (x0 :: x1 :: x2 :: x3 :: x4 :: x5 :: x6 :: x7 :: x8 :: x9 :: x10 :: x11 :: t) (va_rf r :: st) := by
  cases r with
  | none => exact z_asu11 C hd hq hp g
  | some a => exact z_as11 C hd hq hp g
theorem z_ls11 (C : Cx w Y cc own ret d mc ms) {x0 x1 x2 x3 x4 x5 x6 x7 x8 x9 x10 x11 x12 : Option Value} {t : Lo} {v : Int64} (hd : decode cc pc = .ok (.lstore 11, 2)) (hq : pc + 2 = q) (hp : loC x10) (g : Zj w Y σ k n q (x0 :: x1 :: x2 :: x3 :: x4 :: x5 :: x6 :: x7 :: x8 :: x9 :: x10 :: some (.long v) :: none :: t) st) : Zj w Y σ k n pc (x0 :: x1 :: x2 :: x3 :: x4 :: x5 :: x6 :: x7 :: x8 :: x9 :: x10 :: x11 :: x12 :: t) (.long v :: st) := by
  subst hq; intro H locs ls h1 h2 h3 h4
  exact lv_lstore C.1 C.2.1 hd (lv_of_lo h4) (Nat.lt_of_lt_of_le (by simp only [List.length_cons]; omega) h4.2.2.1) rfl fun ls' h5 => g H locs ls' h1 h2 h3 (lo_store2 (i := 11) (lo := (x0 :: x1 :: x2 :: x3 :: x4 :: x5 :: x6 :: x7 :: x8 :: x9 :: x10 :: x11 :: x12 :: t)) h4.2.2.1 (lo_hp (j := 10) rfl hp) h5)
theorem z_iinc11 (C : Cx w Y cc own ret d mc ms) {x0 x1 x2 x3 x4 x5 x6 x7 x8 x9 x10 : Option Value} {t : Lo} {x v : Int32} {c : Int} (hd : decode cc pc = .ok (.iinc 11 c, 3)) (hq : pc + 3 = q) (hv : x + Int32.ofInt c = v) (hp : loC x10) (g : Zj w Y σ k n q (x0 :: x1 :: x2 :: x3 :: x4 :: x5 :: x6 :: x7 :: x8 :: x9 :: x10 :: some (.int v) :: t) st) : Zj w Y σ k n pc (x0 :: x1 :: x2 :: x3 :: x4 :: x5 :: x6 :: x7 :: x8 :: x9 :: x10 :: some (.int x) :: t) st := by
  subst hq; intro H locs ls h1 h2 h3 h4
  obtain ⟨kk, hkk⟩ := List.getElem?_of_mem (mem_loL.mpr (show (x0 :: x1 :: x2 :: x3 :: x4 :: x5 :: x6 :: x7 :: x8 :: x9 :: x10 :: some (.int x) :: t)[11]? = some (some (Value.int x)) from rfl))
  exact lv_iinc C.1 C.2.1 hd (lv_of_lo h4) hkk hv (Nat.lt_of_lt_of_le (by simp only [List.length_cons]; omega) h4.2.2.1) rfl fun ls' h5 => g H locs ls' h1 h2 h3 (lo_store1 (i := 11) (lo := (x0 :: x1 :: x2 :: x3 :: x4 :: x5 :: x6 :: x7 :: x8 :: x9 :: x10 :: some (.int x) :: t)) h4.2.2.1 (lo_hp (j := 10) rfl hp) h5)
theorem z_iinc11N (C : Cx w Y cc own ret d mc ms) {x0 x1 x2 x3 x4 x5 x6 x7 x8 x9 x10 : Option Value} {t : Lo} {a : Nat} (hd : decode cc pc = .ok (.iinc 11 1, 3)) (hq : pc + 3 = q) (hp : loC x10) (g : Zj w Y σ k n q (x0 :: x1 :: x2 :: x3 :: x4 :: x5 :: x6 :: x7 :: x8 :: x9 :: x10 :: some (.int (nI (a + 1))) :: t) st) : Zj w Y σ k n pc (x0 :: x1 :: x2 :: x3 :: x4 :: x5 :: x6 :: x7 :: x8 :: x9 :: x10 :: some (.int (nI a)) :: t) st := z_iinc11 C hd hq (nI_1 a) hp g
theorem z_il12 (C : Cx w Y cc own ret d mc ms) {x0 x1 x2 x3 x4 x5 x6 x7 x8 x9 x10 x11 : Option Value} {t : Lo} {v : Int32} (hd : decode cc pc = .ok (.iload 12, 2)) (hq : pc + 2 = q) (g : Zj w Y σ k n q (x0 :: x1 :: x2 :: x3 :: x4 :: x5 :: x6 :: x7 :: x8 :: x9 :: x10 :: x11 :: some (.int v) :: t) (.int v :: st)) : Zj w Y σ k n pc (x0 :: x1 :: x2 :: x3 :: x4 :: x5 :: x6 :: x7 :: x8 :: x9 :: x10 :: x11 :: some (.int v) :: t) st := by
  subst hq; exact fun H locs ls h1 h2 h3 h4 => lv_iload C.1 C.2.1 hd (lo_at (i := 12) h4 rfl) (g H locs ls h1 h2 h3 h4)
theorem z_ll12 (C : Cx w Y cc own ret d mc ms) {x0 x1 x2 x3 x4 x5 x6 x7 x8 x9 x10 x11 : Option Value} {t : Lo} {v : Int64} (hd : decode cc pc = .ok (.lload 12, 2)) (hq : pc + 2 = q) (g : Zj w Y σ k n q (x0 :: x1 :: x2 :: x3 :: x4 :: x5 :: x6 :: x7 :: x8 :: x9 :: x10 :: x11 :: some (.long v) :: t) (.long v :: st)) : Zj w Y σ k n pc (x0 :: x1 :: x2 :: x3 :: x4 :: x5 :: x6 :: x7 :: x8 :: x9 :: x10 :: x11 :: some (.long v) :: t) st := by
  subst hq; exact fun H locs ls h1 h2 h3 h4 => lv_lload C.1 C.2.1 hd (lo_at (i := 12) h4 rfl) (g H locs ls h1 h2 h3 h4)
theorem z_al12 (C : Cx w Y cc own ret d mc ms) {x0 x1 x2 x3 x4 x5 x6 x7 x8 x9 x10 x11 : Option Value} {t : Lo} {a : Nat} (hd : decode cc pc = .ok (.aload 12, 2)) (hq : pc + 2 = q) (g : Zj w Y σ k n q (x0 :: x1 :: x2 :: x3 :: x4 :: x5 :: x6 :: x7 :: x8 :: x9 :: x10 :: x11 :: some (.ref a) :: t) (.ref a :: st)) : Zj w Y σ k n pc (x0 :: x1 :: x2 :: x3 :: x4 :: x5 :: x6 :: x7 :: x8 :: x9 :: x10 :: x11 :: some (.ref a) :: t) st := by
  subst hq; exact fun H locs ls h1 h2 h3 h4 => lv_aload C.1 C.2.1 hd (lo_at (i := 12) h4 rfl) (g H locs ls h1 h2 h3 h4)
theorem z_al12u (C : Cx w Y cc own ret d mc ms) {x0 x1 x2 x3 x4 x5 x6 x7 x8 x9 x10 x11 : Option Value} {t : Lo} (hd : decode cc pc = .ok (.aload 12, 2)) (hq : pc + 2 = q) (g : Zj w Y σ k n q (x0 :: x1 :: x2 :: x3 :: x4 :: x5 :: x6 :: x7 :: x8 :: x9 :: x10 :: x11 :: some .null :: t) (.null :: st)) : Zj w Y σ k n pc (x0 :: x1 :: x2 :: x3 :: x4 :: x5 :: x6 :: x7 :: x8 :: x9 :: x10 :: x11 :: some .null :: t) st := by
  subst hq; exact fun H locs ls h1 h2 h3 h4 => lv_aloadN C.1 C.2.1 hd (lo_at (i := 12) h4 rfl) (g H locs ls h1 h2 h3 h4)
theorem z_al12q (C : Cx w Y cc own ret d mc ms) {x0 x1 x2 x3 x4 x5 x6 x7 x8 x9 x10 x11 : Option Value} {t : Lo} {r : Option Nat} (hd : decode cc pc = .ok (.aload 12, 2)) (hq : pc + 2 = q) (g : Zj w Y σ k n q (x0 :: x1 :: x2 :: x3 :: x4 :: x5 :: x6 :: x7 :: x8 :: x9 :: x10 :: x11 :: some (va_rf r) :: t) (va_rf r :: st)) : Zj w Y σ k n pc (x0 :: x1 :: x2 :: x3 :: x4 :: x5 :: x6 :: x7 :: x8 :: x9 :: x10 :: x11 :: some (va_rf r) :: t) st := by
  cases r with
  | none => exact z_al12u C hd hq g
  | some a => exact z_al12 C hd hq g
theorem z_is12 (C : Cx w Y cc own ret d mc ms) {x0 x1 x2 x3 x4 x5 x6 x7 x8 x9 x10 x11 x12 : Option Value} {t : Lo} {v : Int32} (hd : decode cc pc = .ok (.istore 12, 2)) (hq : pc + 2 = q) (hp : loC x11) (g : Zj w Y σ k n q (x0 :: x1 :: x2 :: x3 :: x4 :: x5 :: x6 :: x7 :: x8 :: x9 :: x10 :: x11 :: some (.int v) :: t) st) : Zj w Y σ k n pc (x0 :: x1 :: x2 :: x3 :: x4 :: x5 :: x6 :: x7 :: x8 :: x9 :: x10 :: x11 :: x12 :: t) (.int v :: st) := by
  subst hq; intro H locs ls h1 h2 h3 h4
  exact lv_istore C.1 C.2.1 hd (lv_of_lo h4) (Nat.lt_of_lt_of_le (by simp only [List.length_cons]; omega) h4.2.2.1) rfl fun ls' h5 => g H locs ls' h1 h2 h3 (lo_store1 (i := 12) (lo := (x0 :: x1 :: x2 :: x3 :: x4 :: x5 :: x6 :: x7 :: x8 :: x9 :: x10 :: x11 :: x12 :: t)) h4.2.2.1 (lo_hp (j := 11) rfl hp) h5)
theorem z_as12 (C : Cx w Y cc own ret d mc ms) {x0 x1 x2 x3 x4 x5 x6 x7 x8 x9 x10 x11 x12 : Option Value} {t : Lo} {v : Nat} (hd : decode cc pc = .ok (.astore 12, 2)) (hq : pc + 2 = q) (hp : loC x11) (g : Zj w Y σ k n q (x0 :: x1 :: x2 :: x3 :: x4 :: x5 :: x6 :: x7 :: x8 :: x9 :: x10 :: x11 :: some (.ref v) :: t) st) : Zj w Y σ k n pc (x0 :: x1 :: x2 :: x3 :: x4 :: x5 :: x6 :: x7 :: x8 :: x9 :: x10 :: x11 :: x12 :: t) (.ref v :: st) := by
  subst hq; intro H locs ls h1 h2 h3 h4
  exact lv_astore C.1 C.2.1 hd (lv_of_lo h4) (Nat.lt_of_lt_of_le (by simp only [List.length_cons]; omega) h4.2.2.1) rfl fun ls' h5 => g H locs ls' h1 h2 h3 (lo_store1 (i := 12) (lo := (x0 :: x1 :: x2 :: x3 :: x4 :: x5 :: x6 :: x7 :: x8 :: x9 :: x10 :: x11 :: x12 :: t)) h4.2.2.1 (lo_hp (j := 11) rfl hp) h5)
theorem z_asu12 (C : Cx w Y cc own ret d mc ms) {x0 x1 x2 x3 x4 x5 x6 x7 x8 x9 x10 x11 x12 : Option Value} {t : Lo} (hd : decode cc pc = .ok (.astore 12, 2)) (hq : pc + 2 = q) (hp : loC x11) (g : Zj w Y σ k n q (x0 :: x1 :: x2 :: x3 :: x4 :: x5 :: x6 :: x7 :: x8 :: x9 :: x10 :: x11 :: some (.null) :: t) st) : Zj w Y σ k n pc (x0 :: x1 :: x2 :: x3 :: x4 :: x5 :: x6 :: x7 :: x8 :: x9 :: x10 :: x11 :: x12 :: t) (.null :: st) := by
  subst hq; intro H locs ls h1 h2 h3 h4
  exact lv_astoreN C.1 C.2.1 hd (lv_of_lo h4) (Nat.lt_of_lt_of_le (by simp only [List.length_cons]; omega) h4.2.2.1) rfl fun ls' h5 => g H locs ls' h1 h2 h3 (lo_store1 (i := 12) (lo := (x0 :: x1 :: x2 :: x3 :: x4 :: x5 :: x6 :: x7 :: x8 :: x9 :: x10 :: x11 :: x12 :: t)) h4.2.2.1 (lo_hp (j := 11) rfl hp) h5)
theorem z_as12q (C : Cx w Y cc own ret d mc ms) {x0 x1 x2 x3 x4 x5 x6 x7 x8 x9 x10 x11 x12 : Option Value} {t : Lo} {r : Option Nat} (hd : decode cc pc = .ok (.astore 12, 2)) (hq : pc + 2 = q) (hp : loC x11) (g : Zj w Y σ k n q (x0 :: x1 :: x2 :: x3 :: x4 :: x5 :: x6 :: x7 :: x8 :: x9 :: x10 :: x11 :: some (va_rf r) :: t) st) : Zj w Y σ k n pc (x0 :: x1 :: x2 :: x3 :: x4 :: x5 :: x6 :: x7 :: x8 :: x9 :: x10 :: x11 :: x12 :: t) (va_rf r :: st) := by
  cases r with
  | none => exact z_asu12 C hd hq hp g
  | some a => exact z_as12 C hd hq hp g
theorem z_ls12 (C : Cx w Y cc own ret d mc ms) {x0 x1 x2 x3 x4 x5 x6 x7 x8 x9 x10 x11 x12 x13 : Option Value} {t : Lo} {v : Int64} (hd : decode cc pc = .ok (.lstore 12, 2)) (hq : pc + 2 = q) (hp : loC x11) (g : Zj w Y σ k n q (x0 :: x1 :: x2 :: x3 :: x4 :: x5 :: x6 :: x7 :: x8 :: x9 :: x10 :: x11 :: some (.long v) :: none :: t) st) : Zj w Y σ k n pc (x0 :: x1 :: x2 :: x3 :: x4 :: x5 :: x6 :: x7 :: x8 :: x9 :: x10 :: x11 :: x12 :: x13 :: t) (.long v :: st) := by
  subst hq; intro H locs ls h1 h2 h3 h4
  exact lv_lstore C.1 C.2.1 hd (lv_of_lo h4) (Nat.lt_of_lt_of_le (by simp only [List.length_cons]; omega) h4.2.2.1) rfl fun ls' h5 => g H locs ls' h1 h2 h3 (lo_store2 (i := 12) (lo := (x0 :: x1 :: x2 :: x3 :: x4 :: x5 :: x6 :: x7 :: x8 :: x9 :: x10 :: x11 :: x12 :: x13 :: t)) h4.2.2.1 (lo_hp (j := 11) rfl hp) h5)
theorem z_iinc12 (C : Cx w Y cc own ret d mc ms) {x0 x1 x2 x3 x4 x5 x6 x7 x8 x9 x10 x11 : Option Value} {t : Lo} {x v : Int32} {c : Int} (hd : decode cc pc = .ok (.iinc 12 c, 3)) (hq : pc + 3 = q) (hv : x + Int32.ofInt c = v) (hp : loC x11) (g : Zj w Y σ k n q (x0 :: x1 :: x2 :: x3 :: x4 :: x5 :: x6 :: x7 :: x8 :: x9 :: x10 :: x11 :: some (.int v) :: t) st) : Zj w Y σ k n pc (x0 :: x1 :: x2 :: x3 :: x4 :: x5 :: x6 :: x7 :: x8 :: x9 :: x10 :: x11 :: some (.int x) :: t) st := by
  subst hq; intro H locs ls h1 h2 h3 h4
  obtain ⟨kk, hkk⟩ := List.getElem?_of_mem (mem_loL.mpr (show (x0 :: x1 :: x2 :: x3 :: x4 :: x5 :: x6 :: x7 :: x8 :: x9 :: x10 :: x11 :: some (.int x) :: t)[12]? = some (some (Value.int x)) from rfl))
  exact lv_iinc C.1 C.2.1 hd (lv_of_lo h4) hkk hv (Nat.lt_of_lt_of_le (by simp only [List.length_cons]; omega) h4.2.2.1) rfl fun ls' h5 => g H locs ls' h1 h2 h3 (lo_store1 (i := 12) (lo := (x0 :: x1 :: x2 :: x3 :: x4 :: x5 :: x6 :: x7 :: x8 :: x9 :: x10 :: x11 :: some (.int x) :: t)) h4.2.2.1 (lo_hp (j := 11) rfl hp) h5)
theorem z_iinc12N (C : Cx w Y cc own ret d mc ms) {x0 x1 x2 x3 x4 x5 x6 x7 x8 x9 x10 x11 : Option Value} {t : Lo} {a : Nat} (hd : decode cc pc = .ok (.iinc 12 1, 3)) (hq : pc + 3 = q) (hp : loC x11) (g : Zj w Y σ k n q (x0 :: x1 :: x2 :: x3 :: x4 :: x5 :: x6 :: x7 :: x8 :: x9 :: x10 :: x11 :: some (.int (nI (a + 1))) :: t) st) : Zj w Y σ k n pc (x0 :: x1 :: x2 :: x3 :: x4 :: x5 :: x6 :: x7 :: x8 :: x9 :: x10 :: x11 :: some (.int (nI a)) :: t) st := z_iinc12 C hd hq (nI_1 a) hp g
end ZR
