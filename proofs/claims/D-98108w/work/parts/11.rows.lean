/-! ROWS OF THE LAYER: one an instruction -/
set_option maxRecDepth 100000
theorem z_iadd {ρ : Type} {X : zCx} {M : zMr} {inj : ρ → Option Value} {G : zGw} {cs : Nat × Nat} {res : ρ × zSt} {S : zSt} {pc : Nat} {ls : List (Option Value)} {st : List Value} {f : Option (ρ × zSt)} {a b : Int32} (d : decode M.2.1 pc = .ok (.iadd, 1)) (k : Zm X M inj G cs res S (pc + 1) ls (.int (a + b) :: st) f) : Zm X M inj G cs res S pc ls (.int b :: .int a :: st) f :=
  fun hf ho H locs la hp hl hS => lv_iadd ho.1 ho.2.1 d  (k hf ho H locs la hp hl hS)
theorem z_isub {ρ : Type} {X : zCx} {M : zMr} {inj : ρ → Option Value} {G : zGw} {cs : Nat × Nat} {res : ρ × zSt} {S : zSt} {pc : Nat} {ls : List (Option Value)} {st : List Value} {f : Option (ρ × zSt)} {a b : Int32} (d : decode M.2.1 pc = .ok (.isub, 1)) (k : Zm X M inj G cs res S (pc + 1) ls (.int (a - b) :: st) f) : Zm X M inj G cs res S pc ls (.int b :: .int a :: st) f :=
  fun hf ho H locs la hp hl hS => lv_isub ho.1 ho.2.1 d  (k hf ho H locs la hp hl hS)
theorem z_imul {ρ : Type} {X : zCx} {M : zMr} {inj : ρ → Option Value} {G : zGw} {cs : Nat × Nat} {res : ρ × zSt} {S : zSt} {pc : Nat} {ls : List (Option Value)} {st : List Value} {f : Option (ρ × zSt)} {a b : Int32} (d : decode M.2.1 pc = .ok (.imul, 1)) (k : Zm X M inj G cs res S (pc + 1) ls (.int (a * b) :: st) f) : Zm X M inj G cs res S pc ls (.int b :: .int a :: st) f :=
  fun hf ho H locs la hp hl hS => lv_imul ho.1 ho.2.1 d  (k hf ho H locs la hp hl hS)
theorem z_iand {ρ : Type} {X : zCx} {M : zMr} {inj : ρ → Option Value} {G : zGw} {cs : Nat × Nat} {res : ρ × zSt} {S : zSt} {pc : Nat} {ls : List (Option Value)} {st : List Value} {f : Option (ρ × zSt)} {a b : Int32} (d : decode M.2.1 pc = .ok (.iand, 1)) (k : Zm X M inj G cs res S (pc + 1) ls (.int (a &&& b) :: st) f) : Zm X M inj G cs res S pc ls (.int b :: .int a :: st) f :=
  fun hf ho H locs la hp hl hS => lv_iand ho.1 ho.2.1 d  (k hf ho H locs la hp hl hS)
theorem z_ior {ρ : Type} {X : zCx} {M : zMr} {inj : ρ → Option Value} {G : zGw} {cs : Nat × Nat} {res : ρ × zSt} {S : zSt} {pc : Nat} {ls : List (Option Value)} {st : List Value} {f : Option (ρ × zSt)} {a b : Int32} (d : decode M.2.1 pc = .ok (.ior, 1)) (k : Zm X M inj G cs res S (pc + 1) ls (.int (a ||| b) :: st) f) : Zm X M inj G cs res S pc ls (.int b :: .int a :: st) f :=
  fun hf ho H locs la hp hl hS => lv_ior ho.1 ho.2.1 d  (k hf ho H locs la hp hl hS)
theorem z_ixor {ρ : Type} {X : zCx} {M : zMr} {inj : ρ → Option Value} {G : zGw} {cs : Nat × Nat} {res : ρ × zSt} {S : zSt} {pc : Nat} {ls : List (Option Value)} {st : List Value} {f : Option (ρ × zSt)} {a b : Int32} (d : decode M.2.1 pc = .ok (.ixor, 1)) (k : Zm X M inj G cs res S (pc + 1) ls (.int (a ^^^ b) :: st) f) : Zm X M inj G cs res S pc ls (.int b :: .int a :: st) f :=
  fun hf ho H locs la hp hl hS => lv_ixor ho.1 ho.2.1 d  (k hf ho H locs la hp hl hS)
theorem z_ishl {ρ : Type} {X : zCx} {M : zMr} {inj : ρ → Option Value} {G : zGw} {cs : Nat × Nat} {res : ρ × zSt} {S : zSt} {pc : Nat} {ls : List (Option Value)} {st : List Value} {f : Option (ρ × zSt)} {a b : Int32} (d : decode M.2.1 pc = .ok (.ishl, 1)) (k : Zm X M inj G cs res S (pc + 1) ls (.int (a <<< (b &&& 31)) :: st) f) : Zm X M inj G cs res S pc ls (.int b :: .int a :: st) f :=
  fun hf ho H locs la hp hl hS => lv_ishl ho.1 ho.2.1 d  (k hf ho H locs la hp hl hS)
theorem z_ishr {ρ : Type} {X : zCx} {M : zMr} {inj : ρ → Option Value} {G : zGw} {cs : Nat × Nat} {res : ρ × zSt} {S : zSt} {pc : Nat} {ls : List (Option Value)} {st : List Value} {f : Option (ρ × zSt)} {a b : Int32} (d : decode M.2.1 pc = .ok (.ishr, 1)) (k : Zm X M inj G cs res S (pc + 1) ls (.int (a >>> (b &&& 31)) :: st) f) : Zm X M inj G cs res S pc ls (.int b :: .int a :: st) f :=
  fun hf ho H locs la hp hl hS => lv_ishr ho.1 ho.2.1 d  (k hf ho H locs la hp hl hS)
theorem z_ladd {ρ : Type} {X : zCx} {M : zMr} {inj : ρ → Option Value} {G : zGw} {cs : Nat × Nat} {res : ρ × zSt} {S : zSt} {pc : Nat} {ls : List (Option Value)} {st : List Value} {f : Option (ρ × zSt)} {a b : Int64} (d : decode M.2.1 pc = .ok (.ladd, 1)) (k : Zm X M inj G cs res S (pc + 1) ls (.long (a + b) :: st) f) : Zm X M inj G cs res S pc ls (.long b :: .long a :: st) f :=
  fun hf ho H locs la hp hl hS => lv_ladd ho.1 ho.2.1 d  (k hf ho H locs la hp hl hS)
theorem z_lsub {ρ : Type} {X : zCx} {M : zMr} {inj : ρ → Option Value} {G : zGw} {cs : Nat × Nat} {res : ρ × zSt} {S : zSt} {pc : Nat} {ls : List (Option Value)} {st : List Value} {f : Option (ρ × zSt)} {a b : Int64} (d : decode M.2.1 pc = .ok (.lsub, 1)) (k : Zm X M inj G cs res S (pc + 1) ls (.long (a - b) :: st) f) : Zm X M inj G cs res S pc ls (.long b :: .long a :: st) f :=
  fun hf ho H locs la hp hl hS => lv_lsub ho.1 ho.2.1 d  (k hf ho H locs la hp hl hS)
theorem z_lmul {ρ : Type} {X : zCx} {M : zMr} {inj : ρ → Option Value} {G : zGw} {cs : Nat × Nat} {res : ρ × zSt} {S : zSt} {pc : Nat} {ls : List (Option Value)} {st : List Value} {f : Option (ρ × zSt)} {a b : Int64} (d : decode M.2.1 pc = .ok (.lmul, 1)) (k : Zm X M inj G cs res S (pc + 1) ls (.long (a * b) :: st) f) : Zm X M inj G cs res S pc ls (.long b :: .long a :: st) f :=
  fun hf ho H locs la hp hl hS => lv_lmul ho.1 ho.2.1 d  (k hf ho H locs la hp hl hS)
theorem z_land {ρ : Type} {X : zCx} {M : zMr} {inj : ρ → Option Value} {G : zGw} {cs : Nat × Nat} {res : ρ × zSt} {S : zSt} {pc : Nat} {ls : List (Option Value)} {st : List Value} {f : Option (ρ × zSt)} {a b : Int64} (d : decode M.2.1 pc = .ok (.land, 1)) (k : Zm X M inj G cs res S (pc + 1) ls (.long (a &&& b) :: st) f) : Zm X M inj G cs res S pc ls (.long b :: .long a :: st) f :=
  fun hf ho H locs la hp hl hS => lv_land ho.1 ho.2.1 d  (k hf ho H locs la hp hl hS)
theorem z_lor {ρ : Type} {X : zCx} {M : zMr} {inj : ρ → Option Value} {G : zGw} {cs : Nat × Nat} {res : ρ × zSt} {S : zSt} {pc : Nat} {ls : List (Option Value)} {st : List Value} {f : Option (ρ × zSt)} {a b : Int64} (d : decode M.2.1 pc = .ok (.lor, 1)) (k : Zm X M inj G cs res S (pc + 1) ls (.long (a ||| b) :: st) f) : Zm X M inj G cs res S pc ls (.long b :: .long a :: st) f :=
  fun hf ho H locs la hp hl hS => lv_lor ho.1 ho.2.1 d  (k hf ho H locs la hp hl hS)
def iushr (a b : Int32) : Int32 := (a.toUInt32 >>> (b.toUInt32 &&& Int32.toUInt32 31)).toInt32
theorem z_iushr {ρ : Type} {X : zCx} {M : zMr} {inj : ρ → Option Value} {G : zGw} {cs : Nat × Nat} {res : ρ × zSt} {S : zSt} {pc : Nat} {ls : List (Option Value)} {st : List Value} {f : Option (ρ × zSt)} {a b : Int32} (d : decode M.2.1 pc = .ok (.iushr, 1)) (k : Zm X M inj G cs res S (pc + 1) ls (.int (iushr a b) :: st) f) : Zm X M inj G cs res S pc ls (.int b :: .int a :: st) f :=
  fun hf ho H locs la hp hl hS => lv_iushr ho.1 ho.2.1 d rfl (k hf ho H locs la hp hl hS)
theorem z_lshl {ρ : Type} {X : zCx} {M : zMr} {inj : ρ → Option Value} {G : zGw} {cs : Nat × Nat} {res : ρ × zSt} {S : zSt} {pc : Nat} {ls : List (Option Value)} {st : List Value} {f : Option (ρ × zSt)} {a : Int64} {b : Int32} (d : decode M.2.1 pc = .ok (.lshl, 1)) (k : Zm X M inj G cs res S (pc + 1) ls (.long (a <<< (b.toInt64 &&& 63)) :: st) f) : Zm X M inj G cs res S pc ls (.int b :: .long a :: st) f :=
  fun hf ho H locs la hp hl hS => lv_lshl ho.1 ho.2.1 d rfl (k hf ho H locs la hp hl hS)
theorem z_lshr {ρ : Type} {X : zCx} {M : zMr} {inj : ρ → Option Value} {G : zGw} {cs : Nat × Nat} {res : ρ × zSt} {S : zSt} {pc : Nat} {ls : List (Option Value)} {st : List Value} {f : Option (ρ × zSt)} {a : Int64} {b : Int32} (d : decode M.2.1 pc = .ok (.lshr, 1)) (k : Zm X M inj G cs res S (pc + 1) ls (.long (a >>> (b.toInt64 &&& 63)) :: st) f) : Zm X M inj G cs res S pc ls (.int b :: .long a :: st) f :=
  fun hf ho H locs la hp hl hS => lv_lshr ho.1 ho.2.1 d rfl (k hf ho H locs la hp hl hS)
theorem z_i2l {ρ : Type} {X : zCx} {M : zMr} {inj : ρ → Option Value} {G : zGw} {cs : Nat × Nat} {res : ρ × zSt} {S : zSt} {pc : Nat} {ls : List (Option Value)} {st : List Value} {f : Option (ρ × zSt)} {a : Int32} (d : decode M.2.1 pc = .ok (.i2l, 1)) (k : Zm X M inj G cs res S (pc + 1) ls (.long a.toInt64 :: st) f) : Zm X M inj G cs res S pc ls (.int a :: st) f :=
  fun hf ho H locs la hp hl hS => lv_i2l ho.1 ho.2.1 d rfl (k hf ho H locs la hp hl hS)
theorem z_l2i {ρ : Type} {X : zCx} {M : zMr} {inj : ρ → Option Value} {G : zGw} {cs : Nat × Nat} {res : ρ × zSt} {S : zSt} {pc : Nat} {ls : List (Option Value)} {st : List Value} {f : Option (ρ × zSt)} {a : Int64} (d : decode M.2.1 pc = .ok (.l2i, 1)) (k : Zm X M inj G cs res S (pc + 1) ls (.int a.toInt32 :: st) f) : Zm X M inj G cs res S pc ls (.long a :: st) f :=
  fun hf ho H locs la hp hl hS => lv_l2i ho.1 ho.2.1 d rfl (k hf ho H locs la hp hl hS)
theorem z_i2b {ρ : Type} {X : zCx} {M : zMr} {inj : ρ → Option Value} {G : zGw} {cs : Nat × Nat} {res : ρ × zSt} {S : zSt} {pc : Nat} {ls : List (Option Value)} {st : List Value} {f : Option (ρ × zSt)} {a : Int32} (d : decode M.2.1 pc = .ok (.i2b, 1)) (k : Zm X M inj G cs res S (pc + 1) ls (.int a.toInt8.toInt32 :: st) f) : Zm X M inj G cs res S pc ls (.int a :: st) f :=
  fun hf ho H locs la hp hl hS => lv_i2b ho.1 ho.2.1 d rfl (k hf ho H locs la hp hl hS)
theorem z_i2s {ρ : Type} {X : zCx} {M : zMr} {inj : ρ → Option Value} {G : zGw} {cs : Nat × Nat} {res : ρ × zSt} {S : zSt} {pc : Nat} {ls : List (Option Value)} {st : List Value} {f : Option (ρ × zSt)} {a : Int32} (d : decode M.2.1 pc = .ok (.i2s, 1)) (k : Zm X M inj G cs res S (pc + 1) ls (.int a.toInt16.toInt32 :: st) f) : Zm X M inj G cs res S pc ls (.int a :: st) f :=
  fun hf ho H locs la hp hl hS => lv_i2s ho.1 ho.2.1 d rfl (k hf ho H locs la hp hl hS)
theorem z_lcmp {ρ : Type} {X : zCx} {M : zMr} {inj : ρ → Option Value} {G : zGw} {cs : Nat × Nat} {res : ρ × zSt} {S : zSt} {pc : Nat} {ls : List (Option Value)} {st : List Value} {f : Option (ρ × zSt)} {a b : Int64} (d : decode M.2.1 pc = .ok (.lcmp, 1)) (k : Zm X M inj G cs res S (pc + 1) ls (.int (lg_cmp a b) :: st) f) : Zm X M inj G cs res S pc ls (.long b :: .long a :: st) f :=
  fun hf ho H locs la hp hl hS => W.lcmp ho.1 ho.2.1 d  (k hf ho H locs la hp hl hS)
theorem z_iconst {ρ : Type} {X : zCx} {M : zMr} {inj : ρ → Option Value} {G : zGw} {cs : Nat × Nat} {res : ρ × zSt} {S : zSt} {pc : Nat} {ls : List (Option Value)} {st : List Value} {f : Option (ρ × zSt)} {n : Int} {v : Int32} (d : decode M.2.1 pc = .ok (.iconst n, 1)) (hv : Int32.ofInt n = v) (k : Zm X M inj G cs res S (pc + 1) ls (.int v :: st) f) : Zm X M inj G cs res S pc ls st f :=
  fun hf ho H locs la hp hl hS => lv_iconst ho.1 ho.2.1 d hv (k hf ho H locs la hp hl hS)
theorem z_bipush {ρ : Type} {X : zCx} {M : zMr} {inj : ρ → Option Value} {G : zGw} {cs : Nat × Nat} {res : ρ × zSt} {S : zSt} {pc : Nat} {ls : List (Option Value)} {st : List Value} {f : Option (ρ × zSt)} {n : Int} {v : Int32} (d : decode M.2.1 pc = .ok (.bipush n, 2)) (hv : (Int8.ofInt n).toInt32 = v) (k : Zm X M inj G cs res S (pc + 2) ls (.int v :: st) f) : Zm X M inj G cs res S pc ls st f :=
  fun hf ho H locs la hp hl hS => lv_bipush ho.1 ho.2.1 d hv (k hf ho H locs la hp hl hS)
theorem z_sipush {ρ : Type} {X : zCx} {M : zMr} {inj : ρ → Option Value} {G : zGw} {cs : Nat × Nat} {res : ρ × zSt} {S : zSt} {pc : Nat} {ls : List (Option Value)} {st : List Value} {f : Option (ρ × zSt)} {n : Int} {v : Int32} (d : decode M.2.1 pc = .ok (.sipush n, 3)) (hv : (Int16.ofInt n).toInt32 = v) (k : Zm X M inj G cs res S (pc + 3) ls (.int v :: st) f) : Zm X M inj G cs res S pc ls st f :=
  fun hf ho H locs la hp hl hS => lv_sipush ho.1 ho.2.1 d hv (k hf ho H locs la hp hl hS)
theorem z_lconst {ρ : Type} {X : zCx} {M : zMr} {inj : ρ → Option Value} {G : zGw} {cs : Nat × Nat} {res : ρ × zSt} {S : zSt} {pc : Nat} {ls : List (Option Value)} {st : List Value} {f : Option (ρ × zSt)} {n : Fin 2} {v : Int64} (d : decode M.2.1 pc = .ok (.lconst n, 1)) (hv : Int64.ofNat (n : Nat) = v) (k : Zm X M inj G cs res S (pc + 1) ls (.long v :: st) f) : Zm X M inj G cs res S pc ls st f :=
  fun hf ho H locs la hp hl hS => lv_lconst ho.1 ho.2.1 d hv (k hf ho H locs la hp hl hS)
theorem z_null {ρ : Type} {X : zCx} {M : zMr} {inj : ρ → Option Value} {G : zGw} {cs : Nat × Nat} {res : ρ × zSt} {S : zSt} {pc : Nat} {ls : List (Option Value)} {st : List Value} {f : Option (ρ × zSt)}  (d : decode M.2.1 pc = .ok (.aconst_null, 1)) (k : Zm X M inj G cs res S (pc + 1) ls (.null :: st) f) : Zm X M inj G cs res S pc ls st f :=
  fun hf ho H locs la hp hl hS => lv_null ho.1 ho.2.1 d  (k hf ho H locs la hp hl hS)
theorem z_ldc {ρ : Type} {X : zCx} {M : zMr} {inj : ρ → Option Value} {G : zGw} {cs : Nat × Nat} {res : ρ × zSt} {S : zSt} {pc : Nat} {ls : List (Option Value)} {st : List Value} {f : Option (ρ × zSt)} {i : Nat} {v : Int32} (d : decode M.2.1 pc = .ok (.ldc i, 2)) (hc : Jvm.Cond.constant M.1 i v ∈ lw_all) (k : Zm X M inj G cs res S (pc + 2) ls (.int v :: st) f) : Zm X M inj G cs res S pc ls st f :=
  fun hf ho H locs la hp hl hS => lv_ldc ho.1 ho.2.1 ho.2.2.2.1 (ho.2.2.2.2.1 _ hc) d (k hf ho H locs la hp hl hS)
theorem z_ldc2 {ρ : Type} {X : zCx} {M : zMr} {inj : ρ → Option Value} {G : zGw} {cs : Nat × Nat} {res : ρ × zSt} {S : zSt} {pc : Nat} {ls : List (Option Value)} {st : List Value} {f : Option (ρ × zSt)} {i : Nat} {v : Int64} (d : decode M.2.1 pc = .ok (.ldc2_w i, 3)) (hc : Jvm.Cond.constantLong M.1 i v ∈ lw_all) (k : Zm X M inj G cs res S (pc + 3) ls (.long v :: st) f) : Zm X M inj G cs res S pc ls st f :=
  fun hf ho H locs la hp hl hS => lv_ldc2 ho.1 ho.2.1 ho.2.2.2.1 (ho.2.2.2.2.1 _ hc) d (k hf ho H locs la hp hl hS)
theorem z_iload_n {ρ : Type} {X : zCx} {M : zMr} {inj : ρ → Option Value} {G : zGw} {cs : Nat × Nat} {res : ρ × zSt} {S : zSt} {pc : Nat} {ls : List (Option Value)} {st : List Value} {f : Option (ρ × zSt)} {n : Fin 4} {v : Int32} (i : Nat) (d : decode M.2.1 pc = .ok (.iload_n n, 1)) (hi : (n : Nat) = i) (hv : ls[i]? = some (some (.int v))) (k : Zm X M inj G cs res S (pc + 1) ls (.int v :: st) f) : Zm X M inj G cs res S pc ls st f :=
  fun hf ho H locs la hp hl hS => lv_iload_n ho.1 ho.2.1 d hi (hl.2.2 _ _ hv) (k hf ho H locs la hp hl hS)
theorem z_iload {ρ : Type} {X : zCx} {M : zMr} {inj : ρ → Option Value} {G : zGw} {cs : Nat × Nat} {res : ρ × zSt} {S : zSt} {pc : Nat} {ls : List (Option Value)} {st : List Value} {f : Option (ρ × zSt)} {i : Nat} {v : Int32} (d : decode M.2.1 pc = .ok (.iload i, 2)) (hv : ls[i]? = some (some (.int v))) (k : Zm X M inj G cs res S (pc + 2) ls (.int v :: st) f) : Zm X M inj G cs res S pc ls st f :=
  fun hf ho H locs la hp hl hS => lv_iload ho.1 ho.2.1 d (hl.2.2 _ _ hv) (k hf ho H locs la hp hl hS)
theorem z_lload_n {ρ : Type} {X : zCx} {M : zMr} {inj : ρ → Option Value} {G : zGw} {cs : Nat × Nat} {res : ρ × zSt} {S : zSt} {pc : Nat} {ls : List (Option Value)} {st : List Value} {f : Option (ρ × zSt)} {n : Fin 4} {v : Int64} (i : Nat) (d : decode M.2.1 pc = .ok (.lload_n n, 1)) (hi : (n : Nat) = i) (hv : ls[i]? = some (some (.long v))) (k : Zm X M inj G cs res S (pc + 1) ls (.long v :: st) f) : Zm X M inj G cs res S pc ls st f :=
  fun hf ho H locs la hp hl hS => lv_lload_n ho.1 ho.2.1 d hi (hl.2.2 _ _ hv) (k hf ho H locs la hp hl hS)
theorem z_lload {ρ : Type} {X : zCx} {M : zMr} {inj : ρ → Option Value} {G : zGw} {cs : Nat × Nat} {res : ρ × zSt} {S : zSt} {pc : Nat} {ls : List (Option Value)} {st : List Value} {f : Option (ρ × zSt)} {i : Nat} {v : Int64} (d : decode M.2.1 pc = .ok (.lload i, 2)) (hv : ls[i]? = some (some (.long v))) (k : Zm X M inj G cs res S (pc + 2) ls (.long v :: st) f) : Zm X M inj G cs res S pc ls st f :=
  fun hf ho H locs la hp hl hS => lv_lload ho.1 ho.2.1 d (hl.2.2 _ _ hv) (k hf ho H locs la hp hl hS)
theorem z_aload_n {ρ : Type} {X : zCx} {M : zMr} {inj : ρ → Option Value} {G : zGw} {cs : Nat × Nat} {res : ρ × zSt} {S : zSt} {pc : Nat} {ls : List (Option Value)} {st : List Value} {f : Option (ρ × zSt)} {n : Fin 4} {v : Nat} (i : Nat) (d : decode M.2.1 pc = .ok (.aload_n n, 1)) (hi : (n : Nat) = i) (hv : ls[i]? = some (some (.ref v))) (k : Zm X M inj G cs res S (pc + 1) ls (.ref v :: st) f) : Zm X M inj G cs res S pc ls st f :=
  fun hf ho H locs la hp hl hS => lv_aload_n ho.1 ho.2.1 d hi (hl.2.2 _ _ hv) (k hf ho H locs la hp hl hS)
theorem z_aload {ρ : Type} {X : zCx} {M : zMr} {inj : ρ → Option Value} {G : zGw} {cs : Nat × Nat} {res : ρ × zSt} {S : zSt} {pc : Nat} {ls : List (Option Value)} {st : List Value} {f : Option (ρ × zSt)} {i : Nat} {v : Nat} (d : decode M.2.1 pc = .ok (.aload i, 2)) (hv : ls[i]? = some (some (.ref v))) (k : Zm X M inj G cs res S (pc + 2) ls (.ref v :: st) f) : Zm X M inj G cs res S pc ls st f :=
  fun hf ho H locs la hp hl hS => lv_aload ho.1 ho.2.1 d (hl.2.2 _ _ hv) (k hf ho H locs la hp hl hS)
def zprs (ls : List (Option Value)) : List (Nat × Value) := (List.range ls.length).filterMap (fun i => match ls[i]? with
  | some (some v) => some (i, v)
  | _ => none)
theorem zprs_mem {ls : List (Option Value)} {i : Nat} {v : Value} : (i, v) ∈ zprs ls ↔ ls[i]? = some (some v) := by
  unfold zprs
  rw [List.mem_filterMap]
  constructor
  · rintro ⟨j, -, hj⟩
    split at hj
    · rename_i w hw
      cases hj
      exact hw
    · cases hj
  · intro h
    refine ⟨i, List.mem_range.mpr (List.getElem?_eq_some_iff.mp h).1, ?_⟩
    rw [h]
theorem zlv_has {la : Array Slot} {nL : Nat} {ls : List (Option Value)} (h : zlv la nL ls) : lv_has la nL (zprs ls) := ⟨h.1, h.2.1, fun q hq => h.2.2 q.1 q.2 (zprs_mem.mp hq)⟩
theorem stk0_get {ls : List (Option Value)} {i j : Nat} {v : Value} (h : (stk0 ls i)[j]? = some (some v)) : ls[j]? = some (some v) ∧ ¬ (j + 1 = i ∧ v.category = 2) := by
  cases i with
  | zero => exact ⟨h, fun q => by omega⟩
  | succ i =>
    have e : stk0 ls (i + 1) = (match ls[i]? with
      | some (some w) => if w.category = 2 then ls.set i none else ls
      | _ => ls) := rfl
    rw [e] at h
    cases hw : ls[i]? with
    | none =>
      rw [hw] at h
      have h : ls[j]? = some (some v) := h
      refine ⟨h, fun q => ?_⟩
      have e2 : j = i := by omega
      rw [e2, hw] at h
      cases h
    | some o =>
      cases o with
      | none =>
        rw [hw] at h
        have h : ls[j]? = some (some v) := h
        refine ⟨h, fun q => ?_⟩
        have e2 : j = i := by omega
        rw [e2, hw] at h
        cases h
      | some w =>
        rw [hw] at h
        have h : (if w.category = 2 then ls.set i none else ls)[j]? = some (some v) := h
        by_cases hc : w.category = 2
        · rw [if_pos hc] at h
          by_cases hj : i = j
          · subst hj
            rw [List.getElem?_set_self (List.getElem?_eq_some_iff.mp hw).1] at h
            cases h
          · rw [List.getElem?_set_ne hj] at h
            exact ⟨h, fun q => hj (by omega)⟩
        · rw [if_neg hc] at h
          refine ⟨h, fun q => hc ?_⟩
          have e2 : j = i := by omega
          rw [e2, hw] at h
          cases h
          exact q.2
theorem zlv_store1 {la' : Array Slot} {nL : Nat} {ls : List (Option Value)} {i : Nat} {v : Value} (hc : v.category = 1) (h : lv_has la' nL ((i, v) :: (zprs ls).filter (fun q => !(q.1 == i) && !(q.1 + 1 == i && q.2.category == 2)))) : zlv la' nL (stl ls i v) := by
  refine ⟨h.1, h.2.1, fun j w hj => ?_⟩
  unfold stl at hj
  rw [if_neg (by rw [hc]; decide)] at hj
  by_cases e : i = j
  · subst e
    have hl : i < (stk0 ls i).length := by
      have := (List.getElem?_eq_some_iff.mp hj).1
      rwa [List.length_set] at this
    rw [List.getElem?_set_self hl] at hj
    cases hj
    exact h.2.2 (i, v) List.mem_cons_self
  · rw [List.getElem?_set_ne e] at hj
    obtain ⟨h1, h2⟩ := stk0_get hj
    refine h.2.2 (j, w) (List.mem_cons_of_mem _ (List.mem_filter.mpr ⟨zprs_mem.mpr h1, ?_⟩))
    have hx : ¬ (j + 1 = i ∧ w.category = 2) := h2
    simp only [Bool.and_eq_true, Bool.not_eq_true', beq_eq_false_iff_ne, ne_eq, Bool.and_eq_false_iff]
    refine ⟨fun q => e q.symm, ?_⟩
    by_cases q : j + 1 = i
    · exact Or.inr (fun z => hx ⟨q, z⟩)
    · exact Or.inl q
theorem zlv_store2 {la' : Array Slot} {nL : Nat} {ls : List (Option Value)} {i : Nat} {v : Value} (hc : v.category = 2) (h : lv_has la' nL ((i, v) :: (zprs ls).filter (fun q => !(q.1 == i) && (!(q.1 == i + 1) && !(q.1 + 1 == i && q.2.category == 2))))) : zlv la' nL (stl ls i v) := by
  refine ⟨h.1, h.2.1, fun j w hj => ?_⟩
  unfold stl at hj
  rw [if_pos hc] at hj
  by_cases e2 : i + 1 = j
  · subst e2
    have hl : i + 1 < ((stk0 ls i).set i (some v)).length := by
      have := (List.getElem?_eq_some_iff.mp hj).1
      rwa [List.length_set] at this
    rw [List.getElem?_set_self hl] at hj
    cases hj
  · rw [List.getElem?_set_ne e2] at hj
    by_cases e : i = j
    · subst e
      have hl : i < (stk0 ls i).length := by
        have := (List.getElem?_eq_some_iff.mp hj).1
        rwa [List.length_set] at this
      rw [List.getElem?_set_self hl] at hj
      cases hj
      exact h.2.2 (i, v) List.mem_cons_self
    · rw [List.getElem?_set_ne e] at hj
      obtain ⟨h1, h2⟩ := stk0_get hj
      refine h.2.2 (j, w) (List.mem_cons_of_mem _ (List.mem_filter.mpr ⟨zprs_mem.mpr h1, ?_⟩))
      have hx : ¬ (j + 1 = i ∧ w.category = 2) := h2
      simp only [Bool.and_eq_true, Bool.not_eq_true', beq_eq_false_iff_ne, ne_eq, Bool.and_eq_false_iff]
      refine ⟨fun q => e q.symm, fun q => e2 q.symm, ?_⟩
      by_cases q : j + 1 = i
      · exact Or.inr (fun z => hx ⟨q, z⟩)
      · exact Or.inl q
theorem z_istore_n {ρ : Type} {X : zCx} {M : zMr} {inj : ρ → Option Value} {G : zGw} {cs : Nat × Nat} {res : ρ × zSt} {S : zSt} {pc : Nat} {ls : List (Option Value)} {st : List Value} {f : Option (ρ × zSt)} {n : Fin 4} {v : Int32} {ls' : List (Option Value)} (i : Nat) (d : decode M.2.1 pc = .ok (.istore_n n, 1)) (hi : (n : Nat) = i) (hn : i < M.2.2.1) (hs : stl ls i (.int v) = ls') (k : Zm X M inj G cs res S (pc + 1) ls' st f) : Zm X M inj G cs res S pc ls (.int v :: st) f :=
  fun hf ho H locs la hp hl hS => lv_istore_n ho.1 ho.2.1 d hi (zlv_has hl) hn rfl (fun la' h' => k hf ho H locs la' hp (hs ▸ zlv_store1 rfl h') hS)
theorem z_istore {ρ : Type} {X : zCx} {M : zMr} {inj : ρ → Option Value} {G : zGw} {cs : Nat × Nat} {res : ρ × zSt} {S : zSt} {pc : Nat} {ls : List (Option Value)} {st : List Value} {f : Option (ρ × zSt)} {i : Nat} {v : Int32} {ls' : List (Option Value)} (d : decode M.2.1 pc = .ok (.istore i, 2)) (hn : i < M.2.2.1) (hs : stl ls i (.int v) = ls') (k : Zm X M inj G cs res S (pc + 2) ls' st f) : Zm X M inj G cs res S pc ls (.int v :: st) f :=
  fun hf ho H locs la hp hl hS => lv_istore ho.1 ho.2.1 d (zlv_has hl) hn rfl (fun la' h' => k hf ho H locs la' hp (hs ▸ zlv_store1 rfl h') hS)
theorem z_lstore_n {ρ : Type} {X : zCx} {M : zMr} {inj : ρ → Option Value} {G : zGw} {cs : Nat × Nat} {res : ρ × zSt} {S : zSt} {pc : Nat} {ls : List (Option Value)} {st : List Value} {f : Option (ρ × zSt)} {n : Fin 4} {v : Int64} {ls' : List (Option Value)} (i : Nat) (d : decode M.2.1 pc = .ok (.lstore_n n, 1)) (hi : (n : Nat) = i) (hn : i + 1 < M.2.2.1) (hs : stl ls i (.long v) = ls') (k : Zm X M inj G cs res S (pc + 1) ls' st f) : Zm X M inj G cs res S pc ls (.long v :: st) f :=
  fun hf ho H locs la hp hl hS => lv_lstore_n ho.1 ho.2.1 d hi (zlv_has hl) hn rfl (fun la' h' => k hf ho H locs la' hp (hs ▸ zlv_store2 rfl h') hS)
theorem z_lstore {ρ : Type} {X : zCx} {M : zMr} {inj : ρ → Option Value} {G : zGw} {cs : Nat × Nat} {res : ρ × zSt} {S : zSt} {pc : Nat} {ls : List (Option Value)} {st : List Value} {f : Option (ρ × zSt)} {i : Nat} {v : Int64} {ls' : List (Option Value)} (d : decode M.2.1 pc = .ok (.lstore i, 2)) (hn : i + 1 < M.2.2.1) (hs : stl ls i (.long v) = ls') (k : Zm X M inj G cs res S (pc + 2) ls' st f) : Zm X M inj G cs res S pc ls (.long v :: st) f :=
  fun hf ho H locs la hp hl hS => lv_lstore ho.1 ho.2.1 d (zlv_has hl) hn rfl (fun la' h' => k hf ho H locs la' hp (hs ▸ zlv_store2 rfl h') hS)
theorem z_astore_n {ρ : Type} {X : zCx} {M : zMr} {inj : ρ → Option Value} {G : zGw} {cs : Nat × Nat} {res : ρ × zSt} {S : zSt} {pc : Nat} {ls : List (Option Value)} {st : List Value} {f : Option (ρ × zSt)} {n : Fin 4} {v : Nat} {ls' : List (Option Value)} (i : Nat) (d : decode M.2.1 pc = .ok (.astore_n n, 1)) (hi : (n : Nat) = i) (hn : i < M.2.2.1) (hs : stl ls i (.ref v) = ls') (k : Zm X M inj G cs res S (pc + 1) ls' st f) : Zm X M inj G cs res S pc ls (.ref v :: st) f :=
  fun hf ho H locs la hp hl hS => lv_astore_n ho.1 ho.2.1 d hi (zlv_has hl) hn rfl (fun la' h' => k hf ho H locs la' hp (hs ▸ zlv_store1 rfl h') hS)
theorem z_astore {ρ : Type} {X : zCx} {M : zMr} {inj : ρ → Option Value} {G : zGw} {cs : Nat × Nat} {res : ρ × zSt} {S : zSt} {pc : Nat} {ls : List (Option Value)} {st : List Value} {f : Option (ρ × zSt)} {i : Nat} {v : Nat} {ls' : List (Option Value)} (d : decode M.2.1 pc = .ok (.astore i, 2)) (hn : i < M.2.2.1) (hs : stl ls i (.ref v) = ls') (k : Zm X M inj G cs res S (pc + 2) ls' st f) : Zm X M inj G cs res S pc ls (.ref v :: st) f :=
  fun hf ho H locs la hp hl hS => lv_astore ho.1 ho.2.1 d (zlv_has hl) hn rfl (fun la' h' => k hf ho H locs la' hp (hs ▸ zlv_store1 rfl h') hS)
theorem z_iinc {ρ : Type} {X : zCx} {M : zMr} {inj : ρ → Option Value} {G : zGw} {cs : Nat × Nat} {res : ρ × zSt} {S : zSt} {pc : Nat} {ls : List (Option Value)} {st : List Value} {f : Option (ρ × zSt)} {i : Nat} {n : Int} {v w : Int32} {ls' : List (Option Value)} (d : decode M.2.1 pc = .ok (.iinc i n, 3)) (hv : ls[i]? = some (some (.int v))) (hw : v + Int32.ofInt n = w) (hn : i < M.2.2.1) (hs : stl ls i (.int w) = ls') (k : Zm X M inj G cs res S (pc + 3) ls' st f) : Zm X M inj G cs res S pc ls st f := by
  intro hf ho H locs la hp hl hS
  obtain ⟨q, hq⟩ := List.getElem?_of_mem (zprs_mem.mpr hv)
  exact lv_iinc (k := q) ho.1 ho.2.1 d (zlv_has hl) hq hw hn rfl (fun la' h' => k hf ho H locs la' hp (hs ▸ zlv_store1 rfl h') hS)
theorem z_if_eq {ρ : Type} {X : zCx} {M : zMr} {inj : ρ → Option Value} {G : zGw} {cs : Nat × Nat} {res : ρ × zSt} {S : zSt} {pc : Nat} {ls : List (Option Value)} {st : List Value} {a : Int32} {off : Int} {f1 f2 : Option (ρ × zSt)} (tgt : Nat) (d : decode M.2.1 pc = .ok (.ifCond .eq off, 3)) (ht : (pc : Int) + off = (tgt : Int)) (k1 : Zm X M inj G cs res S tgt ls st f1) (k2 : Zm X M inj G cs res S (pc + 3) ls st f2) : Zm X M inj G cs res S pc ls (.int a :: st) (if a = 0 then f1 else f2) :=
  fun hf ho H locs la hp hl hS => lv_if_eq ho.1 ho.2.1 d ht (fun c => k1 (by rw [if_pos c] at hf; exact hf) ho H locs la hp hl hS) (fun c => k2 (by rw [if_neg c] at hf; exact hf) ho H locs la hp hl hS)
theorem z_ifd_eq {ρ : Type} {X : zCx} {M : zMr} {inj : ρ → Option Value} {G : zGw} {cs : Nat × Nat} {res : ρ × zSt} {S : zSt} {pc : Nat} {ls : List (Option Value)} {st : List Value} {f : Option (ρ × zSt)} {a : Int32} {off : Int} (tgt : Nat) (d : decode M.2.1 pc = .ok (.ifCond .eq off, 3)) (ht : (pc : Int) + off = (tgt : Int)) (k1 : (a = 0) → Zm X M inj G cs res S tgt ls st f) (k2 : ¬ (a = 0) → Zm X M inj G cs res S (pc + 3) ls st f) : Zm X M inj G cs res S pc ls (.int a :: st) f :=
  fun hf ho H locs la hp hl hS => lv_if_eq ho.1 ho.2.1 d ht (fun c => k1 c hf ho H locs la hp hl hS) (fun c => k2 c hf ho H locs la hp hl hS)
theorem z_if_ne {ρ : Type} {X : zCx} {M : zMr} {inj : ρ → Option Value} {G : zGw} {cs : Nat × Nat} {res : ρ × zSt} {S : zSt} {pc : Nat} {ls : List (Option Value)} {st : List Value} {a : Int32} {off : Int} {f1 f2 : Option (ρ × zSt)} (tgt : Nat) (d : decode M.2.1 pc = .ok (.ifCond .ne off, 3)) (ht : (pc : Int) + off = (tgt : Int)) (k1 : Zm X M inj G cs res S tgt ls st f1) (k2 : Zm X M inj G cs res S (pc + 3) ls st f2) : Zm X M inj G cs res S pc ls (.int a :: st) (if a = 0 then f2 else f1) :=
  fun hf ho H locs la hp hl hS => lv_if_ne ho.1 ho.2.1 d ht (fun c => k1 (by rw [if_neg c] at hf; exact hf) ho H locs la hp hl hS) (fun c => k2 (by rw [if_pos c] at hf; exact hf) ho H locs la hp hl hS)
theorem z_ifd_ne {ρ : Type} {X : zCx} {M : zMr} {inj : ρ → Option Value} {G : zGw} {cs : Nat × Nat} {res : ρ × zSt} {S : zSt} {pc : Nat} {ls : List (Option Value)} {st : List Value} {f : Option (ρ × zSt)} {a : Int32} {off : Int} (tgt : Nat) (d : decode M.2.1 pc = .ok (.ifCond .ne off, 3)) (ht : (pc : Int) + off = (tgt : Int)) (k1 : ¬ (a = 0) → Zm X M inj G cs res S tgt ls st f) (k2 : (a = 0) → Zm X M inj G cs res S (pc + 3) ls st f) : Zm X M inj G cs res S pc ls (.int a :: st) f :=
  fun hf ho H locs la hp hl hS => lv_if_ne ho.1 ho.2.1 d ht (fun c => k1 c hf ho H locs la hp hl hS) (fun c => k2 c hf ho H locs la hp hl hS)
theorem z_if_lt {ρ : Type} {X : zCx} {M : zMr} {inj : ρ → Option Value} {G : zGw} {cs : Nat × Nat} {res : ρ × zSt} {S : zSt} {pc : Nat} {ls : List (Option Value)} {st : List Value} {a : Int32} {off : Int} {f1 f2 : Option (ρ × zSt)} (tgt : Nat) (d : decode M.2.1 pc = .ok (.ifCond .lt off, 3)) (ht : (pc : Int) + off = (tgt : Int)) (k1 : Zm X M inj G cs res S tgt ls st f1) (k2 : Zm X M inj G cs res S (pc + 3) ls st f2) : Zm X M inj G cs res S pc ls (.int a :: st) (if a < 0 then f1 else f2) :=
  fun hf ho H locs la hp hl hS => lv_if_lt ho.1 ho.2.1 d ht (fun c => k1 (by rw [if_pos c] at hf; exact hf) ho H locs la hp hl hS) (fun c => k2 (by rw [if_neg c] at hf; exact hf) ho H locs la hp hl hS)
theorem z_ifd_lt {ρ : Type} {X : zCx} {M : zMr} {inj : ρ → Option Value} {G : zGw} {cs : Nat × Nat} {res : ρ × zSt} {S : zSt} {pc : Nat} {ls : List (Option Value)} {st : List Value} {f : Option (ρ × zSt)} {a : Int32} {off : Int} (tgt : Nat) (d : decode M.2.1 pc = .ok (.ifCond .lt off, 3)) (ht : (pc : Int) + off = (tgt : Int)) (k1 : (a < 0) → Zm X M inj G cs res S tgt ls st f) (k2 : ¬ (a < 0) → Zm X M inj G cs res S (pc + 3) ls st f) : Zm X M inj G cs res S pc ls (.int a :: st) f :=
  fun hf ho H locs la hp hl hS => lv_if_lt ho.1 ho.2.1 d ht (fun c => k1 c hf ho H locs la hp hl hS) (fun c => k2 c hf ho H locs la hp hl hS)
theorem z_if_ge {ρ : Type} {X : zCx} {M : zMr} {inj : ρ → Option Value} {G : zGw} {cs : Nat × Nat} {res : ρ × zSt} {S : zSt} {pc : Nat} {ls : List (Option Value)} {st : List Value} {a : Int32} {off : Int} {f1 f2 : Option (ρ × zSt)} (tgt : Nat) (d : decode M.2.1 pc = .ok (.ifCond .ge off, 3)) (ht : (pc : Int) + off = (tgt : Int)) (k1 : Zm X M inj G cs res S tgt ls st f1) (k2 : Zm X M inj G cs res S (pc + 3) ls st f2) : Zm X M inj G cs res S pc ls (.int a :: st) (if 0 ≤ a then f1 else f2) :=
  fun hf ho H locs la hp hl hS => lv_if_ge ho.1 ho.2.1 d ht (fun c => k1 (by rw [if_pos c] at hf; exact hf) ho H locs la hp hl hS) (fun c => k2 (by rw [if_neg c] at hf; exact hf) ho H locs la hp hl hS)
theorem z_ifd_ge {ρ : Type} {X : zCx} {M : zMr} {inj : ρ → Option Value} {G : zGw} {cs : Nat × Nat} {res : ρ × zSt} {S : zSt} {pc : Nat} {ls : List (Option Value)} {st : List Value} {f : Option (ρ × zSt)} {a : Int32} {off : Int} (tgt : Nat) (d : decode M.2.1 pc = .ok (.ifCond .ge off, 3)) (ht : (pc : Int) + off = (tgt : Int)) (k1 : (0 ≤ a) → Zm X M inj G cs res S tgt ls st f) (k2 : ¬ (0 ≤ a) → Zm X M inj G cs res S (pc + 3) ls st f) : Zm X M inj G cs res S pc ls (.int a :: st) f :=
  fun hf ho H locs la hp hl hS => lv_if_ge ho.1 ho.2.1 d ht (fun c => k1 c hf ho H locs la hp hl hS) (fun c => k2 c hf ho H locs la hp hl hS)
theorem z_if_gt {ρ : Type} {X : zCx} {M : zMr} {inj : ρ → Option Value} {G : zGw} {cs : Nat × Nat} {res : ρ × zSt} {S : zSt} {pc : Nat} {ls : List (Option Value)} {st : List Value} {a : Int32} {off : Int} {f1 f2 : Option (ρ × zSt)} (tgt : Nat) (d : decode M.2.1 pc = .ok (.ifCond .gt off, 3)) (ht : (pc : Int) + off = (tgt : Int)) (k1 : Zm X M inj G cs res S tgt ls st f1) (k2 : Zm X M inj G cs res S (pc + 3) ls st f2) : Zm X M inj G cs res S pc ls (.int a :: st) (if 0 < a then f1 else f2) :=
  fun hf ho H locs la hp hl hS => lv_if_gt ho.1 ho.2.1 d ht (fun c => k1 (by rw [if_pos c] at hf; exact hf) ho H locs la hp hl hS) (fun c => k2 (by rw [if_neg c] at hf; exact hf) ho H locs la hp hl hS)
theorem z_ifd_gt {ρ : Type} {X : zCx} {M : zMr} {inj : ρ → Option Value} {G : zGw} {cs : Nat × Nat} {res : ρ × zSt} {S : zSt} {pc : Nat} {ls : List (Option Value)} {st : List Value} {f : Option (ρ × zSt)} {a : Int32} {off : Int} (tgt : Nat) (d : decode M.2.1 pc = .ok (.ifCond .gt off, 3)) (ht : (pc : Int) + off = (tgt : Int)) (k1 : (0 < a) → Zm X M inj G cs res S tgt ls st f) (k2 : ¬ (0 < a) → Zm X M inj G cs res S (pc + 3) ls st f) : Zm X M inj G cs res S pc ls (.int a :: st) f :=
  fun hf ho H locs la hp hl hS => lv_if_gt ho.1 ho.2.1 d ht (fun c => k1 c hf ho H locs la hp hl hS) (fun c => k2 c hf ho H locs la hp hl hS)
theorem z_if_le {ρ : Type} {X : zCx} {M : zMr} {inj : ρ → Option Value} {G : zGw} {cs : Nat × Nat} {res : ρ × zSt} {S : zSt} {pc : Nat} {ls : List (Option Value)} {st : List Value} {a : Int32} {off : Int} {f1 f2 : Option (ρ × zSt)} (tgt : Nat) (d : decode M.2.1 pc = .ok (.ifCond .le off, 3)) (ht : (pc : Int) + off = (tgt : Int)) (k1 : Zm X M inj G cs res S tgt ls st f1) (k2 : Zm X M inj G cs res S (pc + 3) ls st f2) : Zm X M inj G cs res S pc ls (.int a :: st) (if a ≤ 0 then f1 else f2) :=
  fun hf ho H locs la hp hl hS => lv_if_le ho.1 ho.2.1 d ht (fun c => k1 (by rw [if_pos c] at hf; exact hf) ho H locs la hp hl hS) (fun c => k2 (by rw [if_neg c] at hf; exact hf) ho H locs la hp hl hS)
theorem z_ifd_le {ρ : Type} {X : zCx} {M : zMr} {inj : ρ → Option Value} {G : zGw} {cs : Nat × Nat} {res : ρ × zSt} {S : zSt} {pc : Nat} {ls : List (Option Value)} {st : List Value} {f : Option (ρ × zSt)} {a : Int32} {off : Int} (tgt : Nat) (d : decode M.2.1 pc = .ok (.ifCond .le off, 3)) (ht : (pc : Int) + off = (tgt : Int)) (k1 : (a ≤ 0) → Zm X M inj G cs res S tgt ls st f) (k2 : ¬ (a ≤ 0) → Zm X M inj G cs res S (pc + 3) ls st f) : Zm X M inj G cs res S pc ls (.int a :: st) f :=
  fun hf ho H locs la hp hl hS => lv_if_le ho.1 ho.2.1 d ht (fun c => k1 c hf ho H locs la hp hl hS) (fun c => k2 c hf ho H locs la hp hl hS)
theorem z_icmp_eq {ρ : Type} {X : zCx} {M : zMr} {inj : ρ → Option Value} {G : zGw} {cs : Nat × Nat} {res : ρ × zSt} {S : zSt} {pc : Nat} {ls : List (Option Value)} {st : List Value} {a b : Int32} {off : Int} {f1 f2 : Option (ρ × zSt)} (tgt : Nat) (d : decode M.2.1 pc = .ok (.if_icmp .eq off, 3)) (ht : (pc : Int) + off = (tgt : Int)) (k1 : Zm X M inj G cs res S tgt ls st f1) (k2 : Zm X M inj G cs res S (pc + 3) ls st f2) : Zm X M inj G cs res S pc ls (.int b :: .int a :: st) (if a = b then f1 else f2) :=
  fun hf ho H locs la hp hl hS => lv_icmp_eq ho.1 ho.2.1 d ht (fun c => k1 (by rw [if_pos c] at hf; exact hf) ho H locs la hp hl hS) (fun c => k2 (by rw [if_neg c] at hf; exact hf) ho H locs la hp hl hS)
theorem z_icmpd_eq {ρ : Type} {X : zCx} {M : zMr} {inj : ρ → Option Value} {G : zGw} {cs : Nat × Nat} {res : ρ × zSt} {S : zSt} {pc : Nat} {ls : List (Option Value)} {st : List Value} {f : Option (ρ × zSt)} {a b : Int32} {off : Int} (tgt : Nat) (d : decode M.2.1 pc = .ok (.if_icmp .eq off, 3)) (ht : (pc : Int) + off = (tgt : Int)) (k1 : (a = b) → Zm X M inj G cs res S tgt ls st f) (k2 : ¬ (a = b) → Zm X M inj G cs res S (pc + 3) ls st f) : Zm X M inj G cs res S pc ls (.int b :: .int a :: st) f :=
  fun hf ho H locs la hp hl hS => lv_icmp_eq ho.1 ho.2.1 d ht (fun c => k1 c hf ho H locs la hp hl hS) (fun c => k2 c hf ho H locs la hp hl hS)
theorem z_icmp_ne {ρ : Type} {X : zCx} {M : zMr} {inj : ρ → Option Value} {G : zGw} {cs : Nat × Nat} {res : ρ × zSt} {S : zSt} {pc : Nat} {ls : List (Option Value)} {st : List Value} {a b : Int32} {off : Int} {f1 f2 : Option (ρ × zSt)} (tgt : Nat) (d : decode M.2.1 pc = .ok (.if_icmp .ne off, 3)) (ht : (pc : Int) + off = (tgt : Int)) (k1 : Zm X M inj G cs res S tgt ls st f1) (k2 : Zm X M inj G cs res S (pc + 3) ls st f2) : Zm X M inj G cs res S pc ls (.int b :: .int a :: st) (if a = b then f2 else f1) :=
  fun hf ho H locs la hp hl hS => lv_icmp_ne ho.1 ho.2.1 d ht (fun c => k1 (by rw [if_neg c] at hf; exact hf) ho H locs la hp hl hS) (fun c => k2 (by rw [if_pos c] at hf; exact hf) ho H locs la hp hl hS)
theorem z_icmpd_ne {ρ : Type} {X : zCx} {M : zMr} {inj : ρ → Option Value} {G : zGw} {cs : Nat × Nat} {res : ρ × zSt} {S : zSt} {pc : Nat} {ls : List (Option Value)} {st : List Value} {f : Option (ρ × zSt)} {a b : Int32} {off : Int} (tgt : Nat) (d : decode M.2.1 pc = .ok (.if_icmp .ne off, 3)) (ht : (pc : Int) + off = (tgt : Int)) (k1 : ¬ (a = b) → Zm X M inj G cs res S tgt ls st f) (k2 : (a = b) → Zm X M inj G cs res S (pc + 3) ls st f) : Zm X M inj G cs res S pc ls (.int b :: .int a :: st) f :=
  fun hf ho H locs la hp hl hS => lv_icmp_ne ho.1 ho.2.1 d ht (fun c => k1 c hf ho H locs la hp hl hS) (fun c => k2 c hf ho H locs la hp hl hS)
theorem z_icmp_lt {ρ : Type} {X : zCx} {M : zMr} {inj : ρ → Option Value} {G : zGw} {cs : Nat × Nat} {res : ρ × zSt} {S : zSt} {pc : Nat} {ls : List (Option Value)} {st : List Value} {a b : Int32} {off : Int} {f1 f2 : Option (ρ × zSt)} (tgt : Nat) (d : decode M.2.1 pc = .ok (.if_icmp .lt off, 3)) (ht : (pc : Int) + off = (tgt : Int)) (k1 : Zm X M inj G cs res S tgt ls st f1) (k2 : Zm X M inj G cs res S (pc + 3) ls st f2) : Zm X M inj G cs res S pc ls (.int b :: .int a :: st) (if a < b then f1 else f2) :=
  fun hf ho H locs la hp hl hS => lv_icmp_lt ho.1 ho.2.1 d ht (fun c => k1 (by rw [if_pos c] at hf; exact hf) ho H locs la hp hl hS) (fun c => k2 (by rw [if_neg c] at hf; exact hf) ho H locs la hp hl hS)
theorem z_icmpd_lt {ρ : Type} {X : zCx} {M : zMr} {inj : ρ → Option Value} {G : zGw} {cs : Nat × Nat} {res : ρ × zSt} {S : zSt} {pc : Nat} {ls : List (Option Value)} {st : List Value} {f : Option (ρ × zSt)} {a b : Int32} {off : Int} (tgt : Nat) (d : decode M.2.1 pc = .ok (.if_icmp .lt off, 3)) (ht : (pc : Int) + off = (tgt : Int)) (k1 : (a < b) → Zm X M inj G cs res S tgt ls st f) (k2 : ¬ (a < b) → Zm X M inj G cs res S (pc + 3) ls st f) : Zm X M inj G cs res S pc ls (.int b :: .int a :: st) f :=
  fun hf ho H locs la hp hl hS => lv_icmp_lt ho.1 ho.2.1 d ht (fun c => k1 c hf ho H locs la hp hl hS) (fun c => k2 c hf ho H locs la hp hl hS)
theorem z_icmp_ge {ρ : Type} {X : zCx} {M : zMr} {inj : ρ → Option Value} {G : zGw} {cs : Nat × Nat} {res : ρ × zSt} {S : zSt} {pc : Nat} {ls : List (Option Value)} {st : List Value} {a b : Int32} {off : Int} {f1 f2 : Option (ρ × zSt)} (tgt : Nat) (d : decode M.2.1 pc = .ok (.if_icmp .ge off, 3)) (ht : (pc : Int) + off = (tgt : Int)) (k1 : Zm X M inj G cs res S tgt ls st f1) (k2 : Zm X M inj G cs res S (pc + 3) ls st f2) : Zm X M inj G cs res S pc ls (.int b :: .int a :: st) (if b ≤ a then f1 else f2) :=
  fun hf ho H locs la hp hl hS => lv_icmp_ge ho.1 ho.2.1 d ht (fun c => k1 (by rw [if_pos c] at hf; exact hf) ho H locs la hp hl hS) (fun c => k2 (by rw [if_neg c] at hf; exact hf) ho H locs la hp hl hS)
theorem z_icmpd_ge {ρ : Type} {X : zCx} {M : zMr} {inj : ρ → Option Value} {G : zGw} {cs : Nat × Nat} {res : ρ × zSt} {S : zSt} {pc : Nat} {ls : List (Option Value)} {st : List Value} {f : Option (ρ × zSt)} {a b : Int32} {off : Int} (tgt : Nat) (d : decode M.2.1 pc = .ok (.if_icmp .ge off, 3)) (ht : (pc : Int) + off = (tgt : Int)) (k1 : (b ≤ a) → Zm X M inj G cs res S tgt ls st f) (k2 : ¬ (b ≤ a) → Zm X M inj G cs res S (pc + 3) ls st f) : Zm X M inj G cs res S pc ls (.int b :: .int a :: st) f :=
  fun hf ho H locs la hp hl hS => lv_icmp_ge ho.1 ho.2.1 d ht (fun c => k1 c hf ho H locs la hp hl hS) (fun c => k2 c hf ho H locs la hp hl hS)
theorem z_icmp_gt {ρ : Type} {X : zCx} {M : zMr} {inj : ρ → Option Value} {G : zGw} {cs : Nat × Nat} {res : ρ × zSt} {S : zSt} {pc : Nat} {ls : List (Option Value)} {st : List Value} {a b : Int32} {off : Int} {f1 f2 : Option (ρ × zSt)} (tgt : Nat) (d : decode M.2.1 pc = .ok (.if_icmp .gt off, 3)) (ht : (pc : Int) + off = (tgt : Int)) (k1 : Zm X M inj G cs res S tgt ls st f1) (k2 : Zm X M inj G cs res S (pc + 3) ls st f2) : Zm X M inj G cs res S pc ls (.int b :: .int a :: st) (if b < a then f1 else f2) :=
  fun hf ho H locs la hp hl hS => lv_icmp_gt ho.1 ho.2.1 d ht (fun c => k1 (by rw [if_pos c] at hf; exact hf) ho H locs la hp hl hS) (fun c => k2 (by rw [if_neg c] at hf; exact hf) ho H locs la hp hl hS)
theorem z_icmpd_gt {ρ : Type} {X : zCx} {M : zMr} {inj : ρ → Option Value} {G : zGw} {cs : Nat × Nat} {res : ρ × zSt} {S : zSt} {pc : Nat} {ls : List (Option Value)} {st : List Value} {f : Option (ρ × zSt)} {a b : Int32} {off : Int} (tgt : Nat) (d : decode M.2.1 pc = .ok (.if_icmp .gt off, 3)) (ht : (pc : Int) + off = (tgt : Int)) (k1 : (b < a) → Zm X M inj G cs res S tgt ls st f) (k2 : ¬ (b < a) → Zm X M inj G cs res S (pc + 3) ls st f) : Zm X M inj G cs res S pc ls (.int b :: .int a :: st) f :=
  fun hf ho H locs la hp hl hS => lv_icmp_gt ho.1 ho.2.1 d ht (fun c => k1 c hf ho H locs la hp hl hS) (fun c => k2 c hf ho H locs la hp hl hS)
theorem z_icmp_le {ρ : Type} {X : zCx} {M : zMr} {inj : ρ → Option Value} {G : zGw} {cs : Nat × Nat} {res : ρ × zSt} {S : zSt} {pc : Nat} {ls : List (Option Value)} {st : List Value} {a b : Int32} {off : Int} {f1 f2 : Option (ρ × zSt)} (tgt : Nat) (d : decode M.2.1 pc = .ok (.if_icmp .le off, 3)) (ht : (pc : Int) + off = (tgt : Int)) (k1 : Zm X M inj G cs res S tgt ls st f1) (k2 : Zm X M inj G cs res S (pc + 3) ls st f2) : Zm X M inj G cs res S pc ls (.int b :: .int a :: st) (if a ≤ b then f1 else f2) :=
  fun hf ho H locs la hp hl hS => lv_icmp_le ho.1 ho.2.1 d ht (fun c => k1 (by rw [if_pos c] at hf; exact hf) ho H locs la hp hl hS) (fun c => k2 (by rw [if_neg c] at hf; exact hf) ho H locs la hp hl hS)
theorem z_icmpd_le {ρ : Type} {X : zCx} {M : zMr} {inj : ρ → Option Value} {G : zGw} {cs : Nat × Nat} {res : ρ × zSt} {S : zSt} {pc : Nat} {ls : List (Option Value)} {st : List Value} {f : Option (ρ × zSt)} {a b : Int32} {off : Int} (tgt : Nat) (d : decode M.2.1 pc = .ok (.if_icmp .le off, 3)) (ht : (pc : Int) + off = (tgt : Int)) (k1 : (a ≤ b) → Zm X M inj G cs res S tgt ls st f) (k2 : ¬ (a ≤ b) → Zm X M inj G cs res S (pc + 3) ls st f) : Zm X M inj G cs res S pc ls (.int b :: .int a :: st) f :=
  fun hf ho H locs la hp hl hS => lv_icmp_le ho.1 ho.2.1 d ht (fun c => k1 c hf ho H locs la hp hl hS) (fun c => k2 c hf ho H locs la hp hl hS)
theorem z_goto {ρ : Type} {X : zCx} {M : zMr} {inj : ρ → Option Value} {G : zGw} {cs : Nat × Nat} {res : ρ × zSt} {S : zSt} {pc : Nat} {ls : List (Option Value)} {st : List Value} {f : Option (ρ × zSt)} {off : Int} (tgt : Nat) (d : decode M.2.1 pc = .ok (.goto off, 3)) (ht : (pc : Int) + off = (tgt : Int)) (k : Zm X M inj G cs res S tgt ls st f) : Zm X M inj G cs res S pc ls st f :=
  fun hf ho H locs la hp hl hS => lv_goto ho.1 ho.2.1 d ht (k hf ho H locs la hp hl hS)
theorem z_dup {ρ : Type} {X : zCx} {M : zMr} {inj : ρ → Option Value} {G : zGw} {cs : Nat × Nat} {res : ρ × zSt} {S : zSt} {pc : Nat} {ls : List (Option Value)} {st : List Value} {f : Option (ρ × zSt)} {v : Value} (d : decode M.2.1 pc = .ok (.dup, 1)) (hv : v.category = 1) (k : Zm X M inj G cs res S (pc + 1) ls (v :: v :: st) f) : Zm X M inj G cs res S pc ls (v :: st) f :=
  fun hf ho H locs la hp hl hS => lv_dup ho.1 ho.2.1 d hv (k hf ho H locs la hp hl hS)
theorem z_pop {ρ : Type} {X : zCx} {M : zMr} {inj : ρ → Option Value} {G : zGw} {cs : Nat × Nat} {res : ρ × zSt} {S : zSt} {pc : Nat} {ls : List (Option Value)} {st : List Value} {f : Option (ρ × zSt)} {v : Value} (d : decode M.2.1 pc = .ok (.pop, 1)) (hv : v.category = 1) (k : Zm X M inj G cs res S (pc + 1) ls st f) : Zm X M inj G cs res S pc ls (v :: st) f :=
  fun hf ho H locs la hp hl hS => lv_pop ho.1 ho.2.1 d hv (k hf ho H locs la hp hl hS)
theorem z_dup2 {ρ : Type} {X : zCx} {M : zMr} {inj : ρ → Option Value} {G : zGw} {cs : Nat × Nat} {res : ρ × zSt} {S : zSt} {pc : Nat} {ls : List (Option Value)} {st : List Value} {f : Option (ρ × zSt)} {v w : Value} (d : decode M.2.1 pc = .ok (.dup2, 1)) (hv : v.category = 1) (hw : w.category = 1) (k : Zm X M inj G cs res S (pc + 1) ls (v :: w :: v :: w :: st) f) : Zm X M inj G cs res S pc ls (v :: w :: st) f :=
  fun hf ho H locs la hp hl hS => lv_dup2_11 ho.1 ho.2.1 d hv hw (k hf ho H locs la hp hl hS)
theorem z_idiv {ρ : Type} {X : zCx} {M : zMr} {inj : ρ → Option Value} {G : zGw} {cs : Nat × Nat} {res : ρ × zSt} {S : zSt} {pc : Nat} {ls : List (Option Value)} {st : List Value} {f : Option (ρ × zSt)} {a b : Int32} (d : decode M.2.1 pc = .ok (.idiv, 1)) (k : Zm X M inj G cs res S (pc + 1) ls (.int (a / b) :: st) f) : Zm X M inj G cs res S pc ls (.int b :: .int a :: st) (nz b f) := by
  intro hf ho H locs la hp hl hS
  unfold nz at hf
  by_cases hb : b = 0
  · rw [if_pos hb] at hf; cases hf
  · rw [if_neg hb] at hf
    exact lv_idiv ho.1 ho.2.1 d hb (k hf ho H locs la hp hl hS)
theorem z_idivc {ρ : Type} {X : zCx} {M : zMr} {inj : ρ → Option Value} {G : zGw} {cs : Nat × Nat} {res : ρ × zSt} {S : zSt} {pc : Nat} {ls : List (Option Value)} {st : List Value} {f : Option (ρ × zSt)} {a b : Int32} (d : decode M.2.1 pc = .ok (.idiv, 1)) (hb : ¬ b = 0) (k : Zm X M inj G cs res S (pc + 1) ls (.int (a / b) :: st) f) : Zm X M inj G cs res S pc ls (.int b :: .int a :: st) f :=
  fun hf ho H locs la hp hl hS => lv_idiv ho.1 ho.2.1 d hb (k hf ho H locs la hp hl hS)
theorem z_irem {ρ : Type} {X : zCx} {M : zMr} {inj : ρ → Option Value} {G : zGw} {cs : Nat × Nat} {res : ρ × zSt} {S : zSt} {pc : Nat} {ls : List (Option Value)} {st : List Value} {f : Option (ρ × zSt)} {a b : Int32} (d : decode M.2.1 pc = .ok (.irem, 1)) (k : Zm X M inj G cs res S (pc + 1) ls (.int (a - a / b * b) :: st) f) : Zm X M inj G cs res S pc ls (.int b :: .int a :: st) (nz b f) := by
  intro hf ho H locs la hp hl hS
  unfold nz at hf
  by_cases hb : b = 0
  · rw [if_pos hb] at hf; cases hf
  · rw [if_neg hb] at hf
    exact lv_irem ho.1 ho.2.1 d hb (k hf ho H locs la hp hl hS)
theorem z_iremc {ρ : Type} {X : zCx} {M : zMr} {inj : ρ → Option Value} {G : zGw} {cs : Nat × Nat} {res : ρ × zSt} {S : zSt} {pc : Nat} {ls : List (Option Value)} {st : List Value} {f : Option (ρ × zSt)} {a b : Int32} (d : decode M.2.1 pc = .ok (.irem, 1)) (hb : ¬ b = 0) (k : Zm X M inj G cs res S (pc + 1) ls (.int (a - a / b * b) :: st) f) : Zm X M inj G cs res S pc ls (.int b :: .int a :: st) f :=
  fun hf ho H locs la hp hl hS => lv_irem ho.1 ho.2.1 d hb (k hf ho H locs la hp hl hS)
theorem z_ldiv {ρ : Type} {X : zCx} {M : zMr} {inj : ρ → Option Value} {G : zGw} {cs : Nat × Nat} {res : ρ × zSt} {S : zSt} {pc : Nat} {ls : List (Option Value)} {st : List Value} {f : Option (ρ × zSt)} {a b : Int64} (d : decode M.2.1 pc = .ok (.ldiv, 1)) (k : Zm X M inj G cs res S (pc + 1) ls (.long (a / b) :: st) f) : Zm X M inj G cs res S pc ls (.long b :: .long a :: st) (nzL b f) := by
  intro hf ho H locs la hp hl hS
  unfold nzL at hf
  by_cases hb : b = 0
  · rw [if_pos hb] at hf; cases hf
  · rw [if_neg hb] at hf
    exact lv_ldiv ho.1 ho.2.1 d hb (k hf ho H locs la hp hl hS)
theorem z_ldivc {ρ : Type} {X : zCx} {M : zMr} {inj : ρ → Option Value} {G : zGw} {cs : Nat × Nat} {res : ρ × zSt} {S : zSt} {pc : Nat} {ls : List (Option Value)} {st : List Value} {f : Option (ρ × zSt)} {a b : Int64} (d : decode M.2.1 pc = .ok (.ldiv, 1)) (hb : ¬ b = 0) (k : Zm X M inj G cs res S (pc + 1) ls (.long (a / b) :: st) f) : Zm X M inj G cs res S pc ls (.long b :: .long a :: st) f :=
  fun hf ho H locs la hp hl hS => lv_ldiv ho.1 ho.2.1 d hb (k hf ho H locs la hp hl hS)
theorem z_lrem {ρ : Type} {X : zCx} {M : zMr} {inj : ρ → Option Value} {G : zGw} {cs : Nat × Nat} {res : ρ × zSt} {S : zSt} {pc : Nat} {ls : List (Option Value)} {st : List Value} {f : Option (ρ × zSt)} {a b : Int64} (d : decode M.2.1 pc = .ok (.lrem, 1)) (k : Zm X M inj G cs res S (pc + 1) ls (.long (a - a / b * b) :: st) f) : Zm X M inj G cs res S pc ls (.long b :: .long a :: st) (nzL b f) := by
  intro hf ho H locs la hp hl hS
  unfold nzL at hf
  by_cases hb : b = 0
  · rw [if_pos hb] at hf; cases hf
  · rw [if_neg hb] at hf
    exact lv_lrem ho.1 ho.2.1 d hb (k hf ho H locs la hp hl hS)
theorem z_lremc {ρ : Type} {X : zCx} {M : zMr} {inj : ρ → Option Value} {G : zGw} {cs : Nat × Nat} {res : ρ × zSt} {S : zSt} {pc : Nat} {ls : List (Option Value)} {st : List Value} {f : Option (ρ × zSt)} {a b : Int64} (d : decode M.2.1 pc = .ok (.lrem, 1)) (hb : ¬ b = 0) (k : Zm X M inj G cs res S (pc + 1) ls (.long (a - a / b * b) :: st) f) : Zm X M inj G cs res S pc ls (.long b :: .long a :: st) f :=
  fun hf ho H locs la hp hl hS => lv_lrem ho.1 ho.2.1 d hb (k hf ho H locs la hp hl hS)
theorem z_chk {ρ : Type} {X : zCx} {M : zMr} {inj : ρ → Option Value} {G : zGw} {cs : Nat × Nat} {res : ρ × zSt} {S : zSt} {pc : Nat} {ls : List (Option Value)} {st : List Value} {f : Option (ρ × zSt)} {i : Int32} {n : Nat} (k : vp_in i n → Zm X M inj G cs res S pc ls st f) : Zm X M inj G cs res S pc ls st (chk i n f) := by
  intro hf ho H locs la hp hl hS
  unfold chk at hf
  by_cases hb : i < 0 ∨ n ≤ i.toNatClampNeg
  · rw [if_pos hb] at hf; cases hf
  · rw [if_neg hb] at hf
    exact k hb hf ho H locs la hp hl hS
theorem z_eq {ρ : Type} {X : zCx} {M : zMr} {inj : ρ → Option Value} {G : zGw} {cs : Nat × Nat} {res : ρ × zSt} {S : zSt} {pc : Nat} {ls : List (Option Value)} {st : List Value} {f : Option (ρ × zSt)} {g : Option (ρ × zSt)} (h : g = f) (k : Zm X M inj G cs res S pc ls st f) : Zm X M inj G cs res S pc ls st g := h ▸ k
theorem z_none {ρ : Type} {X : zCx} {M : zMr} {inj : ρ → Option Value} {G : zGw} {cs : Nat × Nat} {res : ρ × zSt} {S : zSt} {pc : Nat} {ls : List (Option Value)} {st : List Value} : Zm X M inj G cs res S pc ls st none := fun hf => by cases hf
/-! the world's rows -/
theorem zhp_set {G : zGw} {S S' : zSt} {s : State} {H H' : Heap} {k : Nat} (hap : zap G) (hk : G.2.1 k ≠ none) (h : zhp G S s H) (ho : ∀ q, q ≠ G.1 k → H'[q]? = H[q]?) (h1 : ∀ a, a ≠ k → S'.1 a = S.1 a) (h2 : ∀ a, a ≠ k → S'.2 a = S.2 a) (hc : zcellIs G S' s H' k) : zhp G S' s H' := by
  intro a
  by_cases e : a = k
  · rw [e]; exact hc
  · have hx := h a
    unfold zcellIs at hx ⊢
    cases hs : G.2.1 a with
    | none => trivial
    | some c =>
      rw [hs] at hx
      have hq : G.1 a ≠ G.1 k := fun z => e (hap a k (by rw [hs]; simp) hk z)
      cases c with
      | inl ci =>
        obtain ⟨r, r1, r2⟩ := hx
        refine ⟨r, r1, ?_⟩
        rw [h1 a e, h2 a e]
        exact r2.kept (ho _ hq)
      | inr x =>
        obtain ⟨cA, r1, r2⟩ := hx
        refine ⟨cA, ?_, r2⟩
        rw [h1 a e, h2 a e, ho _ hq]
        exact r1
theorem zhp_moved {G : zGw} {S : zSt} {u U : State} {H : Heap} (hvm : u.vm.Alike U.vm) (h : zhp G S u H) : zhp G S U H := by
  intro a
  have hx := h a
  unfold zcellIs at hx ⊢
  cases hs : G.2.1 a with
  | none => trivial
  | some c =>
    rw [hs] at hx
    cases c with
    | inl ci => exact hx
    | inr x =>
      obtain ⟨cA, r1, r2, r3⟩ := hx
      exact ⟨cA, r1, arrOfT_moved hvm r2, va_RA.moved hvm r3⟩
theorem zkn_moved {G : zGw} {u U : State} (hvm : u.vm.Alike U.vm) (h : zkn G u) : zkn G U := fun c q hq => u_Kn_moved hvm (h c q hq)
theorem zkn_K {G : zGw} {s : State} (h : zkn G s) : va_K G.2.2.2 zcl [] s := ⟨h, fun k q hk => by simp at hk⟩
theorem zhp_obj {G : zGw} {S : zSt} {s : State} {H : Heap} {kp ci N : Nat} {C : String} {T : u_T} (h : zhp G S s H) (hsh : G.2.1 kp = some (.inl ci)) (hc : zcl[ci]? = some (C, T, N)) : t_OB (G.1 kp) (G.2.2.2.1 ci) N (G.2.2.2.2 ci) H (fun j => zval (zft ci j) G.1 (G.2.2.1 kp j) (S.1 kp j) (S.2 kp j)) := by
  have hx := h kp
  unfold zcellIs at hx
  rw [hsh] at hx
  obtain ⟨r, r1, r2⟩ := hx
  cases hc.symm.trans r1
  exact r2
theorem zhp_arr {G : zGw} {S : zSt} {s : State} {H : Heap} {kp n : Nat} {ty : FieldType} (h : zhp G S s H) (hsh : G.2.1 kp = some (.inr (n, ty))) : ∃ cA : ClassId, H[G.1 kp]? = some (arrV cA n (fun j => zval ty G.1 (G.2.2.1 kp j) (S.1 kp j) (S.2 kp j))) ∧ ArrOfT s cA ty ∧ va_RA s cA ty := by
  have hx := h kp
  unfold zcellIs at hx
  rw [hsh] at hx
  exact hx
theorem zA_in {G : zGw} {sz k : Nat} (h : G.2.1 k ≠ none) : zA G sz (G.1 k) := Or.inl ⟨k, h, rfl⟩
theorem sI_ne {S : zSt} {k j a : Nat} {x : Int32} (h : a ≠ k) : (sI S k j x).1 a = S.1 a := by
  funext b
  simp [sI, h]
theorem sI_2 {S : zSt} {k j : Nat} {x : Int32} : (sI S k j x).2 = S.2 := rfl
theorem sL_ne {S : zSt} {k j a : Nat} {x : Int64} (h : a ≠ k) : (sL S k j x).2 a = S.2 a := by
  funext b
  simp [sL, h]
theorem z_get {ρ : Type} {X : zCx} {M : zMr} {inj : ρ → Option Value} {G : zGw} {cs : Nat × Nat} {res : ρ × zSt} {S : zSt} {pc : Nat} {ls : List (Option Value)} {st : List Value} {f : Option (ρ × zSt)} {C : String} {T : u_T} {N idx : Nat} {v : Value} (kp ci j : Nat) (hsh : G.2.1 kp = some (.inl ci)) (hc : zcl[ci]? = some (C, T, N)) (hin : ∀ w ∈ u_ws C T N, w ∈ lw_all) (hj : j < N) (hl : Cond.fieldLink M.1 idx (T j).1 (T j).2.1 (T j).2.2.1 ∈ lw_all) (hv : zval (zft ci j) G.1 (G.2.2.1 kp j) (S.1 kp j) (S.2 kp j) = v) (d : decode M.2.1 pc = .ok (.getfield idx, 3)) (k : Zm X M inj G cs res S (pc + 3) ls (v :: st) f) : Zm X M inj G cs res S pc ls (.ref (G.1 kp) :: st) f := by
  intro hf ho H locs la hp hl1 hS
  obtain ⟨cell, q1, q2, q3, q4⟩ := zhp_obj hp hsh hc
  obtain ⟨hS1, hfc, kC, hkC, hkind⟩ := ho.2.2.2.2.2.2.2.2.1 ci _ hc
  obtain ⟨cf, kf, fi, f, hi, hsl⟩ := hS1 j hj
  refine W.getf ho.1 ho.2.1 ho.2.2.2.1 (ho.2.2.2.2.1 _ hl) hi (u_facts hfc hkC (u_lays ho.2.2.2.2.1 hin hj) hi).1 q1 (by rw [q3]; exact fun h => by cases h) (v := v) ?_ rfl rfl d (k hf ho H locs la hp hl1 hS)
  rw [hsl]
  exact (q4 j hj).trans (congrArg some hv)
theorem z_putI {ρ : Type} {X : zCx} {M : zMr} {inj : ρ → Option Value} {G : zGw} {cs : Nat × Nat} {res : ρ × zSt} {S : zSt} {pc : Nat} {ls : List (Option Value)} {st : List Value} {f : Option (ρ × zSt)} {C : String} {T : u_T} {N idx : Nat} {x : Int32} (ty0 : Nat → FieldType) (kp ci j : Nat) (hsh : G.2.1 kp = some (.inl ci)) (hc : zcl[ci]? = some (C, T, N)) (hin : ∀ w ∈ u_ws C T N, w ∈ lw_all) (hty : ∀ k, k < N → parseFieldDescriptor (T k).2.2.1 = some (ty0 k)) (hnm : ∀ b, b < N → b ≠ j → (T j).2.1 ≠ (T b).2.1) (hj : j < N) (hl : Cond.fieldLink M.1 idx (T j).1 (T j).2.1 (T j).2.2.1 ∈ lw_all) (hfin : (T j).2.2.2 = false) (h0 : ty0 j = .int) (h1 : zft ci j = .int) (d : decode M.2.1 pc = .ok (.putfield idx, 3)) (k : Zm X M inj G cs res (sI S kp j x) (pc + 3) ls st f) : Zm X M inj G cs res S pc ls (.int x :: .ref (G.1 kp) :: st) f := by
  intro hf ho H locs la hp hl1 hS
  have hK := zkn_K ho.2.2.2.2.2.2.2.2.1
  have hap := zapart ho.2.2.2.2.1 hin ty0 hty hj hnm hK hc
  obtain ⟨cell, q1, q2, q3, q4⟩ := zhp_obj hp hsh hc
  obtain ⟨hS1, hfc, kC, hkC, hkind⟩ := ho.2.2.2.2.2.2.2.2.1 ci _ hc
  obtain ⟨cf, kf, fi, f, hi, hsl⟩ := hS1 j hj
  have hlay := ho.2.2.2.2.1 _ (hin _ (u_in_lay hj))
  unfold u_lay at hlay
  rw [if_neg (by rw [hfin]; decide)] at hlay
  have hst := (u_facts hfc hkC (u_lays ho.2.2.2.2.1 hin hj) hi).1
  have h6 := u_store hfc hkC hkind hlay hi ((hty j hj).trans (congrArg some h0)) (v := .int x) rfl rfl
  have hne : G.2.1 kp ≠ none := by rw [hsh]; simp
  refine W.putK ho.1 ho.2.1 (f := f) ⟨ho.2.2.2.1, (ho.2.2.2.2.1 _ hl), ⟨_, _, _, hi⟩, hst⟩ (by rw [q2]; exact h6) q1 q3 (by rw [hsl]; exact k2_hasslot (q4 j hj)) rfl rfl d fun H' e1 e2 e3 => ?_
  rw [hsl] at e1 ⊢
  refine k hf ho H' _ la (zhp_set ho.2.2.2.2.2.2.2.2.2.1 hne hp e3 (fun a ha => sI_ne ha) (fun a ha => rfl) ?_) hl1 (hS.put e2 e3 (zA_in hne))
  unfold zcellIs
  rw [hsh]
  refine ⟨_, hc, t_OB.to ⟨_, e1, q2, q3, zt_set q4 hap hj (.int x)⟩ (fun b hb => ?_)⟩
  unfold updV
  by_cases hbj : b = j
  · subst hbj
    rw [if_pos rfl, h1]
    simp [sI, zval]
  · rw [if_neg hbj]
    simp [sI, hbj]
theorem z_putL {ρ : Type} {X : zCx} {M : zMr} {inj : ρ → Option Value} {G : zGw} {cs : Nat × Nat} {res : ρ × zSt} {S : zSt} {pc : Nat} {ls : List (Option Value)} {st : List Value} {f : Option (ρ × zSt)} {C : String} {T : u_T} {N idx : Nat} {x : Int64} (ty0 : Nat → FieldType) (kp ci j : Nat) (hsh : G.2.1 kp = some (.inl ci)) (hc : zcl[ci]? = some (C, T, N)) (hin : ∀ w ∈ u_ws C T N, w ∈ lw_all) (hty : ∀ k, k < N → parseFieldDescriptor (T k).2.2.1 = some (ty0 k)) (hnm : ∀ b, b < N → b ≠ j → (T j).2.1 ≠ (T b).2.1) (hj : j < N) (hl : Cond.fieldLink M.1 idx (T j).1 (T j).2.1 (T j).2.2.1 ∈ lw_all) (hfin : (T j).2.2.2 = false) (h0 : ty0 j = .long) (h1 : zft ci j = .long) (d : decode M.2.1 pc = .ok (.putfield idx, 3)) (k : Zm X M inj G cs res (sL S kp j x) (pc + 3) ls st f) : Zm X M inj G cs res S pc ls (.long x :: .ref (G.1 kp) :: st) f := by
  intro hf ho H locs la hp hl1 hS
  have hK := zkn_K ho.2.2.2.2.2.2.2.2.1
  have hap := zapart ho.2.2.2.2.1 hin ty0 hty hj hnm hK hc
  obtain ⟨cell, q1, q2, q3, q4⟩ := zhp_obj hp hsh hc
  obtain ⟨hS1, hfc, kC, hkC, hkind⟩ := ho.2.2.2.2.2.2.2.2.1 ci _ hc
  obtain ⟨cf, kf, fi, f, hi, hsl⟩ := hS1 j hj
  have hlay := ho.2.2.2.2.1 _ (hin _ (u_in_lay hj))
  unfold u_lay at hlay
  rw [if_neg (by rw [hfin]; decide)] at hlay
  have hst := (u_facts hfc hkC (u_lays ho.2.2.2.2.1 hin hj) hi).1
  have h6 := u_store hfc hkC hkind hlay hi ((hty j hj).trans (congrArg some h0)) (v := .long x) rfl rfl
  have hne : G.2.1 kp ≠ none := by rw [hsh]; simp
  refine W.putK ho.1 ho.2.1 (f := f) ⟨ho.2.2.2.1, (ho.2.2.2.2.1 _ hl), ⟨_, _, _, hi⟩, hst⟩ (by rw [q2]; exact h6) q1 q3 (by rw [hsl]; exact k2_hasslot (q4 j hj)) rfl rfl d fun H' e1 e2 e3 => ?_
  rw [hsl] at e1 ⊢
  refine k hf ho H' _ la (zhp_set ho.2.2.2.2.2.2.2.2.2.1 hne hp e3 (fun a ha => rfl) (fun a ha => sL_ne ha) ?_) hl1 (hS.put e2 e3 (zA_in hne))
  unfold zcellIs
  rw [hsh]
  refine ⟨_, hc, t_OB.to ⟨_, e1, q2, q3, zt_set q4 hap hj (.long x)⟩ (fun b hb => ?_)⟩
  unfold updV
  by_cases hbj : b = j
  · subst hbj
    rw [if_pos rfl, h1]
    simp [sL, zval]
  · rw [if_neg hbj]
    simp [sL, hbj]
theorem z_getN {ρ : Type} {X : zCx} {M : zMr} {inj : ρ → Option Value} {G : zGw} {cs : Nat × Nat} {res : ρ × zSt} {S : zSt} {pc : Nat} {ls : List (Option Value)} {st : List Value} {f : Option (ρ × zSt)} {C : String} {T : u_T} {N idx : Nat} {v : Value} (kp ci j : Nat) (hsh : G.2.1 kp = some (.inl ci)) (hc : zcl[ci]? = some (C, T, N)) (hin : ∀ w ∈ u_ws C T N, w ∈ lw_all) (hj : j < N) (hl : (M.1, idx, (T j).1, (T j).2.1, (T j).2.2.1, "HiddenCube") ∈ znF) (hv : zval (zft ci j) G.1 (G.2.2.1 kp j) (S.1 kp j) (S.2 kp j) = v) (d : decode M.2.1 pc = .ok (.getfield idx, 3)) (k : Zm X M inj G cs res S (pc + 3) ls (v :: st) f) : Zm X M inj G cs res S pc ls (.ref (G.1 kp) :: st) f := by
  intro hf ho H locs la hp hl1 hS
  obtain ⟨cell, q1, q2, q3, q4⟩ := zhp_obj hp hsh hc
  obtain ⟨hS1, hfc, kC, hkC, hkind⟩ := ho.2.2.2.2.2.2.2.2.1 ci _ hc
  obtain ⟨cf, kf, fi, f, hi, hsl⟩ := hS1 j hj
  refine va_Wgetf ho.1 ho.2.1 ho.2.2.2.1 (va_Nw.use rfl (ho.2.2.2.2.2.1.1.1 _ hl)) hi (u_facts hfc hkC (u_lays ho.2.2.2.2.1 hin hj) hi).1 q1 (by rw [q3]; exact fun h => by cases h) (v := v) ?_ rfl rfl d (k hf ho H locs la hp hl1 hS)
  rw [hsl]
  exact (q4 j hj).trans (congrArg some hv)
theorem z_putIN {ρ : Type} {X : zCx} {M : zMr} {inj : ρ → Option Value} {G : zGw} {cs : Nat × Nat} {res : ρ × zSt} {S : zSt} {pc : Nat} {ls : List (Option Value)} {st : List Value} {f : Option (ρ × zSt)} {C : String} {T : u_T} {N idx : Nat} {x : Int32} (ty0 : Nat → FieldType) (kp ci j : Nat) (hsh : G.2.1 kp = some (.inl ci)) (hc : zcl[ci]? = some (C, T, N)) (hin : ∀ w ∈ u_ws C T N, w ∈ lw_all) (hty : ∀ k, k < N → parseFieldDescriptor (T k).2.2.1 = some (ty0 k)) (hnm : ∀ b, b < N → b ≠ j → (T j).2.1 ≠ (T b).2.1) (hj : j < N) (hl : (M.1, idx, (T j).1, (T j).2.1, (T j).2.2.1, "HiddenCube") ∈ znF) (hfin : (T j).2.2.2 = false) (h0 : ty0 j = .int) (h1 : zft ci j = .int) (d : decode M.2.1 pc = .ok (.putfield idx, 3)) (k : Zm X M inj G cs res (sI S kp j x) (pc + 3) ls st f) : Zm X M inj G cs res S pc ls (.int x :: .ref (G.1 kp) :: st) f := by
  intro hf ho H locs la hp hl1 hS
  have hK := zkn_K ho.2.2.2.2.2.2.2.2.1
  have hap := zapart ho.2.2.2.2.1 hin ty0 hty hj hnm hK hc
  obtain ⟨cell, q1, q2, q3, q4⟩ := zhp_obj hp hsh hc
  obtain ⟨hS1, hfc, kC, hkC, hkind⟩ := ho.2.2.2.2.2.2.2.2.1 ci _ hc
  obtain ⟨cf, kf, fi, f, hi, hsl⟩ := hS1 j hj
  have hlay := ho.2.2.2.2.1 _ (hin _ (u_in_lay hj))
  unfold u_lay at hlay
  rw [if_neg (by rw [hfin]; decide)] at hlay
  have hst := (u_facts hfc hkC (u_lays ho.2.2.2.2.1 hin hj) hi).1
  have h6 := u_store hfc hkC hkind hlay hi ((hty j hj).trans (congrArg some h0)) (v := .int x) rfl rfl
  have hne : G.2.1 kp ≠ none := by rw [hsh]; simp
  refine va_WputK ho.1 ho.2.1 (f := f) ho.2.2.2.1 (va_Nw.use rfl (ho.2.2.2.2.2.1.1.1 _ hl)) hi hst (by rw [q2]; exact h6) q1 q3 (by rw [hsl]; exact k2_hasslot (q4 j hj)) rfl rfl d fun H' e1 e2 e3 => ?_
  rw [hsl] at e1 ⊢
  refine k hf ho H' _ la (zhp_set ho.2.2.2.2.2.2.2.2.2.1 hne hp e3 (fun a ha => sI_ne ha) (fun a ha => rfl) ?_) hl1 (hS.put e2 e3 (zA_in hne))
  unfold zcellIs
  rw [hsh]
  refine ⟨_, hc, t_OB.to ⟨_, e1, q2, q3, zt_set q4 hap hj (.int x)⟩ (fun b hb => ?_)⟩
  unfold updV
  by_cases hbj : b = j
  · subst hbj
    rw [if_pos rfl, h1]
    simp [sI, zval]
  · rw [if_neg hbj]
    simp [sI, hbj]
theorem z_putLN {ρ : Type} {X : zCx} {M : zMr} {inj : ρ → Option Value} {G : zGw} {cs : Nat × Nat} {res : ρ × zSt} {S : zSt} {pc : Nat} {ls : List (Option Value)} {st : List Value} {f : Option (ρ × zSt)} {C : String} {T : u_T} {N idx : Nat} {x : Int64} (ty0 : Nat → FieldType) (kp ci j : Nat) (hsh : G.2.1 kp = some (.inl ci)) (hc : zcl[ci]? = some (C, T, N)) (hin : ∀ w ∈ u_ws C T N, w ∈ lw_all) (hty : ∀ k, k < N → parseFieldDescriptor (T k).2.2.1 = some (ty0 k)) (hnm : ∀ b, b < N → b ≠ j → (T j).2.1 ≠ (T b).2.1) (hj : j < N) (hl : (M.1, idx, (T j).1, (T j).2.1, (T j).2.2.1, "HiddenCube") ∈ znF) (hfin : (T j).2.2.2 = false) (h0 : ty0 j = .long) (h1 : zft ci j = .long) (d : decode M.2.1 pc = .ok (.putfield idx, 3)) (k : Zm X M inj G cs res (sL S kp j x) (pc + 3) ls st f) : Zm X M inj G cs res S pc ls (.long x :: .ref (G.1 kp) :: st) f := by
  intro hf ho H locs la hp hl1 hS
  have hK := zkn_K ho.2.2.2.2.2.2.2.2.1
  have hap := zapart ho.2.2.2.2.1 hin ty0 hty hj hnm hK hc
  obtain ⟨cell, q1, q2, q3, q4⟩ := zhp_obj hp hsh hc
  obtain ⟨hS1, hfc, kC, hkC, hkind⟩ := ho.2.2.2.2.2.2.2.2.1 ci _ hc
  obtain ⟨cf, kf, fi, f, hi, hsl⟩ := hS1 j hj
  have hlay := ho.2.2.2.2.1 _ (hin _ (u_in_lay hj))
  unfold u_lay at hlay
  rw [if_neg (by rw [hfin]; decide)] at hlay
  have hst := (u_facts hfc hkC (u_lays ho.2.2.2.2.1 hin hj) hi).1
  have h6 := u_store hfc hkC hkind hlay hi ((hty j hj).trans (congrArg some h0)) (v := .long x) rfl rfl
  have hne : G.2.1 kp ≠ none := by rw [hsh]; simp
  refine va_WputK ho.1 ho.2.1 (f := f) ho.2.2.2.1 (va_Nw.use rfl (ho.2.2.2.2.2.1.1.1 _ hl)) hi hst (by rw [q2]; exact h6) q1 q3 (by rw [hsl]; exact k2_hasslot (q4 j hj)) rfl rfl d fun H' e1 e2 e3 => ?_
  rw [hsl] at e1 ⊢
  refine k hf ho H' _ la (zhp_set ho.2.2.2.2.2.2.2.2.2.1 hne hp e3 (fun a ha => rfl) (fun a ha => sL_ne ha) ?_) hl1 (hS.put e2 e3 (zA_in hne))
  unfold zcellIs
  rw [hsh]
  refine ⟨_, hc, t_OB.to ⟨_, e1, q2, q3, zt_set q4 hap hj (.long x)⟩ (fun b hb => ?_)⟩
  unfold updV
  by_cases hbj : b = j
  · subst hbj
    rw [if_pos rfl, h1]
    simp [sL, zval]
  · rw [if_neg hbj]
    simp [sL, hbj]
theorem z_iaload {ρ : Type} {X : zCx} {M : zMr} {inj : ρ → Option Value} {G : zGw} {cs : Nat × Nat} {res : ρ × zSt} {S : zSt} {pc : Nat} {ls : List (Option Value)} {st : List Value} {f : Option (ρ × zSt)} {i : Int32} (kp n : Nat) (hsh : G.2.1 kp = some (.inr (n, .int))) (hin : vp_in i n) (d : decode M.2.1 pc = .ok (.iaload, 1)) (k : Zm X M inj G cs res S (pc + 1) ls (.int (S.1 kp i.toNatClampNeg) :: st) f) : Zm X M inj G cs res S pc ls (.int i :: .ref (G.1 kp) :: st) f := by
  intro hf ho H locs la hp hl hS
  obtain ⟨cA, r1, r2, r3⟩ := zhp_arr hp hsh
  have hlt : i.toNatClampNeg < n := Nat.not_le.mp fun q => hin (Or.inr q)
  exact W.iald (v := .int (S.1 kp i.toNatClampNeg)) ho.1 ho.2.1 r1 (r2 n _) (fun q => by cases q) (by show ¬ (i < 0 ∨ (arrV _ _ _).slots.size ≤ _); rw [arrV_size]; exact hin) (arrV_read _ _ hlt) rfl rfl d (k hf ho H locs la hp hl hS)
theorem z_baload {ρ : Type} {X : zCx} {M : zMr} {inj : ρ → Option Value} {G : zGw} {cs : Nat × Nat} {res : ρ × zSt} {S : zSt} {pc : Nat} {ls : List (Option Value)} {st : List Value} {f : Option (ρ × zSt)} {i : Int32} (kp n : Nat) (hsh : G.2.1 kp = some (.inr (n, .byte))) (hin : vp_in i n) (d : decode M.2.1 pc = .ok (.baload, 1)) (k : Zm X M inj G cs res S (pc + 1) ls (.int (S.1 kp i.toNatClampNeg) :: st) f) : Zm X M inj G cs res S pc ls (.int i :: .ref (G.1 kp) :: st) f := by
  intro hf ho H locs la hp hl hS
  obtain ⟨cA, r1, r2, r3⟩ := zhp_arr hp hsh
  have hlt : i.toNatClampNeg < n := Nat.not_le.mp fun q => hin (Or.inr q)
  exact W.bald (v := .int (S.1 kp i.toNatClampNeg)) ho.1 ho.2.1 r1 (r2 n _) (fun q => by cases q) (by show ¬ (i < 0 ∨ (arrV _ _ _).slots.size ≤ _); rw [arrV_size]; exact hin) (arrV_read _ _ hlt) rfl rfl d (k hf ho H locs la hp hl hS)
theorem z_zaload {ρ : Type} {X : zCx} {M : zMr} {inj : ρ → Option Value} {G : zGw} {cs : Nat × Nat} {res : ρ × zSt} {S : zSt} {pc : Nat} {ls : List (Option Value)} {st : List Value} {f : Option (ρ × zSt)} {i : Int32} (kp n : Nat) (hsh : G.2.1 kp = some (.inr (n, .boolean))) (hin : vp_in i n) (d : decode M.2.1 pc = .ok (.baload, 1)) (k : Zm X M inj G cs res S (pc + 1) ls (.int (S.1 kp i.toNatClampNeg) :: st) f) : Zm X M inj G cs res S pc ls (.int i :: .ref (G.1 kp) :: st) f := by
  intro hf ho H locs la hp hl hS
  obtain ⟨cA, r1, r2, r3⟩ := zhp_arr hp hsh
  have hlt : i.toNatClampNeg < n := Nat.not_le.mp fun q => hin (Or.inr q)
  exact W.zald (v := .int (S.1 kp i.toNatClampNeg)) ho.1 ho.2.1 r1 (r2 n _) (fun q => by cases q) (by show ¬ (i < 0 ∨ (arrV _ _ _).slots.size ≤ _); rw [arrV_size]; exact hin) (arrV_read _ _ hlt) rfl rfl d (k hf ho H locs la hp hl hS)
theorem z_saload {ρ : Type} {X : zCx} {M : zMr} {inj : ρ → Option Value} {G : zGw} {cs : Nat × Nat} {res : ρ × zSt} {S : zSt} {pc : Nat} {ls : List (Option Value)} {st : List Value} {f : Option (ρ × zSt)} {i : Int32} (kp n : Nat) (hsh : G.2.1 kp = some (.inr (n, .short))) (hin : vp_in i n) (d : decode M.2.1 pc = .ok (.saload, 1)) (k : Zm X M inj G cs res S (pc + 1) ls (.int (S.1 kp i.toNatClampNeg) :: st) f) : Zm X M inj G cs res S pc ls (.int i :: .ref (G.1 kp) :: st) f := by
  intro hf ho H locs la hp hl hS
  obtain ⟨cA, r1, r2, r3⟩ := zhp_arr hp hsh
  have hlt : i.toNatClampNeg < n := Nat.not_le.mp fun q => hin (Or.inr q)
  exact W.sald (v := .int (S.1 kp i.toNatClampNeg)) ho.1 ho.2.1 r1 (r2 n _) (fun q => by cases q) (by show ¬ (i < 0 ∨ (arrV _ _ _).slots.size ≤ _); rw [arrV_size]; exact hin) (arrV_read _ _ hlt) rfl rfl d (k hf ho H locs la hp hl hS)
theorem z_laload {ρ : Type} {X : zCx} {M : zMr} {inj : ρ → Option Value} {G : zGw} {cs : Nat × Nat} {res : ρ × zSt} {S : zSt} {pc : Nat} {ls : List (Option Value)} {st : List Value} {f : Option (ρ × zSt)} {i : Int32} (kp n : Nat) (hsh : G.2.1 kp = some (.inr (n, .long))) (hin : vp_in i n) (d : decode M.2.1 pc = .ok (.laload, 1)) (k : Zm X M inj G cs res S (pc + 1) ls (.long (S.2 kp i.toNatClampNeg) :: st) f) : Zm X M inj G cs res S pc ls (.int i :: .ref (G.1 kp) :: st) f := by
  intro hf ho H locs la hp hl hS
  obtain ⟨cA, r1, r2, r3⟩ := zhp_arr hp hsh
  have hlt : i.toNatClampNeg < n := Nat.not_le.mp fun q => hin (Or.inr q)
  exact W.lald (v := .long (S.2 kp i.toNatClampNeg)) ho.1 ho.2.1 r1 (r2 n _) (fun q => by cases q) (by show ¬ (i < 0 ∨ (arrV _ _ _).slots.size ≤ _); rw [arrV_size]; exact hin) (arrV_read _ _ hlt) rfl rfl d (k hf ho H locs la hp hl hS)
theorem z_iastore {ρ : Type} {X : zCx} {M : zMr} {inj : ρ → Option Value} {G : zGw} {cs : Nat × Nat} {res : ρ × zSt} {S : zSt} {pc : Nat} {ls : List (Option Value)} {st : List Value} {f : Option (ρ × zSt)} {i : Int32} {x : Int32} (kp n : Nat) (hsh : G.2.1 kp = some (.inr (n, .int))) (hin : vp_in i n) (d : decode M.2.1 pc = .ok (.iastore, 1)) (k : Zm X M inj G cs res (sI S kp i.toNatClampNeg x) (pc + 1) ls st f) : Zm X M inj G cs res S pc ls (.int x :: .int i :: .ref (G.1 kp) :: st) f := by
  intro hf ho H locs la hp hl hS
  obtain ⟨cA, r1, r2, r3⟩ := zhp_arr hp hsh
  have hne : G.2.1 kp ≠ none := by rw [hsh]; simp
  refine W.iast ho.1 ho.2.1 r1 (r2 n _) (fun q => by cases q) (by show ¬ (i < 0 ∨ (arrV _ _ _).slots.size ≤ _); rw [arrV_size]; exact hin) rfl rfl d fun H' e z oq => ?_
  refine k hf ho H' _ la (zhp_set ho.2.2.2.2.2.2.2.2.2.1 hne hp oq (fun a ha => sI_ne ha) (fun a ha => rfl) ?_) hl (hS.put z oq (zA_in hne))
  unfold zcellIs
  rw [hsh]
  refine ⟨cA, ?_, r2, r3⟩
  rw [e, arrV_store]
  congr 2
  funext b
  unfold updV
  by_cases hb : b = i.toNatClampNeg
  · subst hb
    simp [sI, zval, narrow]
  · simp [sI, hb]
theorem z_bastore {ρ : Type} {X : zCx} {M : zMr} {inj : ρ → Option Value} {G : zGw} {cs : Nat × Nat} {res : ρ × zSt} {S : zSt} {pc : Nat} {ls : List (Option Value)} {st : List Value} {f : Option (ρ × zSt)} {i : Int32} {x : Int32} (kp n : Nat) (hsh : G.2.1 kp = some (.inr (n, .byte))) (hin : vp_in i n) (d : decode M.2.1 pc = .ok (.bastore, 1)) (k : Zm X M inj G cs res (sI S kp i.toNatClampNeg x.toInt8.toInt32) (pc + 1) ls st f) : Zm X M inj G cs res S pc ls (.int x :: .int i :: .ref (G.1 kp) :: st) f := by
  intro hf ho H locs la hp hl hS
  obtain ⟨cA, r1, r2, r3⟩ := zhp_arr hp hsh
  have hne : G.2.1 kp ≠ none := by rw [hsh]; simp
  refine W.bast ho.1 ho.2.1 r1 (r2 n _) (fun q => by cases q) (by show ¬ (i < 0 ∨ (arrV _ _ _).slots.size ≤ _); rw [arrV_size]; exact hin) rfl rfl d fun H' e z oq => ?_
  refine k hf ho H' _ la (zhp_set ho.2.2.2.2.2.2.2.2.2.1 hne hp oq (fun a ha => sI_ne ha) (fun a ha => rfl) ?_) hl (hS.put z oq (zA_in hne))
  unfold zcellIs
  rw [hsh]
  refine ⟨cA, ?_, r2, r3⟩
  rw [e, arrV_store]
  congr 2
  funext b
  unfold updV
  by_cases hb : b = i.toNatClampNeg
  · subst hb
    simp [sI, zval, narrow]
  · simp [sI, hb]
theorem z_zastore {ρ : Type} {X : zCx} {M : zMr} {inj : ρ → Option Value} {G : zGw} {cs : Nat × Nat} {res : ρ × zSt} {S : zSt} {pc : Nat} {ls : List (Option Value)} {st : List Value} {f : Option (ρ × zSt)} {i : Int32} {x : Int32} (kp n : Nat) (hsh : G.2.1 kp = some (.inr (n, .boolean))) (hin : vp_in i n) (d : decode M.2.1 pc = .ok (.bastore, 1)) (k : Zm X M inj G cs res (sI S kp i.toNatClampNeg (x &&& 1)) (pc + 1) ls st f) : Zm X M inj G cs res S pc ls (.int x :: .int i :: .ref (G.1 kp) :: st) f := by
  intro hf ho H locs la hp hl hS
  obtain ⟨cA, r1, r2, r3⟩ := zhp_arr hp hsh
  have hne : G.2.1 kp ≠ none := by rw [hsh]; simp
  refine W.zast ho.1 ho.2.1 r1 (r2 n _) (fun q => by cases q) (by show ¬ (i < 0 ∨ (arrV _ _ _).slots.size ≤ _); rw [arrV_size]; exact hin) rfl rfl d fun H' e z oq => ?_
  refine k hf ho H' _ la (zhp_set ho.2.2.2.2.2.2.2.2.2.1 hne hp oq (fun a ha => sI_ne ha) (fun a ha => rfl) ?_) hl (hS.put z oq (zA_in hne))
  unfold zcellIs
  rw [hsh]
  refine ⟨cA, ?_, r2, r3⟩
  rw [e, arrV_store]
  congr 2
  funext b
  unfold updV
  by_cases hb : b = i.toNatClampNeg
  · subst hb
    simp [sI, zval, narrow]
  · simp [sI, hb]
theorem z_sastore {ρ : Type} {X : zCx} {M : zMr} {inj : ρ → Option Value} {G : zGw} {cs : Nat × Nat} {res : ρ × zSt} {S : zSt} {pc : Nat} {ls : List (Option Value)} {st : List Value} {f : Option (ρ × zSt)} {i : Int32} {x : Int32} (kp n : Nat) (hsh : G.2.1 kp = some (.inr (n, .short))) (hin : vp_in i n) (d : decode M.2.1 pc = .ok (.sastore, 1)) (k : Zm X M inj G cs res (sI S kp i.toNatClampNeg x.toInt16.toInt32) (pc + 1) ls st f) : Zm X M inj G cs res S pc ls (.int x :: .int i :: .ref (G.1 kp) :: st) f := by
  intro hf ho H locs la hp hl hS
  obtain ⟨cA, r1, r2, r3⟩ := zhp_arr hp hsh
  have hne : G.2.1 kp ≠ none := by rw [hsh]; simp
  refine W.sast ho.1 ho.2.1 r1 (r2 n _) (fun q => by cases q) (by show ¬ (i < 0 ∨ (arrV _ _ _).slots.size ≤ _); rw [arrV_size]; exact hin) rfl rfl d fun H' e z oq => ?_
  refine k hf ho H' _ la (zhp_set ho.2.2.2.2.2.2.2.2.2.1 hne hp oq (fun a ha => sI_ne ha) (fun a ha => rfl) ?_) hl (hS.put z oq (zA_in hne))
  unfold zcellIs
  rw [hsh]
  refine ⟨cA, ?_, r2, r3⟩
  rw [e, arrV_store]
  congr 2
  funext b
  unfold updV
  by_cases hb : b = i.toNatClampNeg
  · subst hb
    simp [sI, zval, narrow]
  · simp [sI, hb]
theorem z_lastore {ρ : Type} {X : zCx} {M : zMr} {inj : ρ → Option Value} {G : zGw} {cs : Nat × Nat} {res : ρ × zSt} {S : zSt} {pc : Nat} {ls : List (Option Value)} {st : List Value} {f : Option (ρ × zSt)} {i : Int32} {x : Int64} (kp n : Nat) (hsh : G.2.1 kp = some (.inr (n, .long))) (hin : vp_in i n) (d : decode M.2.1 pc = .ok (.lastore, 1)) (k : Zm X M inj G cs res (sL S kp i.toNatClampNeg x) (pc + 1) ls st f) : Zm X M inj G cs res S pc ls (.long x :: .int i :: .ref (G.1 kp) :: st) f := by
  intro hf ho H locs la hp hl hS
  obtain ⟨cA, r1, r2, r3⟩ := zhp_arr hp hsh
  have hne : G.2.1 kp ≠ none := by rw [hsh]; simp
  refine W.last ho.1 ho.2.1 r1 (r2 n _) (fun q => by cases q) (by show ¬ (i < 0 ∨ (arrV _ _ _).slots.size ≤ _); rw [arrV_size]; exact hin) rfl rfl d fun H' e z oq => ?_
  refine k hf ho H' _ la (zhp_set ho.2.2.2.2.2.2.2.2.2.1 hne hp oq (fun a ha => rfl) (fun a ha => sL_ne ha) ?_) hl (hS.put z oq (zA_in hne))
  unfold zcellIs
  rw [hsh]
  refine ⟨cA, ?_, r2, r3⟩
  rw [e, arrV_store]
  congr 2
  funext b
  unfold updV
  by_cases hb : b = i.toNatClampNeg
  · subst hb
    simp [sL, zval, narrow]
  · simp [sL, hb]
theorem z_alen {ρ : Type} {X : zCx} {M : zMr} {inj : ρ → Option Value} {G : zGw} {cs : Nat × Nat} {res : ρ × zSt} {S : zSt} {pc : Nat} {ls : List (Option Value)} {st : List Value} {f : Option (ρ × zSt)} (kp n : Nat) (ty : FieldType) (hsh : G.2.1 kp = some (.inr (n, ty))) {v : Int32} (hv : Int32.ofNat n = v) (d : decode M.2.1 pc = .ok (.arraylength, 1)) (k : Zm X M inj G cs res S (pc + 1) ls (.int v :: st) f) : Zm X M inj G cs res S pc ls (.ref (G.1 kp) :: st) f := by
  intro hf ho H locs la hp hl hS
  obtain ⟨cA, r1, r2, r3⟩ := zhp_arr hp hsh
  subst hv
  exact W.alen (n := Int32.ofNat n) ho.1 ho.2.1 r1 (r2 n _) (by rw [arrV_size] <;> rfl) rfl rfl d (k hf ho H locs la hp hl hS)
def zcs (cs : Nat × Nat) (M : zMr) : Bool := Nat.ble cs.1 M.2.2.2.2.2.1 && Nat.ble cs.2 M.2.2.2.2.2.2.1
theorem zcs1 {cs : Nat × Nat} {M : zMr} (h : zcs cs M = true) : cs.1 ≤ M.2.2.2.2.2.1 := Nat.le_of_ble_eq_true (Bool.and_eq_true_iff.mp h).1
theorem zcs2 {cs : Nat × Nat} {M : zMr} (h : zcs cs M = true) : cs.2 ≤ M.2.2.2.2.2.2.1 := Nat.le_of_ble_eq_true (Bool.and_eq_true_iff.mp h).2
theorem z_iret {X : zCx} {M : zMr} {G : zGw} {cs : Nat × Nat} {S : zSt} {pc : Nat} {ls : List (Option Value)} {res : Int32 × zSt} {v : Int32} (hr : M.2.2.2.1 = some .int) (d : decode M.2.1 pc = .ok (.ireturn, 1)) (hc : zcs cs M = true) : Zm X M zJI G cs res S pc ls [.int v] (some (v, S)) := by
  intro hf ho H locs la hp hl hS
  cases hf
  exact W.widen (zcs1 hc) (zcs2 hc) (W.iret ho.1 ho.2.1 (ho.2.2.2.2.2.2.2.1.trans hr) (fun t ht hW => ⟨rfl, by rw [ht]; exact zhp_moved hW.alike hp, hS.F ht⟩) hS.2.2 d ho.2.2.2.2.2.2.1)
theorem z_lret {X : zCx} {M : zMr} {G : zGw} {cs : Nat × Nat} {S : zSt} {pc : Nat} {ls : List (Option Value)} {res : Int64 × zSt} {v : Int64} (hr : M.2.2.2.1 = some .long) (d : decode M.2.1 pc = .ok (.lreturn, 1)) (hc : zcs cs M = true) : Zm X M zJL G cs res S pc ls [.long v] (some (v, S)) := by
  intro hf ho H locs la hp hl hS
  cases hf
  exact W.widen (zcs1 hc) (zcs2 hc) (W.lret ho.1 ho.2.1 (ho.2.2.2.2.2.2.2.1.trans hr) (fun t ht hW => ⟨rfl, by rw [ht]; exact zhp_moved hW.alike hp, hS.F ht⟩) hS.2.2 d ho.2.2.2.2.2.2.1)
theorem z_vret {X : zCx} {M : zMr} {G : zGw} {cs : Nat × Nat} {S : zSt} {pc : Nat} {ls : List (Option Value)} {res : Unit × zSt} (hr : M.2.2.2.1 = none) (d : decode M.2.1 pc = .ok (.return_, 1)) (hc : zcs cs M = true) : Zm X M zJV G cs res S pc ls [] (some ((), S)) := by
  intro hf ho H locs la hp hl hS
  cases hf
  exact W.widen (zcs1 hc) (zcs2 hc) (W.vret ho.1 ho.2.1 (ho.2.2.2.2.2.2.2.1.trans hr) (fun t ht hW => ⟨rfl, by rw [ht]; exact zhp_moved hW.alike hp, hS.F ht⟩) hS.2.2 d ho.2.2.2.2.2.2.1)
theorem z_Wzret {p : Program} {l : Launch} {e : Env} {R : Room} {s : State} {m : MethodId} {args : Array Value} {below : List Frame} {meth : Method} {c : Code} {H : Heap} {locs : List Loc} {cells slots : Nat} {cc : ByteArray} {Qc : Array Value → State → Outcome → State → Prop} {free : Addr → Prop} {v w : Int32} {ty : FieldType} (hexec : p.tables.exec = Jvm.exec) (hb : c.code = cc) (hr : meth.sig.returnType = some ty) (hn : narrow ty (.int v) = .int w)
    (hq : ∀ t : State, t.heap = H → s.WarmedH t.vm → Qc args s (.returned (some (.int w))) t) (hf : ∀ q ∈ locs, free q.base)
    {pc : Nat} {ls : Array Slot} (hdg : decode cc pc = .ok (.ireturn, 1)) (hlocks : meth.locks = false) : W p l e R s m args below meth c H locs cells slots (MQ below Qc args s cells slots free) (F0 m pc ls [.int v]) := by
  intro T hT X
  obtain ⟨fs, hret, hrun, hended, hW, hframe⟩ := X.leave (v := some (.int w)) (fun h => by rw [hr] at h; cases h)
  have hmeth' : T.vm.method? m = some meth := X.method'
  refine ⟨T.setFrames fs, ?_, .returned (some (.int w)), hrun, hended, hq _ hT hW, locs, ⟨⟨_, rfl⟩, hW, hframe⟩, hf⟩
  jvm_step X.here [X.here.top, hexec, hb, hdg, hmeth', hr, hn]
  (try refine ⟨rfl, ?_⟩); (try refine ⟨rfl, ?_⟩)
  first | (intro acts; rw [hret _ acts rfl rfl rfl]) | rw [hret _ _ rfl rfl rfl]
  exact Steps.refl _
theorem z_zret {X : zCx} {M : zMr} {G : zGw} {cs : Nat × Nat} {S : zSt} {pc : Nat} {ls : List (Option Value)} {res : Int32 × zSt} {v w : Int32} (hr : M.2.2.2.1 = some .boolean) (hn : v &&& 1 = w) (d : decode M.2.1 pc = .ok (.ireturn, 1)) (hc : zcs cs M = true) : Zm X M zJI G cs res S pc ls [.int v] (some (w, S)) := by
  intro hf ho H locs la hp hl hS
  cases hf
  exact W.widen (zcs1 hc) (zcs2 hc) (z_Wzret (w := w) ho.1 ho.2.1 (ho.2.2.2.2.2.2.2.1.trans hr) (by rw [← hn]; rfl) (fun t ht hW => ⟨rfl, by rw [ht]; exact zhp_moved hW.alike hp, hS.F ht⟩) hS.2.2 d ho.2.2.2.2.2.2.1)
theorem Zc_of {ρ : Type} {M : zMr} {y : MethodName} {inj : ρ → Option Value} {G : zGw} {As : List Value} {F : zSt → Option (ρ × zSt)} (ls0 : List (Option Value)) (hy : plainName y.cls = true) (hM : M.1 = y.cls) (hH : M.2.2.2.2.2.2.2 = none) (hlen : (lg_sl As).length ≤ M.2.2.1) (hls : l0 M.2.2.1 (lv_args 0 As) = ls0) (h : ∀ X S res, Zm X M inj G (0, 0) res S 0 ls0 [] (F S)) : Zc M y inj G As F := by
  intro l S res sz hfl hF
  have hcw : zcw M y = Cond.code y M.2.1 M.2.2.1 M.2.2.2.1 := by unfold zcw; rw [hH]
  rw [hcw]
  refine Met.ofW (cc := M.2.1) (maxL := M.2.2.1) (ret := M.2.2.2.1) hy rfl ?_
  intro p e s m args below meth c s₁ B hml hv
  obtain ⟨rfl, hsz, hP, hK, hN, hA, hE⟩ := hv
  have hts := atoms_spec (ws := ws_ y M.2.1 M.2.2.1 M.2.2.2.1) B.pre
  have hts : ∀ w ∈ lw_all, w.before As.toArray s = true := fun w h => hts w (List.mem_cons_of_mem _ h)
  have hown : s.vm.findClass M.1 = some m.cls := by rw [hM]; exact findClass_of_methodNamed B.named
  subst hsz
  have hl := lv_entry As (n := M.2.2.1) hlen
  rw [lg_entry_eq]
  generalize (lg_sl As ++ List.replicate (M.2.2.1 - (lg_sl As).length) Slot.unset).toArray = la at hl ⊢
  have hx : zok M G (p, l, e, zRm M, s, m, As.toArray, below, meth, c) := ⟨B.exec, B.bytes, hml, hown, hts, ⟨hN, hE, hfl, by
    obtain ⟨meth9, c9, h1, h2, -, -, -, -, h7, -⟩ := Cond.code_spec B.named (atoms_spec (ws := ws_ y M.2.1 M.2.2.1 M.2.2.2.1) B.pre _ List.mem_cons_self)
    cases Option.some.inj (h1.symm.trans B.method)
    cases Option.some.inj (h2.symm.trans (Stand.of_body B).code)
    rw [Array.isEmpty_iff.mp h7]
    unfold zhh
    rw [hH]
    rfl⟩, B.notSynchronized, B.returns, hK, hA, rfl⟩
  refine h (p, l, e, zRm M, s, m, As.toArray, below, meth, c) S res hF hx s.heap [] la hP ⟨hl.1, hl.2.1, fun i v hi => ?_⟩ va_S.rf
  subst hls
  unfold l0 at hi
  rw [List.getElem?_map] at hi
  obtain ⟨q, hq1, hq2⟩ := Option.map_eq_some_iff.mp hi
  have hq : q = i := by
    have := List.getElem?_eq_some_iff.mp hq1
    obtain ⟨h3, h4⟩ := this
    rw [List.getElem_range] at h4
    exact h4.symm
  subst hq
  exact hl.2.2 (q, v) (List.mem_iff_getElem?.mpr (by
    have : (q, v) ∈ lv_args 0 As := by
      revert hq2
      generalize lv_args 0 As = L
      induction L with
      | nil => intro h; cases h
      | cons a t ih =>
        intro h
        obtain ⟨a1, a2⟩ := a
        rw [List.lookup_cons] at h
        split at h
        · rename_i hb
          have e1 : q = a1 := by simpa using hb
          cases h
          rw [e1]
          exact List.mem_cons_self
        · exact List.mem_cons_of_mem _ (ih h)
    exact List.getElem?_of_mem this))
def ZV (Mc : zMr) (yc : MethodName) (n : Nat) : Prop := Cond.instanceMethod yc ∈ lw_all ∧ Cond.selects Mc.1 yc yc ∈ lw_all ∧ Cond.initialized Mc.1 ∈ lw_all ∧ Cond.code yc Mc.2.1 Mc.2.2.1 Mc.2.2.2.1 ∈ lw_all ∧ yc.cls = Mc.1 ∧ (yc.cls ≠ "java/lang/invoke/MethodHandle" ∧ yc.cls ≠ "java/lang/invoke/VarHandle" ∧ (parseMethodDescriptor yc.desc).map (fun d => d.parameters.length) = some n)
def ZS (Mc : zMr) (yc : MethodName) (n : Nat) : Prop := Cond.static yc ∈ lw_all ∧ Cond.initialized yc.cls ∈ lw_all ∧ Cond.code yc Mc.2.1 Mc.2.2.1 Mc.2.2.2.1 ∈ lw_all ∧ (yc.cls ≠ "java/lang/invoke/MethodHandle" ∧ yc.cls ≠ "java/lang/invoke/VarHandle" ∧ (parseMethodDescriptor yc.desc).map (fun d => d.parameters.length) = some n)
theorem z_room {a b L c1 c2 c3 c4 : Nat} (h : a + 1 ≤ b) (hL : L ≤ 45) : (zrm a c1 c2).frames + 1 ≤ (zrm b c3 c4).frames ∧ 8 + (L + 11) + (zrm a c1 c2).locals ≤ (zrm b c3 c4).locals := by
  constructor
  · exact h
  · show 8 + (L + 11) + 64 * a ≤ 64 * b
    omega
theorem zA_sub {G : zGw} {a b q : Nat} (h : a ≤ b) (hq : zA G b q) : zA G a q := hq.elim Or.inl (fun z => Or.inr (Nat.le_trans h z))
theorem z_blind {As : List Value} {G : zGw} {S : zSt} {sz : Nat} : FrameBlind (va_Pc As (fun U => U.heap.size = sz ∧ zhp G S U U.heap ∧ zkn G U ∧ zNW U ∧ zap G ∧ zEnv (zA G sz) U U.heap)) := by
  intro a U g mk q
  obtain ⟨q0, q1, q2, q3, q4, q5, q6⟩ := q
  exact ⟨q0, q1, zhp_moved (u := U) (U := U.calling g mk a) (Vm.Alike.refl U.vm) q2, zkn_moved (u := U) (U := U.calling g mk a) (Vm.Alike.refl U.vm) q3, zNW_same (u := U) (U := U.calling g mk a) rfl q4, q5, zEnv_moved (u := U) (U := U.calling g mk a) (Vm.Alike.refl U.vm) q6⟩
theorem zEnv_now {G : zGw} {s : State} {H : Heap} {locs : List Loc} (hE : zEnv (zA G s.heap.size) s s.heap) (hS : va_S (zA G s.heap.size) s.heap H locs) : zEnv (zA G H.size) s H := zEnv_narrow (zEnv_kept hE (fun a h1 h2 => hS.2.1 a h1 h2)) (fun q hq => zA_sub hS.1 hq)
theorem z_pre {As : List Value} {G : zGw} {S : zSt} {s : State} {H : Heap} {locs : List Loc} (hp : zhp G S s H) (hk : zkn G s) (hn : zNW s) (ha : zap G) (hE : zEnv (zA G s.heap.size) s s.heap) (hS : va_S (zA G s.heap.size) s.heap H locs) : ∀ U : State, U.heap = H → s.WarmedH U.vm → va_Pc As (fun U => U.heap.size = H.size ∧ zhp G S U U.heap ∧ zkn G U ∧ zNW U ∧ zap G ∧ zEnv (zA G H.size) U U.heap) As.toArray U := fun U hU hW => ⟨rfl, by rw [hU], by rw [hU]; exact zhp_moved hW.alike hp, zkn_moved hW.alike hk, zNW_warm hW hn, ha, by rw [hU]; exact zEnv_moved hW.alike (zEnv_now hE hS)⟩
theorem z_after {ρ' : Type} {p : Program} {l : Launch} {e : Env} {R : Room} {s : State} {m : MethodId} {args : Array Value} {below : List Frame} {meth : Method} {c : Code} {H : Heap} {locs : List Loc} {Q : State → Prop} {pc : Nat} {la : Array Slot} {rest st : List Value} {a : Array Value} {G : zGw} {injc : ρ' → Option Value} {r : ρ'} {S' : zSt} {cells slots mc ms : Nat}
    (hr : va_Run p l e R s m args below meth c H locs cells slots mc ms (F0 m pc la st) rest (zQR injc G (r, S') (zA G H.size) a) (zA G H.size)) (hS : va_S (zA G s.heap.size) s.heap H locs)
    (kk : ∀ (H1 : Heap) (locs1 : List Loc), zhp G S' s H1 → va_S (zA G s.heap.size) s.heap H1 locs1 → W p l e R s m args below meth c H1 locs1 (cells + mc) (slots + ms) Q (F0 m (pc + 3) la ((injc r).toList ++ rest))) : W p l e R s m args below meth c H locs cells slots Q (F0 m pc la st) := by
  intro T hT X
  obtain ⟨v, st₀, t, T', L, h0, X', hL, e1, e2, ⟨hv, hz, hF1, hF2⟩, stp⟩ := hr T hT X
  cases hv
  rw [h0] at hF1 hF2
  have hsub : ∀ q, zA G H.size q → zA G s.heap.size q := fun q hq => zA_sub hS.1 hq
  have hal : t.vm.Alike s.vm := by rw [← e2]; exact X'.warmed.alike.symm
  obtain ⟨t2, a1, b1⟩ := kk T'.heap (locs ++ L) (by rw [e1]; exact zhp_moved hal hz) ⟨Nat.le_trans hS.1 (by rw [e1]; exact hF1), fun q h1 h2 => by
      rw [e1, hF2 q (Nat.lt_of_lt_of_le h1 hS.1) (fun z => h2 (hsub q z))]
      exact hS.2.1 q h1 h2, fun q hq => by
      rcases List.mem_append.mp hq with h | h
      · exact hS.2.2 q h
      · exact hsub _ (hL q h)⟩ T' rfl X'
  exact ⟨t2, stp t2 a1, b1⟩
theorem z_callV {ρ ρ' : Type} {X : zCx} {M : zMr} {inj : ρ → Option Value} {G : zGw} {cs : Nat × Nat} {res : ρ × zSt} {S : zSt} {pc : Nat} {ls : List (Option Value)} {Mc : zMr} {yc : MethodName} {injc : ρ' → Option Value} {Fc : zSt → Option (ρ' × zSt)} {k : ρ' × zSt → Option (ρ × zSt)} {idx : Nat} {st : List Value} (As rest : List Value) (kp ci : Nat) (hct : Zc Mc yc injc G (.ref (G.1 kp) :: As) Fc) (hmv : ZV Mc yc As.length) (hl : Cond.methodLink M.1 idx yc ∈ lw_all) (hst : st = As.reverse ++ .ref (G.1 kp) :: rest) (hsh : G.2.1 kp = some (.inl ci)) (hcn : (zcl[ci]?).map Prod.fst = some Mc.1) (hd : Mc.2.2.2.2.1 + 1 ≤ M.2.2.2.2.1) (hL : Mc.2.2.1 ≤ 45) (hz : Mc.2.2.2.2.2 = (0, 0, none)) (hq : zcs cs M = true) (hcat : (rest.map fun v => v.category).sum ≤ 8) (d : decode M.2.1 pc = .ok (.invokevirtual idx, 3))
    (kk : ∀ r S', Zm X M inj G cs res S' (pc + 3) ls ((injc r).toList ++ rest) (k (r, S'))) : Zm X M inj G cs res S pc ls st ((Fc S).bind k) := by
  intro hf ho H locs la hp hl1 hS
  obtain ⟨⟨r, S'⟩, hF, hf2⟩ := Option.bind_eq_some_iff.mp hf
  obtain ⟨p, l, e, R, s, m, args, below, meth, c⟩ := X
  have hR : R = zRm M := ho.2.2.2.2.2.2.2.2.2.2
  subst hR
  have hz1 : Mc.2.2.2.2.2.1 = 0 := by rw [hz]
  have hz2 : Mc.2.2.2.2.2.2.1 = 0 := by rw [hz]
  have hz3 : Mc.2.2.2.2.2.2.2 = none := by rw [hz]
  have hcwc : zcw Mc yc = Cond.code yc Mc.2.1 Mc.2.2.1 Mc.2.2.2.1 := by unfold zcw; rw [hz3]
  have hctl := hct l S (r, S') H.size ho.2.2.2.2.2.1.2.2.1 hF
  rw [hcwc] at hctl
  subst hst
  obtain ⟨m1, m2, m3, m4, m5, m6, m7, m8⟩ := hmv
  obtain ⟨q, hq1, hq2⟩ := Option.map_eq_some_iff.mp hcn
  obtain ⟨C, T9, N9⟩ := q
  have hC : C = Mc.1 := hq2
  subst hC
  have hob := zhp_obj hp hsh hq1
  have hkn := ho.2.2.2.2.2.2.2.2.1
  have hrec : ∃ cell : Cell, H[G.1 kp]? = some cell ∧ cell.vm.isStatics = false ∧ s.vm.findClass Mc.1 = some cell.cls := by
    obtain ⟨cell, g1, g2, g3, -⟩ := hob
    exact ⟨cell, g1, by rw [g3]; rfl, by rw [g2]; exact (hkn ci _ hq1).2.1⟩
  refine z_after (va_runV (As := As) (rest := rest) ⟨ho.1, ho.2.1, ho.2.2.1, ho.2.2.2.1, ho.2.2.2.2.1⟩ hctl (cwV As.length ho.2.2.2.2.1 (lw_V hl m1 m2 m3 m4) rfl rfl rfl ⟨m5, m6, m7, m8⟩ (z_room hd hL)) ⟨z_blind, hrec, z_pre hp hkn ho.2.2.2.2.2.1.1 ho.2.2.2.2.2.2.2.2.2.1 ho.2.2.2.2.2.1.2.1 hS⟩ rfl rfl hl1.1 rfl (lv_room hcat) d ⟨by rw [hz1]; exact zcs1 hq, by rw [hz2]; exact zcs2 hq⟩) hS ?_
  intro H1 locs1 hp1 hS1
  rw [hz1, hz2]
  exact kk r S' hf2 ho H1 locs1 la hp1 hl1 hS1
theorem z_callS {ρ ρ' : Type} {X : zCx} {M : zMr} {inj : ρ → Option Value} {G : zGw} {cs : Nat × Nat} {res : ρ × zSt} {S : zSt} {pc : Nat} {ls : List (Option Value)} {Mc : zMr} {yc : MethodName} {injc : ρ' → Option Value} {Fc : zSt → Option (ρ' × zSt)} {k : ρ' × zSt → Option (ρ × zSt)} {idx : Nat} {st : List Value} (As rest : List Value) (hct : Zc Mc yc injc G As Fc) (hmv : ZS Mc yc As.length) (hl : Cond.methodLink M.1 idx yc ∈ lw_all) (hst : st = As.reverse ++ rest) (hd : Mc.2.2.2.2.1 + 1 ≤ M.2.2.2.2.1) (hL : Mc.2.2.1 ≤ 45) (hz : Mc.2.2.2.2.2 = (0, 0, none)) (hq : zcs cs M = true) (hcat : (rest.map fun v => v.category).sum ≤ 8) (d : decode M.2.1 pc = .ok (.invokestatic idx, 3))
    (kk : ∀ r S', Zm X M inj G cs res S' (pc + 3) ls ((injc r).toList ++ rest) (k (r, S'))) : Zm X M inj G cs res S pc ls st ((Fc S).bind k) := by
  intro hf ho H locs la hp hl1 hS
  obtain ⟨⟨r, S'⟩, hF, hf2⟩ := Option.bind_eq_some_iff.mp hf
  obtain ⟨p, l, e, R, s, m, args, below, meth, c⟩ := X
  have hR : R = zRm M := ho.2.2.2.2.2.2.2.2.2.2
  subst hR
  have hz1 : Mc.2.2.2.2.2.1 = 0 := by rw [hz]
  have hz2 : Mc.2.2.2.2.2.2.1 = 0 := by rw [hz]
  have hz3 : Mc.2.2.2.2.2.2.2 = none := by rw [hz]
  have hcwc : zcw Mc yc = Cond.code yc Mc.2.1 Mc.2.2.1 Mc.2.2.2.1 := by unfold zcw; rw [hz3]
  have hctl := hct l S (r, S') H.size ho.2.2.2.2.2.1.2.2.1 hF
  rw [hcwc] at hctl
  subst hst
  obtain ⟨m1, m2, m3, m4, m5, m6⟩ := hmv
  have hkn := ho.2.2.2.2.2.2.2.2.1
  refine z_after (va_runS (As := As) (rest := rest) ⟨ho.1, ho.2.1, ho.2.2.1, ho.2.2.2.1, ho.2.2.2.2.1⟩ hctl (va_cwS As.length ho.2.2.2.2.1 (lw_S hl m1 m2 m3) rfl rfl rfl ⟨m4, m5, m6⟩ (z_room hd hL)) ⟨z_blind, z_pre hp hkn ho.2.2.2.2.2.1.1 ho.2.2.2.2.2.2.2.2.2.1 ho.2.2.2.2.2.1.2.1 hS⟩ rfl rfl hl1.1 rfl (lv_room hcat) d ⟨by rw [hz1]; exact zcs1 hq, by rw [hz2]; exact zcs2 hq⟩) hS ?_
  intro H1 locs1 hp1 hS1
  rw [hz1, hz2]
  exact kk r S' hf2 ho H1 locs1 la hp1 hl1 hS1
theorem z_callSN {ρ ρ' : Type} {X : zCx} {M : zMr} {inj : ρ → Option Value} {G : zGw} {cs : Nat × Nat} {res : ρ × zSt} {S : zSt} {pc : Nat} {ls : List (Option Value)} {Mc : zMr} {yc : MethodName} {injc : ρ' → Option Value} {Fc : zSt → Option (ρ' × zSt)} {k : ρ' × zSt → Option (ρ × zSt)} {idx : Nat} {st : List Value} (As rest : List Value) (hct : Zc Mc yc injc G As Fc) (hmv : ZS Mc yc As.length) (hl : (M.1, idx, yc, "HiddenCube") ∈ znM) (hst : st = As.reverse ++ rest) (hd : Mc.2.2.2.2.1 + 1 ≤ M.2.2.2.2.1) (hL : Mc.2.2.1 ≤ 45) (hz : Mc.2.2.2.2.2 = (0, 0, none)) (hq : zcs cs M = true) (hcat : (rest.map fun v => v.category).sum ≤ 8) (d : decode M.2.1 pc = .ok (.invokestatic idx, 3))
    (kk : ∀ r S', Zm X M inj G cs res S' (pc + 3) ls ((injc r).toList ++ rest) (k (r, S'))) : Zm X M inj G cs res S pc ls st ((Fc S).bind k) := by
  intro hf ho H locs la hp hl1 hS
  obtain ⟨⟨r, S'⟩, hF, hf2⟩ := Option.bind_eq_some_iff.mp hf
  obtain ⟨p, l, e, R, s, m, args, below, meth, c⟩ := X
  have hR : R = zRm M := ho.2.2.2.2.2.2.2.2.2.2
  subst hR
  have hz1 : Mc.2.2.2.2.2.1 = 0 := by rw [hz]
  have hz2 : Mc.2.2.2.2.2.2.1 = 0 := by rw [hz]
  have hz3 : Mc.2.2.2.2.2.2.2 = none := by rw [hz]
  have hcwc : zcw Mc yc = Cond.code yc Mc.2.1 Mc.2.2.1 Mc.2.2.2.1 := by unfold zcw; rw [hz3]
  have hctl := hct l S (r, S') H.size ho.2.2.2.2.2.1.2.2.1 hF
  rw [hcwc] at hctl
  subst hst
  obtain ⟨m1, m2, m3, m4, m5, m6⟩ := hmv
  have hkn := ho.2.2.2.2.2.2.2.2.1
  have hts := ho.2.2.2.2.1
  refine z_after (va_runSN (As := As) (rest := rest) ⟨ho.1, ho.2.1, ho.2.2.1, ho.2.2.2.1, hts⟩ hctl ⟨va_cnB As.length hts (lw_meth m3) rfl rfl rfl (ho.2.2.2.2.2.1.1.2.1 _ hl) (hts _ m2) ⟨m4, m5, m6⟩ (z_room hd hL), hts _ m1, trivial⟩ ⟨z_blind, z_pre hp hkn ho.2.2.2.2.2.1.1 ho.2.2.2.2.2.2.2.2.2.1 ho.2.2.2.2.2.1.2.1 hS⟩ rfl rfl hl1.1 rfl (lv_room hcat) d ⟨by rw [hz1]; exact zcs1 hq, by rw [hz2]; exact zcs2 hq⟩) hS ?_
  intro H1 locs1 hp1 hS1
  rw [hz1, hz2]
  exact kk r S' hf2 ho H1 locs1 la hp1 hl1 hS1
