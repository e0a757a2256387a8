/-! ROWS WITH ANY END AND ANY FRAME (written by gen/mkzz.py) -/
set_option maxRecDepth 100000
def zAok (A : (Nat → Prop) × String) (G : zGw) (X : zCx) : Prop := (∀ k, G.2.1 k ≠ none → A.1 (G.1 k)) ∧ (∀ q, X.2.2.2.2.1.heap.size ≤ q → A.1 q) ∧ zEnv A.1 X.2.2.2.2.1 X.2.2.2.2.1.heap ∧ X.2.2.2.2.2.2.2.2.1.name = A.2
def Zz {ρ : Type} (X : zCx) (M : zMr) (A : (Nat → Prop) × String) (Q : zCx → ρ × zSt → State → Prop) (G : zGw) (cs : Nat × Nat) (res : ρ × zSt) (S : zSt) (pc : Nat) (ls : List (Option Value)) (st : List Value) (f : Option (ρ × zSt)) : Prop :=
  f = some res → zok M G X → zAok A G X → ∀ (H : Heap) (locs : List Loc) (la : Array Slot), zhp G S X.2.2.2.2.1 H → zlv la M.2.2.1 ls → va_S A.1 X.2.2.2.2.1.heap H locs →
    W X.1 X.2.1 X.2.2.1 X.2.2.2.1 X.2.2.2.2.1 X.2.2.2.2.2.1 X.2.2.2.2.2.2.1 X.2.2.2.2.2.2.2.1 X.2.2.2.2.2.2.2.2.1 X.2.2.2.2.2.2.2.2.2 H locs cs.1 cs.2 (Q X res) (F0 X.2.2.2.2.2.1 pc la st)
theorem zAok_sub {A : (Nat → Prop) × String} {G : zGw} {X : zCx} {H : Heap} (hA : zAok A G X) (hle : X.2.2.2.2.1.heap.size ≤ H.size) {q : Nat} (hq : zA G H.size q) : A.1 q := hq.elim (fun ⟨k, h1, h2⟩ => h2 ▸ hA.1 k h1) (fun z => hA.2.1 q (Nat.le_trans hle z))
theorem zz_pre {As : List Value} {A : (Nat → Prop) × String} {G : zGw} {S : zSt} {X : zCx} {H : Heap} {locs : List Loc} (hA : zAok A G X) (hp : zhp G S X.2.2.2.2.1 H) (hk : zkn G X.2.2.2.2.1) (hn : zNW X.2.2.2.2.1) (ha : zap G) (hS : va_S A.1 X.2.2.2.2.1.heap H locs) : ∀ U : State, U.heap = H → X.2.2.2.2.1.WarmedH U.vm → va_Pc As (fun U => U.heap.size = H.size ∧ zhp G S U U.heap ∧ zkn G U ∧ zNW U ∧ zap G ∧ zEnv (zA G H.size) U U.heap) As.toArray U := fun U hU hW => ⟨rfl, by rw [hU], by rw [hU]; exact zhp_moved hW.alike hp, zkn_moved hW.alike hk, zNW_warm hW hn, ha, by rw [hU]; exact zEnv_moved hW.alike (zEnv_narrow (zEnv_kept hA.2.2.1 (fun a h1 h2 => hS.2.1 a h1 h2)) (fun q hq => zAok_sub hA hS.1 hq))⟩
theorem zz_after {ρ' : Type} {p : Program} {l : Launch} {e : Env} {R : Room} {s : State} {m : MethodId} {args : Array Value} {below : List Frame} {meth : Method} {c : Code} {H : Heap} {locs : List Loc} {Q : State → Prop} {pc : Nat} {la : Array Slot} {rest st : List Value} {a : Array Value} {A : (Nat → Prop) × String} {G : zGw} {injc : ρ' → Option Value} {r : ρ'} {S' : zSt} {cells slots mc ms : Nat}
    (hA : zAok A G (p, l, e, R, s, m, args, below, meth, c)) (hr : va_Run p l e R s m args below meth c H locs cells slots mc ms (F0 m pc la st) rest (zQR injc G (r, S') (zA G H.size) a) (zA G H.size)) (hS : va_S A.1 s.heap H locs)
    (kk : ∀ (H1 : Heap) (locs1 : List Loc), zhp G S' s H1 → va_S A.1 s.heap H1 locs1 → W p l e R s m args below meth c H1 locs1 (cells + mc) (slots + ms) Q (F0 m (pc + 3) la ((injc r).toList ++ rest))) : W p l e R s m args below meth c H locs cells slots Q (F0 m pc la st) := by
  intro T hT X
  obtain ⟨v, st₀, t, T', L, h0, X', hL, e1, e2, ⟨hv, hz, hF1, hF2⟩, stp⟩ := hr T hT X
  cases hv
  rw [h0] at hF1 hF2
  have hsub : ∀ q, zA G H.size q → A.1 q := fun q hq => zAok_sub hA hS.1 hq
  have hal : t.vm.Alike s.vm := by rw [← e2]; exact X'.warmed.alike.symm
  obtain ⟨t2, a1, b1⟩ := kk T'.heap (locs ++ L) (by rw [e1]; exact zhp_moved hal hz) ⟨Nat.le_trans hS.1 (by rw [e1]; exact hF1), fun q h1 h2 => by
      rw [e1, hF2 q (Nat.lt_of_lt_of_le h1 hS.1) (fun z => h2 (hsub q z))]
      exact hS.2.1 q h1 h2, fun q hq => by
      rcases List.mem_append.mp hq with h | h
      · exact hS.2.2 q h
      · exact hsub _ (hL q h)⟩ T' rfl X'
  exact ⟨t2, stp t2 a1, b1⟩
theorem zz_iadd {ρ : Type} {X : zCx} {M : zMr} {A : (Nat → Prop) × String} {Q : zCx → ρ × zSt → State → Prop} {G : zGw} {cs : Nat × Nat} {res : ρ × zSt} {S : zSt} {pc : Nat} {ls : List (Option Value)} {st : List Value} {f : Option (ρ × zSt)} {a b : Int32} (d : decode M.2.1 pc = .ok (.iadd, 1)) (k : Zz X M A Q G cs res S (pc + 1) ls (.int (a + b) :: st) f) : Zz X M A Q G cs res S pc ls (.int b :: .int a :: st) f :=
  fun hf ho hA H locs la hp hl hS => lv_iadd ho.1 ho.2.1 d  (k hf ho hA H locs la hp hl hS)
theorem zz_isub {ρ : Type} {X : zCx} {M : zMr} {A : (Nat → Prop) × String} {Q : zCx → ρ × zSt → State → Prop} {G : zGw} {cs : Nat × Nat} {res : ρ × zSt} {S : zSt} {pc : Nat} {ls : List (Option Value)} {st : List Value} {f : Option (ρ × zSt)} {a b : Int32} (d : decode M.2.1 pc = .ok (.isub, 1)) (k : Zz X M A Q G cs res S (pc + 1) ls (.int (a - b) :: st) f) : Zz X M A Q G cs res S pc ls (.int b :: .int a :: st) f :=
  fun hf ho hA H locs la hp hl hS => lv_isub ho.1 ho.2.1 d  (k hf ho hA H locs la hp hl hS)
theorem zz_imul {ρ : Type} {X : zCx} {M : zMr} {A : (Nat → Prop) × String} {Q : zCx → ρ × zSt → State → Prop} {G : zGw} {cs : Nat × Nat} {res : ρ × zSt} {S : zSt} {pc : Nat} {ls : List (Option Value)} {st : List Value} {f : Option (ρ × zSt)} {a b : Int32} (d : decode M.2.1 pc = .ok (.imul, 1)) (k : Zz X M A Q G cs res S (pc + 1) ls (.int (a * b) :: st) f) : Zz X M A Q G cs res S pc ls (.int b :: .int a :: st) f :=
  fun hf ho hA H locs la hp hl hS => lv_imul ho.1 ho.2.1 d  (k hf ho hA H locs la hp hl hS)
theorem zz_iand {ρ : Type} {X : zCx} {M : zMr} {A : (Nat → Prop) × String} {Q : zCx → ρ × zSt → State → Prop} {G : zGw} {cs : Nat × Nat} {res : ρ × zSt} {S : zSt} {pc : Nat} {ls : List (Option Value)} {st : List Value} {f : Option (ρ × zSt)} {a b : Int32} (d : decode M.2.1 pc = .ok (.iand, 1)) (k : Zz X M A Q G cs res S (pc + 1) ls (.int (a &&& b) :: st) f) : Zz X M A Q G cs res S pc ls (.int b :: .int a :: st) f :=
  fun hf ho hA H locs la hp hl hS => lv_iand ho.1 ho.2.1 d  (k hf ho hA H locs la hp hl hS)
theorem zz_ior {ρ : Type} {X : zCx} {M : zMr} {A : (Nat → Prop) × String} {Q : zCx → ρ × zSt → State → Prop} {G : zGw} {cs : Nat × Nat} {res : ρ × zSt} {S : zSt} {pc : Nat} {ls : List (Option Value)} {st : List Value} {f : Option (ρ × zSt)} {a b : Int32} (d : decode M.2.1 pc = .ok (.ior, 1)) (k : Zz X M A Q G cs res S (pc + 1) ls (.int (a ||| b) :: st) f) : Zz X M A Q G cs res S pc ls (.int b :: .int a :: st) f :=
  fun hf ho hA H locs la hp hl hS => lv_ior ho.1 ho.2.1 d  (k hf ho hA H locs la hp hl hS)
theorem zz_ixor {ρ : Type} {X : zCx} {M : zMr} {A : (Nat → Prop) × String} {Q : zCx → ρ × zSt → State → Prop} {G : zGw} {cs : Nat × Nat} {res : ρ × zSt} {S : zSt} {pc : Nat} {ls : List (Option Value)} {st : List Value} {f : Option (ρ × zSt)} {a b : Int32} (d : decode M.2.1 pc = .ok (.ixor, 1)) (k : Zz X M A Q G cs res S (pc + 1) ls (.int (a ^^^ b) :: st) f) : Zz X M A Q G cs res S pc ls (.int b :: .int a :: st) f :=
  fun hf ho hA H locs la hp hl hS => lv_ixor ho.1 ho.2.1 d  (k hf ho hA H locs la hp hl hS)
theorem zz_ishl {ρ : Type} {X : zCx} {M : zMr} {A : (Nat → Prop) × String} {Q : zCx → ρ × zSt → State → Prop} {G : zGw} {cs : Nat × Nat} {res : ρ × zSt} {S : zSt} {pc : Nat} {ls : List (Option Value)} {st : List Value} {f : Option (ρ × zSt)} {a b : Int32} (d : decode M.2.1 pc = .ok (.ishl, 1)) (k : Zz X M A Q G cs res S (pc + 1) ls (.int (a <<< (b &&& 31)) :: st) f) : Zz X M A Q G cs res S pc ls (.int b :: .int a :: st) f :=
  fun hf ho hA H locs la hp hl hS => lv_ishl ho.1 ho.2.1 d  (k hf ho hA H locs la hp hl hS)
theorem zz_ishr {ρ : Type} {X : zCx} {M : zMr} {A : (Nat → Prop) × String} {Q : zCx → ρ × zSt → State → Prop} {G : zGw} {cs : Nat × Nat} {res : ρ × zSt} {S : zSt} {pc : Nat} {ls : List (Option Value)} {st : List Value} {f : Option (ρ × zSt)} {a b : Int32} (d : decode M.2.1 pc = .ok (.ishr, 1)) (k : Zz X M A Q G cs res S (pc + 1) ls (.int (a >>> (b &&& 31)) :: st) f) : Zz X M A Q G cs res S pc ls (.int b :: .int a :: st) f :=
  fun hf ho hA H locs la hp hl hS => lv_ishr ho.1 ho.2.1 d  (k hf ho hA H locs la hp hl hS)
theorem zz_ladd {ρ : Type} {X : zCx} {M : zMr} {A : (Nat → Prop) × String} {Q : zCx → ρ × zSt → State → Prop} {G : zGw} {cs : Nat × Nat} {res : ρ × zSt} {S : zSt} {pc : Nat} {ls : List (Option Value)} {st : List Value} {f : Option (ρ × zSt)} {a b : Int64} (d : decode M.2.1 pc = .ok (.ladd, 1)) (k : Zz X M A Q G cs res S (pc + 1) ls (.long (a + b) :: st) f) : Zz X M A Q G cs res S pc ls (.long b :: .long a :: st) f :=
  fun hf ho hA H locs la hp hl hS => lv_ladd ho.1 ho.2.1 d  (k hf ho hA H locs la hp hl hS)
theorem zz_lsub {ρ : Type} {X : zCx} {M : zMr} {A : (Nat → Prop) × String} {Q : zCx → ρ × zSt → State → Prop} {G : zGw} {cs : Nat × Nat} {res : ρ × zSt} {S : zSt} {pc : Nat} {ls : List (Option Value)} {st : List Value} {f : Option (ρ × zSt)} {a b : Int64} (d : decode M.2.1 pc = .ok (.lsub, 1)) (k : Zz X M A Q G cs res S (pc + 1) ls (.long (a - b) :: st) f) : Zz X M A Q G cs res S pc ls (.long b :: .long a :: st) f :=
  fun hf ho hA H locs la hp hl hS => lv_lsub ho.1 ho.2.1 d  (k hf ho hA H locs la hp hl hS)
theorem zz_lmul {ρ : Type} {X : zCx} {M : zMr} {A : (Nat → Prop) × String} {Q : zCx → ρ × zSt → State → Prop} {G : zGw} {cs : Nat × Nat} {res : ρ × zSt} {S : zSt} {pc : Nat} {ls : List (Option Value)} {st : List Value} {f : Option (ρ × zSt)} {a b : Int64} (d : decode M.2.1 pc = .ok (.lmul, 1)) (k : Zz X M A Q G cs res S (pc + 1) ls (.long (a * b) :: st) f) : Zz X M A Q G cs res S pc ls (.long b :: .long a :: st) f :=
  fun hf ho hA H locs la hp hl hS => lv_lmul ho.1 ho.2.1 d  (k hf ho hA H locs la hp hl hS)
theorem zz_land {ρ : Type} {X : zCx} {M : zMr} {A : (Nat → Prop) × String} {Q : zCx → ρ × zSt → State → Prop} {G : zGw} {cs : Nat × Nat} {res : ρ × zSt} {S : zSt} {pc : Nat} {ls : List (Option Value)} {st : List Value} {f : Option (ρ × zSt)} {a b : Int64} (d : decode M.2.1 pc = .ok (.land, 1)) (k : Zz X M A Q G cs res S (pc + 1) ls (.long (a &&& b) :: st) f) : Zz X M A Q G cs res S pc ls (.long b :: .long a :: st) f :=
  fun hf ho hA H locs la hp hl hS => lv_land ho.1 ho.2.1 d  (k hf ho hA H locs la hp hl hS)
theorem zz_lor {ρ : Type} {X : zCx} {M : zMr} {A : (Nat → Prop) × String} {Q : zCx → ρ × zSt → State → Prop} {G : zGw} {cs : Nat × Nat} {res : ρ × zSt} {S : zSt} {pc : Nat} {ls : List (Option Value)} {st : List Value} {f : Option (ρ × zSt)} {a b : Int64} (d : decode M.2.1 pc = .ok (.lor, 1)) (k : Zz X M A Q G cs res S (pc + 1) ls (.long (a ||| b) :: st) f) : Zz X M A Q G cs res S pc ls (.long b :: .long a :: st) f :=
  fun hf ho hA H locs la hp hl hS => lv_lor ho.1 ho.2.1 d  (k hf ho hA H locs la hp hl hS)
theorem zz_iushr {ρ : Type} {X : zCx} {M : zMr} {A : (Nat → Prop) × String} {Q : zCx → ρ × zSt → State → Prop} {G : zGw} {cs : Nat × Nat} {res : ρ × zSt} {S : zSt} {pc : Nat} {ls : List (Option Value)} {st : List Value} {f : Option (ρ × zSt)} {a b : Int32} (d : decode M.2.1 pc = .ok (.iushr, 1)) (k : Zz X M A Q G cs res S (pc + 1) ls (.int (iushr a b) :: st) f) : Zz X M A Q G cs res S pc ls (.int b :: .int a :: st) f :=
  fun hf ho hA H locs la hp hl hS => lv_iushr ho.1 ho.2.1 d rfl (k hf ho hA H locs la hp hl hS)
theorem zz_lshl {ρ : Type} {X : zCx} {M : zMr} {A : (Nat → Prop) × String} {Q : zCx → ρ × zSt → State → Prop} {G : zGw} {cs : Nat × Nat} {res : ρ × zSt} {S : zSt} {pc : Nat} {ls : List (Option Value)} {st : List Value} {f : Option (ρ × zSt)} {a : Int64} {b : Int32} (d : decode M.2.1 pc = .ok (.lshl, 1)) (k : Zz X M A Q G cs res S (pc + 1) ls (.long (a <<< (b.toInt64 &&& 63)) :: st) f) : Zz X M A Q G cs res S pc ls (.int b :: .long a :: st) f :=
  fun hf ho hA H locs la hp hl hS => lv_lshl ho.1 ho.2.1 d rfl (k hf ho hA H locs la hp hl hS)
theorem zz_lshr {ρ : Type} {X : zCx} {M : zMr} {A : (Nat → Prop) × String} {Q : zCx → ρ × zSt → State → Prop} {G : zGw} {cs : Nat × Nat} {res : ρ × zSt} {S : zSt} {pc : Nat} {ls : List (Option Value)} {st : List Value} {f : Option (ρ × zSt)} {a : Int64} {b : Int32} (d : decode M.2.1 pc = .ok (.lshr, 1)) (k : Zz X M A Q G cs res S (pc + 1) ls (.long (a >>> (b.toInt64 &&& 63)) :: st) f) : Zz X M A Q G cs res S pc ls (.int b :: .long a :: st) f :=
  fun hf ho hA H locs la hp hl hS => lv_lshr ho.1 ho.2.1 d rfl (k hf ho hA H locs la hp hl hS)
theorem zz_i2l {ρ : Type} {X : zCx} {M : zMr} {A : (Nat → Prop) × String} {Q : zCx → ρ × zSt → State → Prop} {G : zGw} {cs : Nat × Nat} {res : ρ × zSt} {S : zSt} {pc : Nat} {ls : List (Option Value)} {st : List Value} {f : Option (ρ × zSt)} {a : Int32} (d : decode M.2.1 pc = .ok (.i2l, 1)) (k : Zz X M A Q G cs res S (pc + 1) ls (.long a.toInt64 :: st) f) : Zz X M A Q G cs res S pc ls (.int a :: st) f :=
  fun hf ho hA H locs la hp hl hS => lv_i2l ho.1 ho.2.1 d rfl (k hf ho hA H locs la hp hl hS)
theorem zz_l2i {ρ : Type} {X : zCx} {M : zMr} {A : (Nat → Prop) × String} {Q : zCx → ρ × zSt → State → Prop} {G : zGw} {cs : Nat × Nat} {res : ρ × zSt} {S : zSt} {pc : Nat} {ls : List (Option Value)} {st : List Value} {f : Option (ρ × zSt)} {a : Int64} (d : decode M.2.1 pc = .ok (.l2i, 1)) (k : Zz X M A Q G cs res S (pc + 1) ls (.int a.toInt32 :: st) f) : Zz X M A Q G cs res S pc ls (.long a :: st) f :=
  fun hf ho hA H locs la hp hl hS => lv_l2i ho.1 ho.2.1 d rfl (k hf ho hA H locs la hp hl hS)
theorem zz_i2b {ρ : Type} {X : zCx} {M : zMr} {A : (Nat → Prop) × String} {Q : zCx → ρ × zSt → State → Prop} {G : zGw} {cs : Nat × Nat} {res : ρ × zSt} {S : zSt} {pc : Nat} {ls : List (Option Value)} {st : List Value} {f : Option (ρ × zSt)} {a : Int32} (d : decode M.2.1 pc = .ok (.i2b, 1)) (k : Zz X M A Q G cs res S (pc + 1) ls (.int a.toInt8.toInt32 :: st) f) : Zz X M A Q G cs res S pc ls (.int a :: st) f :=
  fun hf ho hA H locs la hp hl hS => lv_i2b ho.1 ho.2.1 d rfl (k hf ho hA H locs la hp hl hS)
theorem zz_i2s {ρ : Type} {X : zCx} {M : zMr} {A : (Nat → Prop) × String} {Q : zCx → ρ × zSt → State → Prop} {G : zGw} {cs : Nat × Nat} {res : ρ × zSt} {S : zSt} {pc : Nat} {ls : List (Option Value)} {st : List Value} {f : Option (ρ × zSt)} {a : Int32} (d : decode M.2.1 pc = .ok (.i2s, 1)) (k : Zz X M A Q G cs res S (pc + 1) ls (.int a.toInt16.toInt32 :: st) f) : Zz X M A Q G cs res S pc ls (.int a :: st) f :=
  fun hf ho hA H locs la hp hl hS => lv_i2s ho.1 ho.2.1 d rfl (k hf ho hA H locs la hp hl hS)
theorem zz_lcmp {ρ : Type} {X : zCx} {M : zMr} {A : (Nat → Prop) × String} {Q : zCx → ρ × zSt → State → Prop} {G : zGw} {cs : Nat × Nat} {res : ρ × zSt} {S : zSt} {pc : Nat} {ls : List (Option Value)} {st : List Value} {f : Option (ρ × zSt)} {a b : Int64} (d : decode M.2.1 pc = .ok (.lcmp, 1)) (k : Zz X M A Q G cs res S (pc + 1) ls (.int (lg_cmp a b) :: st) f) : Zz X M A Q G cs res S pc ls (.long b :: .long a :: st) f :=
  fun hf ho hA H locs la hp hl hS => W.lcmp ho.1 ho.2.1 d  (k hf ho hA H locs la hp hl hS)
theorem zz_iconst {ρ : Type} {X : zCx} {M : zMr} {A : (Nat → Prop) × String} {Q : zCx → ρ × zSt → State → Prop} {G : zGw} {cs : Nat × Nat} {res : ρ × zSt} {S : zSt} {pc : Nat} {ls : List (Option Value)} {st : List Value} {f : Option (ρ × zSt)} {n : Int} {v : Int32} (d : decode M.2.1 pc = .ok (.iconst n, 1)) (hv : Int32.ofInt n = v) (k : Zz X M A Q G cs res S (pc + 1) ls (.int v :: st) f) : Zz X M A Q G cs res S pc ls st f :=
  fun hf ho hA H locs la hp hl hS => lv_iconst ho.1 ho.2.1 d hv (k hf ho hA H locs la hp hl hS)
theorem zz_bipush {ρ : Type} {X : zCx} {M : zMr} {A : (Nat → Prop) × String} {Q : zCx → ρ × zSt → State → Prop} {G : zGw} {cs : Nat × Nat} {res : ρ × zSt} {S : zSt} {pc : Nat} {ls : List (Option Value)} {st : List Value} {f : Option (ρ × zSt)} {n : Int} {v : Int32} (d : decode M.2.1 pc = .ok (.bipush n, 2)) (hv : (Int8.ofInt n).toInt32 = v) (k : Zz X M A Q G cs res S (pc + 2) ls (.int v :: st) f) : Zz X M A Q G cs res S pc ls st f :=
  fun hf ho hA H locs la hp hl hS => lv_bipush ho.1 ho.2.1 d hv (k hf ho hA H locs la hp hl hS)
theorem zz_sipush {ρ : Type} {X : zCx} {M : zMr} {A : (Nat → Prop) × String} {Q : zCx → ρ × zSt → State → Prop} {G : zGw} {cs : Nat × Nat} {res : ρ × zSt} {S : zSt} {pc : Nat} {ls : List (Option Value)} {st : List Value} {f : Option (ρ × zSt)} {n : Int} {v : Int32} (d : decode M.2.1 pc = .ok (.sipush n, 3)) (hv : (Int16.ofInt n).toInt32 = v) (k : Zz X M A Q G cs res S (pc + 3) ls (.int v :: st) f) : Zz X M A Q G cs res S pc ls st f :=
  fun hf ho hA H locs la hp hl hS => lv_sipush ho.1 ho.2.1 d hv (k hf ho hA H locs la hp hl hS)
theorem zz_lconst {ρ : Type} {X : zCx} {M : zMr} {A : (Nat → Prop) × String} {Q : zCx → ρ × zSt → State → Prop} {G : zGw} {cs : Nat × Nat} {res : ρ × zSt} {S : zSt} {pc : Nat} {ls : List (Option Value)} {st : List Value} {f : Option (ρ × zSt)} {n : Fin 2} {v : Int64} (d : decode M.2.1 pc = .ok (.lconst n, 1)) (hv : Int64.ofNat (n : Nat) = v) (k : Zz X M A Q G cs res S (pc + 1) ls (.long v :: st) f) : Zz X M A Q G cs res S pc ls st f :=
  fun hf ho hA H locs la hp hl hS => lv_lconst ho.1 ho.2.1 d hv (k hf ho hA H locs la hp hl hS)
theorem zz_null {ρ : Type} {X : zCx} {M : zMr} {A : (Nat → Prop) × String} {Q : zCx → ρ × zSt → State → Prop} {G : zGw} {cs : Nat × Nat} {res : ρ × zSt} {S : zSt} {pc : Nat} {ls : List (Option Value)} {st : List Value} {f : Option (ρ × zSt)}  (d : decode M.2.1 pc = .ok (.aconst_null, 1)) (k : Zz X M A Q G cs res S (pc + 1) ls (.null :: st) f) : Zz X M A Q G cs res S pc ls st f :=
  fun hf ho hA H locs la hp hl hS => lv_null ho.1 ho.2.1 d  (k hf ho hA H locs la hp hl hS)
theorem zz_ldc {ρ : Type} {X : zCx} {M : zMr} {A : (Nat → Prop) × String} {Q : zCx → ρ × zSt → State → Prop} {G : zGw} {cs : Nat × Nat} {res : ρ × zSt} {S : zSt} {pc : Nat} {ls : List (Option Value)} {st : List Value} {f : Option (ρ × zSt)} {i : Nat} {v : Int32} (d : decode M.2.1 pc = .ok (.ldc i, 2)) (hc : Jvm.Cond.constant M.1 i v ∈ lw_all) (k : Zz X M A Q G cs res S (pc + 2) ls (.int v :: st) f) : Zz X M A Q G cs res S pc ls st f :=
  fun hf ho hA H locs la hp hl hS => lv_ldc ho.1 ho.2.1 ho.2.2.2.1 (ho.2.2.2.2.1 _ hc) d (k hf ho hA H locs la hp hl hS)
theorem zz_ldc2 {ρ : Type} {X : zCx} {M : zMr} {A : (Nat → Prop) × String} {Q : zCx → ρ × zSt → State → Prop} {G : zGw} {cs : Nat × Nat} {res : ρ × zSt} {S : zSt} {pc : Nat} {ls : List (Option Value)} {st : List Value} {f : Option (ρ × zSt)} {i : Nat} {v : Int64} (d : decode M.2.1 pc = .ok (.ldc2_w i, 3)) (hc : Jvm.Cond.constantLong M.1 i v ∈ lw_all) (k : Zz X M A Q G cs res S (pc + 3) ls (.long v :: st) f) : Zz X M A Q G cs res S pc ls st f :=
  fun hf ho hA H locs la hp hl hS => lv_ldc2 ho.1 ho.2.1 ho.2.2.2.1 (ho.2.2.2.2.1 _ hc) d (k hf ho hA H locs la hp hl hS)
theorem zz_iload_n {ρ : Type} {X : zCx} {M : zMr} {A : (Nat → Prop) × String} {Q : zCx → ρ × zSt → State → Prop} {G : zGw} {cs : Nat × Nat} {res : ρ × zSt} {S : zSt} {pc : Nat} {ls : List (Option Value)} {st : List Value} {f : Option (ρ × zSt)} {n : Fin 4} {v : Int32} (i : Nat) (d : decode M.2.1 pc = .ok (.iload_n n, 1)) (hi : (n : Nat) = i) (hv : ls[i]? = some (some (.int v))) (k : Zz X M A Q G cs res S (pc + 1) ls (.int v :: st) f) : Zz X M A Q G cs res S pc ls st f :=
  fun hf ho hA H locs la hp hl hS => lv_iload_n ho.1 ho.2.1 d hi (hl.2.2 _ _ hv) (k hf ho hA H locs la hp hl hS)
theorem zz_iload {ρ : Type} {X : zCx} {M : zMr} {A : (Nat → Prop) × String} {Q : zCx → ρ × zSt → State → Prop} {G : zGw} {cs : Nat × Nat} {res : ρ × zSt} {S : zSt} {pc : Nat} {ls : List (Option Value)} {st : List Value} {f : Option (ρ × zSt)} {i : Nat} {v : Int32} (d : decode M.2.1 pc = .ok (.iload i, 2)) (hv : ls[i]? = some (some (.int v))) (k : Zz X M A Q G cs res S (pc + 2) ls (.int v :: st) f) : Zz X M A Q G cs res S pc ls st f :=
  fun hf ho hA H locs la hp hl hS => lv_iload ho.1 ho.2.1 d (hl.2.2 _ _ hv) (k hf ho hA H locs la hp hl hS)
theorem zz_lload_n {ρ : Type} {X : zCx} {M : zMr} {A : (Nat → Prop) × String} {Q : zCx → ρ × zSt → State → Prop} {G : zGw} {cs : Nat × Nat} {res : ρ × zSt} {S : zSt} {pc : Nat} {ls : List (Option Value)} {st : List Value} {f : Option (ρ × zSt)} {n : Fin 4} {v : Int64} (i : Nat) (d : decode M.2.1 pc = .ok (.lload_n n, 1)) (hi : (n : Nat) = i) (hv : ls[i]? = some (some (.long v))) (k : Zz X M A Q G cs res S (pc + 1) ls (.long v :: st) f) : Zz X M A Q G cs res S pc ls st f :=
  fun hf ho hA H locs la hp hl hS => lv_lload_n ho.1 ho.2.1 d hi (hl.2.2 _ _ hv) (k hf ho hA H locs la hp hl hS)
theorem zz_lload {ρ : Type} {X : zCx} {M : zMr} {A : (Nat → Prop) × String} {Q : zCx → ρ × zSt → State → Prop} {G : zGw} {cs : Nat × Nat} {res : ρ × zSt} {S : zSt} {pc : Nat} {ls : List (Option Value)} {st : List Value} {f : Option (ρ × zSt)} {i : Nat} {v : Int64} (d : decode M.2.1 pc = .ok (.lload i, 2)) (hv : ls[i]? = some (some (.long v))) (k : Zz X M A Q G cs res S (pc + 2) ls (.long v :: st) f) : Zz X M A Q G cs res S pc ls st f :=
  fun hf ho hA H locs la hp hl hS => lv_lload ho.1 ho.2.1 d (hl.2.2 _ _ hv) (k hf ho hA H locs la hp hl hS)
theorem zz_aload_n {ρ : Type} {X : zCx} {M : zMr} {A : (Nat → Prop) × String} {Q : zCx → ρ × zSt → State → Prop} {G : zGw} {cs : Nat × Nat} {res : ρ × zSt} {S : zSt} {pc : Nat} {ls : List (Option Value)} {st : List Value} {f : Option (ρ × zSt)} {n : Fin 4} {v : Nat} (i : Nat) (d : decode M.2.1 pc = .ok (.aload_n n, 1)) (hi : (n : Nat) = i) (hv : ls[i]? = some (some (.ref v))) (k : Zz X M A Q G cs res S (pc + 1) ls (.ref v :: st) f) : Zz X M A Q G cs res S pc ls st f :=
  fun hf ho hA H locs la hp hl hS => lv_aload_n ho.1 ho.2.1 d hi (hl.2.2 _ _ hv) (k hf ho hA H locs la hp hl hS)
theorem zz_aload {ρ : Type} {X : zCx} {M : zMr} {A : (Nat → Prop) × String} {Q : zCx → ρ × zSt → State → Prop} {G : zGw} {cs : Nat × Nat} {res : ρ × zSt} {S : zSt} {pc : Nat} {ls : List (Option Value)} {st : List Value} {f : Option (ρ × zSt)} {i : Nat} {v : Nat} (d : decode M.2.1 pc = .ok (.aload i, 2)) (hv : ls[i]? = some (some (.ref v))) (k : Zz X M A Q G cs res S (pc + 2) ls (.ref v :: st) f) : Zz X M A Q G cs res S pc ls st f :=
  fun hf ho hA H locs la hp hl hS => lv_aload ho.1 ho.2.1 d (hl.2.2 _ _ hv) (k hf ho hA H locs la hp hl hS)
theorem zz_istore_n {ρ : Type} {X : zCx} {M : zMr} {A : (Nat → Prop) × String} {Q : zCx → ρ × zSt → State → Prop} {G : zGw} {cs : Nat × Nat} {res : ρ × zSt} {S : zSt} {pc : Nat} {ls : List (Option Value)} {st : List Value} {f : Option (ρ × zSt)} {n : Fin 4} {v : Int32} {ls' : List (Option Value)} (i : Nat) (d : decode M.2.1 pc = .ok (.istore_n n, 1)) (hi : (n : Nat) = i) (hn : i < M.2.2.1) (hs : stl ls i (.int v) = ls') (k : Zz X M A Q G cs res S (pc + 1) ls' st f) : Zz X M A Q G cs res S pc ls (.int v :: st) f :=
  fun hf ho hA H locs la hp hl hS => lv_istore_n ho.1 ho.2.1 d hi (zlv_has hl) hn rfl (fun la' h' => k hf ho hA H locs la' hp (hs ▸ zlv_store1 rfl h') hS)
theorem zz_istore {ρ : Type} {X : zCx} {M : zMr} {A : (Nat → Prop) × String} {Q : zCx → ρ × zSt → State → Prop} {G : zGw} {cs : Nat × Nat} {res : ρ × zSt} {S : zSt} {pc : Nat} {ls : List (Option Value)} {st : List Value} {f : Option (ρ × zSt)} {i : Nat} {v : Int32} {ls' : List (Option Value)} (d : decode M.2.1 pc = .ok (.istore i, 2)) (hn : i < M.2.2.1) (hs : stl ls i (.int v) = ls') (k : Zz X M A Q G cs res S (pc + 2) ls' st f) : Zz X M A Q G cs res S pc ls (.int v :: st) f :=
  fun hf ho hA H locs la hp hl hS => lv_istore ho.1 ho.2.1 d (zlv_has hl) hn rfl (fun la' h' => k hf ho hA H locs la' hp (hs ▸ zlv_store1 rfl h') hS)
theorem zz_lstore_n {ρ : Type} {X : zCx} {M : zMr} {A : (Nat → Prop) × String} {Q : zCx → ρ × zSt → State → Prop} {G : zGw} {cs : Nat × Nat} {res : ρ × zSt} {S : zSt} {pc : Nat} {ls : List (Option Value)} {st : List Value} {f : Option (ρ × zSt)} {n : Fin 4} {v : Int64} {ls' : List (Option Value)} (i : Nat) (d : decode M.2.1 pc = .ok (.lstore_n n, 1)) (hi : (n : Nat) = i) (hn : i + 1 < M.2.2.1) (hs : stl ls i (.long v) = ls') (k : Zz X M A Q G cs res S (pc + 1) ls' st f) : Zz X M A Q G cs res S pc ls (.long v :: st) f :=
  fun hf ho hA H locs la hp hl hS => lv_lstore_n ho.1 ho.2.1 d hi (zlv_has hl) hn rfl (fun la' h' => k hf ho hA H locs la' hp (hs ▸ zlv_store2 rfl h') hS)
theorem zz_lstore {ρ : Type} {X : zCx} {M : zMr} {A : (Nat → Prop) × String} {Q : zCx → ρ × zSt → State → Prop} {G : zGw} {cs : Nat × Nat} {res : ρ × zSt} {S : zSt} {pc : Nat} {ls : List (Option Value)} {st : List Value} {f : Option (ρ × zSt)} {i : Nat} {v : Int64} {ls' : List (Option Value)} (d : decode M.2.1 pc = .ok (.lstore i, 2)) (hn : i + 1 < M.2.2.1) (hs : stl ls i (.long v) = ls') (k : Zz X M A Q G cs res S (pc + 2) ls' st f) : Zz X M A Q G cs res S pc ls (.long v :: st) f :=
  fun hf ho hA H locs la hp hl hS => lv_lstore ho.1 ho.2.1 d (zlv_has hl) hn rfl (fun la' h' => k hf ho hA H locs la' hp (hs ▸ zlv_store2 rfl h') hS)
theorem zz_astore_n {ρ : Type} {X : zCx} {M : zMr} {A : (Nat → Prop) × String} {Q : zCx → ρ × zSt → State → Prop} {G : zGw} {cs : Nat × Nat} {res : ρ × zSt} {S : zSt} {pc : Nat} {ls : List (Option Value)} {st : List Value} {f : Option (ρ × zSt)} {n : Fin 4} {v : Nat} {ls' : List (Option Value)} (i : Nat) (d : decode M.2.1 pc = .ok (.astore_n n, 1)) (hi : (n : Nat) = i) (hn : i < M.2.2.1) (hs : stl ls i (.ref v) = ls') (k : Zz X M A Q G cs res S (pc + 1) ls' st f) : Zz X M A Q G cs res S pc ls (.ref v :: st) f :=
  fun hf ho hA H locs la hp hl hS => lv_astore_n ho.1 ho.2.1 d hi (zlv_has hl) hn rfl (fun la' h' => k hf ho hA H locs la' hp (hs ▸ zlv_store1 rfl h') hS)
theorem zz_astore {ρ : Type} {X : zCx} {M : zMr} {A : (Nat → Prop) × String} {Q : zCx → ρ × zSt → State → Prop} {G : zGw} {cs : Nat × Nat} {res : ρ × zSt} {S : zSt} {pc : Nat} {ls : List (Option Value)} {st : List Value} {f : Option (ρ × zSt)} {i : Nat} {v : Nat} {ls' : List (Option Value)} (d : decode M.2.1 pc = .ok (.astore i, 2)) (hn : i < M.2.2.1) (hs : stl ls i (.ref v) = ls') (k : Zz X M A Q G cs res S (pc + 2) ls' st f) : Zz X M A Q G cs res S pc ls (.ref v :: st) f :=
  fun hf ho hA H locs la hp hl hS => lv_astore ho.1 ho.2.1 d (zlv_has hl) hn rfl (fun la' h' => k hf ho hA H locs la' hp (hs ▸ zlv_store1 rfl h') hS)
theorem zz_iinc {ρ : Type} {X : zCx} {M : zMr} {A : (Nat → Prop) × String} {Q : zCx → ρ × zSt → State → Prop} {G : zGw} {cs : Nat × Nat} {res : ρ × zSt} {S : zSt} {pc : Nat} {ls : List (Option Value)} {st : List Value} {f : Option (ρ × zSt)} {i : Nat} {n : Int} {v w : Int32} {ls' : List (Option Value)} (d : decode M.2.1 pc = .ok (.iinc i n, 3)) (hv : ls[i]? = some (some (.int v))) (hw : v + Int32.ofInt n = w) (hn : i < M.2.2.1) (hs : stl ls i (.int w) = ls') (k : Zz X M A Q G cs res S (pc + 3) ls' st f) : Zz X M A Q G cs res S pc ls st f := by
  intro hf ho hA H locs la hp hl hS
  obtain ⟨q, hq⟩ := List.getElem?_of_mem (zprs_mem.mpr hv)
  exact lv_iinc (k := q) ho.1 ho.2.1 d (zlv_has hl) hq hw hn rfl (fun la' h' => k hf ho hA H locs la' hp (hs ▸ zlv_store1 rfl h') hS)
theorem zz_if_eq {ρ : Type} {X : zCx} {M : zMr} {A : (Nat → Prop) × String} {Q : zCx → ρ × zSt → State → Prop} {G : zGw} {cs : Nat × Nat} {res : ρ × zSt} {S : zSt} {pc : Nat} {ls : List (Option Value)} {st : List Value} {a : Int32} {off : Int} {f1 f2 : Option (ρ × zSt)} (tgt : Nat) (d : decode M.2.1 pc = .ok (.ifCond .eq off, 3)) (ht : (pc : Int) + off = (tgt : Int)) (k1 : Zz X M A Q G cs res S tgt ls st f1) (k2 : Zz X M A Q G cs res S (pc + 3) ls st f2) : Zz X M A Q G cs res S pc ls (.int a :: st) (if a = 0 then f1 else f2) :=
  fun hf ho hA H locs la hp hl hS => lv_if_eq ho.1 ho.2.1 d ht (fun c => k1 (by rw [if_pos c] at hf; exact hf) ho hA H locs la hp hl hS) (fun c => k2 (by rw [if_neg c] at hf; exact hf) ho hA H locs la hp hl hS)
theorem zz_ifd_eq {ρ : Type} {X : zCx} {M : zMr} {A : (Nat → Prop) × String} {Q : zCx → ρ × zSt → State → Prop} {G : zGw} {cs : Nat × Nat} {res : ρ × zSt} {S : zSt} {pc : Nat} {ls : List (Option Value)} {st : List Value} {f : Option (ρ × zSt)} {a : Int32} {off : Int} (tgt : Nat) (d : decode M.2.1 pc = .ok (.ifCond .eq off, 3)) (ht : (pc : Int) + off = (tgt : Int)) (k1 : (a = 0) → Zz X M A Q G cs res S tgt ls st f) (k2 : ¬ (a = 0) → Zz X M A Q G cs res S (pc + 3) ls st f) : Zz X M A Q G cs res S pc ls (.int a :: st) f :=
  fun hf ho hA H locs la hp hl hS => lv_if_eq ho.1 ho.2.1 d ht (fun c => k1 c hf ho hA H locs la hp hl hS) (fun c => k2 c hf ho hA H locs la hp hl hS)
theorem zz_if_ne {ρ : Type} {X : zCx} {M : zMr} {A : (Nat → Prop) × String} {Q : zCx → ρ × zSt → State → Prop} {G : zGw} {cs : Nat × Nat} {res : ρ × zSt} {S : zSt} {pc : Nat} {ls : List (Option Value)} {st : List Value} {a : Int32} {off : Int} {f1 f2 : Option (ρ × zSt)} (tgt : Nat) (d : decode M.2.1 pc = .ok (.ifCond .ne off, 3)) (ht : (pc : Int) + off = (tgt : Int)) (k1 : Zz X M A Q G cs res S tgt ls st f1) (k2 : Zz X M A Q G cs res S (pc + 3) ls st f2) : Zz X M A Q G cs res S pc ls (.int a :: st) (if a = 0 then f2 else f1) :=
  fun hf ho hA H locs la hp hl hS => lv_if_ne ho.1 ho.2.1 d ht (fun c => k1 (by rw [if_neg c] at hf; exact hf) ho hA H locs la hp hl hS) (fun c => k2 (by rw [if_pos c] at hf; exact hf) ho hA H locs la hp hl hS)
theorem zz_ifd_ne {ρ : Type} {X : zCx} {M : zMr} {A : (Nat → Prop) × String} {Q : zCx → ρ × zSt → State → Prop} {G : zGw} {cs : Nat × Nat} {res : ρ × zSt} {S : zSt} {pc : Nat} {ls : List (Option Value)} {st : List Value} {f : Option (ρ × zSt)} {a : Int32} {off : Int} (tgt : Nat) (d : decode M.2.1 pc = .ok (.ifCond .ne off, 3)) (ht : (pc : Int) + off = (tgt : Int)) (k1 : ¬ (a = 0) → Zz X M A Q G cs res S tgt ls st f) (k2 : (a = 0) → Zz X M A Q G cs res S (pc + 3) ls st f) : Zz X M A Q G cs res S pc ls (.int a :: st) f :=
  fun hf ho hA H locs la hp hl hS => lv_if_ne ho.1 ho.2.1 d ht (fun c => k1 c hf ho hA H locs la hp hl hS) (fun c => k2 c hf ho hA H locs la hp hl hS)
theorem zz_if_lt {ρ : Type} {X : zCx} {M : zMr} {A : (Nat → Prop) × String} {Q : zCx → ρ × zSt → State → Prop} {G : zGw} {cs : Nat × Nat} {res : ρ × zSt} {S : zSt} {pc : Nat} {ls : List (Option Value)} {st : List Value} {a : Int32} {off : Int} {f1 f2 : Option (ρ × zSt)} (tgt : Nat) (d : decode M.2.1 pc = .ok (.ifCond .lt off, 3)) (ht : (pc : Int) + off = (tgt : Int)) (k1 : Zz X M A Q G cs res S tgt ls st f1) (k2 : Zz X M A Q G cs res S (pc + 3) ls st f2) : Zz X M A Q G cs res S pc ls (.int a :: st) (if a < 0 then f1 else f2) :=
  fun hf ho hA H locs la hp hl hS => lv_if_lt ho.1 ho.2.1 d ht (fun c => k1 (by rw [if_pos c] at hf; exact hf) ho hA H locs la hp hl hS) (fun c => k2 (by rw [if_neg c] at hf; exact hf) ho hA H locs la hp hl hS)
theorem zz_ifd_lt {ρ : Type} {X : zCx} {M : zMr} {A : (Nat → Prop) × String} {Q : zCx → ρ × zSt → State → Prop} {G : zGw} {cs : Nat × Nat} {res : ρ × zSt} {S : zSt} {pc : Nat} {ls : List (Option Value)} {st : List Value} {f : Option (ρ × zSt)} {a : Int32} {off : Int} (tgt : Nat) (d : decode M.2.1 pc = .ok (.ifCond .lt off, 3)) (ht : (pc : Int) + off = (tgt : Int)) (k1 : (a < 0) → Zz X M A Q G cs res S tgt ls st f) (k2 : ¬ (a < 0) → Zz X M A Q G cs res S (pc + 3) ls st f) : Zz X M A Q G cs res S pc ls (.int a :: st) f :=
  fun hf ho hA H locs la hp hl hS => lv_if_lt ho.1 ho.2.1 d ht (fun c => k1 c hf ho hA H locs la hp hl hS) (fun c => k2 c hf ho hA H locs la hp hl hS)
theorem zz_if_ge {ρ : Type} {X : zCx} {M : zMr} {A : (Nat → Prop) × String} {Q : zCx → ρ × zSt → State → Prop} {G : zGw} {cs : Nat × Nat} {res : ρ × zSt} {S : zSt} {pc : Nat} {ls : List (Option Value)} {st : List Value} {a : Int32} {off : Int} {f1 f2 : Option (ρ × zSt)} (tgt : Nat) (d : decode M.2.1 pc = .ok (.ifCond .ge off, 3)) (ht : (pc : Int) + off = (tgt : Int)) (k1 : Zz X M A Q G cs res S tgt ls st f1) (k2 : Zz X M A Q G cs res S (pc + 3) ls st f2) : Zz X M A Q G cs res S pc ls (.int a :: st) (if 0 ≤ a then f1 else f2) :=
  fun hf ho hA H locs la hp hl hS => lv_if_ge ho.1 ho.2.1 d ht (fun c => k1 (by rw [if_pos c] at hf; exact hf) ho hA H locs la hp hl hS) (fun c => k2 (by rw [if_neg c] at hf; exact hf) ho hA H locs la hp hl hS)
theorem zz_ifd_ge {ρ : Type} {X : zCx} {M : zMr} {A : (Nat → Prop) × String} {Q : zCx → ρ × zSt → State → Prop} {G : zGw} {cs : Nat × Nat} {res : ρ × zSt} {S : zSt} {pc : Nat} {ls : List (Option Value)} {st : List Value} {f : Option (ρ × zSt)} {a : Int32} {off : Int} (tgt : Nat) (d : decode M.2.1 pc = .ok (.ifCond .ge off, 3)) (ht : (pc : Int) + off = (tgt : Int)) (k1 : (0 ≤ a) → Zz X M A Q G cs res S tgt ls st f) (k2 : ¬ (0 ≤ a) → Zz X M A Q G cs res S (pc + 3) ls st f) : Zz X M A Q G cs res S pc ls (.int a :: st) f :=
  fun hf ho hA H locs la hp hl hS => lv_if_ge ho.1 ho.2.1 d ht (fun c => k1 c hf ho hA H locs la hp hl hS) (fun c => k2 c hf ho hA H locs la hp hl hS)
theorem zz_if_gt {ρ : Type} {X : zCx} {M : zMr} {A : (Nat → Prop) × String} {Q : zCx → ρ × zSt → State → Prop} {G : zGw} {cs : Nat × Nat} {res : ρ × zSt} {S : zSt} {pc : Nat} {ls : List (Option Value)} {st : List Value} {a : Int32} {off : Int} {f1 f2 : Option (ρ × zSt)} (tgt : Nat) (d : decode M.2.1 pc = .ok (.ifCond .gt off, 3)) (ht : (pc : Int) + off = (tgt : Int)) (k1 : Zz X M A Q G cs res S tgt ls st f1) (k2 : Zz X M A Q G cs res S (pc + 3) ls st f2) : Zz X M A Q G cs res S pc ls (.int a :: st) (if 0 < a then f1 else f2) :=
  fun hf ho hA H locs la hp hl hS => lv_if_gt ho.1 ho.2.1 d ht (fun c => k1 (by rw [if_pos c] at hf; exact hf) ho hA H locs la hp hl hS) (fun c => k2 (by rw [if_neg c] at hf; exact hf) ho hA H locs la hp hl hS)
theorem zz_ifd_gt {ρ : Type} {X : zCx} {M : zMr} {A : (Nat → Prop) × String} {Q : zCx → ρ × zSt → State → Prop} {G : zGw} {cs : Nat × Nat} {res : ρ × zSt} {S : zSt} {pc : Nat} {ls : List (Option Value)} {st : List Value} {f : Option (ρ × zSt)} {a : Int32} {off : Int} (tgt : Nat) (d : decode M.2.1 pc = .ok (.ifCond .gt off, 3)) (ht : (pc : Int) + off = (tgt : Int)) (k1 : (0 < a) → Zz X M A Q G cs res S tgt ls st f) (k2 : ¬ (0 < a) → Zz X M A Q G cs res S (pc + 3) ls st f) : Zz X M A Q G cs res S pc ls (.int a :: st) f :=
  fun hf ho hA H locs la hp hl hS => lv_if_gt ho.1 ho.2.1 d ht (fun c => k1 c hf ho hA H locs la hp hl hS) (fun c => k2 c hf ho hA H locs la hp hl hS)
theorem zz_if_le {ρ : Type} {X : zCx} {M : zMr} {A : (Nat → Prop) × String} {Q : zCx → ρ × zSt → State → Prop} {G : zGw} {cs : Nat × Nat} {res : ρ × zSt} {S : zSt} {pc : Nat} {ls : List (Option Value)} {st : List Value} {a : Int32} {off : Int} {f1 f2 : Option (ρ × zSt)} (tgt : Nat) (d : decode M.2.1 pc = .ok (.ifCond .le off, 3)) (ht : (pc : Int) + off = (tgt : Int)) (k1 : Zz X M A Q G cs res S tgt ls st f1) (k2 : Zz X M A Q G cs res S (pc + 3) ls st f2) : Zz X M A Q G cs res S pc ls (.int a :: st) (if a ≤ 0 then f1 else f2) :=
  fun hf ho hA H locs la hp hl hS => lv_if_le ho.1 ho.2.1 d ht (fun c => k1 (by rw [if_pos c] at hf; exact hf) ho hA H locs la hp hl hS) (fun c => k2 (by rw [if_neg c] at hf; exact hf) ho hA H locs la hp hl hS)
theorem zz_ifd_le {ρ : Type} {X : zCx} {M : zMr} {A : (Nat → Prop) × String} {Q : zCx → ρ × zSt → State → Prop} {G : zGw} {cs : Nat × Nat} {res : ρ × zSt} {S : zSt} {pc : Nat} {ls : List (Option Value)} {st : List Value} {f : Option (ρ × zSt)} {a : Int32} {off : Int} (tgt : Nat) (d : decode M.2.1 pc = .ok (.ifCond .le off, 3)) (ht : (pc : Int) + off = (tgt : Int)) (k1 : (a ≤ 0) → Zz X M A Q G cs res S tgt ls st f) (k2 : ¬ (a ≤ 0) → Zz X M A Q G cs res S (pc + 3) ls st f) : Zz X M A Q G cs res S pc ls (.int a :: st) f :=
  fun hf ho hA H locs la hp hl hS => lv_if_le ho.1 ho.2.1 d ht (fun c => k1 c hf ho hA H locs la hp hl hS) (fun c => k2 c hf ho hA H locs la hp hl hS)
theorem zz_icmp_eq {ρ : Type} {X : zCx} {M : zMr} {A : (Nat → Prop) × String} {Q : zCx → ρ × zSt → State → Prop} {G : zGw} {cs : Nat × Nat} {res : ρ × zSt} {S : zSt} {pc : Nat} {ls : List (Option Value)} {st : List Value} {a b : Int32} {off : Int} {f1 f2 : Option (ρ × zSt)} (tgt : Nat) (d : decode M.2.1 pc = .ok (.if_icmp .eq off, 3)) (ht : (pc : Int) + off = (tgt : Int)) (k1 : Zz X M A Q G cs res S tgt ls st f1) (k2 : Zz X M A Q G cs res S (pc + 3) ls st f2) : Zz X M A Q G cs res S pc ls (.int b :: .int a :: st) (if a = b then f1 else f2) :=
  fun hf ho hA H locs la hp hl hS => lv_icmp_eq ho.1 ho.2.1 d ht (fun c => k1 (by rw [if_pos c] at hf; exact hf) ho hA H locs la hp hl hS) (fun c => k2 (by rw [if_neg c] at hf; exact hf) ho hA H locs la hp hl hS)
theorem zz_icmpd_eq {ρ : Type} {X : zCx} {M : zMr} {A : (Nat → Prop) × String} {Q : zCx → ρ × zSt → State → Prop} {G : zGw} {cs : Nat × Nat} {res : ρ × zSt} {S : zSt} {pc : Nat} {ls : List (Option Value)} {st : List Value} {f : Option (ρ × zSt)} {a b : Int32} {off : Int} (tgt : Nat) (d : decode M.2.1 pc = .ok (.if_icmp .eq off, 3)) (ht : (pc : Int) + off = (tgt : Int)) (k1 : (a = b) → Zz X M A Q G cs res S tgt ls st f) (k2 : ¬ (a = b) → Zz X M A Q G cs res S (pc + 3) ls st f) : Zz X M A Q G cs res S pc ls (.int b :: .int a :: st) f :=
  fun hf ho hA H locs la hp hl hS => lv_icmp_eq ho.1 ho.2.1 d ht (fun c => k1 c hf ho hA H locs la hp hl hS) (fun c => k2 c hf ho hA H locs la hp hl hS)
theorem zz_icmp_ne {ρ : Type} {X : zCx} {M : zMr} {A : (Nat → Prop) × String} {Q : zCx → ρ × zSt → State → Prop} {G : zGw} {cs : Nat × Nat} {res : ρ × zSt} {S : zSt} {pc : Nat} {ls : List (Option Value)} {st : List Value} {a b : Int32} {off : Int} {f1 f2 : Option (ρ × zSt)} (tgt : Nat) (d : decode M.2.1 pc = .ok (.if_icmp .ne off, 3)) (ht : (pc : Int) + off = (tgt : Int)) (k1 : Zz X M A Q G cs res S tgt ls st f1) (k2 : Zz X M A Q G cs res S (pc + 3) ls st f2) : Zz X M A Q G cs res S pc ls (.int b :: .int a :: st) (if a = b then f2 else f1) :=
  fun hf ho hA H locs la hp hl hS => lv_icmp_ne ho.1 ho.2.1 d ht (fun c => k1 (by rw [if_neg c] at hf; exact hf) ho hA H locs la hp hl hS) (fun c => k2 (by rw [if_pos c] at hf; exact hf) ho hA H locs la hp hl hS)
theorem zz_icmpd_ne {ρ : Type} {X : zCx} {M : zMr} {A : (Nat → Prop) × String} {Q : zCx → ρ × zSt → State → Prop} {G : zGw} {cs : Nat × Nat} {res : ρ × zSt} {S : zSt} {pc : Nat} {ls : List (Option Value)} {st : List Value} {f : Option (ρ × zSt)} {a b : Int32} {off : Int} (tgt : Nat) (d : decode M.2.1 pc = .ok (.if_icmp .ne off, 3)) (ht : (pc : Int) + off = (tgt : Int)) (k1 : ¬ (a = b) → Zz X M A Q G cs res S tgt ls st f) (k2 : (a = b) → Zz X M A Q G cs res S (pc + 3) ls st f) : Zz X M A Q G cs res S pc ls (.int b :: .int a :: st) f :=
  fun hf ho hA H locs la hp hl hS => lv_icmp_ne ho.1 ho.2.1 d ht (fun c => k1 c hf ho hA H locs la hp hl hS) (fun c => k2 c hf ho hA H locs la hp hl hS)
theorem zz_icmp_lt {ρ : Type} {X : zCx} {M : zMr} {A : (Nat → Prop) × String} {Q : zCx → ρ × zSt → State → Prop} {G : zGw} {cs : Nat × Nat} {res : ρ × zSt} {S : zSt} {pc : Nat} {ls : List (Option Value)} {st : List Value} {a b : Int32} {off : Int} {f1 f2 : Option (ρ × zSt)} (tgt : Nat) (d : decode M.2.1 pc = .ok (.if_icmp .lt off, 3)) (ht : (pc : Int) + off = (tgt : Int)) (k1 : Zz X M A Q G cs res S tgt ls st f1) (k2 : Zz X M A Q G cs res S (pc + 3) ls st f2) : Zz X M A Q G cs res S pc ls (.int b :: .int a :: st) (if a < b then f1 else f2) :=
  fun hf ho hA H locs la hp hl hS => lv_icmp_lt ho.1 ho.2.1 d ht (fun c => k1 (by rw [if_pos c] at hf; exact hf) ho hA H locs la hp hl hS) (fun c => k2 (by rw [if_neg c] at hf; exact hf) ho hA H locs la hp hl hS)
theorem zz_icmpd_lt {ρ : Type} {X : zCx} {M : zMr} {A : (Nat → Prop) × String} {Q : zCx → ρ × zSt → State → Prop} {G : zGw} {cs : Nat × Nat} {res : ρ × zSt} {S : zSt} {pc : Nat} {ls : List (Option Value)} {st : List Value} {f : Option (ρ × zSt)} {a b : Int32} {off : Int} (tgt : Nat) (d : decode M.2.1 pc = .ok (.if_icmp .lt off, 3)) (ht : (pc : Int) + off = (tgt : Int)) (k1 : (a < b) → Zz X M A Q G cs res S tgt ls st f) (k2 : ¬ (a < b) → Zz X M A Q G cs res S (pc + 3) ls st f) : Zz X M A Q G cs res S pc ls (.int b :: .int a :: st) f :=
  fun hf ho hA H locs la hp hl hS => lv_icmp_lt ho.1 ho.2.1 d ht (fun c => k1 c hf ho hA H locs la hp hl hS) (fun c => k2 c hf ho hA H locs la hp hl hS)
theorem zz_icmp_ge {ρ : Type} {X : zCx} {M : zMr} {A : (Nat → Prop) × String} {Q : zCx → ρ × zSt → State → Prop} {G : zGw} {cs : Nat × Nat} {res : ρ × zSt} {S : zSt} {pc : Nat} {ls : List (Option Value)} {st : List Value} {a b : Int32} {off : Int} {f1 f2 : Option (ρ × zSt)} (tgt : Nat) (d : decode M.2.1 pc = .ok (.if_icmp .ge off, 3)) (ht : (pc : Int) + off = (tgt : Int)) (k1 : Zz X M A Q G cs res S tgt ls st f1) (k2 : Zz X M A Q G cs res S (pc + 3) ls st f2) : Zz X M A Q G cs res S pc ls (.int b :: .int a :: st) (if b ≤ a then f1 else f2) :=
  fun hf ho hA H locs la hp hl hS => lv_icmp_ge ho.1 ho.2.1 d ht (fun c => k1 (by rw [if_pos c] at hf; exact hf) ho hA H locs la hp hl hS) (fun c => k2 (by rw [if_neg c] at hf; exact hf) ho hA H locs la hp hl hS)
theorem zz_icmpd_ge {ρ : Type} {X : zCx} {M : zMr} {A : (Nat → Prop) × String} {Q : zCx → ρ × zSt → State → Prop} {G : zGw} {cs : Nat × Nat} {res : ρ × zSt} {S : zSt} {pc : Nat} {ls : List (Option Value)} {st : List Value} {f : Option (ρ × zSt)} {a b : Int32} {off : Int} (tgt : Nat) (d : decode M.2.1 pc = .ok (.if_icmp .ge off, 3)) (ht : (pc : Int) + off = (tgt : Int)) (k1 : (b ≤ a) → Zz X M A Q G cs res S tgt ls st f) (k2 : ¬ (b ≤ a) → Zz X M A Q G cs res S (pc + 3) ls st f) : Zz X M A Q G cs res S pc ls (.int b :: .int a :: st) f :=
  fun hf ho hA H locs la hp hl hS => lv_icmp_ge ho.1 ho.2.1 d ht (fun c => k1 c hf ho hA H locs la hp hl hS) (fun c => k2 c hf ho hA H locs la hp hl hS)
theorem zz_icmp_gt {ρ : Type} {X : zCx} {M : zMr} {A : (Nat → Prop) × String} {Q : zCx → ρ × zSt → State → Prop} {G : zGw} {cs : Nat × Nat} {res : ρ × zSt} {S : zSt} {pc : Nat} {ls : List (Option Value)} {st : List Value} {a b : Int32} {off : Int} {f1 f2 : Option (ρ × zSt)} (tgt : Nat) (d : decode M.2.1 pc = .ok (.if_icmp .gt off, 3)) (ht : (pc : Int) + off = (tgt : Int)) (k1 : Zz X M A Q G cs res S tgt ls st f1) (k2 : Zz X M A Q G cs res S (pc + 3) ls st f2) : Zz X M A Q G cs res S pc ls (.int b :: .int a :: st) (if b < a then f1 else f2) :=
  fun hf ho hA H locs la hp hl hS => lv_icmp_gt ho.1 ho.2.1 d ht (fun c => k1 (by rw [if_pos c] at hf; exact hf) ho hA H locs la hp hl hS) (fun c => k2 (by rw [if_neg c] at hf; exact hf) ho hA H locs la hp hl hS)
theorem zz_icmpd_gt {ρ : Type} {X : zCx} {M : zMr} {A : (Nat → Prop) × String} {Q : zCx → ρ × zSt → State → Prop} {G : zGw} {cs : Nat × Nat} {res : ρ × zSt} {S : zSt} {pc : Nat} {ls : List (Option Value)} {st : List Value} {f : Option (ρ × zSt)} {a b : Int32} {off : Int} (tgt : Nat) (d : decode M.2.1 pc = .ok (.if_icmp .gt off, 3)) (ht : (pc : Int) + off = (tgt : Int)) (k1 : (b < a) → Zz X M A Q G cs res S tgt ls st f) (k2 : ¬ (b < a) → Zz X M A Q G cs res S (pc + 3) ls st f) : Zz X M A Q G cs res S pc ls (.int b :: .int a :: st) f :=
  fun hf ho hA H locs la hp hl hS => lv_icmp_gt ho.1 ho.2.1 d ht (fun c => k1 c hf ho hA H locs la hp hl hS) (fun c => k2 c hf ho hA H locs la hp hl hS)
theorem zz_icmp_le {ρ : Type} {X : zCx} {M : zMr} {A : (Nat → Prop) × String} {Q : zCx → ρ × zSt → State → Prop} {G : zGw} {cs : Nat × Nat} {res : ρ × zSt} {S : zSt} {pc : Nat} {ls : List (Option Value)} {st : List Value} {a b : Int32} {off : Int} {f1 f2 : Option (ρ × zSt)} (tgt : Nat) (d : decode M.2.1 pc = .ok (.if_icmp .le off, 3)) (ht : (pc : Int) + off = (tgt : Int)) (k1 : Zz X M A Q G cs res S tgt ls st f1) (k2 : Zz X M A Q G cs res S (pc + 3) ls st f2) : Zz X M A Q G cs res S pc ls (.int b :: .int a :: st) (if a ≤ b then f1 else f2) :=
  fun hf ho hA H locs la hp hl hS => lv_icmp_le ho.1 ho.2.1 d ht (fun c => k1 (by rw [if_pos c] at hf; exact hf) ho hA H locs la hp hl hS) (fun c => k2 (by rw [if_neg c] at hf; exact hf) ho hA H locs la hp hl hS)
theorem zz_icmpd_le {ρ : Type} {X : zCx} {M : zMr} {A : (Nat → Prop) × String} {Q : zCx → ρ × zSt → State → Prop} {G : zGw} {cs : Nat × Nat} {res : ρ × zSt} {S : zSt} {pc : Nat} {ls : List (Option Value)} {st : List Value} {f : Option (ρ × zSt)} {a b : Int32} {off : Int} (tgt : Nat) (d : decode M.2.1 pc = .ok (.if_icmp .le off, 3)) (ht : (pc : Int) + off = (tgt : Int)) (k1 : (a ≤ b) → Zz X M A Q G cs res S tgt ls st f) (k2 : ¬ (a ≤ b) → Zz X M A Q G cs res S (pc + 3) ls st f) : Zz X M A Q G cs res S pc ls (.int b :: .int a :: st) f :=
  fun hf ho hA H locs la hp hl hS => lv_icmp_le ho.1 ho.2.1 d ht (fun c => k1 c hf ho hA H locs la hp hl hS) (fun c => k2 c hf ho hA H locs la hp hl hS)
theorem zz_goto {ρ : Type} {X : zCx} {M : zMr} {A : (Nat → Prop) × String} {Q : zCx → ρ × zSt → State → Prop} {G : zGw} {cs : Nat × Nat} {res : ρ × zSt} {S : zSt} {pc : Nat} {ls : List (Option Value)} {st : List Value} {f : Option (ρ × zSt)} {off : Int} (tgt : Nat) (d : decode M.2.1 pc = .ok (.goto off, 3)) (ht : (pc : Int) + off = (tgt : Int)) (k : Zz X M A Q G cs res S tgt ls st f) : Zz X M A Q G cs res S pc ls st f :=
  fun hf ho hA H locs la hp hl hS => lv_goto ho.1 ho.2.1 d ht (k hf ho hA H locs la hp hl hS)
theorem zz_dup {ρ : Type} {X : zCx} {M : zMr} {A : (Nat → Prop) × String} {Q : zCx → ρ × zSt → State → Prop} {G : zGw} {cs : Nat × Nat} {res : ρ × zSt} {S : zSt} {pc : Nat} {ls : List (Option Value)} {st : List Value} {f : Option (ρ × zSt)} {v : Value} (d : decode M.2.1 pc = .ok (.dup, 1)) (hv : v.category = 1) (k : Zz X M A Q G cs res S (pc + 1) ls (v :: v :: st) f) : Zz X M A Q G cs res S pc ls (v :: st) f :=
  fun hf ho hA H locs la hp hl hS => lv_dup ho.1 ho.2.1 d hv (k hf ho hA H locs la hp hl hS)
theorem zz_pop {ρ : Type} {X : zCx} {M : zMr} {A : (Nat → Prop) × String} {Q : zCx → ρ × zSt → State → Prop} {G : zGw} {cs : Nat × Nat} {res : ρ × zSt} {S : zSt} {pc : Nat} {ls : List (Option Value)} {st : List Value} {f : Option (ρ × zSt)} {v : Value} (d : decode M.2.1 pc = .ok (.pop, 1)) (hv : v.category = 1) (k : Zz X M A Q G cs res S (pc + 1) ls st f) : Zz X M A Q G cs res S pc ls (v :: st) f :=
  fun hf ho hA H locs la hp hl hS => lv_pop ho.1 ho.2.1 d hv (k hf ho hA H locs la hp hl hS)
theorem zz_dup2 {ρ : Type} {X : zCx} {M : zMr} {A : (Nat → Prop) × String} {Q : zCx → ρ × zSt → State → Prop} {G : zGw} {cs : Nat × Nat} {res : ρ × zSt} {S : zSt} {pc : Nat} {ls : List (Option Value)} {st : List Value} {f : Option (ρ × zSt)} {v w : Value} (d : decode M.2.1 pc = .ok (.dup2, 1)) (hv : v.category = 1) (hw : w.category = 1) (k : Zz X M A Q G cs res S (pc + 1) ls (v :: w :: v :: w :: st) f) : Zz X M A Q G cs res S pc ls (v :: w :: st) f :=
  fun hf ho hA H locs la hp hl hS => lv_dup2_11 ho.1 ho.2.1 d hv hw (k hf ho hA H locs la hp hl hS)
theorem zz_idiv {ρ : Type} {X : zCx} {M : zMr} {A : (Nat → Prop) × String} {Q : zCx → ρ × zSt → State → Prop} {G : zGw} {cs : Nat × Nat} {res : ρ × zSt} {S : zSt} {pc : Nat} {ls : List (Option Value)} {st : List Value} {f : Option (ρ × zSt)} {a b : Int32} (d : decode M.2.1 pc = .ok (.idiv, 1)) (k : Zz X M A Q G cs res S (pc + 1) ls (.int (a / b) :: st) f) : Zz X M A Q G cs res S pc ls (.int b :: .int a :: st) (nz b f) := by
  intro hf ho hA H locs la hp hl hS
  unfold nz at hf
  by_cases hb : b = 0
  · rw [if_pos hb] at hf; cases hf
  · rw [if_neg hb] at hf
    exact lv_idiv ho.1 ho.2.1 d hb (k hf ho hA H locs la hp hl hS)
theorem zz_idivc {ρ : Type} {X : zCx} {M : zMr} {A : (Nat → Prop) × String} {Q : zCx → ρ × zSt → State → Prop} {G : zGw} {cs : Nat × Nat} {res : ρ × zSt} {S : zSt} {pc : Nat} {ls : List (Option Value)} {st : List Value} {f : Option (ρ × zSt)} {a b : Int32} (d : decode M.2.1 pc = .ok (.idiv, 1)) (hb : ¬ b = 0) (k : Zz X M A Q G cs res S (pc + 1) ls (.int (a / b) :: st) f) : Zz X M A Q G cs res S pc ls (.int b :: .int a :: st) f :=
  fun hf ho hA H locs la hp hl hS => lv_idiv ho.1 ho.2.1 d hb (k hf ho hA H locs la hp hl hS)
theorem zz_irem {ρ : Type} {X : zCx} {M : zMr} {A : (Nat → Prop) × String} {Q : zCx → ρ × zSt → State → Prop} {G : zGw} {cs : Nat × Nat} {res : ρ × zSt} {S : zSt} {pc : Nat} {ls : List (Option Value)} {st : List Value} {f : Option (ρ × zSt)} {a b : Int32} (d : decode M.2.1 pc = .ok (.irem, 1)) (k : Zz X M A Q G cs res S (pc + 1) ls (.int (a - a / b * b) :: st) f) : Zz X M A Q G cs res S pc ls (.int b :: .int a :: st) (nz b f) := by
  intro hf ho hA H locs la hp hl hS
  unfold nz at hf
  by_cases hb : b = 0
  · rw [if_pos hb] at hf; cases hf
  · rw [if_neg hb] at hf
    exact lv_irem ho.1 ho.2.1 d hb (k hf ho hA H locs la hp hl hS)
theorem zz_iremc {ρ : Type} {X : zCx} {M : zMr} {A : (Nat → Prop) × String} {Q : zCx → ρ × zSt → State → Prop} {G : zGw} {cs : Nat × Nat} {res : ρ × zSt} {S : zSt} {pc : Nat} {ls : List (Option Value)} {st : List Value} {f : Option (ρ × zSt)} {a b : Int32} (d : decode M.2.1 pc = .ok (.irem, 1)) (hb : ¬ b = 0) (k : Zz X M A Q G cs res S (pc + 1) ls (.int (a - a / b * b) :: st) f) : Zz X M A Q G cs res S pc ls (.int b :: .int a :: st) f :=
  fun hf ho hA H locs la hp hl hS => lv_irem ho.1 ho.2.1 d hb (k hf ho hA H locs la hp hl hS)
theorem zz_ldiv {ρ : Type} {X : zCx} {M : zMr} {A : (Nat → Prop) × String} {Q : zCx → ρ × zSt → State → Prop} {G : zGw} {cs : Nat × Nat} {res : ρ × zSt} {S : zSt} {pc : Nat} {ls : List (Option Value)} {st : List Value} {f : Option (ρ × zSt)} {a b : Int64} (d : decode M.2.1 pc = .ok (.ldiv, 1)) (k : Zz X M A Q G cs res S (pc + 1) ls (.long (a / b) :: st) f) : Zz X M A Q G cs res S pc ls (.long b :: .long a :: st) (nzL b f) := by
  intro hf ho hA H locs la hp hl hS
  unfold nzL at hf
  by_cases hb : b = 0
  · rw [if_pos hb] at hf; cases hf
  · rw [if_neg hb] at hf
    exact lv_ldiv ho.1 ho.2.1 d hb (k hf ho hA H locs la hp hl hS)
theorem zz_ldivc {ρ : Type} {X : zCx} {M : zMr} {A : (Nat → Prop) × String} {Q : zCx → ρ × zSt → State → Prop} {G : zGw} {cs : Nat × Nat} {res : ρ × zSt} {S : zSt} {pc : Nat} {ls : List (Option Value)} {st : List Value} {f : Option (ρ × zSt)} {a b : Int64} (d : decode M.2.1 pc = .ok (.ldiv, 1)) (hb : ¬ b = 0) (k : Zz X M A Q G cs res S (pc + 1) ls (.long (a / b) :: st) f) : Zz X M A Q G cs res S pc ls (.long b :: .long a :: st) f :=
  fun hf ho hA H locs la hp hl hS => lv_ldiv ho.1 ho.2.1 d hb (k hf ho hA H locs la hp hl hS)
theorem zz_lrem {ρ : Type} {X : zCx} {M : zMr} {A : (Nat → Prop) × String} {Q : zCx → ρ × zSt → State → Prop} {G : zGw} {cs : Nat × Nat} {res : ρ × zSt} {S : zSt} {pc : Nat} {ls : List (Option Value)} {st : List Value} {f : Option (ρ × zSt)} {a b : Int64} (d : decode M.2.1 pc = .ok (.lrem, 1)) (k : Zz X M A Q G cs res S (pc + 1) ls (.long (a - a / b * b) :: st) f) : Zz X M A Q G cs res S pc ls (.long b :: .long a :: st) (nzL b f) := by
  intro hf ho hA H locs la hp hl hS
  unfold nzL at hf
  by_cases hb : b = 0
  · rw [if_pos hb] at hf; cases hf
  · rw [if_neg hb] at hf
    exact lv_lrem ho.1 ho.2.1 d hb (k hf ho hA H locs la hp hl hS)
theorem zz_lremc {ρ : Type} {X : zCx} {M : zMr} {A : (Nat → Prop) × String} {Q : zCx → ρ × zSt → State → Prop} {G : zGw} {cs : Nat × Nat} {res : ρ × zSt} {S : zSt} {pc : Nat} {ls : List (Option Value)} {st : List Value} {f : Option (ρ × zSt)} {a b : Int64} (d : decode M.2.1 pc = .ok (.lrem, 1)) (hb : ¬ b = 0) (k : Zz X M A Q G cs res S (pc + 1) ls (.long (a - a / b * b) :: st) f) : Zz X M A Q G cs res S pc ls (.long b :: .long a :: st) f :=
  fun hf ho hA H locs la hp hl hS => lv_lrem ho.1 ho.2.1 d hb (k hf ho hA H locs la hp hl hS)
theorem zz_chk {ρ : Type} {X : zCx} {M : zMr} {A : (Nat → Prop) × String} {Q : zCx → ρ × zSt → State → Prop} {G : zGw} {cs : Nat × Nat} {res : ρ × zSt} {S : zSt} {pc : Nat} {ls : List (Option Value)} {st : List Value} {f : Option (ρ × zSt)} {i : Int32} {n : Nat} (k : vp_in i n → Zz X M A Q G cs res S pc ls st f) : Zz X M A Q G cs res S pc ls st (chk i n f) := by
  intro hf ho hA H locs la hp hl hS
  unfold chk at hf
  by_cases hb : i < 0 ∨ n ≤ i.toNatClampNeg
  · rw [if_pos hb] at hf; cases hf
  · rw [if_neg hb] at hf
    exact k hb hf ho hA H locs la hp hl hS
theorem zz_eq {ρ : Type} {X : zCx} {M : zMr} {A : (Nat → Prop) × String} {Q : zCx → ρ × zSt → State → Prop} {G : zGw} {cs : Nat × Nat} {res : ρ × zSt} {S : zSt} {pc : Nat} {ls : List (Option Value)} {st : List Value} {f : Option (ρ × zSt)} {g : Option (ρ × zSt)} (h : g = f) (k : Zz X M A Q G cs res S pc ls st f) : Zz X M A Q G cs res S pc ls st g := h ▸ k
theorem zz_none {ρ : Type} {X : zCx} {M : zMr} {A : (Nat → Prop) × String} {Q : zCx → ρ × zSt → State → Prop} {G : zGw} {cs : Nat × Nat} {res : ρ × zSt} {S : zSt} {pc : Nat} {ls : List (Option Value)} {st : List Value} : Zz X M A Q G cs res S pc ls st none := fun hf => by cases hf
theorem zz_get {ρ : Type} {X : zCx} {M : zMr} {A : (Nat → Prop) × String} {Q : zCx → ρ × zSt → State → Prop} {G : zGw} {cs : Nat × Nat} {res : ρ × zSt} {S : zSt} {pc : Nat} {ls : List (Option Value)} {st : List Value} {f : Option (ρ × zSt)} {C : String} {T : u_T} {N idx : Nat} {v : Value} (kp ci j : Nat) (hsh : G.2.1 kp = some (.inl ci)) (hc : zcl[ci]? = some (C, T, N)) (hin : ∀ w ∈ u_ws C T N, w ∈ lw_all) (hj : j < N) (hl : Cond.fieldLink M.1 idx (T j).1 (T j).2.1 (T j).2.2.1 ∈ lw_all) (hv : zval (zft ci j) G.1 (G.2.2.1 kp j) (S.1 kp j) (S.2 kp j) = v) (d : decode M.2.1 pc = .ok (.getfield idx, 3)) (k : Zz X M A Q G cs res S (pc + 3) ls (v :: st) f) : Zz X M A Q G cs res S pc ls (.ref (G.1 kp) :: st) f := by
  intro hf ho hA H locs la hp hl1 hS
  obtain ⟨cell, q1, q2, q3, q4⟩ := zhp_obj hp hsh hc
  obtain ⟨hS1, hfc, kC, hkC, hkind⟩ := ho.2.2.2.2.2.2.2.2.1 ci _ hc
  obtain ⟨cf, kf, fi, f, hi, hsl⟩ := hS1 j hj
  refine W.getf ho.1 ho.2.1 ho.2.2.2.1 (ho.2.2.2.2.1 _ hl) hi (u_facts hfc hkC (u_lays ho.2.2.2.2.1 hin hj) hi).1 q1 (by rw [q3]; exact fun h => by cases h) (v := v) ?_ rfl rfl d (k hf ho hA H locs la hp hl1 hS)
  rw [hsl]
  exact (q4 j hj).trans (congrArg some hv)
theorem zz_putI {ρ : Type} {X : zCx} {M : zMr} {A : (Nat → Prop) × String} {Q : zCx → ρ × zSt → State → Prop} {G : zGw} {cs : Nat × Nat} {res : ρ × zSt} {S : zSt} {pc : Nat} {ls : List (Option Value)} {st : List Value} {f : Option (ρ × zSt)} {C : String} {T : u_T} {N idx : Nat} {x : Int32} (ty0 : Nat → FieldType) (kp ci j : Nat) (hsh : G.2.1 kp = some (.inl ci)) (hc : zcl[ci]? = some (C, T, N)) (hin : ∀ w ∈ u_ws C T N, w ∈ lw_all) (hty : ∀ k, k < N → parseFieldDescriptor (T k).2.2.1 = some (ty0 k)) (hnm : ∀ b, b < N → b ≠ j → (T j).2.1 ≠ (T b).2.1) (hj : j < N) (hl : Cond.fieldLink M.1 idx (T j).1 (T j).2.1 (T j).2.2.1 ∈ lw_all) (hfin : (T j).2.2.2 = false) (h0 : ty0 j = .int) (h1 : zft ci j = .int) (d : decode M.2.1 pc = .ok (.putfield idx, 3)) (k : Zz X M A Q G cs res (sI S kp j x) (pc + 3) ls st f) : Zz X M A Q G cs res S pc ls (.int x :: .ref (G.1 kp) :: st) f := by
  intro hf ho hA H locs la hp hl1 hS
  have hK := zkn_K ho.2.2.2.2.2.2.2.2.1
  have hap := zapart ho.2.2.2.2.1 hin ty0 hty hj hnm hK hc
  obtain ⟨cell, q1, q2, q3, q4⟩ := zhp_obj hp hsh hc
  obtain ⟨hS1, hfc, kC, hkC, hkind⟩ := ho.2.2.2.2.2.2.2.2.1 ci _ hc
  obtain ⟨cf, kf, fi, f, hi, hsl⟩ := hS1 j hj
  have hlay := ho.2.2.2.2.1 _ (hin _ (u_in_lay hj))
  unfold u_lay at hlay
  rw [if_neg (by rw [hfin]; decide)] at hlay
  have hst := (u_facts hfc hkC (u_lays ho.2.2.2.2.1 hin hj) hi).1
  have h6 := u_store hfc hkC hkind hlay hi ((hty j hj).trans (congrArg some h0)) (v := .int x) rfl rfl
  have hne : G.2.1 kp ≠ none := by rw [hsh]; simp
  refine W.putK ho.1 ho.2.1 (f := f) ⟨ho.2.2.2.1, (ho.2.2.2.2.1 _ hl), ⟨_, _, _, hi⟩, hst⟩ (by rw [q2]; exact h6) q1 q3 (by rw [hsl]; exact k2_hasslot (q4 j hj)) rfl rfl d fun H' e1 e2 e3 => ?_
  rw [hsl] at e1 ⊢
  refine k hf ho hA H' _ la (zhp_set ho.2.2.2.2.2.2.2.2.2.1 hne hp e3 (fun a ha => sI_ne ha) (fun a ha => rfl) ?_) hl1 (hS.put e2 e3 (hA.1 _ hne))
  unfold zcellIs
  rw [hsh]
  refine ⟨_, hc, t_OB.to ⟨_, e1, q2, q3, zt_set q4 hap hj (.int x)⟩ (fun b hb => ?_)⟩
  unfold updV
  by_cases hbj : b = j
  · subst hbj
    rw [if_pos rfl, h1]
    simp [sI, zval]
  · rw [if_neg hbj]
    simp [sI, hbj]
theorem zz_putL {ρ : Type} {X : zCx} {M : zMr} {A : (Nat → Prop) × String} {Q : zCx → ρ × zSt → State → Prop} {G : zGw} {cs : Nat × Nat} {res : ρ × zSt} {S : zSt} {pc : Nat} {ls : List (Option Value)} {st : List Value} {f : Option (ρ × zSt)} {C : String} {T : u_T} {N idx : Nat} {x : Int64} (ty0 : Nat → FieldType) (kp ci j : Nat) (hsh : G.2.1 kp = some (.inl ci)) (hc : zcl[ci]? = some (C, T, N)) (hin : ∀ w ∈ u_ws C T N, w ∈ lw_all) (hty : ∀ k, k < N → parseFieldDescriptor (T k).2.2.1 = some (ty0 k)) (hnm : ∀ b, b < N → b ≠ j → (T j).2.1 ≠ (T b).2.1) (hj : j < N) (hl : Cond.fieldLink M.1 idx (T j).1 (T j).2.1 (T j).2.2.1 ∈ lw_all) (hfin : (T j).2.2.2 = false) (h0 : ty0 j = .long) (h1 : zft ci j = .long) (d : decode M.2.1 pc = .ok (.putfield idx, 3)) (k : Zz X M A Q G cs res (sL S kp j x) (pc + 3) ls st f) : Zz X M A Q G cs res S pc ls (.long x :: .ref (G.1 kp) :: st) f := by
  intro hf ho hA H locs la hp hl1 hS
  have hK := zkn_K ho.2.2.2.2.2.2.2.2.1
  have hap := zapart ho.2.2.2.2.1 hin ty0 hty hj hnm hK hc
  obtain ⟨cell, q1, q2, q3, q4⟩ := zhp_obj hp hsh hc
  obtain ⟨hS1, hfc, kC, hkC, hkind⟩ := ho.2.2.2.2.2.2.2.2.1 ci _ hc
  obtain ⟨cf, kf, fi, f, hi, hsl⟩ := hS1 j hj
  have hlay := ho.2.2.2.2.1 _ (hin _ (u_in_lay hj))
  unfold u_lay at hlay
  rw [if_neg (by rw [hfin]; decide)] at hlay
  have hst := (u_facts hfc hkC (u_lays ho.2.2.2.2.1 hin hj) hi).1
  have h6 := u_store hfc hkC hkind hlay hi ((hty j hj).trans (congrArg some h0)) (v := .long x) rfl rfl
  have hne : G.2.1 kp ≠ none := by rw [hsh]; simp
  refine W.putK ho.1 ho.2.1 (f := f) ⟨ho.2.2.2.1, (ho.2.2.2.2.1 _ hl), ⟨_, _, _, hi⟩, hst⟩ (by rw [q2]; exact h6) q1 q3 (by rw [hsl]; exact k2_hasslot (q4 j hj)) rfl rfl d fun H' e1 e2 e3 => ?_
  rw [hsl] at e1 ⊢
  refine k hf ho hA H' _ la (zhp_set ho.2.2.2.2.2.2.2.2.2.1 hne hp e3 (fun a ha => rfl) (fun a ha => sL_ne ha) ?_) hl1 (hS.put e2 e3 (hA.1 _ hne))
  unfold zcellIs
  rw [hsh]
  refine ⟨_, hc, t_OB.to ⟨_, e1, q2, q3, zt_set q4 hap hj (.long x)⟩ (fun b hb => ?_)⟩
  unfold updV
  by_cases hbj : b = j
  · subst hbj
    rw [if_pos rfl, h1]
    simp [sL, zval]
  · rw [if_neg hbj]
    simp [sL, hbj]
theorem zz_getN {ρ : Type} {X : zCx} {M : zMr} {A : (Nat → Prop) × String} {Q : zCx → ρ × zSt → State → Prop} {G : zGw} {cs : Nat × Nat} {res : ρ × zSt} {S : zSt} {pc : Nat} {ls : List (Option Value)} {st : List Value} {f : Option (ρ × zSt)} {C : String} {T : u_T} {N idx : Nat} {v : Value} (kp ci j : Nat) (hsh : G.2.1 kp = some (.inl ci)) (hc : zcl[ci]? = some (C, T, N)) (hin : ∀ w ∈ u_ws C T N, w ∈ lw_all) (hj : j < N) (hl : (M.1, idx, (T j).1, (T j).2.1, (T j).2.2.1, "HiddenCube") ∈ znF) (hv : zval (zft ci j) G.1 (G.2.2.1 kp j) (S.1 kp j) (S.2 kp j) = v) (d : decode M.2.1 pc = .ok (.getfield idx, 3)) (k : Zz X M A Q G cs res S (pc + 3) ls (v :: st) f) : Zz X M A Q G cs res S pc ls (.ref (G.1 kp) :: st) f := by
  intro hf ho hA H locs la hp hl1 hS
  obtain ⟨cell, q1, q2, q3, q4⟩ := zhp_obj hp hsh hc
  obtain ⟨hS1, hfc, kC, hkC, hkind⟩ := ho.2.2.2.2.2.2.2.2.1 ci _ hc
  obtain ⟨cf, kf, fi, f, hi, hsl⟩ := hS1 j hj
  refine va_Wgetf ho.1 ho.2.1 ho.2.2.2.1 (va_Nw.use rfl (ho.2.2.2.2.2.1.1.1 _ hl)) hi (u_facts hfc hkC (u_lays ho.2.2.2.2.1 hin hj) hi).1 q1 (by rw [q3]; exact fun h => by cases h) (v := v) ?_ rfl rfl d (k hf ho hA H locs la hp hl1 hS)
  rw [hsl]
  exact (q4 j hj).trans (congrArg some hv)
theorem zz_putIN {ρ : Type} {X : zCx} {M : zMr} {A : (Nat → Prop) × String} {Q : zCx → ρ × zSt → State → Prop} {G : zGw} {cs : Nat × Nat} {res : ρ × zSt} {S : zSt} {pc : Nat} {ls : List (Option Value)} {st : List Value} {f : Option (ρ × zSt)} {C : String} {T : u_T} {N idx : Nat} {x : Int32} (ty0 : Nat → FieldType) (kp ci j : Nat) (hsh : G.2.1 kp = some (.inl ci)) (hc : zcl[ci]? = some (C, T, N)) (hin : ∀ w ∈ u_ws C T N, w ∈ lw_all) (hty : ∀ k, k < N → parseFieldDescriptor (T k).2.2.1 = some (ty0 k)) (hnm : ∀ b, b < N → b ≠ j → (T j).2.1 ≠ (T b).2.1) (hj : j < N) (hl : (M.1, idx, (T j).1, (T j).2.1, (T j).2.2.1, "HiddenCube") ∈ znF) (hfin : (T j).2.2.2 = false) (h0 : ty0 j = .int) (h1 : zft ci j = .int) (d : decode M.2.1 pc = .ok (.putfield idx, 3)) (k : Zz X M A Q G cs res (sI S kp j x) (pc + 3) ls st f) : Zz X M A Q G cs res S pc ls (.int x :: .ref (G.1 kp) :: st) f := by
  intro hf ho hA H locs la hp hl1 hS
  have hK := zkn_K ho.2.2.2.2.2.2.2.2.1
  have hap := zapart ho.2.2.2.2.1 hin ty0 hty hj hnm hK hc
  obtain ⟨cell, q1, q2, q3, q4⟩ := zhp_obj hp hsh hc
  obtain ⟨hS1, hfc, kC, hkC, hkind⟩ := ho.2.2.2.2.2.2.2.2.1 ci _ hc
  obtain ⟨cf, kf, fi, f, hi, hsl⟩ := hS1 j hj
  have hlay := ho.2.2.2.2.1 _ (hin _ (u_in_lay hj))
  unfold u_lay at hlay
  rw [if_neg (by rw [hfin]; decide)] at hlay
  have hst := (u_facts hfc hkC (u_lays ho.2.2.2.2.1 hin hj) hi).1
  have h6 := u_store hfc hkC hkind hlay hi ((hty j hj).trans (congrArg some h0)) (v := .int x) rfl rfl
  have hne : G.2.1 kp ≠ none := by rw [hsh]; simp
  refine va_WputK ho.1 ho.2.1 (f := f) ho.2.2.2.1 (va_Nw.use rfl (ho.2.2.2.2.2.1.1.1 _ hl)) hi hst (by rw [q2]; exact h6) q1 q3 (by rw [hsl]; exact k2_hasslot (q4 j hj)) rfl rfl d fun H' e1 e2 e3 => ?_
  rw [hsl] at e1 ⊢
  refine k hf ho hA H' _ la (zhp_set ho.2.2.2.2.2.2.2.2.2.1 hne hp e3 (fun a ha => sI_ne ha) (fun a ha => rfl) ?_) hl1 (hS.put e2 e3 (hA.1 _ hne))
  unfold zcellIs
  rw [hsh]
  refine ⟨_, hc, t_OB.to ⟨_, e1, q2, q3, zt_set q4 hap hj (.int x)⟩ (fun b hb => ?_)⟩
  unfold updV
  by_cases hbj : b = j
  · subst hbj
    rw [if_pos rfl, h1]
    simp [sI, zval]
  · rw [if_neg hbj]
    simp [sI, hbj]
theorem zz_putLN {ρ : Type} {X : zCx} {M : zMr} {A : (Nat → Prop) × String} {Q : zCx → ρ × zSt → State → Prop} {G : zGw} {cs : Nat × Nat} {res : ρ × zSt} {S : zSt} {pc : Nat} {ls : List (Option Value)} {st : List Value} {f : Option (ρ × zSt)} {C : String} {T : u_T} {N idx : Nat} {x : Int64} (ty0 : Nat → FieldType) (kp ci j : Nat) (hsh : G.2.1 kp = some (.inl ci)) (hc : zcl[ci]? = some (C, T, N)) (hin : ∀ w ∈ u_ws C T N, w ∈ lw_all) (hty : ∀ k, k < N → parseFieldDescriptor (T k).2.2.1 = some (ty0 k)) (hnm : ∀ b, b < N → b ≠ j → (T j).2.1 ≠ (T b).2.1) (hj : j < N) (hl : (M.1, idx, (T j).1, (T j).2.1, (T j).2.2.1, "HiddenCube") ∈ znF) (hfin : (T j).2.2.2 = false) (h0 : ty0 j = .long) (h1 : zft ci j = .long) (d : decode M.2.1 pc = .ok (.putfield idx, 3)) (k : Zz X M A Q G cs res (sL S kp j x) (pc + 3) ls st f) : Zz X M A Q G cs res S pc ls (.long x :: .ref (G.1 kp) :: st) f := by
  intro hf ho hA H locs la hp hl1 hS
  have hK := zkn_K ho.2.2.2.2.2.2.2.2.1
  have hap := zapart ho.2.2.2.2.1 hin ty0 hty hj hnm hK hc
  obtain ⟨cell, q1, q2, q3, q4⟩ := zhp_obj hp hsh hc
  obtain ⟨hS1, hfc, kC, hkC, hkind⟩ := ho.2.2.2.2.2.2.2.2.1 ci _ hc
  obtain ⟨cf, kf, fi, f, hi, hsl⟩ := hS1 j hj
  have hlay := ho.2.2.2.2.1 _ (hin _ (u_in_lay hj))
  unfold u_lay at hlay
  rw [if_neg (by rw [hfin]; decide)] at hlay
  have hst := (u_facts hfc hkC (u_lays ho.2.2.2.2.1 hin hj) hi).1
  have h6 := u_store hfc hkC hkind hlay hi ((hty j hj).trans (congrArg some h0)) (v := .long x) rfl rfl
  have hne : G.2.1 kp ≠ none := by rw [hsh]; simp
  refine va_WputK ho.1 ho.2.1 (f := f) ho.2.2.2.1 (va_Nw.use rfl (ho.2.2.2.2.2.1.1.1 _ hl)) hi hst (by rw [q2]; exact h6) q1 q3 (by rw [hsl]; exact k2_hasslot (q4 j hj)) rfl rfl d fun H' e1 e2 e3 => ?_
  rw [hsl] at e1 ⊢
  refine k hf ho hA H' _ la (zhp_set ho.2.2.2.2.2.2.2.2.2.1 hne hp e3 (fun a ha => rfl) (fun a ha => sL_ne ha) ?_) hl1 (hS.put e2 e3 (hA.1 _ hne))
  unfold zcellIs
  rw [hsh]
  refine ⟨_, hc, t_OB.to ⟨_, e1, q2, q3, zt_set q4 hap hj (.long x)⟩ (fun b hb => ?_)⟩
  unfold updV
  by_cases hbj : b = j
  · subst hbj
    rw [if_pos rfl, h1]
    simp [sL, zval]
  · rw [if_neg hbj]
    simp [sL, hbj]
theorem zz_iaload {ρ : Type} {X : zCx} {M : zMr} {A : (Nat → Prop) × String} {Q : zCx → ρ × zSt → State → Prop} {G : zGw} {cs : Nat × Nat} {res : ρ × zSt} {S : zSt} {pc : Nat} {ls : List (Option Value)} {st : List Value} {f : Option (ρ × zSt)} {i : Int32} (kp n : Nat) (hsh : G.2.1 kp = some (.inr (n, .int))) (hin : vp_in i n) (d : decode M.2.1 pc = .ok (.iaload, 1)) (k : Zz X M A Q G cs res S (pc + 1) ls (.int (S.1 kp i.toNatClampNeg) :: st) f) : Zz X M A Q G cs res S pc ls (.int i :: .ref (G.1 kp) :: st) f := by
  intro hf ho hA H locs la hp hl hS
  obtain ⟨cA, r1, r2, r3⟩ := zhp_arr hp hsh
  have hlt : i.toNatClampNeg < n := Nat.not_le.mp fun q => hin (Or.inr q)
  exact W.iald (v := .int (S.1 kp i.toNatClampNeg)) ho.1 ho.2.1 r1 (r2 n _) (fun q => by cases q) (by show ¬ (i < 0 ∨ (arrV _ _ _).slots.size ≤ _); rw [arrV_size]; exact hin) (arrV_read _ _ hlt) rfl rfl d (k hf ho hA H locs la hp hl hS)
theorem zz_baload {ρ : Type} {X : zCx} {M : zMr} {A : (Nat → Prop) × String} {Q : zCx → ρ × zSt → State → Prop} {G : zGw} {cs : Nat × Nat} {res : ρ × zSt} {S : zSt} {pc : Nat} {ls : List (Option Value)} {st : List Value} {f : Option (ρ × zSt)} {i : Int32} (kp n : Nat) (hsh : G.2.1 kp = some (.inr (n, .byte))) (hin : vp_in i n) (d : decode M.2.1 pc = .ok (.baload, 1)) (k : Zz X M A Q G cs res S (pc + 1) ls (.int (S.1 kp i.toNatClampNeg) :: st) f) : Zz X M A Q G cs res S pc ls (.int i :: .ref (G.1 kp) :: st) f := by
  intro hf ho hA H locs la hp hl hS
  obtain ⟨cA, r1, r2, r3⟩ := zhp_arr hp hsh
  have hlt : i.toNatClampNeg < n := Nat.not_le.mp fun q => hin (Or.inr q)
  exact W.bald (v := .int (S.1 kp i.toNatClampNeg)) ho.1 ho.2.1 r1 (r2 n _) (fun q => by cases q) (by show ¬ (i < 0 ∨ (arrV _ _ _).slots.size ≤ _); rw [arrV_size]; exact hin) (arrV_read _ _ hlt) rfl rfl d (k hf ho hA H locs la hp hl hS)
theorem zz_zaload {ρ : Type} {X : zCx} {M : zMr} {A : (Nat → Prop) × String} {Q : zCx → ρ × zSt → State → Prop} {G : zGw} {cs : Nat × Nat} {res : ρ × zSt} {S : zSt} {pc : Nat} {ls : List (Option Value)} {st : List Value} {f : Option (ρ × zSt)} {i : Int32} (kp n : Nat) (hsh : G.2.1 kp = some (.inr (n, .boolean))) (hin : vp_in i n) (d : decode M.2.1 pc = .ok (.baload, 1)) (k : Zz X M A Q G cs res S (pc + 1) ls (.int (S.1 kp i.toNatClampNeg) :: st) f) : Zz X M A Q G cs res S pc ls (.int i :: .ref (G.1 kp) :: st) f := by
  intro hf ho hA H locs la hp hl hS
  obtain ⟨cA, r1, r2, r3⟩ := zhp_arr hp hsh
  have hlt : i.toNatClampNeg < n := Nat.not_le.mp fun q => hin (Or.inr q)
  exact W.zald (v := .int (S.1 kp i.toNatClampNeg)) ho.1 ho.2.1 r1 (r2 n _) (fun q => by cases q) (by show ¬ (i < 0 ∨ (arrV _ _ _).slots.size ≤ _); rw [arrV_size]; exact hin) (arrV_read _ _ hlt) rfl rfl d (k hf ho hA H locs la hp hl hS)
theorem zz_saload {ρ : Type} {X : zCx} {M : zMr} {A : (Nat → Prop) × String} {Q : zCx → ρ × zSt → State → Prop} {G : zGw} {cs : Nat × Nat} {res : ρ × zSt} {S : zSt} {pc : Nat} {ls : List (Option Value)} {st : List Value} {f : Option (ρ × zSt)} {i : Int32} (kp n : Nat) (hsh : G.2.1 kp = some (.inr (n, .short))) (hin : vp_in i n) (d : decode M.2.1 pc = .ok (.saload, 1)) (k : Zz X M A Q G cs res S (pc + 1) ls (.int (S.1 kp i.toNatClampNeg) :: st) f) : Zz X M A Q G cs res S pc ls (.int i :: .ref (G.1 kp) :: st) f := by
  intro hf ho hA H locs la hp hl hS
  obtain ⟨cA, r1, r2, r3⟩ := zhp_arr hp hsh
  have hlt : i.toNatClampNeg < n := Nat.not_le.mp fun q => hin (Or.inr q)
  exact W.sald (v := .int (S.1 kp i.toNatClampNeg)) ho.1 ho.2.1 r1 (r2 n _) (fun q => by cases q) (by show ¬ (i < 0 ∨ (arrV _ _ _).slots.size ≤ _); rw [arrV_size]; exact hin) (arrV_read _ _ hlt) rfl rfl d (k hf ho hA H locs la hp hl hS)
theorem zz_laload {ρ : Type} {X : zCx} {M : zMr} {A : (Nat → Prop) × String} {Q : zCx → ρ × zSt → State → Prop} {G : zGw} {cs : Nat × Nat} {res : ρ × zSt} {S : zSt} {pc : Nat} {ls : List (Option Value)} {st : List Value} {f : Option (ρ × zSt)} {i : Int32} (kp n : Nat) (hsh : G.2.1 kp = some (.inr (n, .long))) (hin : vp_in i n) (d : decode M.2.1 pc = .ok (.laload, 1)) (k : Zz X M A Q G cs res S (pc + 1) ls (.long (S.2 kp i.toNatClampNeg) :: st) f) : Zz X M A Q G cs res S pc ls (.int i :: .ref (G.1 kp) :: st) f := by
  intro hf ho hA H locs la hp hl hS
  obtain ⟨cA, r1, r2, r3⟩ := zhp_arr hp hsh
  have hlt : i.toNatClampNeg < n := Nat.not_le.mp fun q => hin (Or.inr q)
  exact W.lald (v := .long (S.2 kp i.toNatClampNeg)) ho.1 ho.2.1 r1 (r2 n _) (fun q => by cases q) (by show ¬ (i < 0 ∨ (arrV _ _ _).slots.size ≤ _); rw [arrV_size]; exact hin) (arrV_read _ _ hlt) rfl rfl d (k hf ho hA H locs la hp hl hS)
theorem zz_iastore {ρ : Type} {X : zCx} {M : zMr} {A : (Nat → Prop) × String} {Q : zCx → ρ × zSt → State → Prop} {G : zGw} {cs : Nat × Nat} {res : ρ × zSt} {S : zSt} {pc : Nat} {ls : List (Option Value)} {st : List Value} {f : Option (ρ × zSt)} {i : Int32} {x : Int32} (kp n : Nat) (hsh : G.2.1 kp = some (.inr (n, .int))) (hin : vp_in i n) (d : decode M.2.1 pc = .ok (.iastore, 1)) (k : Zz X M A Q G cs res (sI S kp i.toNatClampNeg x) (pc + 1) ls st f) : Zz X M A Q G cs res S pc ls (.int x :: .int i :: .ref (G.1 kp) :: st) f := by
  intro hf ho hA H locs la hp hl hS
  obtain ⟨cA, r1, r2, r3⟩ := zhp_arr hp hsh
  have hne : G.2.1 kp ≠ none := by rw [hsh]; simp
  refine W.iast ho.1 ho.2.1 r1 (r2 n _) (fun q => by cases q) (by show ¬ (i < 0 ∨ (arrV _ _ _).slots.size ≤ _); rw [arrV_size]; exact hin) rfl rfl d fun H' e z oq => ?_
  refine k hf ho hA H' _ la (zhp_set ho.2.2.2.2.2.2.2.2.2.1 hne hp oq (fun a ha => sI_ne ha) (fun a ha => rfl) ?_) hl (hS.put z oq (hA.1 _ hne))
  unfold zcellIs
  rw [hsh]
  refine ⟨cA, ?_, r2, r3⟩
  rw [e, arrV_store]
  congr 2
  funext b
  unfold updV
  by_cases hb : b = i.toNatClampNeg
  · subst hb
    simp [sI, zval, narrow]
  · simp [sI, hb]
theorem zz_bastore {ρ : Type} {X : zCx} {M : zMr} {A : (Nat → Prop) × String} {Q : zCx → ρ × zSt → State → Prop} {G : zGw} {cs : Nat × Nat} {res : ρ × zSt} {S : zSt} {pc : Nat} {ls : List (Option Value)} {st : List Value} {f : Option (ρ × zSt)} {i : Int32} {x : Int32} (kp n : Nat) (hsh : G.2.1 kp = some (.inr (n, .byte))) (hin : vp_in i n) (d : decode M.2.1 pc = .ok (.bastore, 1)) (k : Zz X M A Q G cs res (sI S kp i.toNatClampNeg x.toInt8.toInt32) (pc + 1) ls st f) : Zz X M A Q G cs res S pc ls (.int x :: .int i :: .ref (G.1 kp) :: st) f := by
  intro hf ho hA H locs la hp hl hS
  obtain ⟨cA, r1, r2, r3⟩ := zhp_arr hp hsh
  have hne : G.2.1 kp ≠ none := by rw [hsh]; simp
  refine W.bast ho.1 ho.2.1 r1 (r2 n _) (fun q => by cases q) (by show ¬ (i < 0 ∨ (arrV _ _ _).slots.size ≤ _); rw [arrV_size]; exact hin) rfl rfl d fun H' e z oq => ?_
  refine k hf ho hA H' _ la (zhp_set ho.2.2.2.2.2.2.2.2.2.1 hne hp oq (fun a ha => sI_ne ha) (fun a ha => rfl) ?_) hl (hS.put z oq (hA.1 _ hne))
  unfold zcellIs
  rw [hsh]
  refine ⟨cA, ?_, r2, r3⟩
  rw [e, arrV_store]
  congr 2
  funext b
  unfold updV
  by_cases hb : b = i.toNatClampNeg
  · subst hb
    simp [sI, zval, narrow]
  · simp [sI, hb]
theorem zz_zastore {ρ : Type} {X : zCx} {M : zMr} {A : (Nat → Prop) × String} {Q : zCx → ρ × zSt → State → Prop} {G : zGw} {cs : Nat × Nat} {res : ρ × zSt} {S : zSt} {pc : Nat} {ls : List (Option Value)} {st : List Value} {f : Option (ρ × zSt)} {i : Int32} {x : Int32} (kp n : Nat) (hsh : G.2.1 kp = some (.inr (n, .boolean))) (hin : vp_in i n) (d : decode M.2.1 pc = .ok (.bastore, 1)) (k : Zz X M A Q G cs res (sI S kp i.toNatClampNeg (x &&& 1)) (pc + 1) ls st f) : Zz X M A Q G cs res S pc ls (.int x :: .int i :: .ref (G.1 kp) :: st) f := by
  intro hf ho hA H locs la hp hl hS
  obtain ⟨cA, r1, r2, r3⟩ := zhp_arr hp hsh
  have hne : G.2.1 kp ≠ none := by rw [hsh]; simp
  refine W.zast ho.1 ho.2.1 r1 (r2 n _) (fun q => by cases q) (by show ¬ (i < 0 ∨ (arrV _ _ _).slots.size ≤ _); rw [arrV_size]; exact hin) rfl rfl d fun H' e z oq => ?_
  refine k hf ho hA H' _ la (zhp_set ho.2.2.2.2.2.2.2.2.2.1 hne hp oq (fun a ha => sI_ne ha) (fun a ha => rfl) ?_) hl (hS.put z oq (hA.1 _ hne))
  unfold zcellIs
  rw [hsh]
  refine ⟨cA, ?_, r2, r3⟩
  rw [e, arrV_store]
  congr 2
  funext b
  unfold updV
  by_cases hb : b = i.toNatClampNeg
  · subst hb
    simp [sI, zval, narrow]
  · simp [sI, hb]
theorem zz_sastore {ρ : Type} {X : zCx} {M : zMr} {A : (Nat → Prop) × String} {Q : zCx → ρ × zSt → State → Prop} {G : zGw} {cs : Nat × Nat} {res : ρ × zSt} {S : zSt} {pc : Nat} {ls : List (Option Value)} {st : List Value} {f : Option (ρ × zSt)} {i : Int32} {x : Int32} (kp n : Nat) (hsh : G.2.1 kp = some (.inr (n, .short))) (hin : vp_in i n) (d : decode M.2.1 pc = .ok (.sastore, 1)) (k : Zz X M A Q G cs res (sI S kp i.toNatClampNeg x.toInt16.toInt32) (pc + 1) ls st f) : Zz X M A Q G cs res S pc ls (.int x :: .int i :: .ref (G.1 kp) :: st) f := by
  intro hf ho hA H locs la hp hl hS
  obtain ⟨cA, r1, r2, r3⟩ := zhp_arr hp hsh
  have hne : G.2.1 kp ≠ none := by rw [hsh]; simp
  refine W.sast ho.1 ho.2.1 r1 (r2 n _) (fun q => by cases q) (by show ¬ (i < 0 ∨ (arrV _ _ _).slots.size ≤ _); rw [arrV_size]; exact hin) rfl rfl d fun H' e z oq => ?_
  refine k hf ho hA H' _ la (zhp_set ho.2.2.2.2.2.2.2.2.2.1 hne hp oq (fun a ha => sI_ne ha) (fun a ha => rfl) ?_) hl (hS.put z oq (hA.1 _ hne))
  unfold zcellIs
  rw [hsh]
  refine ⟨cA, ?_, r2, r3⟩
  rw [e, arrV_store]
  congr 2
  funext b
  unfold updV
  by_cases hb : b = i.toNatClampNeg
  · subst hb
    simp [sI, zval, narrow]
  · simp [sI, hb]
theorem zz_lastore {ρ : Type} {X : zCx} {M : zMr} {A : (Nat → Prop) × String} {Q : zCx → ρ × zSt → State → Prop} {G : zGw} {cs : Nat × Nat} {res : ρ × zSt} {S : zSt} {pc : Nat} {ls : List (Option Value)} {st : List Value} {f : Option (ρ × zSt)} {i : Int32} {x : Int64} (kp n : Nat) (hsh : G.2.1 kp = some (.inr (n, .long))) (hin : vp_in i n) (d : decode M.2.1 pc = .ok (.lastore, 1)) (k : Zz X M A Q G cs res (sL S kp i.toNatClampNeg x) (pc + 1) ls st f) : Zz X M A Q G cs res S pc ls (.long x :: .int i :: .ref (G.1 kp) :: st) f := by
  intro hf ho hA H locs la hp hl hS
  obtain ⟨cA, r1, r2, r3⟩ := zhp_arr hp hsh
  have hne : G.2.1 kp ≠ none := by rw [hsh]; simp
  refine W.last ho.1 ho.2.1 r1 (r2 n _) (fun q => by cases q) (by show ¬ (i < 0 ∨ (arrV _ _ _).slots.size ≤ _); rw [arrV_size]; exact hin) rfl rfl d fun H' e z oq => ?_
  refine k hf ho hA H' _ la (zhp_set ho.2.2.2.2.2.2.2.2.2.1 hne hp oq (fun a ha => rfl) (fun a ha => sL_ne ha) ?_) hl (hS.put z oq (hA.1 _ hne))
  unfold zcellIs
  rw [hsh]
  refine ⟨cA, ?_, r2, r3⟩
  rw [e, arrV_store]
  congr 2
  funext b
  unfold updV
  by_cases hb : b = i.toNatClampNeg
  · subst hb
    simp [sL, zval, narrow]
  · simp [sL, hb]
theorem zz_alen {ρ : Type} {X : zCx} {M : zMr} {A : (Nat → Prop) × String} {Q : zCx → ρ × zSt → State → Prop} {G : zGw} {cs : Nat × Nat} {res : ρ × zSt} {S : zSt} {pc : Nat} {ls : List (Option Value)} {st : List Value} {f : Option (ρ × zSt)} (kp n : Nat) (ty : FieldType) (hsh : G.2.1 kp = some (.inr (n, ty))) {v : Int32} (hv : Int32.ofNat n = v) (d : decode M.2.1 pc = .ok (.arraylength, 1)) (k : Zz X M A Q G cs res S (pc + 1) ls (.int v :: st) f) : Zz X M A Q G cs res S pc ls (.ref (G.1 kp) :: st) f := by
  intro hf ho hA H locs la hp hl hS
  obtain ⟨cA, r1, r2, r3⟩ := zhp_arr hp hsh
  subst hv
  exact W.alen (n := Int32.ofNat n) ho.1 ho.2.1 r1 (r2 n _) (by rw [arrV_size] <;> rfl) rfl rfl d (k hf ho hA H locs la hp hl hS)
theorem zz_callV {ρ ρ' : Type} {X : zCx} {M : zMr} {A : (Nat → Prop) × String} {Q : zCx → ρ × zSt → State → Prop} {G : zGw} {cs : Nat × Nat} {res : ρ × zSt} {S : zSt} {pc : Nat} {ls : List (Option Value)} {Mc : zMr} {yc : MethodName} {injc : ρ' → Option Value} {Fc : zSt → Option (ρ' × zSt)} {k : ρ' × zSt → Option (ρ × zSt)} {idx : Nat} {st : List Value} (As rest : List Value) (kp ci : Nat) (hct : Zc Mc yc injc G (.ref (G.1 kp) :: As) Fc) (hmv : ZV Mc yc As.length) (hl : Cond.methodLink M.1 idx yc ∈ lw_all) (hst : st = As.reverse ++ .ref (G.1 kp) :: rest) (hsh : G.2.1 kp = some (.inl ci)) (hcn : (zcl[ci]?).map Prod.fst = some Mc.1) (hd : Mc.2.2.2.2.1 + 1 ≤ M.2.2.2.2.1) (hL : Mc.2.2.1 ≤ 45) (hz : Mc.2.2.2.2.2 = (0, 0, none)) (hq : zcs cs M = true) (hcat : (rest.map fun v => v.category).sum ≤ 8) (d : decode M.2.1 pc = .ok (.invokevirtual idx, 3))
    (kk : ∀ r S', Zz X M A Q G cs res S' (pc + 3) ls ((injc r).toList ++ rest) (k (r, S'))) : Zz X M A Q G cs res S pc ls st ((Fc S).bind k) := by
  intro hf ho hA H locs la hp hl1 hS
  obtain ⟨⟨r, S'⟩, hF, hf2⟩ := Option.bind_eq_some_iff.mp hf
  obtain ⟨p, l, e, R, s, m, args, below, meth, c⟩ := X
  have hR : R = zRm M := ho.2.2.2.2.2.2.2.2.2.2
  subst hR
  have hz1 : Mc.2.2.2.2.2.1 = 0 := by rw [hz]
  have hz2 : Mc.2.2.2.2.2.2.1 = 0 := by rw [hz]
  have hz3 : Mc.2.2.2.2.2.2.2 = none := by rw [hz]
  have hcwc : zcw Mc yc = Cond.code yc Mc.2.1 Mc.2.2.1 Mc.2.2.2.1 := by unfold zcw; rw [hz3]
  have hctl := hct l S (r, S') H.size ho.2.2.2.2.2.1.2.2.1 hF
  rw [hcwc] at hctl
  subst hst
  obtain ⟨m1, m2, m3, m4, m5, m6, m7, m8⟩ := hmv
  obtain ⟨q, hq1, hq2⟩ := Option.map_eq_some_iff.mp hcn
  obtain ⟨C, T9, N9⟩ := q
  have hC : C = Mc.1 := hq2
  subst hC
  have hob := zhp_obj hp hsh hq1
  have hkn := ho.2.2.2.2.2.2.2.2.1
  have hrec : ∃ cell : Cell, H[G.1 kp]? = some cell ∧ cell.vm.isStatics = false ∧ s.vm.findClass Mc.1 = some cell.cls := by
    obtain ⟨cell, g1, g2, g3, -⟩ := hob
    exact ⟨cell, g1, by rw [g3]; rfl, by rw [g2]; exact (hkn ci _ hq1).2.1⟩
  refine zz_after hA (va_runV (As := As) (rest := rest) ⟨ho.1, ho.2.1, ho.2.2.1, ho.2.2.2.1, ho.2.2.2.2.1⟩ hctl (cwV As.length ho.2.2.2.2.1 (lw_V hl m1 m2 m3 m4) rfl rfl rfl ⟨m5, m6, m7, m8⟩ (z_room hd hL)) ⟨z_blind, hrec, zz_pre hA hp hkn ho.2.2.2.2.2.1.1 ho.2.2.2.2.2.2.2.2.2.1 hS⟩ rfl rfl hl1.1 rfl (lv_room hcat) d ⟨by rw [hz1]; exact zcs1 hq, by rw [hz2]; exact zcs2 hq⟩) hS ?_
  intro H1 locs1 hp1 hS1
  rw [hz1, hz2]
  exact kk r S' hf2 ho hA H1 locs1 la hp1 hl1 hS1
theorem zz_callS {ρ ρ' : Type} {X : zCx} {M : zMr} {A : (Nat → Prop) × String} {Q : zCx → ρ × zSt → State → Prop} {G : zGw} {cs : Nat × Nat} {res : ρ × zSt} {S : zSt} {pc : Nat} {ls : List (Option Value)} {Mc : zMr} {yc : MethodName} {injc : ρ' → Option Value} {Fc : zSt → Option (ρ' × zSt)} {k : ρ' × zSt → Option (ρ × zSt)} {idx : Nat} {st : List Value} (As rest : List Value) (hct : Zc Mc yc injc G As Fc) (hmv : ZS Mc yc As.length) (hl : Cond.methodLink M.1 idx yc ∈ lw_all) (hst : st = As.reverse ++ rest) (hd : Mc.2.2.2.2.1 + 1 ≤ M.2.2.2.2.1) (hL : Mc.2.2.1 ≤ 45) (hz : Mc.2.2.2.2.2 = (0, 0, none)) (hq : zcs cs M = true) (hcat : (rest.map fun v => v.category).sum ≤ 8) (d : decode M.2.1 pc = .ok (.invokestatic idx, 3))
    (kk : ∀ r S', Zz X M A Q G cs res S' (pc + 3) ls ((injc r).toList ++ rest) (k (r, S'))) : Zz X M A Q G cs res S pc ls st ((Fc S).bind k) := by
  intro hf ho hA H locs la hp hl1 hS
  obtain ⟨⟨r, S'⟩, hF, hf2⟩ := Option.bind_eq_some_iff.mp hf
  obtain ⟨p, l, e, R, s, m, args, below, meth, c⟩ := X
  have hR : R = zRm M := ho.2.2.2.2.2.2.2.2.2.2
  subst hR
  have hz1 : Mc.2.2.2.2.2.1 = 0 := by rw [hz]
  have hz2 : Mc.2.2.2.2.2.2.1 = 0 := by rw [hz]
  have hz3 : Mc.2.2.2.2.2.2.2 = none := by rw [hz]
  have hcwc : zcw Mc yc = Cond.code yc Mc.2.1 Mc.2.2.1 Mc.2.2.2.1 := by unfold zcw; rw [hz3]
  have hctl := hct l S (r, S') H.size ho.2.2.2.2.2.1.2.2.1 hF
  rw [hcwc] at hctl
  subst hst
  obtain ⟨m1, m2, m3, m4, m5, m6⟩ := hmv
  have hkn := ho.2.2.2.2.2.2.2.2.1
  refine zz_after hA (va_runS (As := As) (rest := rest) ⟨ho.1, ho.2.1, ho.2.2.1, ho.2.2.2.1, ho.2.2.2.2.1⟩ hctl (va_cwS As.length ho.2.2.2.2.1 (lw_S hl m1 m2 m3) rfl rfl rfl ⟨m4, m5, m6⟩ (z_room hd hL)) ⟨z_blind, zz_pre hA hp hkn ho.2.2.2.2.2.1.1 ho.2.2.2.2.2.2.2.2.2.1 hS⟩ rfl rfl hl1.1 rfl (lv_room hcat) d ⟨by rw [hz1]; exact zcs1 hq, by rw [hz2]; exact zcs2 hq⟩) hS ?_
  intro H1 locs1 hp1 hS1
  rw [hz1, hz2]
  exact kk r S' hf2 ho hA H1 locs1 la hp1 hl1 hS1
theorem zz_callSN {ρ ρ' : Type} {X : zCx} {M : zMr} {A : (Nat → Prop) × String} {Q : zCx → ρ × zSt → State → Prop} {G : zGw} {cs : Nat × Nat} {res : ρ × zSt} {S : zSt} {pc : Nat} {ls : List (Option Value)} {Mc : zMr} {yc : MethodName} {injc : ρ' → Option Value} {Fc : zSt → Option (ρ' × zSt)} {k : ρ' × zSt → Option (ρ × zSt)} {idx : Nat} {st : List Value} (As rest : List Value) (hct : Zc Mc yc injc G As Fc) (hmv : ZS Mc yc As.length) (hl : (M.1, idx, yc, "HiddenCube") ∈ znM) (hst : st = As.reverse ++ rest) (hd : Mc.2.2.2.2.1 + 1 ≤ M.2.2.2.2.1) (hL : Mc.2.2.1 ≤ 45) (hz : Mc.2.2.2.2.2 = (0, 0, none)) (hq : zcs cs M = true) (hcat : (rest.map fun v => v.category).sum ≤ 8) (d : decode M.2.1 pc = .ok (.invokestatic idx, 3))
    (kk : ∀ r S', Zz X M A Q G cs res S' (pc + 3) ls ((injc r).toList ++ rest) (k (r, S'))) : Zz X M A Q G cs res S pc ls st ((Fc S).bind k) := by
  intro hf ho hA H locs la hp hl1 hS
  obtain ⟨⟨r, S'⟩, hF, hf2⟩ := Option.bind_eq_some_iff.mp hf
  obtain ⟨p, l, e, R, s, m, args, below, meth, c⟩ := X
  have hR : R = zRm M := ho.2.2.2.2.2.2.2.2.2.2
  subst hR
  have hz1 : Mc.2.2.2.2.2.1 = 0 := by rw [hz]
  have hz2 : Mc.2.2.2.2.2.2.1 = 0 := by rw [hz]
  have hz3 : Mc.2.2.2.2.2.2.2 = none := by rw [hz]
  have hcwc : zcw Mc yc = Cond.code yc Mc.2.1 Mc.2.2.1 Mc.2.2.2.1 := by unfold zcw; rw [hz3]
  have hctl := hct l S (r, S') H.size ho.2.2.2.2.2.1.2.2.1 hF
  rw [hcwc] at hctl
  subst hst
  obtain ⟨m1, m2, m3, m4, m5, m6⟩ := hmv
  have hkn := ho.2.2.2.2.2.2.2.2.1
  have hts := ho.2.2.2.2.1
  refine zz_after hA (va_runSN (As := As) (rest := rest) ⟨ho.1, ho.2.1, ho.2.2.1, ho.2.2.2.1, hts⟩ hctl ⟨va_cnB As.length hts (lw_meth m3) rfl rfl rfl (ho.2.2.2.2.2.1.1.2.1 _ hl) (hts _ m2) ⟨m4, m5, m6⟩ (z_room hd hL), hts _ m1, trivial⟩ ⟨z_blind, zz_pre hA hp hkn ho.2.2.2.2.2.1.1 ho.2.2.2.2.2.2.2.2.2.1 hS⟩ rfl rfl hl1.1 rfl (lv_room hcat) d ⟨by rw [hz1]; exact zcs1 hq, by rw [hz2]; exact zcs2 hq⟩) hS ?_
  intro H1 locs1 hp1 hS1
  rw [hz1, hz2]
  exact kk r S' hf2 ho hA H1 locs1 la hp1 hl1 hS1
theorem zz_join {κ : Type} {ρ : Type} {X : zCx} {M : zMr} {A : (Nat → Prop) × String} {Q : zCx → ρ × zSt → State → Prop} {G : zGw} {cs : Nat × Nat} {res : ρ × zSt} {S : zSt} {pc : Nat} {ls : List (Option Value)} {st : List Value} {k : κ} {e : κ → Option (ρ × zSt)} (P : κ → Prop) (hk : P k) (he : ∀ j : κ, P j → Zz X M A Q G cs res S pc ls st (e j)) : Zz X M A Q G cs res S pc ls st (joinK k e) := he k hk
theorem zz_maskk {ρ : Type} {X : zCx} {M : zMr} {A : (Nat → Prop) × String} {Q : zCx → ρ × zSt → State → Prop} {G : zGw} {cs : Nat × Nat} {res : ρ × zSt} {S : zSt} {pc : Nat} {ls : List (Option Value)} {st : List Value} {f : Option (ρ × zSt)} (m : List Bool) (k : Zz X M A Q G cs res S pc (lmask m ls) st f) : Zz X M A Q G cs res S pc ls st f := fun hf ho hA H locs la hp hl hS => k hf ho hA H locs la hp ⟨hl.1, hl.2.1, fun i v hv => hl.2.2 i v (lmask_get m ls i v hv)⟩ hS
theorem zz_mask {ρ : Type} {X : zCx} {M : zMr} {A : (Nat → Prop) × String} {Q : zCx → ρ × zSt → State → Prop} {G : zGw} {cs : Nat × Nat} {res : ρ × zSt} {S : zSt} {pc : Nat} {ls : List (Option Value)} {st : List Value} {f : Option (ρ × zSt)} {ls' : List (Option Value)} (m : List Bool) (k : Zz X M A Q G cs res S pc ls' st f) (e : lmask m ls = ls') : Zz X M A Q G cs res S pc ls st f := zz_maskk m (e ▸ k)
theorem zz_pure {ρ : Type} {X : zCx} {M : zMr} {A : (Nat → Prop) × String} {Q : zCx → ρ × zSt → State → Prop} {G : zGw} {cs : Nat × Nat} {res : ρ × zSt} {S : zSt} {pc : Nat} {ls : List (Option Value)} {st : List Value} {f : Option (ρ × zSt)} {st0 : List Value} (pcJ : Nat) (E : Int32) (hJ : Zz X M A Q G cs res S pcJ ls (.int E :: st0) f) (hw : Zz X M A Q G cs res S pcJ ls (.int E :: st0) f → Zz X M A Q G cs res S pc ls st f) : Zz X M A Q G cs res S pc ls st f := hw hJ
theorem zz_leaf {ρ : Type} {X : zCx} {M : zMr} {A : (Nat → Prop) × String} {Q : zCx → ρ × zSt → State → Prop} {G : zGw} {cs : Nat × Nat} {res : ρ × zSt} {S : zSt} {pc : Nat} {ls : List (Option Value)} {st : List Value} {f : Option (ρ × zSt)} {E x : Int32} (hJ : Zz X M A Q G cs res S pc ls (.int E :: st) f) (h : E = x) : Zz X M A Q G cs res S pc ls (.int x :: st) f := h ▸ hJ
theorem zz_letI {ρ : Type} {X : zCx} {M : zMr} {A : (Nat → Prop) × String} {Q : zCx → ρ × zSt → State → Prop} {G : zGw} {cs : Nat × Nat} {res : ρ × zSt} {S : zSt} {pc : Nat} {ls : List (Option Value)} {st : List Value} {v : Int32} {g : Int32 → Option (ρ × zSt)} (k : ∀ w, Zz X M A Q G cs res S pc ls (.int w :: st) (g w)) : Zz X M A Q G cs res S pc ls (.int v :: st) (zlet v g) := k v
theorem zz_letI2 {ρ : Type} {X : zCx} {M : zMr} {A : (Nat → Prop) × String} {Q : zCx → ρ × zSt → State → Prop} {G : zGw} {cs : Nat × Nat} {res : ρ × zSt} {S : zSt} {pc : Nat} {ls : List (Option Value)} {st : List Value} {v : Int32} {u : Value} {g : Int32 → Option (ρ × zSt)} (k : ∀ w, Zz X M A Q G cs res S pc ls (u :: .int w :: st) (g w)) : Zz X M A Q G cs res S pc ls (u :: .int v :: st) (zlet v g) := k v
theorem zz_letL {ρ : Type} {X : zCx} {M : zMr} {A : (Nat → Prop) × String} {Q : zCx → ρ × zSt → State → Prop} {G : zGw} {cs : Nat × Nat} {res : ρ × zSt} {S : zSt} {pc : Nat} {ls : List (Option Value)} {st : List Value} {v : Int64} {g : Int64 → Option (ρ × zSt)} (k : ∀ w, Zz X M A Q G cs res S pc ls (.long w :: st) (g w)) : Zz X M A Q G cs res S pc ls (.long v :: st) (zlet v g) := k v
theorem zz_letS {ρ : Type} {X : zCx} {M : zMr} {A : (Nat → Prop) × String} {Q : zCx → ρ × zSt → State → Prop} {G : zGw} {cs : Nat × Nat} {res : ρ × zSt} {S : zSt} {pc : Nat} {ls : List (Option Value)} {st : List Value} {g : zSt → Option (ρ × zSt)} (k : ∀ w, Zz X M A Q G cs res w pc ls st (g w)) : Zz X M A Q G cs res S pc ls st (zlet S g) := k S
theorem zz_ldcw {ρ : Type} {X : zCx} {M : zMr} {A : (Nat → Prop) × String} {Q : zCx → ρ × zSt → State → Prop} {G : zGw} {cs : Nat × Nat} {res : ρ × zSt} {S : zSt} {pc : Nat} {ls : List (Option Value)} {st : List Value} {f : Option (ρ × zSt)} {i : Nat} {v : Int32} (d : decode M.2.1 pc = .ok (.ldc_w i, 3)) (hc : Jvm.Cond.constant M.1 i v ∈ lw_all) (k : Zz X M A Q G cs res S (pc + 3) ls (.int v :: st) f) : Zz X M A Q G cs res S pc ls st f :=
  fun hf ho hA H locs la hp hl hS => lv_ldcw ho.1 ho.2.1 ho.2.2.2.1 (ho.2.2.2.2.1 _ hc) d (k hf ho hA H locs la hp hl hS)
theorem zz_acopyT {ρ : Type} {X : zCx} {M : zMr} {A : (Nat → Prop) × String} {Q : zCx → ρ × zSt → State → Prop} {G : zGw} {cs : Nat × Nat} {res : ρ × zSt} {S : zSt} {pc : Nat} {ls : List (Option Value)} {st : List Value} {f : Option (ρ × zSt)} {idx : Nat} {sp dp n : Int32} {ty : FieldType} (ka kb n0 n1 : Nat) (ha : G.2.1 ka = some (.inr (n0, ty))) (hb : G.2.1 kb = some (.inr (n1, ty))) (hty : ∀ ad r i l, zval ty ad r i l = .int i) (hprim : refKind ty = false) (hab : ka ≠ kb) (hl : Cond.methodLink M.1 idx arraycopyName ∈ lw_all) (hr : 2 ≤ M.2.2.2.2.1) (hcat : (st.map fun v => v.category).sum ≤ 8) (d : decode M.2.1 pc = .ok (.invokestatic idx, 3)) (hfit : ∀ i, i < n.toNatClampNeg → fits ty (.int (S.1 ka (sp.toNatClampNeg + i))) = true) (k : Zz X M A Q G cs res (cpI S ka sp.toNatClampNeg kb dp.toNatClampNeg n.toNatClampNeg) (pc + 3) ls st f) : Zz X M A Q G cs res S pc ls (.int n :: .int dp :: .ref (G.1 kb) :: .int sp :: .ref (G.1 ka) :: st) (acopy n0 n1 sp dp n f) := by
  intro hf ho hA H locs la hp hl1 hS
  unfold acopy at hf
  by_cases hc : sp < 0 ∨ dp < 0 ∨ n < 0 ∨ n0 < sp.toNatClampNeg + n.toNatClampNeg ∨ n1 < dp.toNatClampNeg + n.toNatClampNeg
  · rw [if_pos hc] at hf; cases hf
  rw [if_neg hc] at hf
  obtain ⟨cA, r1, r2, r3⟩ := zhp_arr hp ha
  obtain ⟨cB, r4, r5, r6⟩ := zhp_arr hp hb
  simp only [hty] at r1 r4
  have hneB : G.2.1 kb ≠ none := by rw [hb]; simp
  have hts := ho.2.2.2.2.1
  have hR : X.2.2.2.1 = zRm M := ho.2.2.2.2.2.2.2.2.2.2
  have hw : nativeFrameWords "java/lang/System" "arraycopy" 5 ≤ 60 := by decide +kernel
  refine w_acopyI ho.1 ho.2.1 (by rw [ho.2.2.1]; exact hl1.1.symm) ho.2.2.2.1 (hts _ hl) (hts _ q962) (hts _ q961) (hts _ q168) r1 r4 r2 r5 hprim (fun z => hc (Or.inl z)) (fun z => hc (Or.inr (Or.inl z))) (fun z => hc (Or.inr (Or.inr (Or.inl z)))) (by omega) (by omega) hfit (by rw [hR]; show 1 ≤ M.2.2.2.2.1; omega) (by rw [hR]; show _ ≤ 64 * M.2.2.2.2.1; omega) d ?_
  intro H1 L hL e1 e2 e3
  refine k hf ho hA H1 (locs ++ L) la (zhp_set ho.2.2.2.2.2.2.2.2.2.1 hneB hp e3 (fun a q => by funext b; simp [cpI, q]) (fun a q => rfl) ?_) hl1 ⟨by rw [e2]; exact hS.1, fun q h1 h2 => by
      rw [e3 q (fun z => h2 (by rw [z]; exact hA.1 _ hneB))]
      exact hS.2.1 q h1 h2, fun q hq => by
      rcases List.mem_append.mp hq with h | h
      · exact hS.2.2 q h
      · rw [hL q h]; exact hA.1 _ hneB⟩
  unfold zcellIs
  rw [hb]
  refine ⟨cB, ?_, r5, r6⟩
  rw [e1]
  congr 2
  funext j
  rw [hty]
  simp only [cpI, va_cpy, if_true]
theorem zz_acopyI {ρ : Type} {X : zCx} {M : zMr} {A : (Nat → Prop) × String} {Q : zCx → ρ × zSt → State → Prop} {G : zGw} {cs : Nat × Nat} {res : ρ × zSt} {S : zSt} {pc : Nat} {ls : List (Option Value)} {st : List Value} {f : Option (ρ × zSt)} {idx : Nat} {sp dp n : Int32} (ka kb n0 n1 : Nat) (ha : G.2.1 ka = some (.inr (n0, .int))) (hb : G.2.1 kb = some (.inr (n1, .int))) (hab : ka ≠ kb) (hl : Cond.methodLink M.1 idx arraycopyName ∈ lw_all) (hr : 2 ≤ M.2.2.2.2.1) (hcat : (st.map fun v => v.category).sum ≤ 8) (d : decode M.2.1 pc = .ok (.invokestatic idx, 3)) (k : Zz X M A Q G cs res (cpI S ka sp.toNatClampNeg kb dp.toNatClampNeg n.toNatClampNeg) (pc + 3) ls st f) : Zz X M A Q G cs res S pc ls (.int n :: .int dp :: .ref (G.1 kb) :: .int sp :: .ref (G.1 ka) :: st) (acopy n0 n1 sp dp n f) := zz_acopyT ka kb n0 n1 ha hb (fun _ _ _ _ => rfl) rfl hab hl hr hcat d (fun _ _ => rfl) k
theorem zz_switch {ρ : Type} {X : zCx} {M : zMr} {A : (Nat → Prop) × String} {Q : zCx → ρ × zSt → State → Prop} {G : zGw} {cs : Nat × Nat} {res : ρ × zSt} {S : zSt} {pc : Nat} {ls : List (Option Value)} {st : List Value} {x : Int32} {dflt : Int} {offs : Array Int} {len n : Nat} {fs : Nat → Option (ρ × zSt)} {dd : Option (ρ × zSt)} (hi : Int) (tgtd : Nat) (d : decode M.2.1 pc = .ok (.tableswitch dflt 0 hi offs, len)) (hn : hi + 1 = (n : Int)) (ht : (pc : Int) + dflt = (tgtd : Int)) (kd : Zz X M A Q G cs res S tgtd ls st dd) (kc : ∀ i, i < n → ∃ (off : Int) (tgt : Nat), offs[i]? = some off ∧ (pc : Int) + off = (tgt : Int) ∧ Zz X M A Q G cs res S tgt ls st (fs i)) : Zz X M A Q G cs res S pc ls (.int x :: st) (zsw x n fs dd) := by
  intro hf ho hA H locs la hp hl hS
  unfold zsw at hf
  have e1 : x.toNatClampNeg = x.toInt.toNat := rfl
  by_cases h : x < 0 ∨ n ≤ x.toNatClampNeg
  · rw [if_pos h] at hf
    refine lv_tableOut ho.1 ho.2.1 d ?_ ht (kd hf ho hA H locs la hp hl hS)
    rcases h with h | h
    · left
      have := Int32.lt_iff_toInt_lt.mp h
      simpa using this
    · rw [e1] at h
      by_cases q : x.toInt < 0
      · exact Or.inl q
      · exact Or.inr (by omega)
  · rw [if_neg h] at hf
    have h0 : ¬ x.toInt < 0 := fun q => h (Or.inl (Int32.lt_iff_toInt_lt.mpr (by simpa using q)))
    have h1 : x.toNatClampNeg < n := Nat.not_le.mp (fun q => h (Or.inr q))
    obtain ⟨off, tgt, h2, h3, h4⟩ := kc _ h1
    refine lv_tableIn ho.1 ho.2.1 d h0 (by rw [e1] at h1; omega) (off := off) ?_ h3 (h4 hf ho hA H locs la hp hl hS)
    rw [Int.sub_zero, ← e1]
    exact h2
theorem zz_switch9 {ρ : Type} {X : zCx} {M : zMr} {A : (Nat → Prop) × String} {Q : zCx → ρ × zSt → State → Prop} {G : zGw} {cs : Nat × Nat} {res : ρ × zSt} {S : zSt} {pc : Nat} {ls : List (Option Value)} {st : List Value} {x : Int32} {dflt : Int} {o0 o1 o2 o3 o4 o5 o6 o7 o8 : Int} {len : Nat} {f0 f1 f2 f3 f4 f5 f6 f7 f8 dd : Option (ρ × zSt)} (tgtd t0 t1 t2 t3 t4 t5 t6 t7 t8 : Nat) (d : decode M.2.1 pc = .ok (.tableswitch dflt 0 8 #[o0, o1, o2, o3, o4, o5, o6, o7, o8], len)) (ht : (pc : Int) + dflt = (tgtd : Int)) (e0 : (pc : Int) + o0 = (t0 : Int)) (e1 : (pc : Int) + o1 = (t1 : Int)) (e2 : (pc : Int) + o2 = (t2 : Int)) (e3 : (pc : Int) + o3 = (t3 : Int)) (e4 : (pc : Int) + o4 = (t4 : Int)) (e5 : (pc : Int) + o5 = (t5 : Int)) (e6 : (pc : Int) + o6 = (t6 : Int)) (e7 : (pc : Int) + o7 = (t7 : Int)) (e8 : (pc : Int) + o8 = (t8 : Int)) (kd : Zz X M A Q G cs res S tgtd ls st dd) (k0 : Zz X M A Q G cs res S t0 ls st f0) (k1 : Zz X M A Q G cs res S t1 ls st f1) (k2 : Zz X M A Q G cs res S t2 ls st f2) (k3 : Zz X M A Q G cs res S t3 ls st f3) (k4 : Zz X M A Q G cs res S t4 ls st f4) (k5 : Zz X M A Q G cs res S t5 ls st f5) (k6 : Zz X M A Q G cs res S t6 ls st f6) (k7 : Zz X M A Q G cs res S t7 ls st f7) (k8 : Zz X M A Q G cs res S t8 ls st f8) : Zz X M A Q G cs res S pc ls (.int x :: st) (zsw x 9 (zs9 f0 f1 f2 f3 f4 f5 f6 f7 f8) dd) := by
  refine zz_switch 8 tgtd d rfl ht kd (fun i hi => ?_)
  match i, hi with
  | 0, _ => exact ⟨o0, t0, rfl, e0, k0⟩
  | 1, _ => exact ⟨o1, t1, rfl, e1, k1⟩
  | 2, _ => exact ⟨o2, t2, rfl, e2, k2⟩
  | 3, _ => exact ⟨o3, t3, rfl, e3, k3⟩
  | 4, _ => exact ⟨o4, t4, rfl, e4, k4⟩
  | 5, _ => exact ⟨o5, t5, rfl, e5, k5⟩
  | 6, _ => exact ⟨o6, t6, rfl, e6, k6⟩
  | 7, _ => exact ⟨o7, t7, rfl, e7, k7⟩
  | 8, _ => exact ⟨o8, t8, rfl, e8, k8⟩
  | i + 9, hi => exact absurd hi (by omega)
theorem zz_callVi {ρ : Type} {X : zCx} {M : zMr} {A : (Nat → Prop) × String} {Q : zCx → ρ × zSt → State → Prop} {G : zGw} {cs : Nat × Nat} {res : ρ × zSt} {S : zSt} {pc : Nat} {ls : List (Option Value)} {Mc : zMr} {yc : MethodName} {idx : Nat} {st : List Value} {Fc : zSt → Option (Int32 × zSt)} {k : Int32 → zSt → Option (ρ × zSt)} (As rest : List Value) (kp ci : Nat) (hct : Zc Mc yc zJI G (.ref (G.1 kp) :: As) Fc) (hmv : ZV Mc yc As.length) (hl : Cond.methodLink M.1 idx yc ∈ lw_all) (hst : st = As.reverse ++ .ref (G.1 kp) :: rest) (hsh : G.2.1 kp = some (.inl ci)) (hcn : (zcl[ci]?).map Prod.fst = some Mc.1) (hd : Mc.2.2.2.2.1 + 1 ≤ M.2.2.2.2.1) (hL : Mc.2.2.1 ≤ 45) (hz : Mc.2.2.2.2.2 = (0, 0, none)) (hq : zcs cs M = true) (hcat : (rest.map fun v => v.category).sum ≤ 8) (d : decode M.2.1 pc = .ok (.invokevirtual idx, 3)) (kk : ∀ r S', Zz X M A Q G cs res S' (pc + 3) ls (.int r :: rest) (k r S')) : Zz X M A Q G cs res S pc ls st (zbind (Fc S) k) := zz_callV As rest kp ci hct hmv hl hst hsh hcn hd hL hz hq hcat d kk
theorem zz_callSi {ρ : Type} {X : zCx} {M : zMr} {A : (Nat → Prop) × String} {Q : zCx → ρ × zSt → State → Prop} {G : zGw} {cs : Nat × Nat} {res : ρ × zSt} {S : zSt} {pc : Nat} {ls : List (Option Value)} {Mc : zMr} {yc : MethodName} {idx : Nat} {st : List Value} {Fc : zSt → Option (Int32 × zSt)} {k : Int32 → zSt → Option (ρ × zSt)} (As rest : List Value) (hct : Zc Mc yc zJI G As Fc) (hmv : ZS Mc yc As.length) (hl : Cond.methodLink M.1 idx yc ∈ lw_all) (hst : st = As.reverse ++ rest) (hd : Mc.2.2.2.2.1 + 1 ≤ M.2.2.2.2.1) (hL : Mc.2.2.1 ≤ 45) (hz : Mc.2.2.2.2.2 = (0, 0, none)) (hq : zcs cs M = true) (hcat : (rest.map fun v => v.category).sum ≤ 8) (d : decode M.2.1 pc = .ok (.invokestatic idx, 3)) (kk : ∀ r S', Zz X M A Q G cs res S' (pc + 3) ls (.int r :: rest) (k r S')) : Zz X M A Q G cs res S pc ls st (zbind (Fc S) k) := zz_callS As rest hct hmv hl hst hd hL hz hq hcat d kk
theorem zz_callSNi {ρ : Type} {X : zCx} {M : zMr} {A : (Nat → Prop) × String} {Q : zCx → ρ × zSt → State → Prop} {G : zGw} {cs : Nat × Nat} {res : ρ × zSt} {S : zSt} {pc : Nat} {ls : List (Option Value)} {Mc : zMr} {yc : MethodName} {idx : Nat} {st : List Value} {Fc : zSt → Option (Int32 × zSt)} {k : Int32 → zSt → Option (ρ × zSt)} (As rest : List Value) (hct : Zc Mc yc zJI G As Fc) (hmv : ZS Mc yc As.length) (hl : (M.1, idx, yc, "HiddenCube") ∈ znM) (hst : st = As.reverse ++ rest) (hd : Mc.2.2.2.2.1 + 1 ≤ M.2.2.2.2.1) (hL : Mc.2.2.1 ≤ 45) (hz : Mc.2.2.2.2.2 = (0, 0, none)) (hq : zcs cs M = true) (hcat : (rest.map fun v => v.category).sum ≤ 8) (d : decode M.2.1 pc = .ok (.invokestatic idx, 3)) (kk : ∀ r S', Zz X M A Q G cs res S' (pc + 3) ls (.int r :: rest) (k r S')) : Zz X M A Q G cs res S pc ls st (zbind (Fc S) k) := zz_callSN As rest hct hmv hl hst hd hL hz hq hcat d kk
theorem zz_callVl {ρ : Type} {X : zCx} {M : zMr} {A : (Nat → Prop) × String} {Q : zCx → ρ × zSt → State → Prop} {G : zGw} {cs : Nat × Nat} {res : ρ × zSt} {S : zSt} {pc : Nat} {ls : List (Option Value)} {Mc : zMr} {yc : MethodName} {idx : Nat} {st : List Value} {Fc : zSt → Option (Int64 × zSt)} {k : Int64 → zSt → Option (ρ × zSt)} (As rest : List Value) (kp ci : Nat) (hct : Zc Mc yc zJL G (.ref (G.1 kp) :: As) Fc) (hmv : ZV Mc yc As.length) (hl : Cond.methodLink M.1 idx yc ∈ lw_all) (hst : st = As.reverse ++ .ref (G.1 kp) :: rest) (hsh : G.2.1 kp = some (.inl ci)) (hcn : (zcl[ci]?).map Prod.fst = some Mc.1) (hd : Mc.2.2.2.2.1 + 1 ≤ M.2.2.2.2.1) (hL : Mc.2.2.1 ≤ 45) (hz : Mc.2.2.2.2.2 = (0, 0, none)) (hq : zcs cs M = true) (hcat : (rest.map fun v => v.category).sum ≤ 8) (d : decode M.2.1 pc = .ok (.invokevirtual idx, 3)) (kk : ∀ r S', Zz X M A Q G cs res S' (pc + 3) ls (.long r :: rest) (k r S')) : Zz X M A Q G cs res S pc ls st (zbind (Fc S) k) := zz_callV As rest kp ci hct hmv hl hst hsh hcn hd hL hz hq hcat d kk
theorem zz_callSl {ρ : Type} {X : zCx} {M : zMr} {A : (Nat → Prop) × String} {Q : zCx → ρ × zSt → State → Prop} {G : zGw} {cs : Nat × Nat} {res : ρ × zSt} {S : zSt} {pc : Nat} {ls : List (Option Value)} {Mc : zMr} {yc : MethodName} {idx : Nat} {st : List Value} {Fc : zSt → Option (Int64 × zSt)} {k : Int64 → zSt → Option (ρ × zSt)} (As rest : List Value) (hct : Zc Mc yc zJL G As Fc) (hmv : ZS Mc yc As.length) (hl : Cond.methodLink M.1 idx yc ∈ lw_all) (hst : st = As.reverse ++ rest) (hd : Mc.2.2.2.2.1 + 1 ≤ M.2.2.2.2.1) (hL : Mc.2.2.1 ≤ 45) (hz : Mc.2.2.2.2.2 = (0, 0, none)) (hq : zcs cs M = true) (hcat : (rest.map fun v => v.category).sum ≤ 8) (d : decode M.2.1 pc = .ok (.invokestatic idx, 3)) (kk : ∀ r S', Zz X M A Q G cs res S' (pc + 3) ls (.long r :: rest) (k r S')) : Zz X M A Q G cs res S pc ls st (zbind (Fc S) k) := zz_callS As rest hct hmv hl hst hd hL hz hq hcat d kk
theorem zz_callSNl {ρ : Type} {X : zCx} {M : zMr} {A : (Nat → Prop) × String} {Q : zCx → ρ × zSt → State → Prop} {G : zGw} {cs : Nat × Nat} {res : ρ × zSt} {S : zSt} {pc : Nat} {ls : List (Option Value)} {Mc : zMr} {yc : MethodName} {idx : Nat} {st : List Value} {Fc : zSt → Option (Int64 × zSt)} {k : Int64 → zSt → Option (ρ × zSt)} (As rest : List Value) (hct : Zc Mc yc zJL G As Fc) (hmv : ZS Mc yc As.length) (hl : (M.1, idx, yc, "HiddenCube") ∈ znM) (hst : st = As.reverse ++ rest) (hd : Mc.2.2.2.2.1 + 1 ≤ M.2.2.2.2.1) (hL : Mc.2.2.1 ≤ 45) (hz : Mc.2.2.2.2.2 = (0, 0, none)) (hq : zcs cs M = true) (hcat : (rest.map fun v => v.category).sum ≤ 8) (d : decode M.2.1 pc = .ok (.invokestatic idx, 3)) (kk : ∀ r S', Zz X M A Q G cs res S' (pc + 3) ls (.long r :: rest) (k r S')) : Zz X M A Q G cs res S pc ls st (zbind (Fc S) k) := zz_callSN As rest hct hmv hl hst hd hL hz hq hcat d kk
theorem zz_callVv {ρ : Type} {X : zCx} {M : zMr} {A : (Nat → Prop) × String} {Q : zCx → ρ × zSt → State → Prop} {G : zGw} {cs : Nat × Nat} {res : ρ × zSt} {S : zSt} {pc : Nat} {ls : List (Option Value)} {Mc : zMr} {yc : MethodName} {idx : Nat} {st : List Value} {Fc : zSt → Option (Unit × zSt)} {k : Unit → zSt → Option (ρ × zSt)} (As rest : List Value) (kp ci : Nat) (hct : Zc Mc yc zJV G (.ref (G.1 kp) :: As) Fc) (hmv : ZV Mc yc As.length) (hl : Cond.methodLink M.1 idx yc ∈ lw_all) (hst : st = As.reverse ++ .ref (G.1 kp) :: rest) (hsh : G.2.1 kp = some (.inl ci)) (hcn : (zcl[ci]?).map Prod.fst = some Mc.1) (hd : Mc.2.2.2.2.1 + 1 ≤ M.2.2.2.2.1) (hL : Mc.2.2.1 ≤ 45) (hz : Mc.2.2.2.2.2 = (0, 0, none)) (hq : zcs cs M = true) (hcat : (rest.map fun v => v.category).sum ≤ 8) (d : decode M.2.1 pc = .ok (.invokevirtual idx, 3)) (kk : ∀ r S', Zz X M A Q G cs res S' (pc + 3) ls (rest) (k r S')) : Zz X M A Q G cs res S pc ls st (zbind (Fc S) k) := zz_callV As rest kp ci hct hmv hl hst hsh hcn hd hL hz hq hcat d kk
theorem zz_callSv {ρ : Type} {X : zCx} {M : zMr} {A : (Nat → Prop) × String} {Q : zCx → ρ × zSt → State → Prop} {G : zGw} {cs : Nat × Nat} {res : ρ × zSt} {S : zSt} {pc : Nat} {ls : List (Option Value)} {Mc : zMr} {yc : MethodName} {idx : Nat} {st : List Value} {Fc : zSt → Option (Unit × zSt)} {k : Unit → zSt → Option (ρ × zSt)} (As rest : List Value) (hct : Zc Mc yc zJV G As Fc) (hmv : ZS Mc yc As.length) (hl : Cond.methodLink M.1 idx yc ∈ lw_all) (hst : st = As.reverse ++ rest) (hd : Mc.2.2.2.2.1 + 1 ≤ M.2.2.2.2.1) (hL : Mc.2.2.1 ≤ 45) (hz : Mc.2.2.2.2.2 = (0, 0, none)) (hq : zcs cs M = true) (hcat : (rest.map fun v => v.category).sum ≤ 8) (d : decode M.2.1 pc = .ok (.invokestatic idx, 3)) (kk : ∀ r S', Zz X M A Q G cs res S' (pc + 3) ls (rest) (k r S')) : Zz X M A Q G cs res S pc ls st (zbind (Fc S) k) := zz_callS As rest hct hmv hl hst hd hL hz hq hcat d kk
theorem zz_callSNv {ρ : Type} {X : zCx} {M : zMr} {A : (Nat → Prop) × String} {Q : zCx → ρ × zSt → State → Prop} {G : zGw} {cs : Nat × Nat} {res : ρ × zSt} {S : zSt} {pc : Nat} {ls : List (Option Value)} {Mc : zMr} {yc : MethodName} {idx : Nat} {st : List Value} {Fc : zSt → Option (Unit × zSt)} {k : Unit → zSt → Option (ρ × zSt)} (As rest : List Value) (hct : Zc Mc yc zJV G As Fc) (hmv : ZS Mc yc As.length) (hl : (M.1, idx, yc, "HiddenCube") ∈ znM) (hst : st = As.reverse ++ rest) (hd : Mc.2.2.2.2.1 + 1 ≤ M.2.2.2.2.1) (hL : Mc.2.2.1 ≤ 45) (hz : Mc.2.2.2.2.2 = (0, 0, none)) (hq : zcs cs M = true) (hcat : (rest.map fun v => v.category).sum ≤ 8) (d : decode M.2.1 pc = .ok (.invokestatic idx, 3)) (kk : ∀ r S', Zz X M A Q G cs res S' (pc + 3) ls (rest) (k r S')) : Zz X M A Q G cs res S pc ls st (zbind (Fc S) k) := zz_callSN As rest hct hmv hl hst hd hL hz hq hcat d kk
theorem zz_instNo {ρ : Type} {X : zCx} {M : zMr} {A : (Nat → Prop) × String} {Q : zCx → ρ × zSt → State → Prop} {G : zGw} {cs : Nat × Nat} {res : ρ × zSt} {S : zSt} {pc : Nat} {ls : List (Option Value)} {st : List Value} {f : Option (ρ × zSt)} {idx : Nat} (kp n : Nat) (ty : FieldType) (C nm : String) (hsh : G.2.1 kp = some (.inr (n, ty))) (hnm : ∀ (s : State) (cA : ClassId), va_RA s cA ty → s.vm.findClass C = some cA) (hc : (C, nm) ∈ znC) (hl : Cond.classLink M.1 idx nm ∈ lw_all) (d : decode M.2.1 pc = .ok (.instanceof idx, 3)) (k : Zz X M A Q G cs res S (pc + 3) ls (.int 0 :: st) f) : Zz X M A Q G cs res S pc ls (.ref (G.1 kp) :: st) f :=
  fun hf ho hA H locs la hp hl1 hS => va_instNo ho.1 ho.2.1 ho.2.2.2.1 (ho.2.2.2.2.1 _ hl) (ho.2.2.2.2.2.1.1.2.2.1 _ hc) (zarr_rec hp hsh hnm) d (k hf ho hA H locs la hp hl1 hS)
theorem zz_instYes {ρ : Type} {X : zCx} {M : zMr} {A : (Nat → Prop) × String} {Q : zCx → ρ × zSt → State → Prop} {G : zGw} {cs : Nat × Nat} {res : ρ × zSt} {S : zSt} {pc : Nat} {ls : List (Option Value)} {st : List Value} {f : Option (ρ × zSt)} {idx : Nat} (kp n : Nat) (ty : FieldType) (nm : String) (hsh : G.2.1 kp = some (.inr (n, ty))) (hnm : ∀ (s : State) (cA : ClassId), va_RA s cA ty → s.vm.findClass nm = some cA) (hl : Cond.classLink M.1 idx nm ∈ lw_all) (d : decode M.2.1 pc = .ok (.instanceof idx, 3)) (k : Zz X M A Q G cs res S (pc + 3) ls (.int 1 :: st) f) : Zz X M A Q G cs res S pc ls (.ref (G.1 kp) :: st) f := by
  intro hf ho hA H locs la hp hl1 hS
  obtain ⟨cell, h1, h2, h3⟩ := zarr_rec hp hsh hnm
  intro T hT Y
  obtain ⟨vm', X', stp⟩ := Y.instanceofYes ho.1 ho.2.2.2.1 (ho.2.2.2.2.1 _ hl) (by rw [hT]; exact h1) h2 h3 (va_asg _ _) (g := F0 _ pc la (.ref (G.1 kp) :: st)) rfl rfl (by rw [ho.2.1]; exact d)
  obtain ⟨t, a1, b1⟩ := k hf ho hA H locs la hp hl1 hS (T.setVm vm') hT X'
  exact ⟨t, stp t a1, b1⟩
theorem zz_castArr {ρ : Type} {X : zCx} {M : zMr} {A : (Nat → Prop) × String} {Q : zCx → ρ × zSt → State → Prop} {G : zGw} {cs : Nat × Nat} {res : ρ × zSt} {S : zSt} {pc : Nat} {ls : List (Option Value)} {st : List Value} {f : Option (ρ × zSt)} {idx : Nat} (kp n : Nat) (ty : FieldType) (nm : String) (hsh : G.2.1 kp = some (.inr (n, ty))) (hnm : ∀ (s : State) (cA : ClassId), va_RA s cA ty → s.vm.findClass nm = some cA) (hl : Cond.classLink M.1 idx nm ∈ lw_all) (d : decode M.2.1 pc = .ok (.checkcast idx, 3)) (k : Zz X M A Q G cs res S (pc + 3) ls (.ref (G.1 kp) :: st) f) : Zz X M A Q G cs res S pc ls (.ref (G.1 kp) :: st) f := by
  intro hf ho hA H locs la hp hl1 hS
  obtain ⟨cell, h1, h2, h3⟩ := zarr_rec hp hsh hnm
  intro T hT Y
  obtain ⟨vm', X', stp⟩ := Y.checkcastYes ho.1 ho.2.2.2.1 (ho.2.2.2.2.1 _ hl) (by rw [hT]; exact h1) h2 h3 (va_asg _ _) (g := F0 _ pc la (.ref (G.1 kp) :: st)) rfl rfl (by rw [ho.2.1]; exact d)
  obtain ⟨t, a1, b1⟩ := k hf ho hA H locs la hp hl1 hS (T.setVm vm') hT X'
  exact ⟨t, stp t a1, b1⟩
theorem zz_instNull {ρ : Type} {X : zCx} {M : zMr} {A : (Nat → Prop) × String} {Q : zCx → ρ × zSt → State → Prop} {G : zGw} {cs : Nat × Nat} {res : ρ × zSt} {S : zSt} {pc : Nat} {ls : List (Option Value)} {st : List Value} {f : Option (ρ × zSt)} {idx : Nat} (d : decode M.2.1 pc = .ok (.instanceof idx, 3)) (k : Zz X M A Q G cs res S (pc + 3) ls (.int 0 :: st) f) : Zz X M A Q G cs res S pc ls (.null :: st) f :=
  fun hf ho hA H locs la hp hl1 hS => lv_instN ho.1 ho.2.1 d (k hf ho hA H locs la hp hl1 hS)
theorem zz_aaload {ρ : Type} {X : zCx} {M : zMr} {A : (Nat → Prop) × String} {Q : zCx → ρ × zSt → State → Prop} {G : zGw} {cs : Nat × Nat} {res : ρ × zSt} {S : zSt} {pc : Nat} {ls : List (Option Value)} {st : List Value} {f : Option (ρ × zSt)} {i : Int32} (kp n q : Nat) (C : String) (hsh : G.2.1 kp = some (.inr (n, .object C))) (hin : vp_in i n) (hr : G.2.2.1 kp i.toNatClampNeg = some q) (d : decode M.2.1 pc = .ok (.aaload, 1)) (k : Zz X M A Q G cs res S (pc + 1) ls (.ref (G.1 q) :: st) f) : Zz X M A Q G cs res S pc ls (.int i :: .ref (G.1 kp) :: st) f := by
  intro hf ho hA H locs la hp hl hS
  obtain ⟨cA, r1, r2, r3⟩ := zhp_arr hp hsh
  have hlt : i.toNatClampNeg < n := Nat.not_le.mp fun q => hin (Or.inr q)
  exact W.aald (v := .ref (G.1 q)) (ty := .object C) ho.1 ho.2.1 r1 (r2 n _) rfl (fun q => by cases q) (by show ¬ (i < 0 ∨ (arrV _ _ _).slots.size ≤ _); rw [arrV_size]; exact hin) (by rw [arrV_read _ _ hlt]; simp only [zval, hr]; rfl) rfl rfl d (k hf ho hA H locs la hp hl hS)
theorem zz_aaloadV {ρ : Type} {X : zCx} {M : zMr} {A : (Nat → Prop) × String} {Q : zCx → ρ × zSt → State → Prop} {G : zGw} {cs : Nat × Nat} {res : ρ × zSt} {S : zSt} {pc : Nat} {ls : List (Option Value)} {st : List Value} {f : Option (ρ × zSt)} {V : zSV} {i : Int32} (hG : zGC G) (hV : zGV G V) (hin : vp_in i 4) (d : decode M.2.1 pc = .ok (.aaload, 1)) (k : Zz X M A Q G cs res S (pc + 1) ls (.ref (G.1 (40 + i.toNatClampNeg)) :: st) f) : Zz X M A Q G cs res S pc ls (.int i :: .ref (G.1 37) :: st) f := zz_aaload 37 4 (40 + i.toNatClampNeg) "HiddenCube$Slot" (zGC_s37 hG) hin (hV i.toNatClampNeg (Nat.not_le.mp fun q => hin (Or.inr q))).2.1 d k
theorem zz_getRow {ρ : Type} {X : zCx} {M : zMr} {A : (Nat → Prop) × String} {Q : zCx → ρ × zSt → State → Prop} {G : zGw} {cs : Nat × Nat} {res : ρ × zSt} {S : zSt} {pc : Nat} {ls : List (Option Value)} {st : List Value} {f : Option (ρ × zSt)} {V : zSV} {i : Nat} {q : Nat × FieldType} (hV : zGV G V) (hi : i < 4) (hq : V i = some q) (d : decode M.2.1 pc = .ok (.getfield 7, 3)) (k : Zz X M A Q G cs res S (pc + 3) ls (.ref (G.1 (44 + i)) :: st) f) (hM : M.1 = "HiddenCube$Slot" := by rfl) : Zz X M A Q G cs res S pc ls (.ref (G.1 (40 + i)) :: st) f := by
  have h := hV i hi
  rw [hq] at h
  exact zz_get (40 + i) 4 0 h.1 rfl in_X4 (by decide) (by rw [hM]; exact q289) (by rw [h.2.2.1]; rfl) d k
theorem zz_getRowN {ρ : Type} {X : zCx} {M : zMr} {A : (Nat → Prop) × String} {Q : zCx → ρ × zSt → State → Prop} {G : zGw} {cs : Nat × Nat} {res : ρ × zSt} {S : zSt} {pc : Nat} {ls : List (Option Value)} {st : List Value} {f : Option (ρ × zSt)} {V : zSV} {i : Nat} (hV : zGV G V) (hi : i < 4) (hq : V i = none) (d : decode M.2.1 pc = .ok (.getfield 7, 3)) (k : Zz X M A Q G cs res S (pc + 3) ls (.null :: st) f) (hM : M.1 = "HiddenCube$Slot" := by rfl) : Zz X M A Q G cs res S pc ls (.ref (G.1 (40 + i)) :: st) f := by
  have h := hV i hi
  rw [hq] at h
  exact zz_get (40 + i) 4 0 h.1 rfl in_X4 (by decide) (by rw [hM]; exact q289) (by rw [h.2.2]; rfl) d k
