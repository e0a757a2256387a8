/-! THE LAW's ROWS: two worlds in one heap (written by gen/mklrows.py) -/
set_option maxRecDepth 100000
abbrev lA (s : State) : Nat → Prop := fun q => s.heap.size ≤ q
/-- two worlds beside each other -/
def lI (s : State) (G1 G2 : zGw) (S1 S2 : zSt) (H : Heap) (locs : List Loc) : Prop := zhp G1 S1 s H ∧ zhp G2 S2 s H ∧ zap G1 ∧ zap G2 ∧ (∀ k, G1.2.1 k ≠ none → s.heap.size ≤ G1.1 k) ∧ (∀ k, G2.2.1 k ≠ none → s.heap.size ≤ G2.1 k) ∧ (∀ i j, G1.2.1 i ≠ none → G2.2.1 j ≠ none → G1.1 i ≠ G2.1 j) ∧ va_S (lA s) s.heap H locs
theorem lI_swap {s : State} {G1 G2 : zGw} {S1 S2 : zSt} {H : Heap} {locs : List Loc} (h : lI s G1 G2 S1 S2 H locs) : lI s G2 G1 S2 S1 H locs := ⟨h.2.1, h.1, h.2.2.2.1, h.2.2.1, h.2.2.2.2.2.1, h.2.2.2.2.1, fun i j hi hj e => h.2.2.2.2.2.2.1 j i hj hi e.symm, h.2.2.2.2.2.2.2⟩
/-- what holds all through the law -/
def lC (e9 : zRe) (D : va_G) (X : zCx) (b L : Nat) (xs : Nat → Int32) : Prop := X.1.tables.exec = Jvm.exec ∧ X.2.2.2.2.2.2.2.2.2.code = code ∧ X.2.2.2.2.2.2.2.2.2.maxLocals = 4 ∧ X.2.2.2.2.1.vm.findClass "HiddenCubeLaw" = some X.2.2.2.2.2.1.cls ∧ (∀ w ∈ lw_all, w.before X.2.2.2.2.2.2.1 X.2.2.2.2.1 = true) ∧ X.2.2.2.1 = room_1 ∧ X.2.1.stackTraces = false ∧ zNW X.2.2.2.2.1 ∧ zEnv (lA X.2.2.2.2.1) X.2.2.2.2.1 X.2.2.2.2.1.heap ∧ zER e9 (lA X.2.2.2.2.1) X.2.2.2.2.1 X.2.2.2.2.1.heap ∧ (∀ G : zGw, G.2.2.2 = D → zkn G X.2.2.2.2.1) ∧ va_X b L xs X.2.2.2.2.1 X.2.2.2.2.1.heap ∧ b < X.2.2.2.2.1.heap.size ∧ L ≤ 384
def Zl (X : zCx) (Q : State → Prop) (G1 G2 : zGw) (S1 S2 : zSt) (cs : Nat × Nat) (pc : Nat) (ls : List (Option Value)) (st : List Value) : Prop :=
  ∀ (H : Heap) (locs : List Loc) (la : Array Slot), lI X.2.2.2.2.1 G1 G2 S1 S2 H locs → zlv la 4 ls → W X.1 X.2.1 X.2.2.1 X.2.2.2.1 X.2.2.2.2.1 X.2.2.2.2.2.1 X.2.2.2.2.2.2.1 X.2.2.2.2.2.2.2.1 X.2.2.2.2.2.2.2.2.1 X.2.2.2.2.2.2.2.2.2 H locs cs.1 cs.2 Q (F0 X.2.2.2.2.2.1 pc la st)
theorem Zl_swap {X : zCx} {Q : State → Prop} {G1 G2 : zGw} {S1 S2 : zSt} {cs : Nat × Nat} {pc : Nat} {ls : List (Option Value)} {st : List Value} (h : Zl X Q G2 G1 S2 S1 cs pc ls st) : Zl X Q G1 G2 S1 S2 cs pc ls st := fun H locs la hI hl => h H locs la (lI_swap hI) hl
theorem Zl_wide {X : zCx} {Q : State → Prop} {G1 G2 : zGw} {S1 S2 : zSt} {cs cs' : Nat × Nat} {pc : Nat} {ls : List (Option Value)} {st : List Value} (h1 : cs.1 ≤ cs'.1) (h2 : cs.2 ≤ cs'.2) (h : Zl X Q G1 G2 S1 S2 cs' pc ls st) : Zl X Q G1 G2 S1 S2 cs pc ls st := fun H locs la hI hl => W.widen h1 h2 (h H locs la hI hl)
theorem l_room {a L c1 c2 : Nat} (h : a ≤ 1500) (hL : L ≤ 45) : (zrm a c1 c2).frames + 1 ≤ room_1.frames ∧ 8 + (L + 11) + (zrm a c1 c2).locals ≤ room_1.locals := by
  constructor
  · show a + 1 ≤ 8192
    omega
  · show 8 + (L + 11) + 64 * a ≤ 104096
    omega
theorem l_map {p : Program} {l : Launch} {e : Env} {R : Room} {s : State} {m : MethodId} {args : Array Value} {below : List Frame} {meth : Method} {c : Code} {H : Heap} {locs : List Loc} {cells slots mc ms : Nat} {g : JFrame} {rest : List Value} {P P' : State → Outcome → State → Prop} {free : Addr → Prop} (h : ∀ st oc t, P st oc t → P' st oc t) (hr : va_Run p l e R s m args below meth c H locs cells slots mc ms g rest P free) : va_Run p l e R s m args below meth c H locs cells slots mc ms g rest P' free := by
  intro T hT X
  obtain ⟨v, st₀, t, T', L, h0, X', hL, e1, e2, hP, stp⟩ := hr T hT X
  exact ⟨v, st₀, t, T', L, h0, X', hL, e1, e2, h _ _ _ hP, stp⟩
theorem l_lift {ρ : Type} {inj : ρ → Option Value} {G : zGw} {res : ρ × zSt} {sz : Nat} {a : Array Value} (hap : zap G) : ∀ st oc t, zQR inj G res (zA G sz) a st oc t → zQG (fun r _ => inj r) G (fun G' => G' = G) res (zA G sz) a st oc t := fun st oc t h => ⟨G, h.1, h.2.1, hap, rfl, fun k hk => zA_in hk, rfl, h.2.2⟩
theorem l_sub {s : State} {G1 G2 : zGw} {S1 S2 : zSt} {H : Heap} {locs : List Loc} (hI : lI s G1 G2 S1 S2 H locs) : ∀ q, zA G1 H.size q → s.heap.size ≤ q := fun q hq => by
  rcases hq with ⟨k, h1, rfl⟩ | h
  · exact hI.2.2.2.2.1 k h1
  · exact Nat.le_trans hI.2.2.2.2.2.2.2.1 h
theorem zhp_at {G : zGw} {S : zSt} {s : State} {H H1 : Heap} (h : ∀ k, G.2.1 k ≠ none → H1[G.1 k]? = H[G.1 k]?) (hp : zhp G S s H) : zhp G S s H1 := by
  intro k
  have hk := hp k
  unfold zcellIs at hk ⊢
  cases hs : G.2.1 k with
  | none => trivial
  | some w =>
    have e := h k (by rw [hs]; simp)
    rw [hs] at hk
    cases w with
    | inl ci =>
      obtain ⟨r, r1, cell, g1, g2⟩ := hk
      exact ⟨r, r1, cell, by rw [e]; exact g1, g2⟩
    | inr x =>
      obtain ⟨cA, g1, g2⟩ := hk
      exact ⟨cA, by rw [e]; exact g1, g2⟩
theorem l_after {ρ' : Type} {p : Program} {l : Launch} {e : Env} {R : Room} {s : State} {m : MethodId} {args : Array Value} {below : List Frame} {meth : Method} {c : Code} {H : Heap} {locs : List Loc} {Q : State → Prop} {pc : Nat} {la : Array Slot} {rest st : List Value} {a : Array Value} {G1 G2 : zGw} {S1 S2 S' : zSt} {Kc : zGw → Prop} {injc : ρ' → zGw → Option Value} {r : ρ'} {cells slots mc ms : Nat}
    (hI : lI s G1 G2 S1 S2 H locs) (hr : va_Run p l e R s m args below meth c H locs cells slots mc ms (F0 m pc la st) rest (zQG injc G1 Kc (r, S') (zA G1 H.size) a) (zA G1 H.size))
    (kk : ∀ (G' : zGw) (H1 : Heap) (locs1 : List Loc), Kc G' → G'.2.2.2 = G1.2.2.2 → lI s G' G2 S' S2 H1 locs1 → W p l e R s m args below meth c H1 locs1 (cells + mc) (slots + ms) Q (F0 m (pc + 3) la ((injc r G').toList ++ rest))) : W p l e R s m args below meth c H locs cells slots Q (F0 m pc la st) := by
  intro T hT X
  obtain ⟨v, st₀, t, T', L, h0, X', hL, e1, e2, ⟨G', hv, hz, hap, heq, hAd, hK, hF1, hF2⟩, stp⟩ := hr T hT X
  cases hv
  rw [h0] at hF1 hF2
  have hsub := l_sub hI
  have hal : t.vm.Alike s.vm := by rw [← e2]; exact X'.warmed.alike.symm
  have hS := hI.2.2.2.2.2.2.2
  have hlt : ∀ k, G2.2.1 k ≠ none → G2.1 k < H.size := fun k hk => zhp_lt hI.2.1 hk
  have hout : ∀ k, G2.2.1 k ≠ none → ¬ zA G1 H.size (G2.1 k) := fun k hk hz => by
    rcases hz with ⟨j, h1, h2⟩ | h
    · exact hI.2.2.2.2.2.2.1 j k h1 hk h2
    · exact absurd (hlt k hk) (by omega)
  obtain ⟨t2, a1, b1⟩ := kk G' T'.heap (locs ++ L) hK heq ⟨by rw [e1]; exact zhp_moved hal hz, zhp_at (fun k hk => by rw [e1]; exact hF2 _ (hlt k hk) (hout k hk)) hI.2.1, hap, hI.2.2.2.1, fun k hk => hsub _ (hAd k hk), hI.2.2.2.2.2.1, fun i j hi hj he => by
      rcases hAd i hi with ⟨k, h1, h2⟩ | h
      · exact hI.2.2.2.2.2.2.1 k j h1 hj (h2.trans he)
      · rw [he] at h
        exact absurd (hlt j hj) (by omega),
    ⟨Nat.le_trans hS.1 (by rw [e1]; exact hF1), fun q h1 h2 => by
      rw [e1, hF2 q (Nat.lt_of_lt_of_le h1 hS.1) (fun z => h2 (hsub q z))]
      exact hS.2.1 q h1 h2, fun q hq => by
      rcases List.mem_append.mp hq with h | h
      · exact hS.2.2 q h
      · exact hsub _ (hL q h)⟩⟩ T' rfl X'
  exact ⟨t2, stp t2 a1, b1⟩
theorem l_pre {As : List Value} {s : State} {G1 G2 : zGw} {S1 S2 : zSt} {H : Heap} {locs : List Loc} (hI : lI s G1 G2 S1 S2 H locs) (hk : zkn G1 s) (hn : zNW s) (hE : zEnv (lA s) s s.heap) : ∀ U : State, U.heap = H → s.WarmedH U.vm → va_Pc As (fun U => U.heap.size = H.size ∧ zhp G1 S1 U U.heap ∧ zkn G1 U ∧ zNW U ∧ zap G1 ∧ zEnv (zA G1 H.size) U U.heap) As.toArray U := fun U hU hW => ⟨rfl, by rw [hU], by rw [hU]; exact zhp_moved hW.alike hI.1, zkn_moved hW.alike hk, zNW_warm hW hn, hI.2.2.1, by rw [hU]; exact zEnv_moved hW.alike (zEnv_narrow (zEnv_kept hE (fun a h1 h2 => hI.2.2.2.2.2.2.2.2.1 a h1 h2)) (l_sub hI))⟩
theorem l_preE {e : zRe} {As : List Value} {s : State} {G1 G2 : zGw} {S1 S2 : zSt} {H : Heap} {locs : List Loc} (hI : lI s G1 G2 S1 S2 H locs) (hk : zkn G1 s) (hn : zNW s) (hE : zEnv (lA s) s s.heap) (hR : zER e (lA s) s s.heap) : ∀ U : State, U.heap = H → s.WarmedH U.vm → va_Pc As (fun U => U.heap.size = H.size ∧ zhp G1 S1 U U.heap ∧ zkn G1 U ∧ zNW U ∧ zap G1 ∧ zEnv (zA G1 H.size) U U.heap ∧ zER e (zA G1 H.size) U U.heap) As.toArray U := fun U hU hW => ⟨rfl, by rw [hU], by rw [hU]; exact zhp_moved hW.alike hI.1, zkn_moved hW.alike hk, zNW_warm hW hn, hI.2.2.1, by rw [hU]; exact zEnv_moved hW.alike (zEnv_narrow (zEnv_kept hE (fun a h1 h2 => hI.2.2.2.2.2.2.2.2.1 a h1 h2)) (l_sub hI)), by rw [hU]; exact zER_warm hW (zER_narrow (zER_kept hR (fun a h1 h2 => hI.2.2.2.2.2.2.2.2.1 a h1 h2)) (l_sub hI))⟩
section
variable {X : zCx} {Q : State → Prop} {G1 G2 : zGw} {S1 S2 : zSt} {cs : Nat × Nat} {pc : Nat} {ls : List (Option Value)} {st : List Value} {e9 : zRe} {D : va_G} {b L : Nat} {xs : Nat → Int32}
theorem l_aload (hC : lC e9 D X b L xs) {n : Fin 4} {v : Nat} (i : Nat) (d : decode code pc = .ok (.aload_n n, 1)) (hi : (n : Nat) = i) (hv : ls[i]? = some (some (.ref v))) (k : Zl X Q G1 G2 S1 S2 cs (pc + 1) ls (.ref v :: st)) : Zl X Q G1 G2 S1 S2 cs pc ls st :=
  fun H locs la hI hl => lv_aload_n hC.1 hC.2.1 d hi (hl.2.2 _ _ hv) (k H locs la hI hl)
theorem l_iload (hC : lC e9 D X b L xs) {n : Fin 4} {v : Int32} (i : Nat) (d : decode code pc = .ok (.iload_n n, 1)) (hi : (n : Nat) = i) (hv : ls[i]? = some (some (.int v))) (k : Zl X Q G1 G2 S1 S2 cs (pc + 1) ls (.int v :: st)) : Zl X Q G1 G2 S1 S2 cs pc ls st :=
  fun H locs la hI hl => lv_iload_n hC.1 hC.2.1 d hi (hl.2.2 _ _ hv) (k H locs la hI hl)
theorem l_iconst (hC : lC e9 D X b L xs) {n : Int} {v : Int32} (d : decode code pc = .ok (.iconst n, 1)) (hv : Int32.ofInt n = v) (k : Zl X Q G1 G2 S1 S2 cs (pc + 1) ls (.int v :: st)) : Zl X Q G1 G2 S1 S2 cs pc ls st :=
  fun H locs la hI hl => lv_iconst hC.1 hC.2.1 d hv (k H locs la hI hl)
theorem l_bipush (hC : lC e9 D X b L xs) {n : Int} {v : Int32} (d : decode code pc = .ok (.bipush n, 2)) (hv : (Int8.ofInt n).toInt32 = v) (k : Zl X Q G1 G2 S1 S2 cs (pc + 2) ls (.int v :: st)) : Zl X Q G1 G2 S1 S2 cs pc ls st :=
  fun H locs la hI hl => lv_bipush hC.1 hC.2.1 d hv (k H locs la hI hl)
theorem l_iadd (hC : lC e9 D X b L xs) {x y : Int32} (d : decode code pc = .ok (.iadd, 1)) (k : Zl X Q G1 G2 S1 S2 cs (pc + 1) ls (.int (x + y) :: st)) : Zl X Q G1 G2 S1 S2 cs pc ls (.int y :: .int x :: st) :=
  fun H locs la hI hl => lv_iadd hC.1 hC.2.1 d (k H locs la hI hl)
theorem l_isub (hC : lC e9 D X b L xs) {x y : Int32} (d : decode code pc = .ok (.isub, 1)) (k : Zl X Q G1 G2 S1 S2 cs (pc + 1) ls (.int (x - y) :: st)) : Zl X Q G1 G2 S1 S2 cs pc ls (.int y :: .int x :: st) :=
  fun H locs la hI hl => lv_isub hC.1 hC.2.1 d (k H locs la hI hl)
theorem l_iand (hC : lC e9 D X b L xs) {x y : Int32} (d : decode code pc = .ok (.iand, 1)) (k : Zl X Q G1 G2 S1 S2 cs (pc + 1) ls (.int (x &&& y) :: st)) : Zl X Q G1 G2 S1 S2 cs pc ls (.int y :: .int x :: st) :=
  fun H locs la hI hl => lv_iand hC.1 hC.2.1 d (k H locs la hI hl)
theorem l_i2l (hC : lC e9 D X b L xs) {x : Int32} (d : decode code pc = .ok (.i2l, 1)) (k : Zl X Q G1 G2 S1 S2 cs (pc + 1) ls (.long x.toInt64 :: st)) : Zl X Q G1 G2 S1 S2 cs pc ls (.int x :: st) :=
  fun H locs la hI hl => lv_i2l hC.1 hC.2.1 d rfl (k H locs la hI hl)
theorem l_lshl (hC : lC e9 D X b L xs) {x : Int64} {y : Int32} (d : decode code pc = .ok (.lshl, 1)) (k : Zl X Q G1 G2 S1 S2 cs (pc + 1) ls (.long (x <<< (y.toInt64 &&& 63)) :: st)) : Zl X Q G1 G2 S1 S2 cs pc ls (.int y :: .long x :: st) :=
  fun H locs la hI hl => lv_lshl hC.1 hC.2.1 d rfl (k H locs la hI hl)
theorem l_land (hC : lC e9 D X b L xs) {x y : Int64} (d : decode code pc = .ok (.land, 1)) (k : Zl X Q G1 G2 S1 S2 cs (pc + 1) ls (.long (x &&& y) :: st)) : Zl X Q G1 G2 S1 S2 cs pc ls (.long y :: .long x :: st) :=
  fun H locs la hI hl => lv_land hC.1 hC.2.1 d (k H locs la hI hl)
theorem l_lor (hC : lC e9 D X b L xs) {x y : Int64} (d : decode code pc = .ok (.lor, 1)) (k : Zl X Q G1 G2 S1 S2 cs (pc + 1) ls (.long (x ||| y) :: st)) : Zl X Q G1 G2 S1 S2 cs pc ls (.long y :: .long x :: st) :=
  fun H locs la hI hl => lv_lor hC.1 hC.2.1 d (k H locs la hI hl)
theorem l_dup (hC : lC e9 D X b L xs) {v : Value} (d : decode code pc = .ok (.dup, 1)) (hv : v.category = 1) (k : Zl X Q G1 G2 S1 S2 cs (pc + 1) ls (v :: v :: st)) : Zl X Q G1 G2 S1 S2 cs pc ls (v :: st) :=
  fun H locs la hI hl => lv_dup hC.1 hC.2.1 d hv (k H locs la hI hl)
theorem l_ldc2 (hC : lC e9 D X b L xs) {i : Nat} {v : Int64} (d : decode code pc = .ok (.ldc2_w i, 3)) (hc : Jvm.Cond.constantLong "HiddenCubeLaw" i v ∈ lw_all) (k : Zl X Q G1 G2 S1 S2 cs (pc + 3) ls (.long v :: st)) : Zl X Q G1 G2 S1 S2 cs pc ls st :=
  fun H locs la hI hl => lv_ldc2 hC.1 hC.2.1 hC.2.2.2.1 (hC.2.2.2.2.1 _ hc) d (k H locs la hI hl)
theorem l_goto (hC : lC e9 D X b L xs) {off : Int} (tgt : Nat) (d : decode code pc = .ok (.goto off, 3)) (ht : (pc : Int) + off = (tgt : Int)) (k : Zl X Q G1 G2 S1 S2 cs tgt ls st) : Zl X Q G1 G2 S1 S2 cs pc ls st :=
  fun H locs la hI hl => lv_goto hC.1 hC.2.1 d ht (k H locs la hI hl)
theorem l_icmp_eq (hC : lC e9 D X b L xs) {x y : Int32} {off : Int} (tgt : Nat) (d : decode code pc = .ok (.if_icmp .eq off, 3)) (ht : (pc : Int) + off = (tgt : Int)) (hxy : x = y) (k : Zl X Q G1 G2 S1 S2 cs tgt ls st) : Zl X Q G1 G2 S1 S2 cs pc ls (.int y :: .int x :: st) :=
  fun H locs la hI hl => lv_icmp_eq hC.1 hC.2.1 d ht (fun _ => k H locs la hI hl) (fun h => absurd hxy h)
theorem l_icmp_gt (hC : lC e9 D X b L xs) {x y : Int32} {off : Int} (tgt : Nat) (d : decode code pc = .ok (.if_icmp .gt off, 3)) (ht : (pc : Int) + off = (tgt : Int)) (k1 : y < x → Zl X Q G1 G2 S1 S2 cs tgt ls st) (k2 : ¬ y < x → Zl X Q G1 G2 S1 S2 cs (pc + 3) ls st) : Zl X Q G1 G2 S1 S2 cs pc ls (.int y :: .int x :: st) :=
  fun H locs la hI hl => lv_icmp_gt hC.1 hC.2.1 d ht (fun h => k1 h H locs la hI hl) (fun h => k2 h H locs la hI hl)
theorem l_lcmp (hC : lC e9 D X b L xs) {x y : Int64} (d : decode code pc = .ok (.lcmp, 1)) (k : Zl X Q G1 G2 S1 S2 cs (pc + 1) ls (.int (lg_cmp x y) :: st)) : Zl X Q G1 G2 S1 S2 cs pc ls (.long y :: .long x :: st) :=
  fun H locs la hI hl => W.lcmp hC.1 hC.2.1 d (k H locs la hI hl)
theorem l_ifeq (hC : lC e9 D X b L xs) {x : Int32} {off : Int} (tgt : Nat) (d : decode code pc = .ok (.ifCond .eq off, 3)) (ht : (pc : Int) + off = (tgt : Int)) (hx : x = 0) (k : Zl X Q G1 G2 S1 S2 cs tgt ls st) : Zl X Q G1 G2 S1 S2 cs pc ls (.int x :: st) :=
  fun H locs la hI hl => lv_if_eq hC.1 hC.2.1 d ht (fun _ => k H locs la hI hl) (fun h => absurd hx h)
theorem l_istore (hC : lC e9 D X b L xs) {n : Fin 4} {v : Int32} {ls' : List (Option Value)} (i : Nat) (d : decode code pc = .ok (.istore_n n, 1)) (hi : (n : Nat) = i) (hn : i < 4) (hs : stl ls i (.int v) = ls') (k : Zl X Q G1 G2 S1 S2 cs (pc + 1) ls' st) : Zl X Q G1 G2 S1 S2 cs pc ls (.int v :: st) :=
  fun H locs la hI hl => lv_istore_n hC.1 hC.2.1 d hi (zlv_has hl) hn rfl (fun la' h' => k H locs la' hI (hs ▸ zlv_store1 rfl h'))
theorem l_astore (hC : lC e9 D X b L xs) {n : Fin 4} {v : Nat} {ls' : List (Option Value)} (i : Nat) (d : decode code pc = .ok (.astore_n n, 1)) (hi : (n : Nat) = i) (hn : i < 4) (hs : stl ls i (.ref v) = ls') (k : Zl X Q G1 G2 S1 S2 cs (pc + 1) ls' st) : Zl X Q G1 G2 S1 S2 cs pc ls (.ref v :: st) :=
  fun H locs la hI hl => lv_astore_n hC.1 hC.2.1 d hi (zlv_has hl) hn rfl (fun la' h' => k H locs la' hI (hs ▸ zlv_store1 rfl h'))
theorem l_iinc (hC : lC e9 D X b L xs) {i : Nat} {n : Int} {v w : Int32} {ls' : List (Option Value)} (d : decode code pc = .ok (.iinc i n, 3)) (hv : ls[i]? = some (some (.int v))) (hw : v + Int32.ofInt n = w) (hn : i < 4) (hs : stl ls i (.int w) = ls') (k : Zl X Q G1 G2 S1 S2 cs (pc + 3) ls' st) : Zl X Q G1 G2 S1 S2 cs pc ls st := by
  intro H locs la hI hl
  obtain ⟨q, hq⟩ := List.getElem?_of_mem (zprs_mem.mpr hv)
  exact lv_iinc (k := q) hC.1 hC.2.1 d (zlv_has hl) hq hw hn rfl (fun la' h' => k H locs la' hI (hs ▸ zlv_store1 rfl h'))
theorem l_len (hC : lC e9 D X b L xs) (d : decode code pc = .ok (.arraylength, 1)) (k : Zl X Q G1 G2 S1 S2 cs (pc + 1) ls (.int (Int32.ofNat L) :: st)) : Zl X Q G1 G2 S1 S2 cs pc ls (.ref b :: st) :=
  fun H locs la hI hl => va_slen hC.1 hC.2.1 hC.2.2.2.2.2.2.2.2.2.2.2.1 hC.2.2.2.2.2.2.2.2.2.2.2.2.1 (Nat.not_le.mpr hC.2.2.2.2.2.2.2.2.2.2.2.2.1) hI.2.2.2.2.2.2.2 d (k H locs la hI hl)
theorem l_ld (hC : lC e9 D X b L xs) {i : Int32} {n : Nat} (hi : i.toNatClampNeg = n) (h0 : ¬ i < 0) (hn : n < L) (d : decode code pc = .ok (.iaload, 1)) (k : Zl X Q G1 G2 S1 S2 cs (pc + 1) ls (.int (xs n) :: st)) : Zl X Q G1 G2 S1 S2 cs pc ls (.int i :: .ref b :: st) := by
  subst hi
  exact fun H locs la hI hl => va_sld hC.1 hC.2.1 hC.2.2.2.2.2.2.2.2.2.2.2.1 hC.2.2.2.2.2.2.2.2.2.2.2.2.1 (Nat.not_le.mpr hC.2.2.2.2.2.2.2.2.2.2.2.2.1) hI.2.2.2.2.2.2.2 (i := i) (fun h => by rcases h with h | h; exact h0 h; omega) d (k H locs la hI hl)
theorem l_ofNat {n : Nat} (h : n < 2 ^ 31) : (Int32.ofNat n).toNatClampNeg = n ∧ ¬ Int32.ofNat n < 0 := by
  refine ⟨Int32.toNatClampNeg_ofNat_of_lt h, ?_⟩
  intro hlt
  have h1 : Int32.ofNat n < Int32.ofNat 0 := hlt
  rw [Int32.ofNat_lt_iff_lt h (by decide)] at h1
  omega
/-- a number of the script -/
theorem l_arg (hC : lC e9 D X b L xs) {n k : Nat} {kk : Int} (hn : n + k < L) (hk : Int32.ofInt kk = Int32.ofNat k) (hls0 : ls[0]? = some (some (.ref b))) (hls3 : ls[3]? = some (some (.int (Int32.ofNat n)))) (d0 : decode code pc = .ok (.aload_n 0, 1)) (d1 : decode code (pc + 1) = .ok (.iload_n 3, 1)) (d2 : decode code (pc + 1 + 1) = .ok (.iconst kk, 1)) (d3 : decode code (pc + 1 + 1 + 1) = .ok (.iadd, 1)) (d4 : decode code (pc + 1 + 1 + 1 + 1) = .ok (.iaload, 1)) (k9 : Zl X Q G1 G2 S1 S2 cs (pc + 1 + 1 + 1 + 1 + 1) ls (.int (xs (n + k)) :: st)) : Zl X Q G1 G2 S1 S2 cs pc ls st := by
  have hL := hC.2.2.2.2.2.2.2.2.2.2.2.2.2
  refine l_aload hC 0 d0 rfl hls0 ?_
  refine l_iload hC 3 d1 rfl hls3 ?_
  refine l_iconst hC d2 hk ?_
  refine l_iadd hC d3 ?_
  have e : Int32.ofNat n + Int32.ofNat k = Int32.ofNat (n + k) := (Int32.ofNat_add n k).symm
  rw [e]
  have := l_ofNat (n := n + k) (by omega)
  exact l_ld hC this.1 this.2 hn d4 k9
/-- the switch -/
theorem l_switch (hC : lC e9 D X b L xs) {x : Int32} {dflt hi : Int} {offs : Array Int} {len : Nat} (tgtd : Nat) (d : decode code pc = .ok (.tableswitch dflt 0 hi offs, len)) (ht : (pc : Int) + dflt = (tgtd : Int)) (kd : (x.toInt < 0 ∨ hi < x.toInt) → Zl X Q G1 G2 S1 S2 cs tgtd ls st) (k : ∀ i : Nat, x.toInt = (i : Int) → (i : Int) ≤ hi → ∃ off tgt, offs[i]? = some off ∧ (pc : Int) + off = ((tgt : Nat) : Int) ∧ Zl X Q G1 G2 S1 S2 cs tgt ls st) : Zl X Q G1 G2 S1 S2 cs pc ls (.int x :: st) := by
  intro H locs la hI hl
  by_cases h : x.toInt < 0 ∨ hi < x.toInt
  · exact lv_tableOut hC.1 hC.2.1 d h ht (kd h H locs la hI hl)
  · have h1 : ¬ x.toInt < 0 := fun c => h (Or.inl c)
    have h2 : ¬ hi < x.toInt := fun c => h (Or.inr c)
    obtain ⟨off, tgt, g1, g2, g3⟩ := k x.toInt.toNat (by omega) (by omega)
    exact lv_tableIn hC.1 hC.2.1 d h1 h2 (by rw [Int.sub_zero]; exact g1) g2 (g3 H locs la hI hl)
end
theorem l_cZ {ρ' : Type} {X : zCx} {Q : State → Prop} {G1 G2 : zGw} {S1 S2 : zSt} {cs : Nat × Nat} {pc : Nat} {ls : List (Option Value)} {st : List Value} {e9 : zRe} {D : va_G} {b L : Nat} {xs : Nat → Int32} {Mc : zMr} {yc : MethodName} {idx : Nat} {r : ρ'} {S' : zSt} {injc : ρ' → Option Value} {Fc : zSt → Option (ρ' × zSt)} (As rest : List Value) (hC : lC e9 D X b L xs) (hct : Zc Mc yc injc G1 (.ref (G1.1 0) :: As) Fc) (ci : Nat) (hF : Fc S1 = some (r, S')) (hD : G1.2.2.2 = D) (hmv : ZV Mc yc As.length) (hl9 : Cond.methodLink "HiddenCubeLaw" idx yc ∈ lw_all) (hst : st = As.reverse ++ .ref (G1.1 0) :: rest) (hsh : G1.2.1 0 = some (.inl ci)) (hcn : (zcl[ci]?).map Prod.fst = some Mc.1) (hd : Mc.2.2.2.2.1 ≤ 1500) (hL : Mc.2.2.1 ≤ 45) (hz : Mc.2.2.2.2.2.2.2 = none) (hq1 : cs.1 + Mc.2.2.2.2.2.1 ≤ 1200384) (hq2 : cs.2 + Mc.2.2.2.2.2.2.1 ≤ 5488810) (hcat : (rest.map fun v => v.category).sum ≤ 8) (d : decode code pc = .ok (.invokevirtual idx, 3))
    (kk : Zl X Q G1 G2 S' S2 (cs.1 + Mc.2.2.2.2.2.1, cs.2 + Mc.2.2.2.2.2.2.1) (pc + 3) ls ((injc r).toList ++ rest)) : Zl X Q G1 G2 S1 S2 cs pc ls st := by
  intro H locs la hI hl
  obtain ⟨p, l, e, R, s, m, args, below, meth, c⟩ := X
  have hR : R = room_1 := hC.2.2.2.2.2.1
  subst hR
  have hcwc : zcw Mc yc = Cond.code yc Mc.2.1 Mc.2.2.1 Mc.2.2.2.1 := by unfold zcw; rw [hz]
  have hctl := hct l S1 (r, S') H.size hC.2.2.2.2.2.2.1 hF
  rw [hcwc] at hctl
  subst hst
  obtain ⟨m1, m2, m3, m4, m5, m6, m7, m8⟩ := hmv
  obtain ⟨q, hq9, hq8⟩ := Option.map_eq_some_iff.mp hcn
  obtain ⟨C, T9, N9⟩ := q
  have hC9 : C = Mc.1 := hq8
  subst hC9
  have hob := zhp_obj hI.1 hsh hq9
  have hkn := hC.2.2.2.2.2.2.2.2.2.2.1 G1 hD
  have hrec : ∃ cell : Cell, H[G1.1 0]? = some cell ∧ cell.vm.isStatics = false ∧ s.vm.findClass Mc.1 = some cell.cls := by
    obtain ⟨cell, g1, g2, g3, -⟩ := hob
    exact ⟨cell, g1, by rw [g3]; rfl, by rw [g2]; exact (hkn ci _ hq9).2.1⟩
  refine l_after (injc := fun r _ => injc r) (Kc := fun G' => G' = G1) hI (l_map (l_lift hI.2.2.1) (va_runV (As := As) (rest := rest) ⟨hC.1, hC.2.1, hC.2.2.1, hC.2.2.2.1, hC.2.2.2.2.1⟩ hctl (cwV As.length hC.2.2.2.2.1 (lw_V hl9 m1 m2 m3 m4) rfl rfl rfl ⟨m5, m6, m7, m8⟩ (l_room hd hL)) ⟨z_blind, hrec, l_pre hI hkn hC.2.2.2.2.2.2.2.1 hC.2.2.2.2.2.2.2.2.1⟩ rfl rfl hl.1 rfl (lv_room hcat) d ⟨hq1, hq2⟩)) ?_
  intro G' H1 locs1 hK heq hI1
  subst hK
  exact kk H1 locs1 la hI1 hl
theorem l_cZW {ρ' : Type} {X : zCx} {Q : State → Prop} {G1 G2 : zGw} {S1 S2 : zSt} {cs : Nat × Nat} {pc : Nat} {ls : List (Option Value)} {st : List Value} {e9 : zRe} {D : va_G} {b L : Nat} {xs : Nat → Int32} {Mc : zMr} {yc : MethodName} {idx : Nat} {r : ρ'} {S' : zSt} {injc : ρ' → Option Value} {Fc : zSt → Option (ρ' × zSt)} (As rest : List Value) (hC : lC e9 D X b L xs) (hct : Zc Mc yc injc G1 (.ref (G1.1 0) :: As) Fc) (ci : Nat) (hF : Fc S1 = some (r, S')) (hD : G1.2.2.2 = D) (hmv : ZVW Mc yc As.length) (hl9 : Cond.methodLink "HiddenCubeLaw" idx yc ∈ lw_all) (hst : st = As.reverse ++ .ref (G1.1 0) :: rest) (hsh : G1.2.1 0 = some (.inl ci)) (hcn : (zcl[ci]?).map Prod.fst = some Mc.1) (hd : Mc.2.2.2.2.1 ≤ 1500) (hL : Mc.2.2.1 ≤ 45) (hz : ∃ hh, Mc.2.2.2.2.2.2.2 = some hh) (hq1 : cs.1 + Mc.2.2.2.2.2.1 ≤ 1200384) (hq2 : cs.2 + Mc.2.2.2.2.2.2.1 ≤ 5488810) (hcat : (rest.map fun v => v.category).sum ≤ 8) (d : decode code pc = .ok (.invokevirtual idx, 3))
    (kk : Zl X Q G1 G2 S' S2 (cs.1 + Mc.2.2.2.2.2.1, cs.2 + Mc.2.2.2.2.2.2.1) (pc + 3) ls ((injc r).toList ++ rest)) : Zl X Q G1 G2 S1 S2 cs pc ls st := by
  intro H locs la hI hl
  obtain ⟨p, l, e, R, s, m, args, below, meth, c⟩ := X
  have hR : R = room_1 := hC.2.2.2.2.2.1
  subst hR
  obtain ⟨hh, hz3⟩ := hz
  have hzh : zhh Mc = hh := by unfold zhh; rw [hz3]
  have hcwc : zcw Mc yc = Cond.codeWith yc Mc.2.1 Mc.2.2.1 Mc.2.2.2.1 hh := by unfold zcw; rw [hz3]
  have hctl := hct l S1 (r, S') H.size hC.2.2.2.2.2.2.1 hF
  rw [hcwc] at hctl
  subst hst
  obtain ⟨m1, m2, m3, m4, m5, m6, m7, m8⟩ := hmv
  rw [hzh] at m4
  obtain ⟨q, hq9, hq8⟩ := Option.map_eq_some_iff.mp hcn
  obtain ⟨C, T9, N9⟩ := q
  have hC9 : C = Mc.1 := hq8
  subst hC9
  have hob := zhp_obj hI.1 hsh hq9
  have hkn := hC.2.2.2.2.2.2.2.2.2.2.1 G1 hD
  have hrec : ∃ cell : Cell, H[G1.1 0]? = some cell ∧ cell.vm.isStatics = false ∧ s.vm.findClass Mc.1 = some cell.cls := by
    obtain ⟨cell, g1, g2, g3, -⟩ := hob
    exact ⟨cell, g1, by rw [g3]; rfl, by rw [g2]; exact (hkn ci _ hq9).2.1⟩
  refine l_after (injc := fun r _ => injc r) (Kc := fun G' => G' = G1) hI (l_map (l_lift hI.2.2.1) (vx_runVW (As := As) (rest := rest) ⟨hC.1, hC.2.1, hC.2.2.1, hC.2.2.2.1, hC.2.2.2.2.1⟩ hctl (vx_cwVW As.length hC.2.2.2.2.1 (lw_VW hl9 m1 m2 m3 m4) rfl rfl rfl ⟨m5, m6, m7, m8⟩ (l_room hd hL)) ⟨z_blind, hrec, l_pre hI hkn hC.2.2.2.2.2.2.2.1 hC.2.2.2.2.2.2.2.2.1⟩ rfl rfl hl.1 rfl (lv_room hcat) d ⟨hq1, hq2⟩)) ?_
  intro G' H1 locs1 hK heq hI1
  subst hK
  exact kk H1 locs1 la hI1 hl
theorem l_cG {ρ' : Type} {X : zCx} {Q : State → Prop} {G1 G2 : zGw} {S1 S2 : zSt} {cs : Nat × Nat} {pc : Nat} {ls : List (Option Value)} {st : List Value} {e9 : zRe} {D : va_G} {b L : Nat} {xs : Nat → Int32} {Mc : zMr} {yc : MethodName} {idx : Nat} {r : ρ'} {S' : zSt} {injc : ρ' → zGw → Option Value} {Kc : zGw → Prop} {Fc : zSt → Option (ρ' × zSt)} (As rest : List Value) (hC : lC e9 D X b L xs) (hct : Zg Mc yc injc G1 Kc (.ref (G1.1 0) :: As) Fc) (ci : Nat) (hF : Fc S1 = some (r, S')) (hD : G1.2.2.2 = D) (hmv : ZV Mc yc As.length) (hl9 : Cond.methodLink "HiddenCubeLaw" idx yc ∈ lw_all) (hst : st = As.reverse ++ .ref (G1.1 0) :: rest) (hsh : G1.2.1 0 = some (.inl ci)) (hcn : (zcl[ci]?).map Prod.fst = some Mc.1) (hd : Mc.2.2.2.2.1 ≤ 1500) (hL : Mc.2.2.1 ≤ 45) (hz : Mc.2.2.2.2.2.2.2 = none) (hq1 : cs.1 + Mc.2.2.2.2.2.1 ≤ 1200384) (hq2 : cs.2 + Mc.2.2.2.2.2.2.1 ≤ 5488810) (hcat : (rest.map fun v => v.category).sum ≤ 8) (d : decode code pc = .ok (.invokevirtual idx, 3))
    (kk : ∀ G', Kc G' → G'.2.2.2 = D → Zl X Q G' G2 S' S2 (cs.1 + Mc.2.2.2.2.2.1, cs.2 + Mc.2.2.2.2.2.2.1) (pc + 3) ls ((injc r G').toList ++ rest)) : Zl X Q G1 G2 S1 S2 cs pc ls st := by
  intro H locs la hI hl
  obtain ⟨p, l, e, R, s, m, args, below, meth, c⟩ := X
  have hR : R = room_1 := hC.2.2.2.2.2.1
  subst hR
  have hcwc : zcw Mc yc = Cond.code yc Mc.2.1 Mc.2.2.1 Mc.2.2.2.1 := by unfold zcw; rw [hz]
  have hctl := hct l S1 (r, S') H.size hC.2.2.2.2.2.2.1 hF
  rw [hcwc] at hctl
  subst hst
  obtain ⟨m1, m2, m3, m4, m5, m6, m7, m8⟩ := hmv
  obtain ⟨q, hq9, hq8⟩ := Option.map_eq_some_iff.mp hcn
  obtain ⟨C, T9, N9⟩ := q
  have hC9 : C = Mc.1 := hq8
  subst hC9
  have hob := zhp_obj hI.1 hsh hq9
  have hkn := hC.2.2.2.2.2.2.2.2.2.2.1 G1 hD
  have hrec : ∃ cell : Cell, H[G1.1 0]? = some cell ∧ cell.vm.isStatics = false ∧ s.vm.findClass Mc.1 = some cell.cls := by
    obtain ⟨cell, g1, g2, g3, -⟩ := hob
    exact ⟨cell, g1, by rw [g3]; rfl, by rw [g2]; exact (hkn ci _ hq9).2.1⟩
  refine l_after hI (va_runV (As := As) (rest := rest) ⟨hC.1, hC.2.1, hC.2.2.1, hC.2.2.2.1, hC.2.2.2.2.1⟩ hctl (cwV As.length hC.2.2.2.2.1 (lw_V hl9 m1 m2 m3 m4) rfl rfl rfl ⟨m5, m6, m7, m8⟩ (l_room hd hL)) ⟨z_blind, hrec, l_pre hI hkn hC.2.2.2.2.2.2.2.1 hC.2.2.2.2.2.2.2.2.1⟩ rfl rfl hl.1 rfl (lv_room hcat) d ⟨hq1, hq2⟩) ?_
  intro G' H1 locs1 hK heq hI1
  exact kk G' hK (heq.trans hD) H1 locs1 la hI1 hl
theorem l_cGW {ρ' : Type} {X : zCx} {Q : State → Prop} {G1 G2 : zGw} {S1 S2 : zSt} {cs : Nat × Nat} {pc : Nat} {ls : List (Option Value)} {st : List Value} {e9 : zRe} {D : va_G} {b L : Nat} {xs : Nat → Int32} {Mc : zMr} {yc : MethodName} {idx : Nat} {r : ρ'} {S' : zSt} {injc : ρ' → zGw → Option Value} {Kc : zGw → Prop} {Fc : zSt → Option (ρ' × zSt)} (As rest : List Value) (hC : lC e9 D X b L xs) (hct : Zg Mc yc injc G1 Kc (.ref (G1.1 0) :: As) Fc) (ci : Nat) (hF : Fc S1 = some (r, S')) (hD : G1.2.2.2 = D) (hmv : ZVW Mc yc As.length) (hl9 : Cond.methodLink "HiddenCubeLaw" idx yc ∈ lw_all) (hst : st = As.reverse ++ .ref (G1.1 0) :: rest) (hsh : G1.2.1 0 = some (.inl ci)) (hcn : (zcl[ci]?).map Prod.fst = some Mc.1) (hd : Mc.2.2.2.2.1 ≤ 1500) (hL : Mc.2.2.1 ≤ 45) (hz : ∃ hh, Mc.2.2.2.2.2.2.2 = some hh) (hq1 : cs.1 + Mc.2.2.2.2.2.1 ≤ 1200384) (hq2 : cs.2 + Mc.2.2.2.2.2.2.1 ≤ 5488810) (hcat : (rest.map fun v => v.category).sum ≤ 8) (d : decode code pc = .ok (.invokevirtual idx, 3))
    (kk : ∀ G', Kc G' → G'.2.2.2 = D → Zl X Q G' G2 S' S2 (cs.1 + Mc.2.2.2.2.2.1, cs.2 + Mc.2.2.2.2.2.2.1) (pc + 3) ls ((injc r G').toList ++ rest)) : Zl X Q G1 G2 S1 S2 cs pc ls st := by
  intro H locs la hI hl
  obtain ⟨p, l, e, R, s, m, args, below, meth, c⟩ := X
  have hR : R = room_1 := hC.2.2.2.2.2.1
  subst hR
  obtain ⟨hh, hz3⟩ := hz
  have hzh : zhh Mc = hh := by unfold zhh; rw [hz3]
  have hcwc : zcw Mc yc = Cond.codeWith yc Mc.2.1 Mc.2.2.1 Mc.2.2.2.1 hh := by unfold zcw; rw [hz3]
  have hctl := hct l S1 (r, S') H.size hC.2.2.2.2.2.2.1 hF
  rw [hcwc] at hctl
  subst hst
  obtain ⟨m1, m2, m3, m4, m5, m6, m7, m8⟩ := hmv
  rw [hzh] at m4
  obtain ⟨q, hq9, hq8⟩ := Option.map_eq_some_iff.mp hcn
  obtain ⟨C, T9, N9⟩ := q
  have hC9 : C = Mc.1 := hq8
  subst hC9
  have hob := zhp_obj hI.1 hsh hq9
  have hkn := hC.2.2.2.2.2.2.2.2.2.2.1 G1 hD
  have hrec : ∃ cell : Cell, H[G1.1 0]? = some cell ∧ cell.vm.isStatics = false ∧ s.vm.findClass Mc.1 = some cell.cls := by
    obtain ⟨cell, g1, g2, g3, -⟩ := hob
    exact ⟨cell, g1, by rw [g3]; rfl, by rw [g2]; exact (hkn ci _ hq9).2.1⟩
  refine l_after hI (vx_runVW (As := As) (rest := rest) ⟨hC.1, hC.2.1, hC.2.2.1, hC.2.2.2.1, hC.2.2.2.2.1⟩ hctl (vx_cwVW As.length hC.2.2.2.2.1 (lw_VW hl9 m1 m2 m3 m4) rfl rfl rfl ⟨m5, m6, m7, m8⟩ (l_room hd hL)) ⟨z_blind, hrec, l_pre hI hkn hC.2.2.2.2.2.2.2.1 hC.2.2.2.2.2.2.2.2.1⟩ rfl rfl hl.1 rfl (lv_room hcat) d ⟨hq1, hq2⟩) ?_
  intro G' H1 locs1 hK heq hI1
  exact kk G' hK (heq.trans hD) H1 locs1 la hI1 hl
theorem l_cEW {ρ' : Type} {X : zCx} {Q : State → Prop} {G1 G2 : zGw} {S1 S2 : zSt} {cs : Nat × Nat} {pc : Nat} {ls : List (Option Value)} {st : List Value} {e9 : zRe} {D : va_G} {b L : Nat} {xs : Nat → Int32} {Mc : zMr} {yc : MethodName} {idx : Nat} {r : ρ'} {S' : zSt} {injc : ρ' → zGw → Option Value} {Kc : zGw → Prop} {Fc : zSt → Option (ρ' × zSt)} (As rest : List Value) (hC : lC e9 D X b L xs) (hct : ZgE e9 Mc yc injc G1 Kc (.ref (G1.1 0) :: As) Fc) (ci : Nat) (hF : Fc S1 = some (r, S')) (hD : G1.2.2.2 = D) (hmv : ZVW Mc yc As.length) (hl9 : Cond.methodLink "HiddenCubeLaw" idx yc ∈ lw_all) (hst : st = As.reverse ++ .ref (G1.1 0) :: rest) (hsh : G1.2.1 0 = some (.inl ci)) (hcn : (zcl[ci]?).map Prod.fst = some Mc.1) (hd : Mc.2.2.2.2.1 ≤ 1500) (hL : Mc.2.2.1 ≤ 45) (hz : ∃ hh, Mc.2.2.2.2.2.2.2 = some hh) (hq1 : cs.1 + Mc.2.2.2.2.2.1 ≤ 1200384) (hq2 : cs.2 + Mc.2.2.2.2.2.2.1 ≤ 5488810) (hcat : (rest.map fun v => v.category).sum ≤ 8) (d : decode code pc = .ok (.invokevirtual idx, 3))
    (kk : ∀ G', Kc G' → G'.2.2.2 = D → Zl X Q G' G2 S' S2 (cs.1 + Mc.2.2.2.2.2.1, cs.2 + Mc.2.2.2.2.2.2.1) (pc + 3) ls ((injc r G').toList ++ rest)) : Zl X Q G1 G2 S1 S2 cs pc ls st := by
  intro H locs la hI hl
  obtain ⟨p, l, e, R, s, m, args, below, meth, c⟩ := X
  have hR : R = room_1 := hC.2.2.2.2.2.1
  subst hR
  obtain ⟨hh, hz3⟩ := hz
  have hzh : zhh Mc = hh := by unfold zhh; rw [hz3]
  have hcwc : zcw Mc yc = Cond.codeWith yc Mc.2.1 Mc.2.2.1 Mc.2.2.2.1 hh := by unfold zcw; rw [hz3]
  have hctl := hct l S1 (r, S') H.size hC.2.2.2.2.2.2.1 hF
  rw [hcwc] at hctl
  subst hst
  obtain ⟨m1, m2, m3, m4, m5, m6, m7, m8⟩ := hmv
  rw [hzh] at m4
  obtain ⟨q, hq9, hq8⟩ := Option.map_eq_some_iff.mp hcn
  obtain ⟨C, T9, N9⟩ := q
  have hC9 : C = Mc.1 := hq8
  subst hC9
  have hob := zhp_obj hI.1 hsh hq9
  have hkn := hC.2.2.2.2.2.2.2.2.2.2.1 G1 hD
  have hrec : ∃ cell : Cell, H[G1.1 0]? = some cell ∧ cell.vm.isStatics = false ∧ s.vm.findClass Mc.1 = some cell.cls := by
    obtain ⟨cell, g1, g2, g3, -⟩ := hob
    exact ⟨cell, g1, by rw [g3]; rfl, by rw [g2]; exact (hkn ci _ hq9).2.1⟩
  refine l_after hI (vx_runVW (As := As) (rest := rest) ⟨hC.1, hC.2.1, hC.2.2.1, hC.2.2.2.1, hC.2.2.2.2.1⟩ hctl (vx_cwVW As.length hC.2.2.2.2.1 (lw_VW hl9 m1 m2 m3 m4) rfl rfl rfl ⟨m5, m6, m7, m8⟩ (l_room hd hL)) ⟨zE_blind, hrec, l_preE hI hkn hC.2.2.2.2.2.2.2.1 hC.2.2.2.2.2.2.2.2.1 hC.2.2.2.2.2.2.2.2.2.1⟩ rfl rfl hl.1 rfl (lv_room hcat) d ⟨hq1, hq2⟩) ?_
  intro G' H1 locs1 hK heq hI1
  exact kk G' hK (heq.trans hD) H1 locs1 la hI1 hl
