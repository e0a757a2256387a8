/-! MORE ROWS: binds, lets, loops, joins in curried form -/
set_option maxRecDepth 100000
def zbind {ρ σ : Type} (x : Option (ρ × zSt)) (k : ρ → zSt → Option σ) : Option σ := x.bind (fun q => k q.1 q.2)
def zlet {α β : Type} (e : α) (f : α → β) : β := f e
def joinK {κ ρ : Type} (k : κ) (e : κ → ρ) : ρ := e k
def loopK {κ : Type} (bot : κ) (body : κ → κ) : Nat → κ
  | 0 => bot
  | n + 1 => body (loopK bot body n)
theorem z_loopK {κ : Type} {bot : κ} {body : κ → κ} (P : κ → Prop) (h0 : P bot) (hs : ∀ j, P j → P (body j)) : ∀ n, P (loopK bot body n) := by
  intro n
  induction n with
  | zero => exact h0
  | succ n ih => exact hs _ ih
def lmask : List Bool → List (Option Value) → List (Option Value)
  | [], _ => []
  | _ :: _, [] => []
  | b :: m, v :: l => (bif b then v else none) :: lmask m l
theorem lmask_get : ∀ (m : List Bool) (l : List (Option Value)) (i : Nat) (v : Value), (lmask m l)[i]? = some (some v) → l[i]? = some (some v)
  | [], _, i, v, h => by simp [lmask] at h
  | _ :: _, [], i, v, h => by simp [lmask] at h
  | b :: m, w :: l, i, v, h => by
    cases i with
    | zero =>
      cases b with
      | false => simp [lmask] at h
      | true => simpa [lmask] using h
    | succ i =>
      have h1 : (lmask m l)[i]? = some (some v) := by simpa [lmask] using h
      simpa using lmask_get m l i v h1
theorem z_join {κ : Type} {ρ : Type} {X : zCx} {M : zMr} {inj : ρ → Option Value} {G : zGw} {cs : Nat × Nat} {res : ρ × zSt} {S : zSt} {pc : Nat} {ls : List (Option Value)} {st : List Value} {k : κ} {e : κ → Option (ρ × zSt)} (P : κ → Prop) (hk : P k) (he : ∀ j : κ, P j → Zm X M inj G cs res S pc ls st (e j)) : Zm X M inj G cs res S pc ls st (joinK k e) := he k hk
theorem z_maskk {ρ : Type} {X : zCx} {M : zMr} {inj : ρ → Option Value} {G : zGw} {cs : Nat × Nat} {res : ρ × zSt} {S : zSt} {pc : Nat} {ls : List (Option Value)} {st : List Value} {f : Option (ρ × zSt)} (m : List Bool) (k : Zm X M inj G cs res S pc (lmask m ls) st f) : Zm X M inj G cs res S pc ls st f := fun hf ho H locs la hp hl hS => k hf ho H locs la hp ⟨hl.1, hl.2.1, fun i v hv => hl.2.2 i v (lmask_get m ls i v hv)⟩ hS
theorem z_mask {ρ : Type} {X : zCx} {M : zMr} {inj : ρ → Option Value} {G : zGw} {cs : Nat × Nat} {res : ρ × zSt} {S : zSt} {pc : Nat} {ls : List (Option Value)} {st : List Value} {f : Option (ρ × zSt)} {ls' : List (Option Value)} (m : List Bool) (k : Zm X M inj G cs res S pc ls' st f) (e : lmask m ls = ls') : Zm X M inj G cs res S pc ls st f := z_maskk m (e ▸ k)
theorem z_pure {ρ : Type} {X : zCx} {M : zMr} {inj : ρ → Option Value} {G : zGw} {cs : Nat × Nat} {res : ρ × zSt} {S : zSt} {pc : Nat} {ls : List (Option Value)} {st : List Value} {f : Option (ρ × zSt)} {st0 : List Value} (pcJ : Nat) (E : Int32) (hJ : Zm X M inj G cs res S pcJ ls (.int E :: st0) f) (hw : Zm X M inj G cs res S pcJ ls (.int E :: st0) f → Zm X M inj G cs res S pc ls st f) : Zm X M inj G cs res S pc ls st f := hw hJ
theorem z_leaf {ρ : Type} {X : zCx} {M : zMr} {inj : ρ → Option Value} {G : zGw} {cs : Nat × Nat} {res : ρ × zSt} {S : zSt} {pc : Nat} {ls : List (Option Value)} {st : List Value} {f : Option (ρ × zSt)} {E x : Int32} (hJ : Zm X M inj G cs res S pc ls (.int E :: st) f) (h : E = x) : Zm X M inj G cs res S pc ls (.int x :: st) f := h ▸ hJ
theorem z_letI {ρ : Type} {X : zCx} {M : zMr} {inj : ρ → Option Value} {G : zGw} {cs : Nat × Nat} {res : ρ × zSt} {S : zSt} {pc : Nat} {ls : List (Option Value)} {st : List Value} {v : Int32} {g : Int32 → Option (ρ × zSt)} (k : ∀ w, Zm X M inj G cs res S pc ls (.int w :: st) (g w)) : Zm X M inj G cs res S pc ls (.int v :: st) (zlet v g) := k v
theorem z_letI2 {ρ : Type} {X : zCx} {M : zMr} {inj : ρ → Option Value} {G : zGw} {cs : Nat × Nat} {res : ρ × zSt} {S : zSt} {pc : Nat} {ls : List (Option Value)} {st : List Value} {v : Int32} {u : Value} {g : Int32 → Option (ρ × zSt)} (k : ∀ w, Zm X M inj G cs res S pc ls (u :: .int w :: st) (g w)) : Zm X M inj G cs res S pc ls (u :: .int v :: st) (zlet v g) := k v
theorem z_letL {ρ : Type} {X : zCx} {M : zMr} {inj : ρ → Option Value} {G : zGw} {cs : Nat × Nat} {res : ρ × zSt} {S : zSt} {pc : Nat} {ls : List (Option Value)} {st : List Value} {v : Int64} {g : Int64 → Option (ρ × zSt)} (k : ∀ w, Zm X M inj G cs res S pc ls (.long w :: st) (g w)) : Zm X M inj G cs res S pc ls (.long v :: st) (zlet v g) := k v
theorem z_letS {ρ : Type} {X : zCx} {M : zMr} {inj : ρ → Option Value} {G : zGw} {cs : Nat × Nat} {res : ρ × zSt} {S : zSt} {pc : Nat} {ls : List (Option Value)} {st : List Value} {g : zSt → Option (ρ × zSt)} (k : ∀ w, Zm X M inj G cs res w pc ls st (g w)) : Zm X M inj G cs res S pc ls st (zlet S g) := k S
theorem z_zret0 {X : zCx} {M : zMr} {G : zGw} {cs : Nat × Nat} {S : zSt} {pc : Nat} {ls : List (Option Value)} {res : Int32 × zSt} (hr : M.2.2.2.1 = some .boolean) (d : decode M.2.1 pc = .ok (.ireturn, 1)) (hc : zcs cs M = true) : Zm X M zJI G cs res S pc ls [.int 0] (some (0, S)) := z_zret hr (by decide) d hc
theorem z_zret1 {X : zCx} {M : zMr} {G : zGw} {cs : Nat × Nat} {S : zSt} {pc : Nat} {ls : List (Option Value)} {res : Int32 × zSt} (hr : M.2.2.2.1 = some .boolean) (d : decode M.2.1 pc = .ok (.ireturn, 1)) (hc : zcs cs M = true) : Zm X M zJI G cs res S pc ls [.int 1] (some (1, S)) := z_zret hr (by decide) d hc
theorem z_ldcw {ρ : Type} {X : zCx} {M : zMr} {inj : ρ → Option Value} {G : zGw} {cs : Nat × Nat} {res : ρ × zSt} {S : zSt} {pc : Nat} {ls : List (Option Value)} {st : List Value} {f : Option (ρ × zSt)} {i : Nat} {v : Int32} (d : decode M.2.1 pc = .ok (.ldc_w i, 3)) (hc : Jvm.Cond.constant M.1 i v ∈ lw_all) (k : Zm X M inj G cs res S (pc + 3) ls (.int v :: st) f) : Zm X M inj G cs res S pc ls st f :=
  fun hf ho H locs la hp hl hS => lv_ldcw ho.1 ho.2.1 ho.2.2.2.1 (ho.2.2.2.2.1 _ hc) d (k hf ho H locs la hp hl hS)
def cpI (S : zSt) (a sp b dp n : Nat) : zSt := (fun k j => if k = b then (if dp ≤ j ∧ j < dp + n then S.1 a (sp + (j - dp)) else S.1 k j) else S.1 k j, S.2)
def acopy {ρ : Type} (n0 n1 : Nat) (sp dp n : Int32) (f : Option ρ) : Option ρ := if sp < 0 ∨ dp < 0 ∨ n < 0 ∨ n0 < sp.toNatClampNeg + n.toNatClampNeg ∨ n1 < dp.toNatClampNeg + n.toNatClampNeg then none else f
theorem w_acopyI {p : Program} {l : Launch} {e : Env} {R : Room} {s : State} {m : MethodId} {args : Array Value} {below : List Frame} {meth : Method} {c : Code} {H : Heap} {locs : List Loc} {cells slots : Nat} {Q : State → Prop} {cc : ByteArray} {pc : Nat} {ls : Array Slot} {rest : List Value} (hexec : p.tables.exec = Jvm.exec) (hb : c.code = cc) (hml : c.maxLocals = ls.size) {own : String} {index : Nat} (hown : s.vm.findClass own = some m.cls) (hlink : (Cond.methodLink own index arraycopyName).before args s = true) (hnat : (Cond.native arraycopyName).before args s = true) (hstat : (Cond.static arraycopyName).before args s = true) (hini : (Cond.initialized "java/lang/System").before args s = true)
    {a0 a : Nat} {c0 c1 : ClassId} {n0 n1 : Nat} {f g : Nat → Int32} {ty : FieldType} (hc0 : H[a0]? = some (arrV c0 n0 (fun j => .int (f j)))) (hc1 : H[a]? = some (arrV c1 n1 (fun j => .int (g j)))) (hA0 : ArrOfT s c0 ty) (hA1 : ArrOfT s c1 ty) (hprim : refKind ty = false)
    {sp dp n : Int32} (h1 : ¬ sp < 0) (h2 : ¬ dp < 0) (h3 : ¬ n < 0) (h4 : sp.toNatClampNeg + n.toNatClampNeg ≤ n0) (h5 : dp.toNatClampNeg + n.toNatClampNeg ≤ n1) (hfit : ∀ i, i < n.toNatClampNeg → fits ty (.int (f (sp.toNatClampNeg + i))) = true)
    (hframes : 1 ≤ R.frames) (hlocals : (rest.map fun v => v.category).sum + (nativeFrameWords "java/lang/System" "arraycopy" 5 + 11) ≤ R.locals) (hdg : decode cc pc = .ok (.invokestatic index, 3))
    (kk : ∀ H1 : Heap, ∀ L : List Loc, (∀ q ∈ L, q.base = a) → H1[a]? = some (arrV c1 n1 (fun j => .int (va_cpy f g sp.toNatClampNeg dp.toNatClampNeg n.toNatClampNeg j))) → H1.size = H.size → (∀ q : Nat, q ≠ a → H1[q]? = H[q]?) → W p l e R s m args below meth c H1 (locs ++ L) cells slots Q (F0 m (pc + 3) ls rest)) : W p l e R s m args below meth c H locs cells slots Q (F0 m pc ls (.int n :: .int dp :: .ref a :: .int sp :: .ref a0 :: rest)) := by
  have nn : ∀ z : Int32, ¬ z < 0 → z.toInt = (z.toNatClampNeg : Int) := by
    intro z hz
    have hz0 : (0 : Int) ≤ z.toInt := by
      have := Int32.not_lt.mp hz
      simpa using Int32.le_iff_toInt_le.mp this
    show z.toInt = ((z.toInt.toNat : Nat) : Int)
    omega
  intro T hT X
  obtain ⟨-, k0, hk0, cm0, hkk0⟩ := hA0 n0 (fun j => .int (f j))
  obtain ⟨-, k1, hk1, cm1, hkk1⟩ := hA1 n1 (fun j => .int (g j))
  obtain ⟨vm', X', step⟩ := X.arraycopy hexec hown hlink hnat hstat hini (src := a0) (dst := a) (cs := arrV c0 n0 (fun j => .int (f j))) (cd := arrV c1 n1 (fun j => .int (g j))) (srcPos := sp) (destPos := dp) (n := n) (by rw [hT]; exact hc0) (by rw [hT]; exact hc1)
    (fun _ h => by cases h) (fun _ h => by cases h) (fun h => by cases h) (fun h => by cases h) hk0 hk1 hkk0 hkk1 (by simp [hprim]) h1 h2 h3
    (by rw [nn sp h1, nn n h3, arrV_size]; omega)
    (by rw [nn dp h2, nn n h3, arrV_size]; omega)
    (fun vm₁ _ i hi => by
      have e : (arrV c0 n0 (fun j => Value.int (f j))).slots.getD (sp.toNatClampNeg + i) .null = .int (f (sp.toNatClampNeg + i)) := by
        rw [Array.getD_eq_getD_getElem?, arrV_read _ _ (by omega)]
        rfl
      refine ⟨?_, ?_⟩
      · rw [e]
        exact hfit i hi
      · rw [e]
        exact trivial)
    (g := F0 m pc ls (.int n :: .int dp :: .ref a :: .int sp :: .ref a0 :: rest)) rfl (by rw [hml]) (rest := rest) rfl (by rw [hb]; exact hdg) hframes (by show 2 * 0 + _ + _ ≤ _; omega)
  have e1 : copied (arrV c0 n0 (fun j => .int (f j))) (arrV c1 n1 (fun j => .int (g j))) sp dp n = arrV c1 n1 (fun j => .int (va_cpy f g sp.toNatClampNeg dp.toNatClampNeg n.toNatClampNeg j)) := va_copied (fun z => .int z) c0 c1 f g h4
  rw [e1] at X' step
  have hl : a < H.size := (Array.getElem?_eq_some_iff.mp hc1).1
  have hheap : ((T.setVm vm').setCell a (arrV c1 n1 (fun j => .int (va_cpy f g sp.toNatClampNeg dp.toNatClampNeg n.toNatClampNeg j)))).heap = H.setIfInBounds a (arrV c1 n1 (fun j => .int (va_cpy f g sp.toNatClampNeg dp.toNatClampNeg n.toNatClampNeg j))) := by rw [← hT]; rfl
  obtain ⟨t, a1, b1⟩ := kk _ _ (fun q hq => by
      obtain ⟨i, -, hi⟩ := List.mem_map.mp hq
      rw [← hi]) (show (H.setIfInBounds a _)[a]? = some _ by simp [Array.getElem?_setIfInBounds, hl]) (by simp) (fun q hq => by simp [Array.getElem?_setIfInBounds, Ne.symm hq]) _ hheap X'
  exact ⟨t, step t a1, b1⟩
theorem z_acopyT {ρ : Type} {X : zCx} {M : zMr} {inj : ρ → Option Value} {G : zGw} {cs : Nat × Nat} {res : ρ × zSt} {S : zSt} {pc : Nat} {ls : List (Option Value)} {st : List Value} {f : Option (ρ × zSt)} {idx : Nat} {sp dp n : Int32} {ty : FieldType} (ka kb n0 n1 : Nat) (ha : G.2.1 ka = some (.inr (n0, ty))) (hb : G.2.1 kb = some (.inr (n1, ty))) (hty : ∀ ad r i l, zval ty ad r i l = .int i) (hprim : refKind ty = false) (hab : ka ≠ kb) (hl : Cond.methodLink M.1 idx arraycopyName ∈ lw_all) (hr : 2 ≤ M.2.2.2.2.1) (hcat : (st.map fun v => v.category).sum ≤ 8) (d : decode M.2.1 pc = .ok (.invokestatic idx, 3)) (hfit : ∀ i, i < n.toNatClampNeg → fits ty (.int (S.1 ka (sp.toNatClampNeg + i))) = true) (k : Zm X M inj G cs res (cpI S ka sp.toNatClampNeg kb dp.toNatClampNeg n.toNatClampNeg) (pc + 3) ls st f) : Zm X M inj G cs res S pc ls (.int n :: .int dp :: .ref (G.1 kb) :: .int sp :: .ref (G.1 ka) :: st) (acopy n0 n1 sp dp n f) := by
  intro hf ho H locs la hp hl1 hS
  unfold acopy at hf
  by_cases hc : sp < 0 ∨ dp < 0 ∨ n < 0 ∨ n0 < sp.toNatClampNeg + n.toNatClampNeg ∨ n1 < dp.toNatClampNeg + n.toNatClampNeg
  · rw [if_pos hc] at hf; cases hf
  rw [if_neg hc] at hf
  obtain ⟨cA, r1, r2, r3⟩ := zhp_arr hp ha
  obtain ⟨cB, r4, r5, r6⟩ := zhp_arr hp hb
  simp only [hty] at r1 r4
  have hneB : G.2.1 kb ≠ none := by rw [hb]; simp
  have hts := ho.2.2.2.2.1
  have hR : X.2.2.2.1 = zRm M := ho.2.2.2.2.2.2.2.2.2.2
  have hw : nativeFrameWords "java/lang/System" "arraycopy" 5 ≤ 60 := by decide +kernel
  refine w_acopyI ho.1 ho.2.1 (by rw [ho.2.2.1]; exact hl1.1.symm) ho.2.2.2.1 (hts _ hl) (hts _ q962) (hts _ q961) (hts _ q168) r1 r4 r2 r5 hprim (fun z => hc (Or.inl z)) (fun z => hc (Or.inr (Or.inl z))) (fun z => hc (Or.inr (Or.inr (Or.inl z)))) (by omega) (by omega) hfit (by rw [hR]; show 1 ≤ M.2.2.2.2.1; omega) (by rw [hR]; show _ ≤ 64 * M.2.2.2.2.1; omega) d ?_
  intro H1 L hL e1 e2 e3
  refine k hf ho H1 (locs ++ L) la (zhp_set ho.2.2.2.2.2.2.2.2.2.1 hneB hp e3 (fun a q => by funext b; simp [cpI, q]) (fun a q => rfl) ?_) hl1 ⟨by rw [e2]; exact hS.1, fun q h1 h2 => by
      rw [e3 q (fun z => h2 (by rw [z]; exact zA_in hneB))]
      exact hS.2.1 q h1 h2, fun q hq => by
      rcases List.mem_append.mp hq with h | h
      · exact hS.2.2 q h
      · rw [hL q h]; exact zA_in hneB⟩
  unfold zcellIs
  rw [hb]
  refine ⟨cB, ?_, r5, r6⟩
  rw [e1]
  congr 2
  funext j
  rw [hty]
  simp only [cpI, va_cpy, if_true]
theorem z_acopyI {ρ : Type} {X : zCx} {M : zMr} {inj : ρ → Option Value} {G : zGw} {cs : Nat × Nat} {res : ρ × zSt} {S : zSt} {pc : Nat} {ls : List (Option Value)} {st : List Value} {f : Option (ρ × zSt)} {idx : Nat} {sp dp n : Int32} (ka kb n0 n1 : Nat) (ha : G.2.1 ka = some (.inr (n0, .int))) (hb : G.2.1 kb = some (.inr (n1, .int))) (hab : ka ≠ kb) (hl : Cond.methodLink M.1 idx arraycopyName ∈ lw_all) (hr : 2 ≤ M.2.2.2.2.1) (hcat : (st.map fun v => v.category).sum ≤ 8) (d : decode M.2.1 pc = .ok (.invokestatic idx, 3)) (k : Zm X M inj G cs res (cpI S ka sp.toNatClampNeg kb dp.toNatClampNeg n.toNatClampNeg) (pc + 3) ls st f) : Zm X M inj G cs res S pc ls (.int n :: .int dp :: .ref (G.1 kb) :: .int sp :: .ref (G.1 ka) :: st) (acopy n0 n1 sp dp n f) := z_acopyT ka kb n0 n1 ha hb (fun _ _ _ _ => rfl) rfl hab hl hr hcat d (fun _ _ => rfl) k
def zsw {ρ : Type} (x : Int32) (n : Nat) (fs : Nat → Option ρ) (dd : Option ρ) : Option ρ := if x < 0 ∨ n ≤ x.toNatClampNeg then dd else fs x.toNatClampNeg
theorem z_switch {ρ : Type} {X : zCx} {M : zMr} {inj : ρ → Option Value} {G : zGw} {cs : Nat × Nat} {res : ρ × zSt} {S : zSt} {pc : Nat} {ls : List (Option Value)} {st : List Value} {x : Int32} {dflt : Int} {offs : Array Int} {len n : Nat} {fs : Nat → Option (ρ × zSt)} {dd : Option (ρ × zSt)} (hi : Int) (tgtd : Nat) (d : decode M.2.1 pc = .ok (.tableswitch dflt 0 hi offs, len)) (hn : hi + 1 = (n : Int)) (ht : (pc : Int) + dflt = (tgtd : Int)) (kd : Zm X M inj G cs res S tgtd ls st dd) (kc : ∀ i, i < n → ∃ (off : Int) (tgt : Nat), offs[i]? = some off ∧ (pc : Int) + off = (tgt : Int) ∧ Zm X M inj G cs res S tgt ls st (fs i)) : Zm X M inj G cs res S pc ls (.int x :: st) (zsw x n fs dd) := by
  intro hf ho H locs la hp hl hS
  unfold zsw at hf
  have e1 : x.toNatClampNeg = x.toInt.toNat := rfl
  by_cases h : x < 0 ∨ n ≤ x.toNatClampNeg
  · rw [if_pos h] at hf
    refine lv_tableOut ho.1 ho.2.1 d ?_ ht (kd hf ho H locs la hp hl hS)
    rcases h with h | h
    · left
      have := Int32.lt_iff_toInt_lt.mp h
      simpa using this
    · rw [e1] at h
      by_cases q : x.toInt < 0
      · exact Or.inl q
      · exact Or.inr (by omega)
  · rw [if_neg h] at hf
    have h0 : ¬ x.toInt < 0 := fun q => h (Or.inl (Int32.lt_iff_toInt_lt.mpr (by simpa using q)))
    have h1 : x.toNatClampNeg < n := Nat.not_le.mp (fun q => h (Or.inr q))
    obtain ⟨off, tgt, h2, h3, h4⟩ := kc _ h1
    refine lv_tableIn ho.1 ho.2.1 d h0 (by rw [e1] at h1; omega) (off := off) ?_ h3 (h4 hf ho H locs la hp hl hS)
    rw [Int.sub_zero, ← e1]
    exact h2
def zs9 {ρ : Type} (f0 f1 f2 f3 f4 f5 f6 f7 f8 : Option ρ) : Nat → Option ρ := fun i => match i with
  | 0 => f0
  | 1 => f1
  | 2 => f2
  | 3 => f3
  | 4 => f4
  | 5 => f5
  | 6 => f6
  | 7 => f7
  | _ => f8
theorem z_switch9 {ρ : Type} {X : zCx} {M : zMr} {inj : ρ → Option Value} {G : zGw} {cs : Nat × Nat} {res : ρ × zSt} {S : zSt} {pc : Nat} {ls : List (Option Value)} {st : List Value} {x : Int32} {dflt : Int} {o0 o1 o2 o3 o4 o5 o6 o7 o8 : Int} {len : Nat} {f0 f1 f2 f3 f4 f5 f6 f7 f8 dd : Option (ρ × zSt)} (tgtd t0 t1 t2 t3 t4 t5 t6 t7 t8 : Nat) (d : decode M.2.1 pc = .ok (.tableswitch dflt 0 8 #[o0, o1, o2, o3, o4, o5, o6, o7, o8], len)) (ht : (pc : Int) + dflt = (tgtd : Int)) (e0 : (pc : Int) + o0 = (t0 : Int)) (e1 : (pc : Int) + o1 = (t1 : Int)) (e2 : (pc : Int) + o2 = (t2 : Int)) (e3 : (pc : Int) + o3 = (t3 : Int)) (e4 : (pc : Int) + o4 = (t4 : Int)) (e5 : (pc : Int) + o5 = (t5 : Int)) (e6 : (pc : Int) + o6 = (t6 : Int)) (e7 : (pc : Int) + o7 = (t7 : Int)) (e8 : (pc : Int) + o8 = (t8 : Int)) (kd : Zm X M inj G cs res S tgtd ls st dd) (k0 : Zm X M inj G cs res S t0 ls st f0) (k1 : Zm X M inj G cs res S t1 ls st f1) (k2 : Zm X M inj G cs res S t2 ls st f2) (k3 : Zm X M inj G cs res S t3 ls st f3) (k4 : Zm X M inj G cs res S t4 ls st f4) (k5 : Zm X M inj G cs res S t5 ls st f5) (k6 : Zm X M inj G cs res S t6 ls st f6) (k7 : Zm X M inj G cs res S t7 ls st f7) (k8 : Zm X M inj G cs res S t8 ls st f8) : Zm X M inj G cs res S pc ls (.int x :: st) (zsw x 9 (zs9 f0 f1 f2 f3 f4 f5 f6 f7 f8) dd) := by
  refine z_switch 8 tgtd d rfl ht kd (fun i hi => ?_)
  match i, hi with
  | 0, _ => exact ⟨o0, t0, rfl, e0, k0⟩
  | 1, _ => exact ⟨o1, t1, rfl, e1, k1⟩
  | 2, _ => exact ⟨o2, t2, rfl, e2, k2⟩
  | 3, _ => exact ⟨o3, t3, rfl, e3, k3⟩
  | 4, _ => exact ⟨o4, t4, rfl, e4, k4⟩
  | 5, _ => exact ⟨o5, t5, rfl, e5, k5⟩
  | 6, _ => exact ⟨o6, t6, rfl, e6, k6⟩
  | 7, _ => exact ⟨o7, t7, rfl, e7, k7⟩
  | 8, _ => exact ⟨o8, t8, rfl, e8, k8⟩
  | i + 9, hi => exact absurd hi (by omega)
theorem z_callVi {ρ : Type} {X : zCx} {M : zMr} {inj : ρ → Option Value} {G : zGw} {cs : Nat × Nat} {res : ρ × zSt} {S : zSt} {pc : Nat} {ls : List (Option Value)} {Mc : zMr} {yc : MethodName} {idx : Nat} {st : List Value} {Fc : zSt → Option (Int32 × zSt)} {k : Int32 → zSt → Option (ρ × zSt)} (As rest : List Value) (kp ci : Nat) (hct : Zc Mc yc zJI G (.ref (G.1 kp) :: As) Fc) (hmv : ZV Mc yc As.length) (hl : Cond.methodLink M.1 idx yc ∈ lw_all) (hst : st = As.reverse ++ .ref (G.1 kp) :: rest) (hsh : G.2.1 kp = some (.inl ci)) (hcn : (zcl[ci]?).map Prod.fst = some Mc.1) (hd : Mc.2.2.2.2.1 + 1 ≤ M.2.2.2.2.1) (hL : Mc.2.2.1 ≤ 45) (hz : Mc.2.2.2.2.2 = (0, 0, none)) (hq : zcs cs M = true) (hcat : (rest.map fun v => v.category).sum ≤ 8) (d : decode M.2.1 pc = .ok (.invokevirtual idx, 3)) (kk : ∀ r S', Zm X M inj G cs res S' (pc + 3) ls (.int r :: rest) (k r S')) : Zm X M inj G cs res S pc ls st (zbind (Fc S) k) := z_callV As rest kp ci hct hmv hl hst hsh hcn hd hL hz hq hcat d kk
theorem z_callSi {ρ : Type} {X : zCx} {M : zMr} {inj : ρ → Option Value} {G : zGw} {cs : Nat × Nat} {res : ρ × zSt} {S : zSt} {pc : Nat} {ls : List (Option Value)} {Mc : zMr} {yc : MethodName} {idx : Nat} {st : List Value} {Fc : zSt → Option (Int32 × zSt)} {k : Int32 → zSt → Option (ρ × zSt)} (As rest : List Value) (hct : Zc Mc yc zJI G As Fc) (hmv : ZS Mc yc As.length) (hl : Cond.methodLink M.1 idx yc ∈ lw_all) (hst : st = As.reverse ++ rest) (hd : Mc.2.2.2.2.1 + 1 ≤ M.2.2.2.2.1) (hL : Mc.2.2.1 ≤ 45) (hz : Mc.2.2.2.2.2 = (0, 0, none)) (hq : zcs cs M = true) (hcat : (rest.map fun v => v.category).sum ≤ 8) (d : decode M.2.1 pc = .ok (.invokestatic idx, 3)) (kk : ∀ r S', Zm X M inj G cs res S' (pc + 3) ls (.int r :: rest) (k r S')) : Zm X M inj G cs res S pc ls st (zbind (Fc S) k) := z_callS As rest hct hmv hl hst hd hL hz hq hcat d kk
theorem z_callSNi {ρ : Type} {X : zCx} {M : zMr} {inj : ρ → Option Value} {G : zGw} {cs : Nat × Nat} {res : ρ × zSt} {S : zSt} {pc : Nat} {ls : List (Option Value)} {Mc : zMr} {yc : MethodName} {idx : Nat} {st : List Value} {Fc : zSt → Option (Int32 × zSt)} {k : Int32 → zSt → Option (ρ × zSt)} (As rest : List Value) (hct : Zc Mc yc zJI G As Fc) (hmv : ZS Mc yc As.length) (hl : (M.1, idx, yc, "HiddenCube") ∈ znM) (hst : st = As.reverse ++ rest) (hd : Mc.2.2.2.2.1 + 1 ≤ M.2.2.2.2.1) (hL : Mc.2.2.1 ≤ 45) (hz : Mc.2.2.2.2.2 = (0, 0, none)) (hq : zcs cs M = true) (hcat : (rest.map fun v => v.category).sum ≤ 8) (d : decode M.2.1 pc = .ok (.invokestatic idx, 3)) (kk : ∀ r S', Zm X M inj G cs res S' (pc + 3) ls (.int r :: rest) (k r S')) : Zm X M inj G cs res S pc ls st (zbind (Fc S) k) := z_callSN As rest hct hmv hl hst hd hL hz hq hcat d kk
theorem z_callVl {ρ : Type} {X : zCx} {M : zMr} {inj : ρ → Option Value} {G : zGw} {cs : Nat × Nat} {res : ρ × zSt} {S : zSt} {pc : Nat} {ls : List (Option Value)} {Mc : zMr} {yc : MethodName} {idx : Nat} {st : List Value} {Fc : zSt → Option (Int64 × zSt)} {k : Int64 → zSt → Option (ρ × zSt)} (As rest : List Value) (kp ci : Nat) (hct : Zc Mc yc zJL G (.ref (G.1 kp) :: As) Fc) (hmv : ZV Mc yc As.length) (hl : Cond.methodLink M.1 idx yc ∈ lw_all) (hst : st = As.reverse ++ .ref (G.1 kp) :: rest) (hsh : G.2.1 kp = some (.inl ci)) (hcn : (zcl[ci]?).map Prod.fst = some Mc.1) (hd : Mc.2.2.2.2.1 + 1 ≤ M.2.2.2.2.1) (hL : Mc.2.2.1 ≤ 45) (hz : Mc.2.2.2.2.2 = (0, 0, none)) (hq : zcs cs M = true) (hcat : (rest.map fun v => v.category).sum ≤ 8) (d : decode M.2.1 pc = .ok (.invokevirtual idx, 3)) (kk : ∀ r S', Zm X M inj G cs res S' (pc + 3) ls (.long r :: rest) (k r S')) : Zm X M inj G cs res S pc ls st (zbind (Fc S) k) := z_callV As rest kp ci hct hmv hl hst hsh hcn hd hL hz hq hcat d kk
theorem z_callSl {ρ : Type} {X : zCx} {M : zMr} {inj : ρ → Option Value} {G : zGw} {cs : Nat × Nat} {res : ρ × zSt} {S : zSt} {pc : Nat} {ls : List (Option Value)} {Mc : zMr} {yc : MethodName} {idx : Nat} {st : List Value} {Fc : zSt → Option (Int64 × zSt)} {k : Int64 → zSt → Option (ρ × zSt)} (As rest : List Value) (hct : Zc Mc yc zJL G As Fc) (hmv : ZS Mc yc As.length) (hl : Cond.methodLink M.1 idx yc ∈ lw_all) (hst : st = As.reverse ++ rest) (hd : Mc.2.2.2.2.1 + 1 ≤ M.2.2.2.2.1) (hL : Mc.2.2.1 ≤ 45) (hz : Mc.2.2.2.2.2 = (0, 0, none)) (hq : zcs cs M = true) (hcat : (rest.map fun v => v.category).sum ≤ 8) (d : decode M.2.1 pc = .ok (.invokestatic idx, 3)) (kk : ∀ r S', Zm X M inj G cs res S' (pc + 3) ls (.long r :: rest) (k r S')) : Zm X M inj G cs res S pc ls st (zbind (Fc S) k) := z_callS As rest hct hmv hl hst hd hL hz hq hcat d kk
theorem z_callSNl {ρ : Type} {X : zCx} {M : zMr} {inj : ρ → Option Value} {G : zGw} {cs : Nat × Nat} {res : ρ × zSt} {S : zSt} {pc : Nat} {ls : List (Option Value)} {Mc : zMr} {yc : MethodName} {idx : Nat} {st : List Value} {Fc : zSt → Option (Int64 × zSt)} {k : Int64 → zSt → Option (ρ × zSt)} (As rest : List Value) (hct : Zc Mc yc zJL G As Fc) (hmv : ZS Mc yc As.length) (hl : (M.1, idx, yc, "HiddenCube") ∈ znM) (hst : st = As.reverse ++ rest) (hd : Mc.2.2.2.2.1 + 1 ≤ M.2.2.2.2.1) (hL : Mc.2.2.1 ≤ 45) (hz : Mc.2.2.2.2.2 = (0, 0, none)) (hq : zcs cs M = true) (hcat : (rest.map fun v => v.category).sum ≤ 8) (d : decode M.2.1 pc = .ok (.invokestatic idx, 3)) (kk : ∀ r S', Zm X M inj G cs res S' (pc + 3) ls (.long r :: rest) (k r S')) : Zm X M inj G cs res S pc ls st (zbind (Fc S) k) := z_callSN As rest hct hmv hl hst hd hL hz hq hcat d kk
theorem z_callVv {ρ : Type} {X : zCx} {M : zMr} {inj : ρ → Option Value} {G : zGw} {cs : Nat × Nat} {res : ρ × zSt} {S : zSt} {pc : Nat} {ls : List (Option Value)} {Mc : zMr} {yc : MethodName} {idx : Nat} {st : List Value} {Fc : zSt → Option (Unit × zSt)} {k : Unit → zSt → Option (ρ × zSt)} (As rest : List Value) (kp ci : Nat) (hct : Zc Mc yc zJV G (.ref (G.1 kp) :: As) Fc) (hmv : ZV Mc yc As.length) (hl : Cond.methodLink M.1 idx yc ∈ lw_all) (hst : st = As.reverse ++ .ref (G.1 kp) :: rest) (hsh : G.2.1 kp = some (.inl ci)) (hcn : (zcl[ci]?).map Prod.fst = some Mc.1) (hd : Mc.2.2.2.2.1 + 1 ≤ M.2.2.2.2.1) (hL : Mc.2.2.1 ≤ 45) (hz : Mc.2.2.2.2.2 = (0, 0, none)) (hq : zcs cs M = true) (hcat : (rest.map fun v => v.category).sum ≤ 8) (d : decode M.2.1 pc = .ok (.invokevirtual idx, 3)) (kk : ∀ r S', Zm X M inj G cs res S' (pc + 3) ls (rest) (k r S')) : Zm X M inj G cs res S pc ls st (zbind (Fc S) k) := z_callV As rest kp ci hct hmv hl hst hsh hcn hd hL hz hq hcat d kk
theorem z_callSv {ρ : Type} {X : zCx} {M : zMr} {inj : ρ → Option Value} {G : zGw} {cs : Nat × Nat} {res : ρ × zSt} {S : zSt} {pc : Nat} {ls : List (Option Value)} {Mc : zMr} {yc : MethodName} {idx : Nat} {st : List Value} {Fc : zSt → Option (Unit × zSt)} {k : Unit → zSt → Option (ρ × zSt)} (As rest : List Value) (hct : Zc Mc yc zJV G As Fc) (hmv : ZS Mc yc As.length) (hl : Cond.methodLink M.1 idx yc ∈ lw_all) (hst : st = As.reverse ++ rest) (hd : Mc.2.2.2.2.1 + 1 ≤ M.2.2.2.2.1) (hL : Mc.2.2.1 ≤ 45) (hz : Mc.2.2.2.2.2 = (0, 0, none)) (hq : zcs cs M = true) (hcat : (rest.map fun v => v.category).sum ≤ 8) (d : decode M.2.1 pc = .ok (.invokestatic idx, 3)) (kk : ∀ r S', Zm X M inj G cs res S' (pc + 3) ls (rest) (k r S')) : Zm X M inj G cs res S pc ls st (zbind (Fc S) k) := z_callS As rest hct hmv hl hst hd hL hz hq hcat d kk
theorem z_callSNv {ρ : Type} {X : zCx} {M : zMr} {inj : ρ → Option Value} {G : zGw} {cs : Nat × Nat} {res : ρ × zSt} {S : zSt} {pc : Nat} {ls : List (Option Value)} {Mc : zMr} {yc : MethodName} {idx : Nat} {st : List Value} {Fc : zSt → Option (Unit × zSt)} {k : Unit → zSt → Option (ρ × zSt)} (As rest : List Value) (hct : Zc Mc yc zJV G As Fc) (hmv : ZS Mc yc As.length) (hl : (M.1, idx, yc, "HiddenCube") ∈ znM) (hst : st = As.reverse ++ rest) (hd : Mc.2.2.2.2.1 + 1 ≤ M.2.2.2.2.1) (hL : Mc.2.2.1 ≤ 45) (hz : Mc.2.2.2.2.2 = (0, 0, none)) (hq : zcs cs M = true) (hcat : (rest.map fun v => v.category).sum ≤ 8) (d : decode M.2.1 pc = .ok (.invokestatic idx, 3)) (kk : ∀ r S', Zm X M inj G cs res S' (pc + 3) ls (rest) (k r S')) : Zm X M inj G cs res S pc ls st (zbind (Fc S) k) := z_callSN As rest hct hmv hl hst hd hL hz hq hcat d kk
theorem Zc_ofF {ρ : Type} {M : zMr} {y : MethodName} {inj : ρ → Option Value} {G : zGw} {As : List Value} {F : zSt → Option (ρ × zSt)} (ls0 : List (Option Value)) (hy : plainFor y = true) (hM : M.1 = y.cls) (hH : M.2.2.2.2.2.2.2 = none) (hlen : (lg_sl As).length ≤ M.2.2.1) (hls : l0 M.2.2.1 (lv_args 0 As) = ls0) (h : ∀ X S res, Zm X M inj G (0, 0) res S 0 ls0 [] (F S)) : Zc M y inj G As F := by
  intro l S res sz hfl hF
  have hcw : zcw M y = Cond.code y M.2.1 M.2.2.1 M.2.2.2.1 := by unfold zcw; rw [hH]
  rw [hcw]
  refine va_MetF (cc := M.2.1) (maxL := M.2.2.1) (ret := M.2.2.2.1) hy rfl ?_
  intro p e s m args below meth c s₁ B hml hv
  obtain ⟨rfl, hsz, hP, hK, hN, hA, hE⟩ := hv
  have hts := atoms_spec (ws := ws_ y M.2.1 M.2.2.1 M.2.2.2.1) B.pre
  have hts : ∀ w ∈ lw_all, w.before As.toArray s = true := fun w h => hts w (List.mem_cons_of_mem _ h)
  have hown : s.vm.findClass M.1 = some m.cls := by rw [hM]; exact findClass_of_methodNamed B.named
  subst hsz
  have hl := lv_entry As (n := M.2.2.1) hlen
  rw [lg_entry_eq]
  generalize (lg_sl As ++ List.replicate (M.2.2.1 - (lg_sl As).length) Slot.unset).toArray = la at hl ⊢
  have hx : zok M G (p, l, e, zRm M, s, m, As.toArray, below, meth, c) := ⟨B.exec, B.bytes, hml, hown, hts, ⟨hN, hE, hfl, by
    obtain ⟨meth9, c9, h1, h2, -, -, -, -, h7, -⟩ := Cond.code_spec B.named (atoms_spec (ws := ws_ y M.2.1 M.2.2.1 M.2.2.2.1) B.pre _ List.mem_cons_self)
    cases Option.some.inj (h1.symm.trans B.method)
    cases Option.some.inj (h2.symm.trans (Stand.of_body B).code)
    rw [Array.isEmpty_iff.mp h7]
    unfold zhh
    rw [hH]
    rfl⟩, B.notSynchronized, B.returns, hK, hA, rfl⟩
  refine h (p, l, e, zRm M, s, m, As.toArray, below, meth, c) S res hF hx s.heap [] la hP ⟨hl.1, hl.2.1, fun i v hi => ?_⟩ va_S.rf
  subst hls
  unfold l0 at hi
  rw [List.getElem?_map] at hi
  obtain ⟨q, hq1, hq2⟩ := Option.map_eq_some_iff.mp hi
  have hq : q = i := by
    have := List.getElem?_eq_some_iff.mp hq1
    obtain ⟨h3, h4⟩ := this
    rw [List.getElem_range] at h4
    exact h4.symm
  subst hq
  exact hl.2.2 (q, v) (List.mem_iff_getElem?.mpr (by
    have : (q, v) ∈ lv_args 0 As := by
      revert hq2
      generalize lv_args 0 As = L
      induction L with
      | nil => intro h; cases h
      | cons a t ih =>
        intro h
        obtain ⟨a1, a2⟩ := a
        rw [List.lookup_cons] at h
        split at h
        · rename_i hb
          have e1 : q = a1 := by simpa using hb
          cases h
          rw [e1]
          exact List.mem_cons_self
        · exact List.mem_cons_of_mem _ (ih h)
    exact List.getElem?_of_mem this))
def zGT (G : zGw) (b : Nat) : Prop := G.2.1 b = some (.inl 1) ∧ G.2.1 (b + 1) = some (.inr (40, .byte)) ∧ G.2.1 (b + 2) = some (.inr (5, .int)) ∧ G.2.1 (b + 3) = some (.inr (6, .int)) ∧ G.2.1 (b + 4) = some (.inr (6, .int)) ∧ G.2.1 (b + 5) = some (.inr (6, .int)) ∧ G.2.1 (b + 6) = some (.inr (32, .int)) ∧ G.2.2.1 b 2 = some (b + 1) ∧ G.2.2.1 b 3 = some (b + 2) ∧ G.2.2.1 b 4 = some (b + 3) ∧ G.2.2.1 b 5 = some (b + 4) ∧ G.2.2.1 b 6 = some (b + 5) ∧ G.2.2.1 b 7 = some (b + 6)
theorem zGT_o {G : zGw} {b : Nat} (h : zGT G b) : G.2.1 b = some (.inl 1) := h.1
theorem zGT_a1 {G : zGw} {b : Nat} (h : zGT G b) : G.2.1 (b + 1) = some (.inr (40, .byte)) := h.2.1
theorem zGT_r2 {G : zGw} {b : Nat} (h : zGT G b) : G.2.2.1 b 2 = some (b + 1) := h.2.2.2.2.2.2.2.1
theorem zGT_a2 {G : zGw} {b : Nat} (h : zGT G b) : G.2.1 (b + 2) = some (.inr (5, .int)) := h.2.2.1
theorem zGT_r3 {G : zGw} {b : Nat} (h : zGT G b) : G.2.2.1 b 3 = some (b + 2) := h.2.2.2.2.2.2.2.2.1
theorem zGT_a3 {G : zGw} {b : Nat} (h : zGT G b) : G.2.1 (b + 3) = some (.inr (6, .int)) := h.2.2.2.1
theorem zGT_r4 {G : zGw} {b : Nat} (h : zGT G b) : G.2.2.1 b 4 = some (b + 3) := h.2.2.2.2.2.2.2.2.2.1
theorem zGT_a4 {G : zGw} {b : Nat} (h : zGT G b) : G.2.1 (b + 4) = some (.inr (6, .int)) := h.2.2.2.2.1
theorem zGT_r5 {G : zGw} {b : Nat} (h : zGT G b) : G.2.2.1 b 5 = some (b + 4) := h.2.2.2.2.2.2.2.2.2.2.1
theorem zGT_a5 {G : zGw} {b : Nat} (h : zGT G b) : G.2.1 (b + 5) = some (.inr (6, .int)) := h.2.2.2.2.2.1
theorem zGT_r6 {G : zGw} {b : Nat} (h : zGT G b) : G.2.2.1 b 6 = some (b + 5) := h.2.2.2.2.2.2.2.2.2.2.2.1
theorem zGT_a6 {G : zGw} {b : Nat} (h : zGT G b) : G.2.1 (b + 6) = some (.inr (32, .int)) := h.2.2.2.2.2.2.1
theorem zGT_r7 {G : zGw} {b : Nat} (h : zGT G b) : G.2.2.1 b 7 = some (b + 6) := h.2.2.2.2.2.2.2.2.2.2.2.2
def zshC : List (Option zCell) := [some (.inl 0), some (.inl 1), some (.inr (40, .byte)), some (.inr (5, .int)), some (.inr (6, .int)), some (.inr (6, .int)), some (.inr (6, .int)), some (.inr (32, .int)), some (.inl 2), some (.inr (32, .int)), some (.inl 3), some (.inr (32, .int)), some (.inr (1400, .byte)), some (.inr (32, .int)), some (.inr (32, .int)), some (.inr (64, .int)), some (.inr (64, .int)), some (.inr (33, .int)), some (.inr (33, .int)), some (.inr (32, .int)), some (.inr (1400, .int)), some (.inr (19200, .int)), some (.inr (3840, .int)), some (.inr (5, .int)), some (.inr (32, .int)), some (.inr (1400, .int)), some (.inr (65536, .int)), some (.inr (65536, .boolean)), some (.inr (32, .int)), some (.inr (32, .int)), some (.inr (6, .int)), some (.inr (6, .int)), some (.inr (6, .int)), some (.inr (6, .int)), some (.inr (6, .int)), some (.inr (6, .int)), some (.inr (60, .int)), some (.inr (4, .object "HiddenCube$Slot")), some (.inr (3, .object "HiddenCube$Town")), none, some (.inl 4), some (.inl 4), some (.inl 4), some (.inl 4)]
def zrfC : List (Nat × Nat × Nat) := [(0, 0, 1), (0, 1, 12), (0, 5, 8), (0, 6, 10), (0, 7, 13), (0, 8, 14), (0, 9, 15), (0, 10, 16), (0, 12, 17), (0, 13, 18), (0, 14, 19), (0, 15, 20), (0, 17, 21), (0, 18, 22), (0, 19, 23), (0, 21, 24), (0, 22, 25), (0, 23, 26), (0, 24, 27), (0, 25, 28), (0, 26, 29), (0, 27, 30), (0, 28, 31), (0, 30, 32), (0, 31, 33), (0, 32, 34), (0, 33, 35), (0, 36, 36), (0, 37, 37), (0, 38, 38), (1, 2, 2), (1, 3, 3), (1, 4, 4), (1, 5, 5), (1, 6, 6), (1, 7, 7), (8, 0, 9), (8, 1, 0), (10, 0, 11), (10, 1, 0), (10, 4, 0)]
def zGC (G : zGw) : Prop := (∀ k, k < 44 → some (G.2.1 k) = zshC[k]?) ∧ ∀ q ∈ zrfC, G.2.2.1 q.1 q.2.1 = some q.2.2
theorem zGC_s0 {G : zGw} (h : zGC G) : G.2.1 0 = some (.inl 0) := Option.some.inj (h.1 0 (by decide))
theorem zGC_s1 {G : zGw} (h : zGC G) : G.2.1 1 = some (.inl 1) := Option.some.inj (h.1 1 (by decide))
theorem zGC_s2 {G : zGw} (h : zGC G) : G.2.1 2 = some (.inr (40, .byte)) := Option.some.inj (h.1 2 (by decide))
theorem zGC_s3 {G : zGw} (h : zGC G) : G.2.1 3 = some (.inr (5, .int)) := Option.some.inj (h.1 3 (by decide))
theorem zGC_s4 {G : zGw} (h : zGC G) : G.2.1 4 = some (.inr (6, .int)) := Option.some.inj (h.1 4 (by decide))
theorem zGC_s5 {G : zGw} (h : zGC G) : G.2.1 5 = some (.inr (6, .int)) := Option.some.inj (h.1 5 (by decide))
theorem zGC_s6 {G : zGw} (h : zGC G) : G.2.1 6 = some (.inr (6, .int)) := Option.some.inj (h.1 6 (by decide))
theorem zGC_s7 {G : zGw} (h : zGC G) : G.2.1 7 = some (.inr (32, .int)) := Option.some.inj (h.1 7 (by decide))
theorem zGC_s8 {G : zGw} (h : zGC G) : G.2.1 8 = some (.inl 2) := Option.some.inj (h.1 8 (by decide))
theorem zGC_s9 {G : zGw} (h : zGC G) : G.2.1 9 = some (.inr (32, .int)) := Option.some.inj (h.1 9 (by decide))
theorem zGC_s10 {G : zGw} (h : zGC G) : G.2.1 10 = some (.inl 3) := Option.some.inj (h.1 10 (by decide))
theorem zGC_s11 {G : zGw} (h : zGC G) : G.2.1 11 = some (.inr (32, .int)) := Option.some.inj (h.1 11 (by decide))
theorem zGC_s12 {G : zGw} (h : zGC G) : G.2.1 12 = some (.inr (1400, .byte)) := Option.some.inj (h.1 12 (by decide))
theorem zGC_s13 {G : zGw} (h : zGC G) : G.2.1 13 = some (.inr (32, .int)) := Option.some.inj (h.1 13 (by decide))
theorem zGC_s14 {G : zGw} (h : zGC G) : G.2.1 14 = some (.inr (32, .int)) := Option.some.inj (h.1 14 (by decide))
theorem zGC_s15 {G : zGw} (h : zGC G) : G.2.1 15 = some (.inr (64, .int)) := Option.some.inj (h.1 15 (by decide))
theorem zGC_s16 {G : zGw} (h : zGC G) : G.2.1 16 = some (.inr (64, .int)) := Option.some.inj (h.1 16 (by decide))
theorem zGC_s17 {G : zGw} (h : zGC G) : G.2.1 17 = some (.inr (33, .int)) := Option.some.inj (h.1 17 (by decide))
theorem zGC_s18 {G : zGw} (h : zGC G) : G.2.1 18 = some (.inr (33, .int)) := Option.some.inj (h.1 18 (by decide))
theorem zGC_s19 {G : zGw} (h : zGC G) : G.2.1 19 = some (.inr (32, .int)) := Option.some.inj (h.1 19 (by decide))
theorem zGC_s20 {G : zGw} (h : zGC G) : G.2.1 20 = some (.inr (1400, .int)) := Option.some.inj (h.1 20 (by decide))
theorem zGC_s21 {G : zGw} (h : zGC G) : G.2.1 21 = some (.inr (19200, .int)) := Option.some.inj (h.1 21 (by decide))
theorem zGC_s22 {G : zGw} (h : zGC G) : G.2.1 22 = some (.inr (3840, .int)) := Option.some.inj (h.1 22 (by decide))
theorem zGC_s23 {G : zGw} (h : zGC G) : G.2.1 23 = some (.inr (5, .int)) := Option.some.inj (h.1 23 (by decide))
theorem zGC_s24 {G : zGw} (h : zGC G) : G.2.1 24 = some (.inr (32, .int)) := Option.some.inj (h.1 24 (by decide))
theorem zGC_s25 {G : zGw} (h : zGC G) : G.2.1 25 = some (.inr (1400, .int)) := Option.some.inj (h.1 25 (by decide))
theorem zGC_s26 {G : zGw} (h : zGC G) : G.2.1 26 = some (.inr (65536, .int)) := Option.some.inj (h.1 26 (by decide))
theorem zGC_s27 {G : zGw} (h : zGC G) : G.2.1 27 = some (.inr (65536, .boolean)) := Option.some.inj (h.1 27 (by decide))
theorem zGC_s28 {G : zGw} (h : zGC G) : G.2.1 28 = some (.inr (32, .int)) := Option.some.inj (h.1 28 (by decide))
theorem zGC_s29 {G : zGw} (h : zGC G) : G.2.1 29 = some (.inr (32, .int)) := Option.some.inj (h.1 29 (by decide))
theorem zGC_s30 {G : zGw} (h : zGC G) : G.2.1 30 = some (.inr (6, .int)) := Option.some.inj (h.1 30 (by decide))
theorem zGC_s31 {G : zGw} (h : zGC G) : G.2.1 31 = some (.inr (6, .int)) := Option.some.inj (h.1 31 (by decide))
theorem zGC_s32 {G : zGw} (h : zGC G) : G.2.1 32 = some (.inr (6, .int)) := Option.some.inj (h.1 32 (by decide))
theorem zGC_s33 {G : zGw} (h : zGC G) : G.2.1 33 = some (.inr (6, .int)) := Option.some.inj (h.1 33 (by decide))
theorem zGC_s34 {G : zGw} (h : zGC G) : G.2.1 34 = some (.inr (6, .int)) := Option.some.inj (h.1 34 (by decide))
theorem zGC_s35 {G : zGw} (h : zGC G) : G.2.1 35 = some (.inr (6, .int)) := Option.some.inj (h.1 35 (by decide))
theorem zGC_s36 {G : zGw} (h : zGC G) : G.2.1 36 = some (.inr (60, .int)) := Option.some.inj (h.1 36 (by decide))
theorem zGC_s37 {G : zGw} (h : zGC G) : G.2.1 37 = some (.inr (4, .object "HiddenCube$Slot")) := Option.some.inj (h.1 37 (by decide))
theorem zGC_s38 {G : zGw} (h : zGC G) : G.2.1 38 = some (.inr (3, .object "HiddenCube$Town")) := Option.some.inj (h.1 38 (by decide))
theorem zGC_s40 {G : zGw} (h : zGC G) : G.2.1 40 = some (.inl 4) := Option.some.inj (h.1 40 (by decide))
theorem zGC_s41 {G : zGw} (h : zGC G) : G.2.1 41 = some (.inl 4) := Option.some.inj (h.1 41 (by decide))
theorem zGC_s42 {G : zGw} (h : zGC G) : G.2.1 42 = some (.inl 4) := Option.some.inj (h.1 42 (by decide))
theorem zGC_s43 {G : zGw} (h : zGC G) : G.2.1 43 = some (.inl 4) := Option.some.inj (h.1 43 (by decide))
theorem zGC_r0_0 {G : zGw} (h : zGC G) : G.2.2.1 0 0 = some 1 := h.2 (0, 0, 1) (List.mem_of_getElem? (i := 0) rfl)
theorem zGC_r0_1 {G : zGw} (h : zGC G) : G.2.2.1 0 1 = some 12 := h.2 (0, 1, 12) (List.mem_of_getElem? (i := 1) rfl)
theorem zGC_r0_5 {G : zGw} (h : zGC G) : G.2.2.1 0 5 = some 8 := h.2 (0, 5, 8) (List.mem_of_getElem? (i := 2) rfl)
theorem zGC_r0_6 {G : zGw} (h : zGC G) : G.2.2.1 0 6 = some 10 := h.2 (0, 6, 10) (List.mem_of_getElem? (i := 3) rfl)
theorem zGC_r0_7 {G : zGw} (h : zGC G) : G.2.2.1 0 7 = some 13 := h.2 (0, 7, 13) (List.mem_of_getElem? (i := 4) rfl)
theorem zGC_r0_8 {G : zGw} (h : zGC G) : G.2.2.1 0 8 = some 14 := h.2 (0, 8, 14) (List.mem_of_getElem? (i := 5) rfl)
theorem zGC_r0_9 {G : zGw} (h : zGC G) : G.2.2.1 0 9 = some 15 := h.2 (0, 9, 15) (List.mem_of_getElem? (i := 6) rfl)
theorem zGC_r0_10 {G : zGw} (h : zGC G) : G.2.2.1 0 10 = some 16 := h.2 (0, 10, 16) (List.mem_of_getElem? (i := 7) rfl)
theorem zGC_r0_12 {G : zGw} (h : zGC G) : G.2.2.1 0 12 = some 17 := h.2 (0, 12, 17) (List.mem_of_getElem? (i := 8) rfl)
theorem zGC_r0_13 {G : zGw} (h : zGC G) : G.2.2.1 0 13 = some 18 := h.2 (0, 13, 18) (List.mem_of_getElem? (i := 9) rfl)
theorem zGC_r0_14 {G : zGw} (h : zGC G) : G.2.2.1 0 14 = some 19 := h.2 (0, 14, 19) (List.mem_of_getElem? (i := 10) rfl)
theorem zGC_r0_15 {G : zGw} (h : zGC G) : G.2.2.1 0 15 = some 20 := h.2 (0, 15, 20) (List.mem_of_getElem? (i := 11) rfl)
theorem zGC_r0_17 {G : zGw} (h : zGC G) : G.2.2.1 0 17 = some 21 := h.2 (0, 17, 21) (List.mem_of_getElem? (i := 12) rfl)
theorem zGC_r0_18 {G : zGw} (h : zGC G) : G.2.2.1 0 18 = some 22 := h.2 (0, 18, 22) (List.mem_of_getElem? (i := 13) rfl)
theorem zGC_r0_19 {G : zGw} (h : zGC G) : G.2.2.1 0 19 = some 23 := h.2 (0, 19, 23) (List.mem_of_getElem? (i := 14) rfl)
theorem zGC_r0_21 {G : zGw} (h : zGC G) : G.2.2.1 0 21 = some 24 := h.2 (0, 21, 24) (List.mem_of_getElem? (i := 15) rfl)
theorem zGC_r0_22 {G : zGw} (h : zGC G) : G.2.2.1 0 22 = some 25 := h.2 (0, 22, 25) (List.mem_of_getElem? (i := 16) rfl)
theorem zGC_r0_23 {G : zGw} (h : zGC G) : G.2.2.1 0 23 = some 26 := h.2 (0, 23, 26) (List.mem_of_getElem? (i := 17) rfl)
theorem zGC_r0_24 {G : zGw} (h : zGC G) : G.2.2.1 0 24 = some 27 := h.2 (0, 24, 27) (List.mem_of_getElem? (i := 18) rfl)
theorem zGC_r0_25 {G : zGw} (h : zGC G) : G.2.2.1 0 25 = some 28 := h.2 (0, 25, 28) (List.mem_of_getElem? (i := 19) rfl)
theorem zGC_r0_26 {G : zGw} (h : zGC G) : G.2.2.1 0 26 = some 29 := h.2 (0, 26, 29) (List.mem_of_getElem? (i := 20) rfl)
theorem zGC_r0_27 {G : zGw} (h : zGC G) : G.2.2.1 0 27 = some 30 := h.2 (0, 27, 30) (List.mem_of_getElem? (i := 21) rfl)
theorem zGC_r0_28 {G : zGw} (h : zGC G) : G.2.2.1 0 28 = some 31 := h.2 (0, 28, 31) (List.mem_of_getElem? (i := 22) rfl)
theorem zGC_r0_30 {G : zGw} (h : zGC G) : G.2.2.1 0 30 = some 32 := h.2 (0, 30, 32) (List.mem_of_getElem? (i := 23) rfl)
theorem zGC_r0_31 {G : zGw} (h : zGC G) : G.2.2.1 0 31 = some 33 := h.2 (0, 31, 33) (List.mem_of_getElem? (i := 24) rfl)
theorem zGC_r0_32 {G : zGw} (h : zGC G) : G.2.2.1 0 32 = some 34 := h.2 (0, 32, 34) (List.mem_of_getElem? (i := 25) rfl)
theorem zGC_r0_33 {G : zGw} (h : zGC G) : G.2.2.1 0 33 = some 35 := h.2 (0, 33, 35) (List.mem_of_getElem? (i := 26) rfl)
theorem zGC_r0_36 {G : zGw} (h : zGC G) : G.2.2.1 0 36 = some 36 := h.2 (0, 36, 36) (List.mem_of_getElem? (i := 27) rfl)
theorem zGC_r0_37 {G : zGw} (h : zGC G) : G.2.2.1 0 37 = some 37 := h.2 (0, 37, 37) (List.mem_of_getElem? (i := 28) rfl)
theorem zGC_r0_38 {G : zGw} (h : zGC G) : G.2.2.1 0 38 = some 38 := h.2 (0, 38, 38) (List.mem_of_getElem? (i := 29) rfl)
theorem zGC_r1_2 {G : zGw} (h : zGC G) : G.2.2.1 1 2 = some 2 := h.2 (1, 2, 2) (List.mem_of_getElem? (i := 30) rfl)
theorem zGC_r1_3 {G : zGw} (h : zGC G) : G.2.2.1 1 3 = some 3 := h.2 (1, 3, 3) (List.mem_of_getElem? (i := 31) rfl)
theorem zGC_r1_4 {G : zGw} (h : zGC G) : G.2.2.1 1 4 = some 4 := h.2 (1, 4, 4) (List.mem_of_getElem? (i := 32) rfl)
theorem zGC_r1_5 {G : zGw} (h : zGC G) : G.2.2.1 1 5 = some 5 := h.2 (1, 5, 5) (List.mem_of_getElem? (i := 33) rfl)
theorem zGC_r1_6 {G : zGw} (h : zGC G) : G.2.2.1 1 6 = some 6 := h.2 (1, 6, 6) (List.mem_of_getElem? (i := 34) rfl)
theorem zGC_r1_7 {G : zGw} (h : zGC G) : G.2.2.1 1 7 = some 7 := h.2 (1, 7, 7) (List.mem_of_getElem? (i := 35) rfl)
theorem zGC_r8_0 {G : zGw} (h : zGC G) : G.2.2.1 8 0 = some 9 := h.2 (8, 0, 9) (List.mem_of_getElem? (i := 36) rfl)
theorem zGC_r8_1 {G : zGw} (h : zGC G) : G.2.2.1 8 1 = some 0 := h.2 (8, 1, 0) (List.mem_of_getElem? (i := 37) rfl)
theorem zGC_r10_0 {G : zGw} (h : zGC G) : G.2.2.1 10 0 = some 11 := h.2 (10, 0, 11) (List.mem_of_getElem? (i := 38) rfl)
theorem zGC_r10_1 {G : zGw} (h : zGC G) : G.2.2.1 10 1 = some 0 := h.2 (10, 1, 0) (List.mem_of_getElem? (i := 39) rfl)
theorem zGC_T {G : zGw} (h : zGC G) : zGT G 1 := ⟨zGC_s1 h, zGC_s2 h, zGC_s3 h, zGC_s4 h, zGC_s5 h, zGC_s6 h, zGC_s7 h, zGC_r1_2 h, zGC_r1_3 h, zGC_r1_4 h, zGC_r1_5 h, zGC_r1_6 h, zGC_r1_7 h⟩
def zshM : List (Option zCell) := [some (.inl 5), none, some (.inr (4, .int)), some (.inr (4, .int)), some (.inr (240, .long)), some (.inr (60, .long)), some (.inr (1400, .byte)), none, none, none, none, none, none, none, none, none, none, some (.inr (5, .int)), some (.inr (15, .int)), some (.inr (25, .long)), some (.inr (25, .int)), some (.inr (200, .int)), some (.inr (160, .int)), some (.inr (5, .int)), some (.inr (30, .int)), some (.inr (60, .int)), some (.inr (3, .boolean)), some (.inr (32, .int)), some (.inr (32, .int)), some (.inr (4096, .int)), some (.inr (64, .int)), some (.inr (64, .int)), some (.inr (32, .int)), some (.inr (19200, .int)), some (.inr (3840, .int)), none, some (.inr (5, .int)), some (.inr (80, .int)), some (.inr (1400, .int)), none, some (.inr (17, .int)), some (.inr (16, .int)), some (.inr (32, .int)), some (.inr (32, .int)), none, none, none, some (.inr (32, .int)), some (.inr (80, .int)), some (.inr (80, .int)), some (.inr (6, .int)), some (.inr (6, .int)), none, some (.inr (6, .int)), some (.inr (6, .int)), some (.inr (6, .int)), none, none, none]
def zrfM : List (Nat × Nat × Nat) := [(0, 1, 2), (0, 2, 3), (0, 3, 4), (0, 4, 5), (0, 5, 6), (0, 16, 17), (0, 17, 18), (0, 18, 19), (0, 19, 20), (0, 20, 21), (0, 21, 22), (0, 22, 23), (0, 23, 24), (0, 24, 25), (0, 25, 26), (0, 26, 27), (0, 27, 28), (0, 28, 29), (0, 29, 30), (0, 30, 31), (0, 31, 32), (0, 32, 33), (0, 33, 34), (0, 35, 36), (0, 36, 37), (0, 37, 38), (0, 39, 40), (0, 40, 41), (0, 41, 42), (0, 42, 43), (0, 46, 47), (0, 47, 48), (0, 48, 49), (0, 49, 50), (0, 50, 51), (0, 52, 53), (0, 53, 54), (0, 54, 55)]
def zGM (G : zGw) : Prop := (∀ k, k < 59 → some (G.2.1 k) = zshM[k]?) ∧ ∀ q ∈ zrfM, G.2.2.1 q.1 q.2.1 = some q.2.2
theorem zGM_s0 {G : zGw} (h : zGM G) : G.2.1 0 = some (.inl 5) := Option.some.inj (h.1 0 (by decide))
theorem zGM_s2 {G : zGw} (h : zGM G) : G.2.1 2 = some (.inr (4, .int)) := Option.some.inj (h.1 2 (by decide))
theorem zGM_s3 {G : zGw} (h : zGM G) : G.2.1 3 = some (.inr (4, .int)) := Option.some.inj (h.1 3 (by decide))
theorem zGM_s4 {G : zGw} (h : zGM G) : G.2.1 4 = some (.inr (240, .long)) := Option.some.inj (h.1 4 (by decide))
theorem zGM_s5 {G : zGw} (h : zGM G) : G.2.1 5 = some (.inr (60, .long)) := Option.some.inj (h.1 5 (by decide))
theorem zGM_s6 {G : zGw} (h : zGM G) : G.2.1 6 = some (.inr (1400, .byte)) := Option.some.inj (h.1 6 (by decide))
theorem zGM_s17 {G : zGw} (h : zGM G) : G.2.1 17 = some (.inr (5, .int)) := Option.some.inj (h.1 17 (by decide))
theorem zGM_s18 {G : zGw} (h : zGM G) : G.2.1 18 = some (.inr (15, .int)) := Option.some.inj (h.1 18 (by decide))
theorem zGM_s19 {G : zGw} (h : zGM G) : G.2.1 19 = some (.inr (25, .long)) := Option.some.inj (h.1 19 (by decide))
theorem zGM_s20 {G : zGw} (h : zGM G) : G.2.1 20 = some (.inr (25, .int)) := Option.some.inj (h.1 20 (by decide))
theorem zGM_s21 {G : zGw} (h : zGM G) : G.2.1 21 = some (.inr (200, .int)) := Option.some.inj (h.1 21 (by decide))
theorem zGM_s22 {G : zGw} (h : zGM G) : G.2.1 22 = some (.inr (160, .int)) := Option.some.inj (h.1 22 (by decide))
theorem zGM_s23 {G : zGw} (h : zGM G) : G.2.1 23 = some (.inr (5, .int)) := Option.some.inj (h.1 23 (by decide))
theorem zGM_s24 {G : zGw} (h : zGM G) : G.2.1 24 = some (.inr (30, .int)) := Option.some.inj (h.1 24 (by decide))
theorem zGM_s25 {G : zGw} (h : zGM G) : G.2.1 25 = some (.inr (60, .int)) := Option.some.inj (h.1 25 (by decide))
theorem zGM_s26 {G : zGw} (h : zGM G) : G.2.1 26 = some (.inr (3, .boolean)) := Option.some.inj (h.1 26 (by decide))
theorem zGM_s27 {G : zGw} (h : zGM G) : G.2.1 27 = some (.inr (32, .int)) := Option.some.inj (h.1 27 (by decide))
theorem zGM_s28 {G : zGw} (h : zGM G) : G.2.1 28 = some (.inr (32, .int)) := Option.some.inj (h.1 28 (by decide))
theorem zGM_s29 {G : zGw} (h : zGM G) : G.2.1 29 = some (.inr (4096, .int)) := Option.some.inj (h.1 29 (by decide))
theorem zGM_s30 {G : zGw} (h : zGM G) : G.2.1 30 = some (.inr (64, .int)) := Option.some.inj (h.1 30 (by decide))
theorem zGM_s31 {G : zGw} (h : zGM G) : G.2.1 31 = some (.inr (64, .int)) := Option.some.inj (h.1 31 (by decide))
theorem zGM_s32 {G : zGw} (h : zGM G) : G.2.1 32 = some (.inr (32, .int)) := Option.some.inj (h.1 32 (by decide))
theorem zGM_s33 {G : zGw} (h : zGM G) : G.2.1 33 = some (.inr (19200, .int)) := Option.some.inj (h.1 33 (by decide))
theorem zGM_s34 {G : zGw} (h : zGM G) : G.2.1 34 = some (.inr (3840, .int)) := Option.some.inj (h.1 34 (by decide))
theorem zGM_s36 {G : zGw} (h : zGM G) : G.2.1 36 = some (.inr (5, .int)) := Option.some.inj (h.1 36 (by decide))
theorem zGM_s37 {G : zGw} (h : zGM G) : G.2.1 37 = some (.inr (80, .int)) := Option.some.inj (h.1 37 (by decide))
theorem zGM_s38 {G : zGw} (h : zGM G) : G.2.1 38 = some (.inr (1400, .int)) := Option.some.inj (h.1 38 (by decide))
theorem zGM_s40 {G : zGw} (h : zGM G) : G.2.1 40 = some (.inr (17, .int)) := Option.some.inj (h.1 40 (by decide))
theorem zGM_s41 {G : zGw} (h : zGM G) : G.2.1 41 = some (.inr (16, .int)) := Option.some.inj (h.1 41 (by decide))
theorem zGM_s42 {G : zGw} (h : zGM G) : G.2.1 42 = some (.inr (32, .int)) := Option.some.inj (h.1 42 (by decide))
theorem zGM_s43 {G : zGw} (h : zGM G) : G.2.1 43 = some (.inr (32, .int)) := Option.some.inj (h.1 43 (by decide))
theorem zGM_s47 {G : zGw} (h : zGM G) : G.2.1 47 = some (.inr (32, .int)) := Option.some.inj (h.1 47 (by decide))
theorem zGM_s48 {G : zGw} (h : zGM G) : G.2.1 48 = some (.inr (80, .int)) := Option.some.inj (h.1 48 (by decide))
theorem zGM_s49 {G : zGw} (h : zGM G) : G.2.1 49 = some (.inr (80, .int)) := Option.some.inj (h.1 49 (by decide))
theorem zGM_s50 {G : zGw} (h : zGM G) : G.2.1 50 = some (.inr (6, .int)) := Option.some.inj (h.1 50 (by decide))
theorem zGM_s51 {G : zGw} (h : zGM G) : G.2.1 51 = some (.inr (6, .int)) := Option.some.inj (h.1 51 (by decide))
theorem zGM_s53 {G : zGw} (h : zGM G) : G.2.1 53 = some (.inr (6, .int)) := Option.some.inj (h.1 53 (by decide))
theorem zGM_s54 {G : zGw} (h : zGM G) : G.2.1 54 = some (.inr (6, .int)) := Option.some.inj (h.1 54 (by decide))
theorem zGM_s55 {G : zGw} (h : zGM G) : G.2.1 55 = some (.inr (6, .int)) := Option.some.inj (h.1 55 (by decide))
theorem zGM_r0_1 {G : zGw} (h : zGM G) : G.2.2.1 0 1 = some 2 := h.2 (0, 1, 2) (List.mem_of_getElem? (i := 0) rfl)
theorem zGM_r0_2 {G : zGw} (h : zGM G) : G.2.2.1 0 2 = some 3 := h.2 (0, 2, 3) (List.mem_of_getElem? (i := 1) rfl)
theorem zGM_r0_3 {G : zGw} (h : zGM G) : G.2.2.1 0 3 = some 4 := h.2 (0, 3, 4) (List.mem_of_getElem? (i := 2) rfl)
theorem zGM_r0_4 {G : zGw} (h : zGM G) : G.2.2.1 0 4 = some 5 := h.2 (0, 4, 5) (List.mem_of_getElem? (i := 3) rfl)
theorem zGM_r0_5 {G : zGw} (h : zGM G) : G.2.2.1 0 5 = some 6 := h.2 (0, 5, 6) (List.mem_of_getElem? (i := 4) rfl)
theorem zGM_r0_16 {G : zGw} (h : zGM G) : G.2.2.1 0 16 = some 17 := h.2 (0, 16, 17) (List.mem_of_getElem? (i := 5) rfl)
theorem zGM_r0_17 {G : zGw} (h : zGM G) : G.2.2.1 0 17 = some 18 := h.2 (0, 17, 18) (List.mem_of_getElem? (i := 6) rfl)
theorem zGM_r0_18 {G : zGw} (h : zGM G) : G.2.2.1 0 18 = some 19 := h.2 (0, 18, 19) (List.mem_of_getElem? (i := 7) rfl)
theorem zGM_r0_19 {G : zGw} (h : zGM G) : G.2.2.1 0 19 = some 20 := h.2 (0, 19, 20) (List.mem_of_getElem? (i := 8) rfl)
theorem zGM_r0_20 {G : zGw} (h : zGM G) : G.2.2.1 0 20 = some 21 := h.2 (0, 20, 21) (List.mem_of_getElem? (i := 9) rfl)
theorem zGM_r0_21 {G : zGw} (h : zGM G) : G.2.2.1 0 21 = some 22 := h.2 (0, 21, 22) (List.mem_of_getElem? (i := 10) rfl)
theorem zGM_r0_22 {G : zGw} (h : zGM G) : G.2.2.1 0 22 = some 23 := h.2 (0, 22, 23) (List.mem_of_getElem? (i := 11) rfl)
theorem zGM_r0_23 {G : zGw} (h : zGM G) : G.2.2.1 0 23 = some 24 := h.2 (0, 23, 24) (List.mem_of_getElem? (i := 12) rfl)
theorem zGM_r0_24 {G : zGw} (h : zGM G) : G.2.2.1 0 24 = some 25 := h.2 (0, 24, 25) (List.mem_of_getElem? (i := 13) rfl)
theorem zGM_r0_25 {G : zGw} (h : zGM G) : G.2.2.1 0 25 = some 26 := h.2 (0, 25, 26) (List.mem_of_getElem? (i := 14) rfl)
theorem zGM_r0_26 {G : zGw} (h : zGM G) : G.2.2.1 0 26 = some 27 := h.2 (0, 26, 27) (List.mem_of_getElem? (i := 15) rfl)
theorem zGM_r0_27 {G : zGw} (h : zGM G) : G.2.2.1 0 27 = some 28 := h.2 (0, 27, 28) (List.mem_of_getElem? (i := 16) rfl)
theorem zGM_r0_28 {G : zGw} (h : zGM G) : G.2.2.1 0 28 = some 29 := h.2 (0, 28, 29) (List.mem_of_getElem? (i := 17) rfl)
theorem zGM_r0_29 {G : zGw} (h : zGM G) : G.2.2.1 0 29 = some 30 := h.2 (0, 29, 30) (List.mem_of_getElem? (i := 18) rfl)
theorem zGM_r0_30 {G : zGw} (h : zGM G) : G.2.2.1 0 30 = some 31 := h.2 (0, 30, 31) (List.mem_of_getElem? (i := 19) rfl)
theorem zGM_r0_31 {G : zGw} (h : zGM G) : G.2.2.1 0 31 = some 32 := h.2 (0, 31, 32) (List.mem_of_getElem? (i := 20) rfl)
theorem zGM_r0_32 {G : zGw} (h : zGM G) : G.2.2.1 0 32 = some 33 := h.2 (0, 32, 33) (List.mem_of_getElem? (i := 21) rfl)
theorem zGM_r0_33 {G : zGw} (h : zGM G) : G.2.2.1 0 33 = some 34 := h.2 (0, 33, 34) (List.mem_of_getElem? (i := 22) rfl)
theorem zGM_r0_35 {G : zGw} (h : zGM G) : G.2.2.1 0 35 = some 36 := h.2 (0, 35, 36) (List.mem_of_getElem? (i := 23) rfl)
theorem zGM_r0_36 {G : zGw} (h : zGM G) : G.2.2.1 0 36 = some 37 := h.2 (0, 36, 37) (List.mem_of_getElem? (i := 24) rfl)
theorem zGM_r0_37 {G : zGw} (h : zGM G) : G.2.2.1 0 37 = some 38 := h.2 (0, 37, 38) (List.mem_of_getElem? (i := 25) rfl)
theorem zGM_r0_39 {G : zGw} (h : zGM G) : G.2.2.1 0 39 = some 40 := h.2 (0, 39, 40) (List.mem_of_getElem? (i := 26) rfl)
theorem zGM_r0_40 {G : zGw} (h : zGM G) : G.2.2.1 0 40 = some 41 := h.2 (0, 40, 41) (List.mem_of_getElem? (i := 27) rfl)
theorem zGM_r0_41 {G : zGw} (h : zGM G) : G.2.2.1 0 41 = some 42 := h.2 (0, 41, 42) (List.mem_of_getElem? (i := 28) rfl)
theorem zGM_r0_42 {G : zGw} (h : zGM G) : G.2.2.1 0 42 = some 43 := h.2 (0, 42, 43) (List.mem_of_getElem? (i := 29) rfl)
theorem zGM_r0_46 {G : zGw} (h : zGM G) : G.2.2.1 0 46 = some 47 := h.2 (0, 46, 47) (List.mem_of_getElem? (i := 30) rfl)
theorem zGM_r0_47 {G : zGw} (h : zGM G) : G.2.2.1 0 47 = some 48 := h.2 (0, 47, 48) (List.mem_of_getElem? (i := 31) rfl)
theorem zGM_r0_48 {G : zGw} (h : zGM G) : G.2.2.1 0 48 = some 49 := h.2 (0, 48, 49) (List.mem_of_getElem? (i := 32) rfl)
theorem zGM_r0_49 {G : zGw} (h : zGM G) : G.2.2.1 0 49 = some 50 := h.2 (0, 49, 50) (List.mem_of_getElem? (i := 33) rfl)
theorem zGM_r0_50 {G : zGw} (h : zGM G) : G.2.2.1 0 50 = some 51 := h.2 (0, 50, 51) (List.mem_of_getElem? (i := 34) rfl)
theorem zGM_r0_52 {G : zGw} (h : zGM G) : G.2.2.1 0 52 = some 53 := h.2 (0, 52, 53) (List.mem_of_getElem? (i := 35) rfl)
theorem zGM_r0_53 {G : zGw} (h : zGM G) : G.2.2.1 0 53 = some 54 := h.2 (0, 53, 54) (List.mem_of_getElem? (i := 36) rfl)
theorem zGM_r0_54 {G : zGw} (h : zGM G) : G.2.2.1 0 54 = some 55 := h.2 (0, 54, 55) (List.mem_of_getElem? (i := 37) rfl)
theorem z_callU {ρ ρ' : Type} {X : zCx} {M : zMr} {inj : ρ → Option Value} {G : zGw} {cs : Nat × Nat} {res : ρ × zSt} {S : zSt} {pc : Nat} {ls : List (Option Value)} {Mc : zMr} {injc : ρ' → Option Value} {Fc : zSt → Option (ρ' × zSt)} {k : ρ' → zSt → Option (ρ × zSt)} {idx : Nat} {st : List Value} {x y : MethodName} {C : String} (As rest : List Value) (kp ci : Nat) (hct : Zc Mc y injc G (.ref (G.1 kp) :: As) Fc) (hw : ∀ w ∈ va_wsU M.1 idx C x.cls x y [], w ∈ lw_all) (hcode : Cond.code y Mc.2.1 Mc.2.2.1 Mc.2.2.2.1 ∈ lw_all) (hyx : y = ⟨x.cls, x.name, x.desc⟩) (hdd : x.cls ≠ "java/lang/invoke/MethodHandle" ∧ x.cls ≠ "java/lang/invoke/VarHandle" ∧ (parseMethodDescriptor x.desc).map (fun d => d.parameters.length) = some As.length) (hst : st = As.reverse ++ .ref (G.1 kp) :: rest) (hsh : G.2.1 kp = some (.inl ci)) (hcn : ∃ T N, zcl[ci]? = some (C, T, N)) (hd : Mc.2.2.2.2.1 + 1 ≤ M.2.2.2.2.1) (hL : Mc.2.2.1 ≤ 45) (hz : Mc.2.2.2.2.2 = (0, 0, none)) (hq : zcs cs M = true) (hcat : (rest.map fun v => v.category).sum ≤ 8) (d : decode M.2.1 pc = .ok (.invokevirtual idx, 3))
    (kk : ∀ r S', Zm X M inj G cs res S' (pc + 3) ls ((injc r).toList ++ rest) (k r S')) : Zm X M inj G cs res S pc ls st (zbind (Fc S) k) := by
  intro hf ho H locs la hp hl1 hS
  obtain ⟨⟨r, S'⟩, hF, hf2⟩ := Option.bind_eq_some_iff.mp hf
  obtain ⟨p, l, e, R, s, m, args, below, meth, c⟩ := X
  have hR : R = zRm M := ho.2.2.2.2.2.2.2.2.2.2
  subst hR
  have hz1 : Mc.2.2.2.2.2.1 = 0 := by rw [hz]
  have hz2 : Mc.2.2.2.2.2.2.1 = 0 := by rw [hz]
  have hz3 : Mc.2.2.2.2.2.2.2 = none := by rw [hz]
  have hcwc : zcw Mc y = Cond.code y Mc.2.1 Mc.2.2.1 Mc.2.2.2.1 := by unfold zcw; rw [hz3]
  have hctl := hct l S (r, S') H.size ho.2.2.2.2.2.1.2.2.1 hF
  rw [hcwc] at hctl
  subst hst
  obtain ⟨T9, N9, hq1⟩ := hcn
  have hob := zhp_obj hp hsh hq1
  have hkn := ho.2.2.2.2.2.2.2.2.1
  have hrec : ∃ cell : Cell, H[G.1 kp]? = some cell ∧ cell.vm.isStatics = false ∧ s.vm.findClass C = some cell.cls := by
    obtain ⟨cell, g1, g2, g3, -⟩ := hob
    exact ⟨cell, g1, by rw [g3]; rfl, by rw [g2]; exact (hkn ci _ hq1).2.1⟩
  have hgood : GoodIn lw_all (va_wsU M.1 idx C x.cls x y (ws_ y Mc.2.1 Mc.2.2.1 Mc.2.2.2.1)) := lw_app (fun w h => hw w (by unfold va_wsU; exact List.mem_append_left _ h)) (lw_meth hcode)
  refine z_after (va_runU (As := As) (rest := rest) ⟨ho.1, ho.2.1, ho.2.2.1, ho.2.2.2.1, ho.2.2.2.2.1⟩ hctl (va_cwU As.length ho.2.2.2.2.1 hgood rfl rfl rfl hyx hdd (z_room hd hL)) ⟨z_blind, hrec, z_pre hp hkn ho.2.2.2.2.2.1.1 ho.2.2.2.2.2.2.2.2.2.1 ho.2.2.2.2.2.1.2.1 hS⟩ rfl rfl hl1.1 rfl (lv_room hcat) d ⟨by rw [hz1]; exact zcs1 hq, by rw [hz2]; exact zcs2 hq⟩) hS ?_
  intro H1 locs1 hp1 hS1
  rw [hz1, hz2]
  exact kk r S' hf2 ho H1 locs1 la hp1 hl1 hS1
theorem z_callO {ρ ρ' : Type} {X : zCx} {M : zMr} {inj : ρ → Option Value} {G : zGw} {cs : Nat × Nat} {res : ρ × zSt} {S : zSt} {pc : Nat} {ls : List (Option Value)} {Mc : zMr} {injc : ρ' → Option Value} {Fc : zSt → Option (ρ' × zSt)} {k : ρ' → zSt → Option (ρ × zSt)} {idx : Nat} {st : List Value} {x y : MethodName} {C : String} {b0 : ByteArray} {m0 : Nat} {r0 : Option FieldType} (As rest : List Value) (kp ci : Nat) (hct : Zc Mc y injc G (.ref (G.1 kp) :: As) Fc) (hw : ∀ w ∈ va_wsO M.1 idx C x.cls x y [], w ∈ lw_all) (hcode : Cond.code y Mc.2.1 Mc.2.2.1 Mc.2.2.2.1 ∈ lw_all) (h0 : Cond.code ⟨x.cls, x.name, x.desc⟩ b0 m0 r0 ∈ lw_all) (hdd : x.cls ≠ "java/lang/invoke/MethodHandle" ∧ x.cls ≠ "java/lang/invoke/VarHandle" ∧ (parseMethodDescriptor x.desc).map (fun d => d.parameters.length) = some As.length) (hst : st = As.reverse ++ .ref (G.1 kp) :: rest) (hsh : G.2.1 kp = some (.inl ci)) (hcn : ∃ T N, zcl[ci]? = some (C, T, N)) (hd : Mc.2.2.2.2.1 + 1 ≤ M.2.2.2.2.1) (hL : Mc.2.2.1 ≤ 45) (hz : Mc.2.2.2.2.2 = (0, 0, none)) (hq : zcs cs M = true) (hcat : (rest.map fun v => v.category).sum ≤ 8) (d : decode M.2.1 pc = .ok (.invokevirtual idx, 3))
    (kk : ∀ r S', Zm X M inj G cs res S' (pc + 3) ls ((injc r).toList ++ rest) (k r S')) : Zm X M inj G cs res S pc ls st (zbind (Fc S) k) := by
  intro hf ho H locs la hp hl1 hS
  obtain ⟨⟨r, S'⟩, hF, hf2⟩ := Option.bind_eq_some_iff.mp hf
  obtain ⟨p, l, e, R, s, m, args, below, meth, c⟩ := X
  have hR : R = zRm M := ho.2.2.2.2.2.2.2.2.2.2
  subst hR
  have hz1 : Mc.2.2.2.2.2.1 = 0 := by rw [hz]
  have hz2 : Mc.2.2.2.2.2.2.1 = 0 := by rw [hz]
  have hz3 : Mc.2.2.2.2.2.2.2 = none := by rw [hz]
  have hcwc : zcw Mc y = Cond.code y Mc.2.1 Mc.2.2.1 Mc.2.2.2.1 := by unfold zcw; rw [hz3]
  have hctl := hct l S (r, S') H.size ho.2.2.2.2.2.1.2.2.1 hF
  rw [hcwc] at hctl
  subst hst
  obtain ⟨T9, N9, hq1⟩ := hcn
  have hob := zhp_obj hp hsh hq1
  have hkn := ho.2.2.2.2.2.2.2.2.1
  have hrec : ∃ cell : Cell, H[G.1 kp]? = some cell ∧ cell.vm.isStatics = false ∧ s.vm.findClass C = some cell.cls := by
    obtain ⟨cell, g1, g2, g3, -⟩ := hob
    exact ⟨cell, g1, by rw [g3]; rfl, by rw [g2]; exact (hkn ci _ hq1).2.1⟩
  have hgood : GoodIn lw_all (va_wsO M.1 idx C x.cls x y (ws_ y Mc.2.1 Mc.2.2.1 Mc.2.2.2.1)) := lw_app (fun w h => hw w (by unfold va_wsO; exact List.mem_append_left _ h)) (lw_meth hcode)
  refine z_after (va_runU (As := As) (rest := rest) ⟨ho.1, ho.2.1, ho.2.2.1, ho.2.2.2.1, ho.2.2.2.2.1⟩ hctl (va_cwO As.length ho.2.2.2.2.1 hgood rfl rfl rfl h0 hdd (z_room hd hL)) ⟨z_blind, hrec, z_pre hp hkn ho.2.2.2.2.2.1.1 ho.2.2.2.2.2.2.2.2.2.1 ho.2.2.2.2.2.1.2.1 hS⟩ rfl rfl hl1.1 rfl (lv_room hcat) d ⟨by rw [hz1]; exact zcs1 hq, by rw [hz2]; exact zcs2 hq⟩) hS ?_
  intro H1 locs1 hp1 hS1
  rw [hz1, hz2]
  exact kk r S' hf2 ho H1 locs1 la hp1 hl1 hS1
theorem z_callSU {ρ ρ' : Type} {X : zCx} {M : zMr} {inj : ρ → Option Value} {G : zGw} {cs : Nat × Nat} {res : ρ × zSt} {S : zSt} {pc : Nat} {ls : List (Option Value)} {Mc : zMr} {injc : ρ' → Option Value} {Fc : zSt → Option (ρ' × zSt)} {k : ρ' → zSt → Option (ρ × zSt)} {idx : Nat} {st : List Value} {y : MethodName} {C : String} (As rest : List Value) (kp ci : Nat) (hct : Zc Mc y injc G (.ref (G.1 kp) :: As) Fc) (hw : ∀ w ∈ va_wsSU M.1 idx y [], w ∈ lw_all) (hcode : Cond.code y Mc.2.1 Mc.2.2.1 Mc.2.2.2.1 ∈ lw_all) (hdd : y.name ≠ "<init>" ∧ (parseMethodDescriptor y.desc).map (fun d => d.parameters.length) = some As.length) (hst : st = As.reverse ++ .ref (G.1 kp) :: rest) (hsh : G.2.1 kp = some (.inl ci)) (hcn : ∃ T N, zcl[ci]? = some (C, T, N)) (hd : Mc.2.2.2.2.1 + 1 ≤ M.2.2.2.2.1) (hL : Mc.2.2.1 ≤ 45) (hz : Mc.2.2.2.2.2 = (0, 0, none)) (hq : zcs cs M = true) (hcat : (rest.map fun v => v.category).sum ≤ 8) (d : decode M.2.1 pc = .ok (.invokespecial idx, 3))
    (kk : ∀ r S', Zm X M inj G cs res S' (pc + 3) ls ((injc r).toList ++ rest) (k r S')) : Zm X M inj G cs res S pc ls st (zbind (Fc S) k) := by
  intro hf ho H locs la hp hl1 hS
  obtain ⟨⟨r, S'⟩, hF, hf2⟩ := Option.bind_eq_some_iff.mp hf
  obtain ⟨p, l, e, R, s, m, args, below, meth, c⟩ := X
  have hR : R = zRm M := ho.2.2.2.2.2.2.2.2.2.2
  subst hR
  have hz1 : Mc.2.2.2.2.2.1 = 0 := by rw [hz]
  have hz2 : Mc.2.2.2.2.2.2.1 = 0 := by rw [hz]
  have hz3 : Mc.2.2.2.2.2.2.2 = none := by rw [hz]
  have hcwc : zcw Mc y = Cond.code y Mc.2.1 Mc.2.2.1 Mc.2.2.2.1 := by unfold zcw; rw [hz3]
  have hctl := hct l S (r, S') H.size ho.2.2.2.2.2.1.2.2.1 hF
  rw [hcwc] at hctl
  subst hst
  obtain ⟨T9, N9, hq1⟩ := hcn
  have hob := zhp_obj hp hsh hq1
  have hkn := ho.2.2.2.2.2.2.2.2.1
  have hrec : ∃ cell : Cell, H[G.1 kp]? = some cell ∧ cell.vm.isStatics = false ∧ s.vm.findClass C = some cell.cls := by
    obtain ⟨cell, g1, g2, g3, -⟩ := hob
    exact ⟨cell, g1, by rw [g3]; rfl, by rw [g2]; exact (hkn ci _ hq1).2.1⟩
  have hgood : GoodIn lw_all (va_wsSU M.1 idx y (ws_ y Mc.2.1 Mc.2.2.1 Mc.2.2.2.1)) := lw_app (fun w h => hw w (by unfold va_wsSU; exact List.mem_append_left _ h)) (lw_meth hcode)
  refine z_after (va_runSU (C := C) (hkn ci _ hq1).2 (As := As) (rest := rest) ⟨ho.1, ho.2.1, ho.2.2.1, ho.2.2.2.1, ho.2.2.2.2.1⟩ hctl (va_cwSU As.length ho.2.2.2.2.1 hgood rfl rfl rfl hdd (z_room hd hL)) ⟨z_blind, hrec, z_pre hp hkn ho.2.2.2.2.2.1.1 ho.2.2.2.2.2.2.2.2.2.1 ho.2.2.2.2.2.1.2.1 hS⟩ rfl rfl hl1.1 rfl (lv_room hcat) d ⟨by rw [hz1]; exact zcs1 hq, by rw [hz2]; exact zcs2 hq⟩) hS ?_
  intro H1 locs1 hp1 hS1
  rw [hz1, hz2]
  exact kk r S' hf2 ho H1 locs1 la hp1 hl1 hS1
theorem zd_goes : (parseMethodDescriptor "(II)Z").map (fun d => d.parameters.length) = some 2 := by decide +kernel
theorem zd_spreads : (parseMethodDescriptor "(I)V").map (fun d => d.parameters.length) = some 1 := by decide +kernel
theorem zw_spreads : ∀ w ∈ va_wsU "HiddenCube" 207 "HiddenCube$Without" "HiddenCube$Walk" ⟨"HiddenCube$Walk", "spreads", "(I)V"⟩ ⟨"HiddenCube$Walk", "spreads", "(I)V"⟩ [], w ∈ lw_all := by
  intro w hw
  simp only [va_wsU, List.append_nil, List.mem_cons, List.not_mem_nil, or_false] at hw
  rcases hw with e | e | e | e | e <;> rw [e]
  · exact q776
  · exact q779
  · exact q780
  · exact q777
  · exact q152
theorem zw_goes : ∀ w ∈ va_wsO "HiddenCube$Walk" 37 "HiddenCube$Without" "HiddenCube$Walk" ⟨"HiddenCube$Walk", "goes", "(II)Z"⟩ ⟨"HiddenCube$Without", "goes", "(II)Z"⟩ [], w ∈ lw_all := by
  intro w hw
  simp only [va_wsO, List.append_nil, List.mem_cons, List.not_mem_nil, or_false] at hw
  rcases hw with e | e | e | e | e | e <;> rw [e]
  · exact q783
  · exact q786
  · exact q784
  · exact q787
  · exact q788
  · exact q153
theorem zw_super : ∀ w ∈ va_wsSU "HiddenCube$Without" 13 ⟨"HiddenCube$Walk", "goes", "(II)Z"⟩ [], w ∈ lw_all := by
  intro w hw
  simp only [va_wsSU, List.append_nil, List.mem_cons, List.not_mem_nil, or_false] at hw
  rcases hw with e | e | e | e | e <;> rw [e]
  · exact q790
  · exact q786
  · exact q280
  · exact q784
  · exact q152
