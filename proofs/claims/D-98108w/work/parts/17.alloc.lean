/-! CELLS MADE: worlds that grow -/
set_option maxRecDepth 100000
def gA (G : zGw) (k a : Nat) (w : zCell) : zGw := (fun j => if j = k then a else G.1 j, fun j => if j = k then some w else G.2.1 j, fun j i => if j = k then none else G.2.2.1 j i, G.2.2.2)
def gR (G : zGw) (k i : Nat) (q : Option Nat) : zGw := (G.1, G.2.1, fun a b => if a = k then (if b = i then q else G.2.2.1 a b) else G.2.2.1 a b, G.2.2.2)
def sZ (S : zSt) (k : Nat) : zSt := (fun a b => if a = k then 0 else S.1 a b, fun a b => if a = k then 0 else S.2 a b)
/-- every reference of a place goes to a place -/
def zcd (G : zGw) : Prop := ∀ j i q, G.2.1 j ≠ none → G.2.2.1 j i = some q → G.2.1 q ≠ none
theorem gA_sh {G : zGw} {k a : Nat} {w : zCell} : (gA G k a w).2.1 k = some w := if_pos rfl
theorem gA_ne {G : zGw} {k a j : Nat} {w : zCell} (h : j ≠ k) : (gA G k a w).2.1 j = G.2.1 j := if_neg h
theorem gA_ad {G : zGw} {k a j : Nat} {w : zCell} (h : j ≠ k) : (gA G k a w).1 j = G.1 j := if_neg h
theorem zcd_gA {G : zGw} {k a : Nat} {w : zCell} (h : zcd G) : zcd (gA G k a w) := by
  intro j i q hj hq
  by_cases e : j = k
  · subst e
    have : (gA G j a w).2.2.1 j i = none := if_pos rfl
    rw [this] at hq
    cases hq
  · rw [gA_ne e] at hj
    have h1 : (gA G k a w).2.2.1 j i = G.2.2.1 j i := if_neg e
    rw [h1] at hq
    by_cases e2 : q = k
    · subst e2; rw [gA_sh]; simp
    · rw [gA_ne e2]; exact h j i q hj hq
theorem zcd_gR {G : zGw} {k i : Nat} {q : Option Nat} (hq : ∀ x, q = some x → G.2.1 x ≠ none) (h : zcd G) : zcd (gR G k i q) := by
  intro j i' x hj hx
  show G.2.1 x ≠ none
  have hx : (if j = k then (if i' = i then q else G.2.2.1 j i') else G.2.2.1 j i') = some x := hx
  by_cases e : j = k
  · rw [if_pos e] at hx
    by_cases e2 : i' = i
    · rw [if_pos e2] at hx; exact hq x hx
    · rw [if_neg e2] at hx; exact h j i' x hj hx
  · rw [if_neg e] at hx; exact h j i' x hj hx
theorem zap_gA {G : zGw} {k a : Nat} {w : zCell} (h : zap G) (ha : ∀ j, G.2.1 j ≠ none → G.1 j ≠ a) : zap (gA G k a w) := by
  intro i j hi hj hij
  by_cases e1 : i = k <;> by_cases e2 : j = k
  · rw [e1, e2]
  · rw [gA_ad e2] at hij
    have : (gA G k a w).1 i = a := if_pos e1
    rw [gA_ne e2] at hj
    exact absurd (hij.symm.trans this) (ha j hj)
  · rw [gA_ad e1] at hij
    have : (gA G k a w).1 j = a := if_pos e2
    rw [gA_ne e1] at hi
    exact absurd (hij.trans this) (ha i hi)
  · rw [gA_ad e1, gA_ad e2] at hij
    rw [gA_ne e1] at hi
    rw [gA_ne e2] at hj
    exact h i j hi hj hij
theorem zval_ad {ty : FieldType} {ad ad' : Nat → Nat} {r : Option Nat} {i : Int32} {l : Int64} (h : ∀ q, r = some q → ad' q = ad q) : zval ty ad' r i l = zval ty ad r i l := by
  have : r.map ad' = r.map ad := by
    cases r with
    | none => rfl
    | some q => show some _ = some _; rw [h q rfl]
  unfold zval
  rw [this]
theorem zhp_lt {G : zGw} {S : zSt} {s : State} {H : Heap} (hp : zhp G S s H) {k : Nat} (hk : G.2.1 k ≠ none) : G.1 k < H.size := by
  have h := hp k
  unfold zcellIs at h
  cases hs : G.2.1 k with
  | none => exact absurd hs hk
  | some w =>
    rw [hs] at h
    cases w with
    | inl ci =>
      obtain ⟨r, h1, cell, q1, -⟩ := h
      exact (Array.getElem?_eq_some_iff.mp q1).1
    | inr a =>
      obtain ⟨cA, h1, -⟩ := h
      exact (Array.getElem?_eq_some_iff.mp h1).1
theorem zhp_new {G : zGw} {S : zSt} {s : State} {H H1 : Heap} {k a : Nat} {w : zCell} (hcd : zcd G) (hf : G.2.1 k = none) (hp : zhp G S s H) (hk : ∀ q : Nat, q < H.size → H1[q]? = H[q]?) (hc : zcellIs (gA G k a w) (sZ S k) s H1 k) : zhp (gA G k a w) (sZ S k) s H1 := by
  intro j
  by_cases e : j = k
  · rw [e]; exact hc
  have hj := zhp_grow hk hp j
  unfold zcellIs at hj ⊢
  rw [gA_ne e]
  cases hs : G.2.1 j with
  | none => trivial
  | some x =>
    rw [hs] at hj
    have hr : ∀ i, (gA G k a w).2.2.1 j i = G.2.2.1 j i := fun i => if_neg e
    have h1 : ∀ i, (sZ S k).1 j i = S.1 j i := fun i => if_neg e
    have h2 : ∀ i, (sZ S k).2 j i = S.2 j i := fun i => if_neg e
    have hv : ∀ (ty : FieldType) (i : Nat), zval ty (gA G k a w).1 ((gA G k a w).2.2.1 j i) ((sZ S k).1 j i) ((sZ S k).2 j i) = zval ty G.1 (G.2.2.1 j i) (S.1 j i) (S.2 j i) := by
      intro ty i
      rw [hr, h1, h2]
      exact zval_ad (fun q hq => gA_ad (fun z => hcd j i q (by rw [hs]; simp) hq (by rw [z]; exact hf)))
    cases x with
    | inl ci =>
      obtain ⟨r, r1, r2⟩ := hj
      refine ⟨r, r1, ?_⟩
      rw [gA_ad e]
      exact r2.to (fun i _ => (hv _ i).symm)
    | inr x =>
      obtain ⟨cA, r1, r2⟩ := hj
      refine ⟨cA, ?_, r2⟩
      rw [gA_ad e, r1]
      congr 2
      funext i
      exact (hv _ i).symm
theorem zok_to {M : zMr} {G G' : zGw} {X : zCx} {A : (Nat → Prop) × String} (ho : zok M G X) (hA : zAok A G' X) (he : G'.2.2.2 = G.2.2.2) (hap : zap G') : zok M G' X := by
  obtain ⟨h1, h2, h3, h4, h5, ⟨h6, h7, h8, h9⟩, h10, h11, h12, h13, h14⟩ := ho
  refine ⟨h1, h2, h3, h4, h5, ⟨h6, zEnv_narrow hA.2.2.1 (fun q hq => zAok_sub hA (Nat.le_refl _) hq), h8, h9⟩, h10, h11, ?_, hap, h14⟩
  unfold zkn at h12 ⊢
  rw [he]
  exact h12
def zdok : FieldType → Bool
  | .float => false
  | .double => false
  | _ => true
theorem zdok_v {ty : FieldType} {ad : Nat → Nat} (h : zdok ty = true) : defaultValue ty = zval ty ad none 0 0 := by
  cases ty <;> first | rfl | cases h
section
variable {ρ : Type} {X : zCx} {M : zMr} {A : (Nat → Prop) × String} {Q : zCx → ρ × zSt → State → Prop} {G : zGw} {cs : Nat × Nat} {res : ρ × zSt} {S : zSt} {pc : Nat} {ls : List (Option Value)} {st : List Value} {f : Option (ρ × zSt)}
theorem zz_grow {k a : Nat} {w : zCell} (hA : zAok A G X) (ha : X.2.2.2.2.1.heap.size ≤ a) : zAok A (gA G k a w) X := ⟨fun j hj => by
    by_cases e : j = k
    · have : (gA G k a w).1 j = a := if_pos e
      rw [this]; exact hA.2.1 a ha
    · rw [gA_ad e]; rw [gA_ne e] at hj; exact hA.1 j hj, hA.2.1, hA.2.2.1, hA.2.2.2⟩
theorem zval_mk {ty : FieldType} {G : zGw} {k a i : Nat} {w : zCell} (hd0 : zdok ty = true) : defaultValue ty = zval ty (gA G k a w).1 ((gA G k a w).2.2.1 k i) ((sZ S k).1 k i) ((sZ S k).2 k i) := by
  have h1 : (gA G k a w).2.2.1 k i = none := if_pos rfl
  have h2 : (sZ S k).1 k i = 0 := if_pos rfl
  have h3 : (sZ S k).2 k i = 0 := if_pos rfl
  rw [h1, h2, h3]
  exact zdok_v hd0
theorem zz_made {H H1 : Heap} {locs : List Loc} (hS : va_S A.1 X.2.2.2.2.1.heap H locs) (z1 : H1.size = H.size + 1) (o1 : ∀ q : Nat, q < H.size → H1[q]? = H[q]?) : va_S A.1 X.2.2.2.2.1.heap H1 locs := ⟨Nat.le_trans hS.1 (by omega), fun x h1 h2 => (o1 x (Nat.lt_of_lt_of_le h1 hS.1)).trans (hS.2.1 x h1 h2), hS.2.2⟩
theorem zz_apa {k : Nat} {w : zCell} {H : Heap} (ho : zok M G X) (hp : zhp G S X.2.2.2.2.1 H) : zap (gA G k H.size w) := zap_gA ho.2.2.2.2.2.2.2.2.2.1 (fun _ hj => Nat.ne_of_lt (zhp_lt hp hj))
theorem zz_newa {n : Int32} {N : Nat} {atype : ArrayType} (cs' : Nat × Nat) (k : Nat) (hcd : zcd G) (hfree : G.2.1 k = none) (hd0 : zdok (newarray.typeOf atype) = true) (harr : Cond.arrayClass (newarray.typeOf atype) ∈ lw_all) (hn : ¬ n < 0) (hN : n.toNatClampNeg = N) (hb : N * componentBytes (newarray.typeOf atype) ≤ 536870912) (hcs : (cs.1 + 1, cs.2 + N) = cs') (hq : zcs cs' M = true) (d : decode M.2.1 pc = .ok (.newarray atype, 2))
    (kk : ∀ a : Nat, Zz X M A Q (gA G k a (.inr (N, newarray.typeOf atype))) cs' res (sZ S k) (pc + 2) ls (.ref ((gA G k a (.inr (N, newarray.typeOf atype))).1 k) :: st) f) : Zz X M A Q G cs res S pc ls (.int n :: st) f := by
  subst hcs
  intro hf ho hA H locs la hp hl hS
  have hR : X.2.2.2.1 = zRm M := ho.2.2.2.2.2.2.2.2.2.2
  refine va_newaK ho.1 ho.2.1 (ho.2.2.2.2.1 _ harr) rfl d rfl hn hN hb (by rw [hR]; exact zcs1 hq) (by rw [hR]; exact zcs2 hq) rfl fun H1 cA e1 z1 o1 hAr hNm => ?_
  have hA1 := zz_grow (k := k) (w := .inr (N, newarray.typeOf atype)) hA hS.1
  have had : (gA G k H.size (.inr (N, newarray.typeOf atype))).1 k = H.size := if_pos rfl
  have hk := kk H.size hf (zok_to ho hA1 rfl (zz_apa ho hp)) hA1 H1 locs la (zhp_new hcd hfree hp o1 ?_) hl (zz_made hS z1 o1)
  · rw [had] at hk
    exact hk
  · unfold zcellIs
    rw [gA_sh, had]
    refine ⟨cA, ?_, hAr, by cases atype <;> exact hNm⟩
    rw [e1]
    congr 2
    funext i
    exact zval_mk hd0
theorem zz_new {idx ci N N' : Nat} {C : String} {T : u_T} (cs' : Nat × Nat) (k : Nat) (hcd : zcd G) (hfree : G.2.1 k = none) (ty : Nat → FieldType) (hc : zcl[ci]? = some (C, T, N)) (hin : ∀ w ∈ u_ws C T N, w ∈ lw_all) (hty : ∀ k, k < N → parseFieldDescriptor (T k).2.2.1 = some (ty k)) (hzf : zft ci = ty) (hd0 : ∀ j, j < N → zdok (ty j) = true) (hcl : Cond.classLink M.1 idx C ∈ lw_all) (hins : Cond.instantiable C N' ∈ lw_all) (hini : Cond.initialized C ∈ lw_all) (hcs : (cs.1 + 1, cs.2 + N') = cs') (hq : zcs cs' M = true) (d : decode M.2.1 pc = .ok (.new idx, 3))
    (kk : ∀ a : Nat, Zz X M A Q (gA G k a (.inl ci)) cs' res (sZ S k) (pc + 3) ls (.ref ((gA G k a (.inl ci)).1 k) :: st) f) : Zz X M A Q G cs res S pc ls st f := by
  subst hcs
  subst hzf
  intro hf ho hA H locs la hp hl hS
  have hR : X.2.2.2.1 = zRm M := ho.2.2.2.2.2.2.2.2.2.2
  have hKn := ho.2.2.2.2.2.2.2.2.1 ci _ hc
  refine W.newcK ho.1 ho.2.1 ho.2.2.2.1 (ho.2.2.2.2.1 _ hcl) (ho.2.2.2.2.1 _ hins) (ho.2.2.2.2.1 _ hini) rfl d (by rw [hR]; exact zcs1 hq) (by rw [hR]; exact zcs2 hq) hKn.2.1 rfl fun H1 kC hkC e1 z1 o1 => ?_
  have hA1 := zz_grow (k := k) (w := .inl ci) hA hS.1
  have had : (gA G k H.size (.inl ci)).1 k = H.size := if_pos rfl
  have hk := kk H.size hf (zok_to ho hA1 rfl (zz_apa ho hp)) hA1 H1 locs la (zhp_new hcd hfree hp o1 ?_) hl (zz_made hS z1 o1)
  · rw [had] at hk
    exact hk
  · unfold zcellIs
    rw [gA_sh, had]
    exact ⟨_, hc, (u_born (zft ci) ho.2.2.2.2.1 hin hKn hkC e1 hty).to (fun j hj => zval_mk (hd0 j hj))⟩
theorem zz_anew {idx : Nat} {n : Int32} {N : Nat} {C : String} (cs' : Nat × Nat) (k : Nat) (hcd : zcd G) (hfree : G.2.1 k = none) (hcl : Cond.classLink M.1 idx C ∈ lw_all) (hao : ∀ s, zNW s → va_AO C s) (hn : ¬ n < 0) (hN : n.toNatClampNeg = N) (hb : N * 4 ≤ 536870912) (hcs : (cs.1 + 1, cs.2 + N) = cs') (hq : zcs cs' M = true) (d : decode M.2.1 pc = .ok (.anewarray idx, 3))
    (kk : ∀ a : Nat, Zz X M A Q (gA G k a (.inr (N, .object C))) cs' res (sZ S k) (pc + 3) ls (.ref ((gA G k a (.inr (N, .object C))).1 k) :: st) f) : Zz X M A Q G cs res S pc ls (.int n :: st) f := by
  subst hcs
  subst hN
  intro hf ho hA H locs la hp hl hS
  have hR : X.2.2.2.1 = zRm M := ho.2.2.2.2.2.2.2.2.2.2
  refine W.anew ho.1 ho.2.1 ho.2.2.2.1 (ho.2.2.2.2.1 _ hcl) (va_AO.use (hao _ ho.2.2.2.2.2.1.1)) rfl d rfl hn hb (by rw [hR]; exact zcs1 hq) (by rw [hR]; exact zcs2 hq) fun cA kA comp f1 f2 f3 f4 => ?_
  generalize hH1 : H.push ({ cls := cA, slots := Array.replicate n.toNatClampNeg .null, vm := .none } : Cell) = H1
  have z1 : H1.size = H.size + 1 := by rw [← hH1, Array.size_push]
  have e1 : H1[H.size]? = some (arrV cA n.toNatClampNeg (fun _ => .null)) := by rw [← hH1, Array.getElem?_push_size, ← arrV_new]
  have o1 : ∀ q : Nat, q < H.size → H1[q]? = H[q]? := fun q hq => by rw [← hH1, Array.getElem?_push, if_neg (Nat.ne_of_lt hq)]
  have hAr : ArrOfT X.2.2.2.2.1 cA (.object C) := fun N z => ⟨(fun k h => by cases h), kA, f2, comp, f3⟩
  have hA1 := zz_grow (k := k) (w := .inr (n.toNatClampNeg, .object C)) hA hS.1
  have had : (gA G k H.size (.inr (n.toNatClampNeg, .object C))).1 k = H.size := if_pos rfl
  have hk := kk H.size hf (zok_to ho hA1 rfl (zz_apa ho hp)) hA1 H1 locs la (zhp_new hcd hfree hp o1 ?_) hl (zz_made hS z1 o1)
  · rw [had] at hk
    exact hk
  · unfold zcellIs
    rw [gA_sh, had]
    refine ⟨cA, ?_, hAr, kA, comp, f2, f3, f4, f1⟩
    rw [e1]
    congr 2
    funext i
    exact zval_mk (ty := .object C) rfl
theorem zhp_setR {S : zSt} {s : State} {H H' : Heap} {k i : Nat} {r : Option Nat} (hap : zap G) (hk : G.2.1 k ≠ none) (h : zhp G S s H) (ho : ∀ q, q ≠ G.1 k → H'[q]? = H[q]?) (hc : zcellIs (gR G k i r) S s H' k) : zhp (gR G k i r) S s H' := by
  intro a
  by_cases e : a = k
  · rw [e]; exact hc
  · have hx := h a
    unfold zcellIs at hx ⊢
    have hsh : (gR G k i r).2.1 a = G.2.1 a := rfl
    rw [hsh]
    cases hs : G.2.1 a with
    | none => trivial
    | some c =>
      rw [hs] at hx
      have hq : G.1 a ≠ G.1 k := fun z => e (hap a k (by rw [hs]; simp) hk z)
      have hr : ∀ b, (gR G k i r).2.2.1 a b = G.2.2.1 a b := fun b => if_neg e
      cases c with
      | inl ci =>
        obtain ⟨r0, r1, r2⟩ := hx
        refine ⟨r0, r1, ?_⟩
        have := r2.kept (ho _ hq)
        simp only [hr]
        exact this
      | inr x =>
        obtain ⟨cA, r1, r2⟩ := hx
        refine ⟨cA, ?_, r2⟩
        simp only [hr]
        exact (ho _ hq).trans r1
def zrft : FieldType → Bool
  | .object _ => true
  | .array _ => true
  | _ => false
theorem zrft_fit {ty : FieldType} {a : Nat} (h : zrft ty = true) : narrow ty (.ref a) = .ref a ∧ fits ty (.ref a) = true := by
  cases ty <;> first | exact ⟨rfl, rfl⟩ | cases h
theorem zrft_val {ty : FieldType} {ad : Nat → Nat} {q : Nat} {i : Int32} {l : Int64} (h : zrft ty = true) : zval ty ad (some q) i l = .ref (ad q) := by
  cases ty <;> first | rfl | cases h
theorem zz_putR {C : String} {T : u_T} {N idx : Nat} (ty0 : Nat → FieldType) (kp ci j q : Nat) (hsh : G.2.1 kp = some (.inl ci)) (hc : zcl[ci]? = some (C, T, N)) (hin : ∀ w ∈ u_ws C T N, w ∈ lw_all) (hty : ∀ k, k < N → parseFieldDescriptor (T k).2.2.1 = some (ty0 k)) (hnm : ∀ b, b < N → b ≠ j → (T j).2.1 ≠ (T b).2.1) (hj : j < N) (hl : Cond.fieldLink M.1 idx (T j).1 (T j).2.1 (T j).2.2.1 ∈ lw_all) (hfin : (T j).2.2.2 = false ∨ ((T j).2.2.2 = true ∧ A.2 = "<init>" ∧ (T j).1 = M.1)) (h0 : zrft (ty0 j) = true) (h1 : zft ci j = ty0 j) (d : decode M.2.1 pc = .ok (.putfield idx, 3)) (k : Zz X M A Q (gR G kp j (some q)) cs res S (pc + 3) ls st f) : Zz X M A Q G cs res S pc ls (.ref (G.1 q) :: .ref (G.1 kp) :: st) f := by
  intro hf ho hA H locs la hp hl1 hS
  have hK := zkn_K ho.2.2.2.2.2.2.2.2.1
  have hap := zapart ho.2.2.2.2.1 hin ty0 hty hj hnm hK hc
  obtain ⟨cell, q1, q2, q3, q4⟩ := zhp_obj hp hsh hc
  obtain ⟨hS1, hfc, kC, hkC, hkind⟩ := ho.2.2.2.2.2.2.2.2.1 ci _ hc
  obtain ⟨cf, kf, fi, fd, hi, hsl⟩ := hS1 j hj
  have hlay := ho.2.2.2.2.1 _ (hin _ (u_in_lay hj))
  have hst := (u_facts hfc hkC (u_lays ho.2.2.2.2.1 hin hj) hi).1
  have hne : G.2.1 kp ≠ none := by rw [hsh]; simp
  have hfit := zrft_fit (a := G.1 q) h0
  have hdj := hty j hj
  have fin : ∀ H' : Heap, H'[G.1 kp]? = some (cell.setSlot fd.slot (.ref (G.1 q))) → H'.size = H.size → (∀ x, x ≠ G.1 kp → H'[x]? = H[x]?) → W X.1 X.2.1 X.2.2.1 X.2.2.2.1 X.2.2.2.2.1 X.2.2.2.2.2.1 X.2.2.2.2.2.2.1 X.2.2.2.2.2.2.2.1 X.2.2.2.2.2.2.2.2.1 X.2.2.2.2.2.2.2.2.2 H' (locs ++ [⟨G.1 kp, fd.slot⟩]) cs.1 cs.2 (Q X res) (F0 X.2.2.2.2.2.1 (pc + 3) la st) := by
    intro H' e1 e2 e3
    rw [hsl] at e1 ⊢
    refine k hf (zok_to (A := A) ho ⟨hA.1, hA.2.1, hA.2.2.1, hA.2.2.2⟩ rfl ho.2.2.2.2.2.2.2.2.2.1) ⟨hA.1, hA.2.1, hA.2.2.1, hA.2.2.2⟩ H' _ la (zhp_setR ho.2.2.2.2.2.2.2.2.2.1 hne hp e3 ?_) hl1 (hS.put e2 e3 (hA.1 _ hne))
    unfold zcellIs
    have hs2 : (gR G kp j (some q)).2.1 kp = some (.inl ci) := hsh
    rw [hs2]
    refine ⟨_, hc, t_OB.to ⟨_, e1, q2, q3, zt_set q4 hap hj (.ref (G.1 q))⟩ (fun b hb => ?_)⟩
    unfold updV
    by_cases hbj : b = j
    · subst hbj
      rw [if_pos rfl, h1]
      have : (gR G kp b (some q)).2.2.1 kp b = some q := by simp [gR]
      rw [this]
      exact (zrft_val h0).symm
    · rw [if_neg hbj]
      have : (gR G kp j (some q)).2.2.1 kp b = G.2.2.1 kp b := by simp [gR, hbj]
      rw [this]
      rfl
  rcases hfin with hfin | ⟨hfin, hin2, hdecl⟩
  · unfold u_lay at hlay
    rw [if_neg (by rw [hfin]; decide)] at hlay
    have h6 := u_store hfc hkC hkind hlay hi hdj hfit.1 hfit.2
    exact W.putK ho.1 ho.2.1 (f := fd) ⟨ho.2.2.2.1, (ho.2.2.2.2.1 _ hl), ⟨_, _, _, hi⟩, hst⟩ (by rw [q2]; exact h6) q1 q3 (by rw [hsl]; exact k2_hasslot (q4 j hj)) rfl rfl d fin
  · unfold u_lay at hlay
    rw [if_pos hfin] at hlay
    have hcf : X.2.2.2.2.2.1.cls = cf := by
      obtain ⟨_, _, c', _, _, _, -, -, hf', -, -, -, hown2, -⟩ := Cond.laysFinal_spec hlay
      have e1 : c' = cf := by have := hi.symm.trans hf'; simp at this; exact this.1.symm
      rw [hdecl] at hown2
      rw [← e1]; exact Option.some.inj (ho.2.2.2.1.symm.trans hown2)
    have h6 := u_fits hfc hkC hkind (Or.inr hlay) hi hdj hfit.1 hfit.2
    exact W.putFinK ho.1 ho.2.1 ho.2.2.2.1 (ho.2.2.2.2.1 _ hl) hi hst hcf (hA.2.2.2.trans hin2) (by rw [q2]; exact h6) q1 q3 (by rw [hsl]; exact k2_hasslot (q4 j hj)) rfl rfl d fin
theorem zz_objInit {idx kp : Nat} (hl : Cond.methodLink M.1 idx Lib.objectInit ∈ lw_all) (hi : Cond.instanceMethod Lib.objectInit ∈ lw_all) (hco : Cond.code Lib.objectInit ⟨#[0xb1]⟩ 1 none ∈ lw_all) (hd : 1 ≤ M.2.2.2.2.1) (hcat : (st.map fun v => v.category).sum ≤ 8) (d : decode M.2.1 pc = .ok (.invokespecial idx, 3)) (k : Zz X M A Q G cs res S (pc + 3) ls st f) : Zz X M A Q G cs res S pc ls (.ref (G.1 kp) :: st) f := by
  intro hf ho hA H locs la hp hl1 hS
  have hR : X.2.2.2.1 = zRm M := ho.2.2.2.2.2.2.2.2.2.2
  exact W.objInit ho.1 ho.2.1 ho.2.2.2.1 (ho.2.2.2.2.1 _ hl) (ho.2.2.2.2.1 _ hi) (ho.2.2.2.2.1 _ hco) rfl (hl1.1.trans ho.2.2.1.symm) rfl d (by rw [hR]; exact hd) (by rw [hR]; show 2 * 0 + _ + 12 ≤ 64 * M.2.2.2.2.1; omega) (k hf ho hA H locs la hp hl1 hS)
end
/-! contracts of methods that make cells -/
def zQG {ρ : Type} (inj : ρ → zGw → Option Value) (G : zGw) (K : zGw → Prop) (res : ρ × zSt) (A : Nat → Prop) : Array Value → State → Outcome → State → Prop := fun _ st oc t => ∃ G', oc = .returned (inj res.1 G') ∧ zhp G' res.2 t t.heap ∧ zap G' ∧ G'.2.2.2 = G.2.2.2 ∧ (∀ k, G'.2.1 k ≠ none → A (G'.1 k)) ∧ K G' ∧ va_F A st t
def zQg {ρ : Type} (inj : ρ → zGw → Option Value) (M : zMr) (G : zGw) (K : zGw → Prop) : zCx → ρ × zSt → State → Prop := fun X res =>
  MQ X.2.2.2.2.2.2.2.1 (zQG inj G K res (zA G X.2.2.2.2.1.heap.size)) X.2.2.2.2.2.2.1 X.2.2.2.2.1 M.2.2.2.2.2.1 M.2.2.2.2.2.2.1 (zA G X.2.2.2.2.1.heap.size)
def Zg {ρ : Type} (M : zMr) (y : MethodName) (inj : ρ → zGw → Option Value) (G : zGw) (K : zGw → Prop) (As : List Value) (F : zSt → Option (ρ × zSt)) : Prop :=
  ∀ (l : Launch) (S : zSt) (res : ρ × zSt) (sz : Nat), l.stackTraces = false → F S = some res → Met l y (zcw M y :: lw_all) (zRm M) (va_Pc As (fun U => U.heap.size = sz ∧ zhp G S U U.heap ∧ zkn G U ∧ zNW U ∧ zap G ∧ zEnv (zA G sz) U U.heap)) (zQG inj G K res (zA G sz)) M.2.2.2.2.2.1 M.2.2.2.2.2.2.1 (zA G sz)
def ZI (Mc : zMr) (yc : MethodName) (n : Nat) : Prop := Cond.instanceMethod yc ∈ lw_all ∧ Cond.initialized yc.cls ∈ lw_all ∧ Cond.code yc Mc.2.1 Mc.2.2.1 Mc.2.2.2.1 ∈ lw_all ∧ yc.name = "<init>" ∧ Mc.2.2.2.1 = none ∧ (yc.cls ≠ "java/lang/invoke/MethodHandle" ∧ yc.cls ≠ "java/lang/invoke/VarHandle" ∧ (parseMethodDescriptor yc.desc).map (fun d => d.parameters.length) = some n)
theorem zz_afterG {ρ' : Type} {p : Program} {l : Launch} {e : Env} {R : Room} {s : State} {m : MethodId} {args : Array Value} {below : List Frame} {meth : Method} {c : Code} {H : Heap} {locs : List Loc} {Q : State → Prop} {pc : Nat} {la : Array Slot} {rest st : List Value} {a : Array Value} {A : (Nat → Prop) × String} {G : zGw} {Kc : zGw → Prop} {injc : ρ' → zGw → Option Value} {r : ρ'} {S' : zSt} {cells slots mc ms : Nat}
    (hA : zAok A G (p, l, e, R, s, m, args, below, meth, c)) (hr : va_Run p l e R s m args below meth c H locs cells slots mc ms (F0 m pc la st) rest (zQG injc G Kc (r, S') (zA G H.size) a) (zA G H.size)) (hS : va_S A.1 s.heap H locs)
    (kk : ∀ (G' : zGw) (H1 : Heap) (locs1 : List Loc), Kc G' → zAok A G' (p, l, e, R, s, m, args, below, meth, c) → G'.2.2.2 = G.2.2.2 → zap G' → zhp G' S' s H1 → va_S A.1 s.heap H1 locs1 → W p l e R s m args below meth c H1 locs1 (cells + mc) (slots + ms) Q (F0 m (pc + 3) la ((injc r G').toList ++ rest))) : W p l e R s m args below meth c H locs cells slots Q (F0 m pc la st) := by
  intro T hT X
  obtain ⟨v, st₀, t, T', L, h0, X', hL, e1, e2, ⟨G', hv, hz, hap, heq, hAd, hK, hF1, hF2⟩, stp⟩ := hr T hT X
  cases hv
  rw [h0] at hF1 hF2
  have hsub : ∀ q, zA G H.size q → A.1 q := fun q hq => zAok_sub hA hS.1 hq
  have hal : t.vm.Alike s.vm := by rw [← e2]; exact X'.warmed.alike.symm
  obtain ⟨t2, a1, b1⟩ := kk G' T'.heap (locs ++ L) hK ⟨fun k hk => hsub _ (hAd k hk), hA.2.1, hA.2.2.1, hA.2.2.2⟩ heq hap (by rw [e1]; exact zhp_moved hal hz) ⟨Nat.le_trans hS.1 (by rw [e1]; exact hF1), fun q h1 h2 => by
      rw [e1, hF2 q (Nat.lt_of_lt_of_le h1 hS.1) (fun z => h2 (hsub q z))]
      exact hS.2.1 q h1 h2, fun q hq => by
      rcases List.mem_append.mp hq with h | h
      · exact hS.2.2 q h
      · exact hsub _ (hL q h)⟩ T' rfl X'
  exact ⟨t2, stp t2 a1, b1⟩
section
variable {ρ ρ' : Type} {X : zCx} {M : zMr} {A : (Nat → Prop) × String} {Q : zCx → ρ × zSt → State → Prop} {G : zGw} {cs : Nat × Nat} {res : ρ × zSt} {S : zSt} {pc : Nat} {ls : List (Option Value)} {st : List Value} {Mc : zMr} {yc : MethodName} {injc : ρ' → zGw → Option Value} {Kc : zGw → Prop} {Fc : zSt → Option (ρ' × zSt)} {k : ρ' × zSt → Option (ρ × zSt)} {idx : Nat}
theorem zz_callGN (cs' : Nat × Nat) (As rest : List Value) (kp : Nat) (hct : Zg Mc yc injc G Kc (.ref (G.1 kp) :: As) Fc) (hmv : ZI Mc yc As.length) (hl : (M.1, idx, yc, "HiddenCube") ∈ znM) (hst : st = As.reverse ++ .ref (G.1 kp) :: rest) (hd : Mc.2.2.2.2.1 + 1 ≤ M.2.2.2.2.1) (hL : Mc.2.2.1 ≤ 45) (hz : Mc.2.2.2.2.2.2.2 = none) (hcs : (cs.1 + Mc.2.2.2.2.2.1, cs.2 + Mc.2.2.2.2.2.2.1) = cs') (hq : zcs cs' M = true) (hcat : (rest.map fun v => v.category).sum ≤ 8) (d : decode M.2.1 pc = .ok (.invokespecial idx, 3))
    (kk : ∀ G' r S', Kc G' → Zz X M A Q G' cs' res S' (pc + 3) ls ((injc r G').toList ++ rest) (k (r, S'))) : Zz X M A Q G cs res S pc ls st ((Fc S).bind k) := by
  subst hcs
  intro hf ho hA H locs la hp hl1 hS
  obtain ⟨⟨r, S'⟩, hF, hf2⟩ := Option.bind_eq_some_iff.mp hf
  obtain ⟨p, l, e, R, s, m, args, below, meth, c⟩ := X
  have hR : R = zRm M := ho.2.2.2.2.2.2.2.2.2.2
  subst hR
  have hcwc : zcw Mc yc = Cond.code yc Mc.2.1 Mc.2.2.1 Mc.2.2.2.1 := by unfold zcw; rw [hz]
  have hctl := hct l S (r, S') H.size ho.2.2.2.2.2.1.2.2.1 hF
  rw [hcwc] at hctl
  subst hst
  obtain ⟨m1, m2, m3, m4, m4b, m5, m6, m7⟩ := hmv
  have hts := ho.2.2.2.2.1
  rw [m4b] at hctl m3
  have hkn := ho.2.2.2.2.2.2.2.2.1
  refine zz_afterG hA (va_runIN (As := As) (rest := rest) ⟨ho.1, ho.2.1, ho.2.2.1, ho.2.2.2.1, hts⟩ hctl ⟨va_cnB As.length hts (lw_meth m3) rfl rfl rfl (ho.2.2.2.2.2.1.1.2.1 _ hl) (hts _ m2) ⟨m5, m6, m7⟩ (z_room hd hL), m4, hts _ m1⟩ ⟨z_blind, zz_pre hA hp hkn ho.2.2.2.2.2.1.1 ho.2.2.2.2.2.2.2.2.2.1 hS⟩ rfl rfl hl1.1 rfl (lv_room hcat) d ⟨zcs1 hq, zcs2 hq⟩) hS ?_
  intro G' H1 locs1 hK hA' heq hap hp1 hS1
  exact kk G' r S' hK hf2 (zok_to ho hA' heq hap) hA' H1 locs1 la hp1 hl1 hS1
theorem zz_callGI (cs' : Nat × Nat) (As rest : List Value) (kp : Nat) (hct : Zg Mc yc injc G Kc (.ref (G.1 kp) :: As) Fc) (hmv : ZI Mc yc As.length) (hl : Cond.methodLink M.1 idx yc ∈ lw_all) (hst : st = As.reverse ++ .ref (G.1 kp) :: rest) (hd : Mc.2.2.2.2.1 + 1 ≤ M.2.2.2.2.1) (hL : Mc.2.2.1 ≤ 45) (hz : Mc.2.2.2.2.2.2.2 = none) (hcs : (cs.1 + Mc.2.2.2.2.2.1, cs.2 + Mc.2.2.2.2.2.2.1) = cs') (hq : zcs cs' M = true) (hcat : (rest.map fun v => v.category).sum ≤ 8) (d : decode M.2.1 pc = .ok (.invokespecial idx, 3))
    (kk : ∀ G' r S', Kc G' → Zz X M A Q G' cs' res S' (pc + 3) ls ((injc r G').toList ++ rest) (k (r, S'))) : Zz X M A Q G cs res S pc ls st ((Fc S).bind k) := by
  subst hcs
  intro hf ho hA H locs la hp hl1 hS
  obtain ⟨⟨r, S'⟩, hF, hf2⟩ := Option.bind_eq_some_iff.mp hf
  obtain ⟨p, l, e, R, s, m, args, below, meth, c⟩ := X
  have hR : R = zRm M := ho.2.2.2.2.2.2.2.2.2.2
  subst hR
  have hcwc : zcw Mc yc = Cond.code yc Mc.2.1 Mc.2.2.1 Mc.2.2.2.1 := by unfold zcw; rw [hz]
  have hctl := hct l S (r, S') H.size ho.2.2.2.2.2.1.2.2.1 hF
  rw [hcwc] at hctl
  subst hst
  obtain ⟨m1, m2, m3, m4, m4b, m5, m6, m7⟩ := hmv
  have hts := ho.2.2.2.2.1
  rw [m4b] at hctl m3
  have hkn := ho.2.2.2.2.2.2.2.2.1
  refine zz_afterG hA (va_runI (As := As) (rest := rest) ⟨ho.1, ho.2.1, ho.2.2.1, ho.2.2.2.1, hts⟩ hctl (cwI As.length hts (lw_meth m3) rfl rfl rfl (hts _ m2) (hts _ hl) (hts _ m1) m4 ⟨m5, m6, m7⟩ (z_room hd hL)) ⟨z_blind, zz_pre hA hp hkn ho.2.2.2.2.2.1.1 ho.2.2.2.2.2.2.2.2.2.1 hS⟩ rfl rfl hl1.1 rfl (lv_room hcat) d ⟨zcs1 hq, zcs2 hq⟩) hS ?_
  intro G' H1 locs1 hK hA' heq hap hp1 hS1
  exact kk G' r S' hK hf2 (zok_to ho hA' heq hap) hA' H1 locs1 la hp1 hl1 hS1
theorem zz_callGV (cs' : Nat × Nat) (As rest : List Value) (kp : Nat) (hct : Zg Mc yc injc G Kc (.ref (G.1 kp) :: As) Fc) (ci : Nat) (hsh : G.2.1 kp = some (.inl ci)) (hcn : (zcl[ci]?).map Prod.fst = some Mc.1) (hmv : ZV Mc yc As.length) (hl : Cond.methodLink M.1 idx yc ∈ lw_all) (hst : st = As.reverse ++ .ref (G.1 kp) :: rest) (hd : Mc.2.2.2.2.1 + 1 ≤ M.2.2.2.2.1) (hL : Mc.2.2.1 ≤ 45) (hz : Mc.2.2.2.2.2.2.2 = none) (hcs : (cs.1 + Mc.2.2.2.2.2.1, cs.2 + Mc.2.2.2.2.2.2.1) = cs') (hq : zcs cs' M = true) (hcat : (rest.map fun v => v.category).sum ≤ 8) (d : decode M.2.1 pc = .ok (.invokevirtual idx, 3))
    (kk : ∀ G' r S', Kc G' → Zz X M A Q G' cs' res S' (pc + 3) ls ((injc r G').toList ++ rest) (k (r, S'))) : Zz X M A Q G cs res S pc ls st ((Fc S).bind k) := by
  subst hcs
  intro hf ho hA H locs la hp hl1 hS
  obtain ⟨⟨r, S'⟩, hF, hf2⟩ := Option.bind_eq_some_iff.mp hf
  obtain ⟨p, l, e, R, s, m, args, below, meth, c⟩ := X
  have hR : R = zRm M := ho.2.2.2.2.2.2.2.2.2.2
  subst hR
  have hcwc : zcw Mc yc = Cond.code yc Mc.2.1 Mc.2.2.1 Mc.2.2.2.1 := by unfold zcw; rw [hz]
  have hctl := hct l S (r, S') H.size ho.2.2.2.2.2.1.2.2.1 hF
  rw [hcwc] at hctl
  subst hst
  obtain ⟨m1, m2, m3, m4, m5, m6, m7, m8⟩ := hmv
  have hts := ho.2.2.2.2.1
  obtain ⟨q, hq3, hq4⟩ := Option.map_eq_some_iff.mp hcn
  obtain ⟨C, T9, N9⟩ := q
  have hC : C = Mc.1 := hq4
  subst hC
  have hob := zhp_obj hp hsh hq3
  have hkn := ho.2.2.2.2.2.2.2.2.1
  have hrec : ∃ cell : Cell, H[G.1 kp]? = some cell ∧ cell.vm.isStatics = false ∧ s.vm.findClass Mc.1 = some cell.cls := by
    obtain ⟨cell, g1, g2, g3, -⟩ := hob
    exact ⟨cell, g1, by rw [g3]; rfl, by rw [g2]; exact (hkn ci _ hq3).2.1⟩
  refine zz_afterG hA (va_runV (As := As) (rest := rest) ⟨ho.1, ho.2.1, ho.2.2.1, ho.2.2.2.1, hts⟩ hctl (cwV As.length ho.2.2.2.2.1 (lw_V hl m1 m2 m3 m4) rfl rfl rfl ⟨m5, m6, m7, m8⟩ (z_room hd hL)) ⟨z_blind, hrec, zz_pre hA hp hkn ho.2.2.2.2.2.1.1 ho.2.2.2.2.2.2.2.2.2.1 hS⟩ rfl rfl hl1.1 rfl (lv_room hcat) d ⟨zcs1 hq, zcs2 hq⟩) hS ?_
  intro G' H1 locs1 hK hA' heq hap hp1 hS1
  exact kk G' r S' hK hf2 (zok_to ho hA' heq hap) hA' H1 locs1 la hp1 hl1 hS1
end
theorem Zg_of {ρ : Type} {M : zMr} {y : MethodName} {inj : ρ → zGw → Option Value} {K : zGw → Prop} {G : zGw} {As : List Value} {F : zSt → Option (ρ × zSt)} (ls0 : List (Option Value)) (hy : plainName y.cls = true) (hM : M.1 = y.cls) (hH : M.2.2.2.2.2.2.2 = none) (hlen : (lg_sl As).length ≤ M.2.2.1) (hls : l0 M.2.2.1 (lv_args 0 As) = ls0) (h : ∀ X S res, Zz X M (zA G X.2.2.2.2.1.heap.size, y.name) (zQg inj M G K) G (0, 0) res S 0 ls0 [] (F S)) : Zg M y inj G K As F := by
  intro l S res sz hfl hF
  have hcw : zcw M y = Cond.code y M.2.1 M.2.2.1 M.2.2.2.1 := by unfold zcw; rw [hH]
  rw [hcw]
  refine Met.ofW (cc := M.2.1) (maxL := M.2.2.1) (ret := M.2.2.2.1) hy rfl ?_
  intro p e s m args below meth c s₁ B hml hv
  obtain ⟨rfl, hsz, hP, hK, hN, hA, hE⟩ := hv
  have hts := atoms_spec (ws := ws_ y M.2.1 M.2.2.1 M.2.2.2.1) B.pre
  have hts : ∀ w ∈ lw_all, w.before As.toArray s = true := fun w h => hts w (List.mem_cons_of_mem _ h)
  have hown : s.vm.findClass M.1 = some m.cls := by rw [hM]; exact findClass_of_methodNamed B.named
  subst hsz
  have hl := lv_entry As (n := M.2.2.1) hlen
  rw [lg_entry_eq]
  generalize (lg_sl As ++ List.replicate (M.2.2.1 - (lg_sl As).length) Slot.unset).toArray = la at hl ⊢
  have hx : zok M G (p, l, e, zRm M, s, m, As.toArray, below, meth, c) := ⟨B.exec, B.bytes, hml, hown, hts, ⟨hN, hE, hfl, by
    obtain ⟨meth9, c9, h1, h2, -, -, -, -, h7, -⟩ := Cond.code_spec B.named (atoms_spec (ws := ws_ y M.2.1 M.2.2.1 M.2.2.2.1) B.pre _ List.mem_cons_self)
    cases Option.some.inj (h1.symm.trans B.method)
    cases Option.some.inj (h2.symm.trans (Stand.of_body B).code)
    rw [Array.isEmpty_iff.mp h7]
    unfold zhh
    rw [hH]
    rfl⟩, B.notSynchronized, B.returns, hK, hA, rfl⟩
  refine h (p, l, e, zRm M, s, m, As.toArray, below, meth, c) S res hF hx ⟨fun k hk => Or.inl ⟨k, hk, rfl⟩, fun q hq => Or.inr hq, hE, (name_of_methodNamed B.named B.method).1⟩ s.heap [] la hP ⟨hl.1, hl.2.1, fun i v hi => ?_⟩ va_S.rf
  subst hls
  unfold l0 at hi
  rw [List.getElem?_map] at hi
  obtain ⟨q, hq1, hq2⟩ := Option.map_eq_some_iff.mp hi
  have hq : q = i := by
    have := List.getElem?_eq_some_iff.mp hq1
    obtain ⟨h3, h4⟩ := this
    rw [List.getElem_range] at h4
    exact h4.symm
  subst hq
  exact hl.2.2 (q, v) (List.mem_iff_getElem?.mpr (by
    have : (q, v) ∈ lv_args 0 As := by
      revert hq2
      generalize lv_args 0 As = L
      induction L with
      | nil => intro h; cases h
      | cons a t ih =>
        intro h
        obtain ⟨a1, a2⟩ := a
        rw [List.lookup_cons] at h
        split at h
        · rename_i hb
          have e1 : q = a1 := by simpa using hb
          cases h
          rw [e1]
          exact List.mem_cons_self
        · exact List.mem_cons_of_mem _ (ih h)
    exact List.getElem?_of_mem this))
section
variable {ρ : Type} {X : zCx} {M : zMr} {G0 G : zGw} {nm : String} {K : zGw → Prop} {cs : Nat × Nat} {S : zSt} {pc : Nat} {ls : List (Option Value)}
theorem zz_end {inj : ρ → zGw → Option Value} {r : ρ} {H : Heap} {locs : List Loc} {v : Option Value} (hv : inj r G = v) (ho : zok M G X) (hA : zAok (zA G0 X.2.2.2.2.1.heap.size, nm) G X) (heq : G.2.2.2 = G0.2.2.2) (hK : K G) (hp : zhp G S X.2.2.2.2.1 H) (hS : va_S (zA G0 X.2.2.2.2.1.heap.size) X.2.2.2.2.1.heap H locs) : ∀ t : State, t.heap = H → X.2.2.2.2.1.WarmedH t.vm → zQG inj G0 K (r, S) (zA G0 X.2.2.2.2.1.heap.size) X.2.2.2.2.2.2.1 X.2.2.2.2.1 (.returned v) t := fun t ht hW => ⟨G, by rw [hv], by rw [ht]; exact zhp_moved hW.alike hp, ho.2.2.2.2.2.2.2.2.2.1, heq, hA.1, hK, hS.F ht⟩
theorem zz_gvret {inj : Unit → zGw → Option Value} {res : Unit × zSt} (hi : ∀ g, inj () g = none) (hr : M.2.2.2.1 = none) (heq : G.2.2.2 = G0.2.2.2) (hK : K G) (d : decode M.2.1 pc = .ok (.return_, 1)) (hc : zcs cs M = true) : Zz X M (zA G0 X.2.2.2.2.1.heap.size, nm) (zQg inj M G0 K) G cs res S pc ls [] (some ((), S)) := by
  intro hf ho hA H locs la hp hl hS
  cases hf
  exact W.widen (zcs1 hc) (zcs2 hc) (W.vret ho.1 ho.2.1 (ho.2.2.2.2.2.2.2.1.trans hr) (zz_end (hi G) ho hA heq hK hp hS) hS.2.2 d ho.2.2.2.2.2.2.1)
theorem zz_giret {inj : Int32 → zGw → Option Value} {res : Int32 × zSt} {v : Int32} (hi : ∀ g, inj v g = some (.int v)) (hr : M.2.2.2.1 = some .int) (heq : G.2.2.2 = G0.2.2.2) (hK : K G) (d : decode M.2.1 pc = .ok (.ireturn, 1)) (hc : zcs cs M = true) : Zz X M (zA G0 X.2.2.2.2.1.heap.size, nm) (zQg inj M G0 K) G cs res S pc ls [.int v] (some (v, S)) := by
  intro hf ho hA H locs la hp hl hS
  cases hf
  exact W.widen (zcs1 hc) (zcs2 hc) (W.iret ho.1 ho.2.1 (ho.2.2.2.2.2.2.2.1.trans hr) (zz_end (hi G) ho hA heq hK hp hS) hS.2.2 d ho.2.2.2.2.2.2.1)
end
theorem zz_garet {X : zCx} {M : zMr} {G0 G : zGw} {nm : String} {K : zGw → Prop} {cs : Nat × Nat} {S : zSt} {pc : Nat} {ls : List (Option Value)} {inj : Unit → zGw → Option Value} {res : Unit × zSt} {q : Nat} {C : String} (hi : inj () G = some (.ref (G.1 q))) (hr : M.2.2.2.1 = some (.object C)) (heq : G.2.2.2 = G0.2.2.2) (hK : K G) (d : decode M.2.1 pc = .ok (.areturn, 1)) (hc : zcs cs M = true) : Zz X M (zA G0 X.2.2.2.2.1.heap.size, nm) (zQg inj M G0 K) G cs res S pc ls [.ref (G.1 q)] (some ((), S)) := by
  intro hf ho hA H locs la hp hl hS
  cases hf
  exact W.widen (zcs1 hc) (zcs2 hc) (W.aret ho.1 ho.2.1 (ho.2.2.2.2.2.2.2.1.trans hr) (Or.inl ⟨C, rfl⟩) (Or.inr ⟨_, rfl⟩) (zz_end hi ho hA heq hK hp hS) hS.2.2 d ho.2.2.2.2.2.2.1)
section
variable {ρ : Type} {X : zCx} {M : zMr} {A : (Nat → Prop) × String} {Q : zCx → ρ × zSt → State → Prop} {G : zGw} {cs : Nat × Nat} {res : ρ × zSt} {S : zSt} {pc : Nat} {ls : List (Option Value)} {st : List Value} {f : Option (ρ × zSt)}
theorem zz_aast {i : Int32} {C : String} {T : u_T} {N : Nat} (kp n q ci : Nat) (hsh : G.2.1 kp = some (.inr (n, .object C))) (hc : zcl[ci]? = some (C, T, N)) (hqs : G.2.1 q = some (.inl ci)) (hin : vp_in i n) (d : decode M.2.1 pc = .ok (.aastore, 1)) (k : Zz X M A Q (gR G kp i.toNatClampNeg (some q)) cs res S (pc + 1) ls st f) : Zz X M A Q G cs res S pc ls (.ref (G.1 q) :: .int i :: .ref (G.1 kp) :: st) f := by
  intro hf ho hA H locs la hp hl1 hS
  have hlt : i.toNatClampNeg < n := Nat.not_le.mp fun q => hin (Or.inr q)
  have h0 : ¬ i < 0 := fun q => hin (Or.inl q)
  obtain ⟨cA, r1, r2, r3⟩ := zhp_arr hp hsh
  obtain ⟨cellV, g1, g2, g3, -⟩ := zhp_obj hp hqs hc
  have hcls := (ho.2.2.2.2.2.2.2.2.1 ci _ hc).2
  have r3' := r3
  obtain ⟨kA, comp, k1, k2, k3, -⟩ := r3'
  have hcomp : comp = G.2.2.2.1 ci := Option.some.inj (k3.symm.trans hcls.1)
  subst hcomp
  obtain ⟨kC, hkC, -⟩ := hcls.2
  have hne : G.2.1 kp ≠ none := by rw [hsh]; simp
  refine W.aast ho.1 ho.2.1 r1 (fun q h => by cases h) (fun h => by cases h) k1 k2 rfl hkC ⟨h0, by show _ < (arrV _ _ _).slots.size; rw [arrV_size]; exact hlt⟩ g1 (fun q h => by rw [g3] at h; cases h) (by rw [g2]; exact hkC) (by rw [g2]; exact va_assign hcls) rfl rfl d fun H1 e z oq => ?_
  refine k hf (zok_to (A := A) ho ⟨hA.1, hA.2.1, hA.2.2.1, hA.2.2.2⟩ rfl ho.2.2.2.2.2.2.2.2.2.1) ⟨hA.1, hA.2.1, hA.2.2.1, hA.2.2.2⟩ H1 _ la (zhp_setR ho.2.2.2.2.2.2.2.2.2.1 hne hp oq ?_) hl1 (hS.put z oq (hA.1 _ hne))
  unfold zcellIs
  have hs2 : (gR G kp i.toNatClampNeg (some q)).2.1 kp = some (.inr (n, .object C)) := hsh
  rw [hs2]
  refine ⟨cA, ?_, r2, r3⟩
  show H1[G.1 kp]? = _
  rw [e, arrV_store]
  congr 2
  funext b
  unfold updV
  by_cases hb : b = i.toNatClampNeg
  · subst hb
    have : (gR G kp i.toNatClampNeg (some q)).2.2.1 kp i.toNatClampNeg = some q := by simp [gR]
    rw [if_pos rfl, this]
    rfl
  · have : (gR G kp i.toNatClampNeg (some q)).2.2.1 kp b = G.2.2.1 kp b := by simp [gR, hb]
    rw [if_neg hb, this]
    rfl
end
