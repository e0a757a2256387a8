/-! FAULTS (written by gen/mkfault.py) -/
set_option maxRecDepth 100000
theorem gR_gR {G : zGw} {k i : Nat} {a b : Option Nat} : gR (gR G k i a) k i b = gR G k i b := by
  unfold gR
  congr 3
  funext x y
  by_cases h1 : x = k <;> by_cases h2 : y = i <;> simp [h1, h2]
theorem zrft_fitO {ty : FieldType} {r : Option Nat} (h : zrft ty = true) : narrow ty (va_rf r) = va_rf r ∧ fits ty (va_rf r) = true := by
  cases r <;> cases ty <;> first | exact ⟨rfl, rfl⟩ | cases h
theorem zrft_valO {ty : FieldType} {ad : Nat → Nat} {r : Option Nat} {i : Int32} {l : Int64} (h : zrft ty = true) : zval ty ad r i l = va_rf (r.map ad) := by
  cases ty <;> first | rfl | cases h
/-- an empty place gets an address -/
def gP (G : zGw) (k a : Nat) : zGw := (fun j => if j = k then a else G.1 j, G.2.1, G.2.2.1, G.2.2.2)
theorem gP_ad {G : zGw} {k a j : Nat} (h : j ≠ k) : (gP G k a).1 j = G.1 j := if_neg h
theorem zcd_gP {G : zGw} {k a : Nat} (h : zcd G) : zcd (gP G k a) := h
def znr (G : zGw) (k : Nat) : Prop := ∀ j i, G.2.1 j ≠ none → G.2.2.1 j i ≠ some k
theorem znr_cd {G : zGw} {k : Nat} (h : zcd G) (hf : G.2.1 k = none) : znr G k := fun j i hj hq => h j i k hj hq hf
theorem znr_gR {G : zGw} {k p i : Nat} {r : Option Nat} (h : znr G k) (hr : r ≠ some k) : znr (gR G p i r) k := by
  intro j x hj hq
  have hq : (if j = p then (if x = i then r else G.2.2.1 j x) else G.2.2.1 j x) = some k := hq
  split at hq
  · split at hq
    · exact hr hq
    · exact h j x hj hq
  · exact h j x hj hq
theorem znr_gA {G : zGw} {k p a : Nat} {w : zCell} (h : znr G k) : znr (gA G p a w) k := by
  intro j i hj hq
  have hq : (if j = p then none else G.2.2.1 j i) = some k := hq
  split at hq
  · cases hq
  · rename_i hp
    exact h j i (by rw [gA_ne hp] at hj; exact hj) hq
theorem zhp_newR {G : zGw} {S : zSt} {s : State} {H H1 : Heap} {k a : Nat} {w : zCell} (hcd : znr G k) (hf : G.2.1 k = none) (hp : zhp G S s H) (hk : ∀ q : Nat, q < H.size → H1[q]? = H[q]?) (hc : zcellIs (gA G k a w) (sZ S k) s H1 k) : zhp (gA G k a w) (sZ S k) s H1 := by
  intro j
  by_cases e : j = k
  · rw [e]; exact hc
  have hj := zhp_grow hk hp j
  unfold zcellIs at hj ⊢
  rw [gA_ne e]
  cases hs : G.2.1 j with
  | none => trivial
  | some x =>
    rw [hs] at hj
    have hr : ∀ i, (gA G k a w).2.2.1 j i = G.2.2.1 j i := fun i => if_neg e
    have h1 : ∀ i, (sZ S k).1 j i = S.1 j i := fun i => if_neg e
    have h2 : ∀ i, (sZ S k).2 j i = S.2 j i := fun i => if_neg e
    have hv : ∀ (ty : FieldType) (i : Nat), zval ty (gA G k a w).1 ((gA G k a w).2.2.1 j i) ((sZ S k).1 j i) ((sZ S k).2 j i) = zval ty G.1 (G.2.2.1 j i) (S.1 j i) (S.2 j i) := by
      intro ty i
      rw [hr, h1, h2]
      exact zval_ad (fun q hq => gA_ad (fun z => hcd j i (by rw [hs]; simp) (by rw [hq, z])))
    cases x with
    | inl ci =>
      obtain ⟨r, r1, r2⟩ := hj
      refine ⟨r, r1, ?_⟩
      rw [gA_ad e]
      exact r2.to (fun i _ => (hv _ i).symm)
    | inr x =>
      obtain ⟨cA, r1, r2⟩ := hj
      refine ⟨cA, ?_, r2⟩
      rw [gA_ad e, r1]
      congr 2
      funext i
      exact (hv _ i).symm
theorem zhp_gP {G : zGw} {S : zSt} {s : State} {H : Heap} {k a : Nat} (hcd : znr G k) (hf : G.2.1 k = none) (h : zhp G S s H) : zhp (gP G k a) S s H := by
  refine zhp_to (G := G) (fun j => j) rfl (fun _ _ => ⟨rfl, rfl⟩) (fun j hj => ⟨rfl, gP_ad (fun e => hj (by rw [e]; exact hf))⟩) (fun j ci hj r hr i hi hz => ?_) (fun j n ty hj hz i hi => ?_) h
  · show (G.2.2.1 j i).map (gP G k a).1 = (G.2.2.1 j i).map G.1
    cases hq : G.2.2.1 j i with
    | none => rfl
    | some q =>
      show some _ = some _
      rw [gP_ad (fun e => hcd j i (by rw [show G.2.1 j = _ from hj]; simp) (by rw [hq, e]))]
  · show (G.2.2.1 j i).map (gP G k a).1 = (G.2.2.1 j i).map G.1
    cases hq : G.2.2.1 j i with
    | none => rfl
    | some q =>
      show some _ = some _
      rw [gP_ad (fun e => hcd j i (by rw [show G.2.1 j = _ from hj]; simp) (by rw [hq, e]))]
theorem zap_gP {G : zGw} {k a : Nat} (hf : G.2.1 k = none) (h : zap G) : zap (gP G k a) := by
  intro i j h1 h2 h3
  rw [gP_ad (fun e => h1 (by rw [e]; exact hf)), gP_ad (fun e => h2 (by rw [e]; exact hf))] at h3
  exact h i j h1 h2 h3
section
variable {ρ : Type} {X : zCx} {M : zMr} {A : (Nat → Prop) × String} {Q : zCx → ρ × zSt → State → Prop} {G : zGw} {cs : Nat × Nat} {res : ρ × zSt} {S : zSt} {pc : Nat} {ls : List (Option Value)} {st : List Value} {f : Option (ρ × zSt)}
theorem zz_place (k a : Nat) (hcd : znr G k) (hf : G.2.1 k = none) (kk : Zz X M A Q (gP G k a) cs res S pc ls st f) : Zz X M A Q G cs res S pc ls st f := by
  intro hfv ho hA H locs la hp hl hS
  have hA' : zAok A (gP G k a) X := ⟨fun j hj => by
    rw [gP_ad (fun e => hj (by rw [e]; exact hf))]; exact hA.1 j hj, hA.2.1, hA.2.2.1, hA.2.2.2⟩
  exact kk hfv (zok_to ho hA' rfl (zap_gP hf ho.2.2.2.2.2.2.2.2.2.1)) hA' H locs la (zhp_gP hcd hf hp) hl hS
theorem zz_aload_nN {n : Fin 4} (i : Nat) (d : decode M.2.1 pc = .ok (.aload_n n, 1)) (hi : (n : Nat) = i) (hv : ls[i]? = some (some .null)) (k : Zz X M A Q G cs res S (pc + 1) ls (.null :: st) f) : Zz X M A Q G cs res S pc ls st f :=
  fun hf ho hA H locs la hp hl hS => lv_aload_nN ho.1 ho.2.1 d hi (hl.2.2 _ _ hv) (k hf ho hA H locs la hp hl hS)
/-- a static of Throwable that the world outside holds: null, or what place k stands for now -/
theorem zz_getsT {idx k : Nat} {nm de : String} (hcd : znr G k) (hfk : G.2.1 k = none) (hl : Cond.fieldLink M.1 idx "java/lang/Throwable" nm de ∈ lw_all) (hz : ∀ B U H, zEnv B U H → va_Zq "java/lang/Throwable" nm de B U H) (d : decode M.2.1 pc = .ok (.getstatic idx, 3))
    (kk : ∀ (r : Option Nat) (t : Nat), (r = none ∨ r = some k) → Zz X M A Q (gP G k t) cs res S (pc + 3) ls (va_rf (r.map (gP G k t).1) :: st) f) : Zz X M A Q G cs res S pc ls st f := by
  intro hf ho hA H locs la hp hl1 hS
  rcases hz _ _ _ hA.2.2.1 with hZ | ⟨t, hZ⟩
  · exact va_gets ho.1 ho.2.1 hZ hS ho.2.2.2.1 (ho.2.2.2.2.1 _ hl) (fun _ h => h) d (zz_place k 0 hcd hfk (kk none 0 (Or.inl rfl)) hf ho hA H locs la hp hl1 hS)
  · have e : (gP G k t).1 k = t := if_pos rfl
    have := zz_place k t hcd hfk (kk (some k) t (Or.inr rfl)) hf ho hA H locs la hp hl1 hS
    simp only [Option.map_some, e] at this
    exact va_gets ho.1 ho.2.1 hZ hS ho.2.2.2.1 (ho.2.2.2.2.1 _ hl) (fun _ h => h) d this
theorem zz_putO {C : String} {T : u_T} {N idx : Nat} (ty0 : Nat → FieldType) (kp ci j : Nat) (r : Option Nat) (hsh : G.2.1 kp = some (.inl ci)) (hc : zcl[ci]? = some (C, T, N)) (hin : ∀ w ∈ u_ws C T N, w ∈ lw_all) (hty : ∀ k, k < N → parseFieldDescriptor (T k).2.2.1 = some (ty0 k)) (hnm : ∀ b, b < N → b ≠ j → (T j).2.1 ≠ (T b).2.1) (hj : j < N) (hl : Cond.fieldLink M.1 idx (T j).1 (T j).2.1 (T j).2.2.1 ∈ lw_all) (hfin : (T j).2.2.2 = false ∨ ((T j).2.2.2 = true ∧ A.2 = "<init>" ∧ (T j).1 = M.1)) (h0 : zrft (ty0 j) = true) (h1 : zft ci j = ty0 j) (d : decode M.2.1 pc = .ok (.putfield idx, 3)) (k : Zz X M A Q (gR G kp j r) cs res S (pc + 3) ls st f) : Zz X M A Q G cs res S pc ls (va_rf (r.map G.1) :: .ref (G.1 kp) :: st) f := by
  intro hf ho hA H locs la hp hl1 hS
  have hK := zkn_K ho.2.2.2.2.2.2.2.2.1
  have hap := zapart ho.2.2.2.2.1 hin ty0 hty hj hnm hK hc
  obtain ⟨cell, q1, q2, q3, q4⟩ := zhp_obj hp hsh hc
  obtain ⟨hS1, hfc, kC, hkC, hkind⟩ := ho.2.2.2.2.2.2.2.2.1 ci _ hc
  obtain ⟨cf, kf, fi, fd, hi, hsl⟩ := hS1 j hj
  have hlay := ho.2.2.2.2.1 _ (hin _ (u_in_lay hj))
  have hst := (u_facts hfc hkC (u_lays ho.2.2.2.2.1 hin hj) hi).1
  have hne : G.2.1 kp ≠ none := by rw [hsh]; simp
  have hfit := zrft_fitO (r := r.map G.1) h0
  have hdj := hty j hj
  have fin : ∀ H' : Heap, H'[G.1 kp]? = some (cell.setSlot fd.slot (va_rf (r.map G.1))) → H'.size = H.size → (∀ x, x ≠ G.1 kp → H'[x]? = H[x]?) → W X.1 X.2.1 X.2.2.1 X.2.2.2.1 X.2.2.2.2.1 X.2.2.2.2.2.1 X.2.2.2.2.2.2.1 X.2.2.2.2.2.2.2.1 X.2.2.2.2.2.2.2.2.1 X.2.2.2.2.2.2.2.2.2 H' (locs ++ [⟨G.1 kp, fd.slot⟩]) cs.1 cs.2 (Q X res) (F0 X.2.2.2.2.2.1 (pc + 3) la st) := by
    intro H' e1 e2 e3
    rw [hsl] at e1 ⊢
    refine k hf (zok_to (A := A) ho ⟨hA.1, hA.2.1, hA.2.2.1, hA.2.2.2⟩ rfl ho.2.2.2.2.2.2.2.2.2.1) ⟨hA.1, hA.2.1, hA.2.2.1, hA.2.2.2⟩ H' _ la (zhp_setR ho.2.2.2.2.2.2.2.2.2.1 hne hp e3 ?_) hl1 (hS.put e2 e3 (hA.1 _ hne))
    unfold zcellIs
    have hs2 : (gR G kp j r).2.1 kp = some (.inl ci) := hsh
    rw [hs2]
    refine ⟨_, hc, t_OB.to ⟨_, e1, q2, q3, zt_set q4 hap hj (va_rf (r.map G.1))⟩ (fun b hb => ?_)⟩
    unfold updV
    by_cases hbj : b = j
    · subst hbj
      rw [if_pos rfl, h1]
      have : (gR G kp b r).2.2.1 kp b = r := by simp [gR]
      rw [this]
      exact (zrft_valO h0).symm
    · rw [if_neg hbj]
      have : (gR G kp j r).2.2.1 kp b = G.2.2.1 kp b := by simp [gR, hbj]
      rw [this]
      rfl
  rcases hfin with hfin | ⟨hfin, hin2, hdecl⟩
  · unfold u_lay at hlay
    rw [if_neg (by rw [hfin]; decide)] at hlay
    have h6 := u_store hfc hkC hkind hlay hi hdj hfit.1 hfit.2
    exact W.putK ho.1 ho.2.1 (f := fd) ⟨ho.2.2.2.1, (ho.2.2.2.2.1 _ hl), ⟨_, _, _, hi⟩, hst⟩ (by rw [q2]; exact h6) q1 q3 (by rw [hsl]; exact k2_hasslot (q4 j hj)) rfl rfl d fin
  · unfold u_lay at hlay
    rw [if_pos hfin] at hlay
    have hcf : X.2.2.2.2.2.1.cls = cf := by
      obtain ⟨_, _, c', _, _, _, -, -, hf', -, -, -, hown2, -⟩ := Cond.laysFinal_spec hlay
      have e1 : c' = cf := by have := hi.symm.trans hf'; simp at this; exact this.1.symm
      rw [hdecl] at hown2
      rw [← e1]; exact Option.some.inj (ho.2.2.2.1.symm.trans hown2)
    have h6 := u_fits hfc hkC hkind (Or.inr hlay) hi hdj hfit.1 hfit.2
    exact W.putFinK ho.1 ho.2.1 ho.2.2.2.1 (ho.2.2.2.2.1 _ hl) hi hst hcf (hA.2.2.2.trans hin2) (by rw [q2]; exact h6) q1 q3 (by rw [hsl]; exact k2_hasslot (q4 j hj)) rfl rfl d fin
theorem zz_putIF {ρ : Type} {X : zCx} {M : zMr} {A : (Nat → Prop) × String} {Q : zCx → ρ × zSt → State → Prop} {G : zGw} {cs : Nat × Nat} {res : ρ × zSt} {S : zSt} {pc : Nat} {ls : List (Option Value)} {st : List Value} {f : Option (ρ × zSt)} {C : String} {T : u_T} {N idx : Nat} {x : Int32} (ty0 : Nat → FieldType) (kp ci j : Nat) (hsh : G.2.1 kp = some (.inl ci)) (hc : zcl[ci]? = some (C, T, N)) (hin : ∀ w ∈ u_ws C T N, w ∈ lw_all) (hty : ∀ k, k < N → parseFieldDescriptor (T k).2.2.1 = some (ty0 k)) (hnm : ∀ b, b < N → b ≠ j → (T j).2.1 ≠ (T b).2.1) (hj : j < N) (hl : Cond.fieldLink M.1 idx (T j).1 (T j).2.1 (T j).2.2.1 ∈ lw_all) (hfin : (T j).2.2.2 = false ∨ ((T j).2.2.2 = true ∧ A.2 = "<init>" ∧ (T j).1 = M.1)) (h0 : ty0 j = .int) (h1 : zft ci j = .int) (d : decode M.2.1 pc = .ok (.putfield idx, 3)) (k : Zz X M A Q G cs res (sI S kp j x) (pc + 3) ls st f) : Zz X M A Q G cs res S pc ls (.int x :: .ref (G.1 kp) :: st) f := by
  intro hf ho hA H locs la hp hl1 hS
  have hK := zkn_K ho.2.2.2.2.2.2.2.2.1
  have hap := zapart ho.2.2.2.2.1 hin ty0 hty hj hnm hK hc
  obtain ⟨cell, q1, q2, q3, q4⟩ := zhp_obj hp hsh hc
  obtain ⟨hS1, hfc, kC, hkC, hkind⟩ := ho.2.2.2.2.2.2.2.2.1 ci _ hc
  obtain ⟨cf, kf, fi, fd, hi, hsl⟩ := hS1 j hj
  have hlay := ho.2.2.2.2.1 _ (hin _ (u_in_lay hj))
  have hst := (u_facts hfc hkC (u_lays ho.2.2.2.2.1 hin hj) hi).1
  have hne : G.2.1 kp ≠ none := by rw [hsh]; simp
  have hdj := (hty j hj).trans (congrArg some h0)
  have fin : ∀ H' : Heap, H'[G.1 kp]? = some (cell.setSlot fd.slot (.int x)) → H'.size = H.size → (∀ z, z ≠ G.1 kp → H'[z]? = H[z]?) → W X.1 X.2.1 X.2.2.1 X.2.2.2.1 X.2.2.2.2.1 X.2.2.2.2.2.1 X.2.2.2.2.2.2.1 X.2.2.2.2.2.2.2.1 X.2.2.2.2.2.2.2.2.1 X.2.2.2.2.2.2.2.2.2 H' (locs ++ [⟨G.1 kp, fd.slot⟩]) cs.1 cs.2 (Q X res) (F0 X.2.2.2.2.2.1 (pc + 3) la st) := by
    intro H' e1 e2 e3
    rw [hsl] at e1 ⊢
    refine k hf ho hA H' _ la (zhp_set ho.2.2.2.2.2.2.2.2.2.1 hne hp e3 (fun a ha => sI_ne ha) (fun a ha => rfl) ?_) hl1 (hS.put e2 e3 (hA.1 _ hne))
    unfold zcellIs
    rw [hsh]
    refine ⟨_, hc, t_OB.to ⟨_, e1, q2, q3, zt_set q4 hap hj (.int x)⟩ (fun b hb => ?_)⟩
    unfold updV
    by_cases hbj : b = j
    · subst hbj
      rw [if_pos rfl, h1]
      simp [sI, zval]
    · rw [if_neg hbj]
      simp [sI, hbj]
  rcases hfin with hfin | ⟨hfin, hin2, hdecl⟩
  · unfold u_lay at hlay
    rw [if_neg (by rw [hfin]; decide)] at hlay
    have h6 := u_store hfc hkC hkind hlay hi hdj (v := .int x) rfl rfl
    exact W.putK ho.1 ho.2.1 (f := fd) ⟨ho.2.2.2.1, (ho.2.2.2.2.1 _ hl), ⟨_, _, _, hi⟩, hst⟩ (by rw [q2]; exact h6) q1 q3 (by rw [hsl]; exact k2_hasslot (q4 j hj)) rfl rfl d fin
  · unfold u_lay at hlay
    rw [if_pos hfin] at hlay
    have hcf : X.2.2.2.2.2.1.cls = cf := by
      obtain ⟨_, _, c', _, _, _, -, -, hf', -, -, -, hown2, -⟩ := Cond.laysFinal_spec hlay
      have e1 : c' = cf := by have := hi.symm.trans hf'; simp at this; exact this.1.symm
      rw [hdecl] at hown2
      rw [← e1]; exact Option.some.inj (ho.2.2.2.1.symm.trans hown2)
    have h6 := u_fits hfc hkC hkind (Or.inr hlay) hi hdj (v := .int x) rfl rfl
    exact W.putFinK ho.1 ho.2.1 ho.2.2.2.1 (ho.2.2.2.2.1 _ hl) hi hst hcf (hA.2.2.2.trans hin2) (by rw [q2]; exact h6) q1 q3 (by rw [hsl]; exact k2_hasslot (q4 j hj)) rfl rfl d fin
theorem zz_newR {idx ci N N' : Nat} {C : String} {T : u_T} (cs' : Nat × Nat) (k : Nat) (hcd : znr G k) (hfree : G.2.1 k = none) (ty : Nat → FieldType) (hc : zcl[ci]? = some (C, T, N)) (hin : ∀ w ∈ u_ws C T N, w ∈ lw_all) (hty : ∀ k, k < N → parseFieldDescriptor (T k).2.2.1 = some (ty k)) (hzf : zft ci = ty) (hd0 : ∀ j, j < N → zdok (ty j) = true) (hcl : Cond.classLink M.1 idx C ∈ lw_all) (hins : Cond.instantiable C N' ∈ lw_all) (hini : Cond.initialized C ∈ lw_all) (hcs : (cs.1 + 1, cs.2 + N') = cs') (hq : zcs cs' M = true) (d : decode M.2.1 pc = .ok (.new idx, 3))
    (kk : ∀ a : Nat, Zz X M A Q (gA G k a (.inl ci)) cs' res (sZ S k) (pc + 3) ls (.ref ((gA G k a (.inl ci)).1 k) :: st) f) : Zz X M A Q G cs res S pc ls st f := by
  subst hcs
  subst hzf
  intro hf ho hA H locs la hp hl hS
  have hR : X.2.2.2.1 = zRm M := ho.2.2.2.2.2.2.2.2.2.2
  have hKn := ho.2.2.2.2.2.2.2.2.1 ci _ hc
  refine W.newcK ho.1 ho.2.1 ho.2.2.2.1 (ho.2.2.2.2.1 _ hcl) (ho.2.2.2.2.1 _ hins) (ho.2.2.2.2.1 _ hini) rfl d (by rw [hR]; exact zcs1 hq) (by rw [hR]; exact zcs2 hq) hKn.2.1 rfl fun H1 kC hkC e1 z1 o1 => ?_
  have hA1 := zz_grow (k := k) (w := .inl ci) hA hS.1
  have had : (gA G k H.size (.inl ci)).1 k = H.size := if_pos rfl
  have hk := kk H.size hf (zok_to ho hA1 rfl (zz_apa ho hp)) hA1 H1 locs la (zhp_newR hcd hfree hp o1 ?_) hl (zz_made hS z1 o1)
  · rw [had] at hk
    exact hk
  · unfold zcellIs
    rw [gA_sh, had]
    exact ⟨_, hc, (u_born (zft ci) ho.2.2.2.2.1 hin hKn hkC e1 hty).to (fun j hj => zval_mk (hd0 j hj))⟩
end
theorem Zg_ofF {ρ : Type} {M : zMr} {y : MethodName} {inj : ρ → zGw → Option Value} {K : zGw → Prop} {G : zGw} {As : List Value} {F : zSt → Option (ρ × zSt)} (ls0 : List (Option Value)) (hy : plainFor y = true) (hM : M.1 = y.cls) (hH : M.2.2.2.2.2.2.2 = none) (hlen : (lg_sl As).length ≤ M.2.2.1) (hls : l0 M.2.2.1 (lv_args 0 As) = ls0) (h : ∀ X S res, Zz X M (zA G X.2.2.2.2.1.heap.size, y.name) (zQg inj M G K) G (0, 0) res S 0 ls0 [] (F S)) : Zg M y inj G K As F := by
  intro l S res sz hfl hF
  have hcw : zcw M y = Cond.code y M.2.1 M.2.2.1 M.2.2.2.1 := by unfold zcw; rw [hH]
  rw [hcw]
  refine va_MetF (cc := M.2.1) (maxL := M.2.2.1) (ret := M.2.2.2.1) hy rfl ?_
  intro p e s m args below meth c s₁ B hml hv
  obtain ⟨rfl, hsz, hP, hK, hN, hA, hE⟩ := hv
  have hts := atoms_spec (ws := ws_ y M.2.1 M.2.2.1 M.2.2.2.1) B.pre
  have hts : ∀ w ∈ lw_all, w.before As.toArray s = true := fun w h => hts w (List.mem_cons_of_mem _ h)
  have hown : s.vm.findClass M.1 = some m.cls := by rw [hM]; exact findClass_of_methodNamed B.named
  subst hsz
  have hl := lv_entry As (n := M.2.2.1) hlen
  rw [lg_entry_eq]
  generalize (lg_sl As ++ List.replicate (M.2.2.1 - (lg_sl As).length) Slot.unset).toArray = la at hl ⊢
  have hx : zok M G (p, l, e, zRm M, s, m, As.toArray, below, meth, c) := ⟨B.exec, B.bytes, hml, hown, hts, ⟨hN, hE, hfl, by
    obtain ⟨meth9, c9, h1, h2, -, -, -, -, h7, -⟩ := Cond.code_spec B.named (atoms_spec (ws := ws_ y M.2.1 M.2.2.1 M.2.2.2.1) B.pre _ List.mem_cons_self)
    cases Option.some.inj (h1.symm.trans B.method)
    cases Option.some.inj (h2.symm.trans (Stand.of_body B).code)
    rw [Array.isEmpty_iff.mp h7]
    unfold zhh
    rw [hH]
    rfl⟩, B.notSynchronized, B.returns, hK, hA, rfl⟩
  refine h (p, l, e, zRm M, s, m, As.toArray, below, meth, c) S res hF hx ⟨fun k hk => Or.inl ⟨k, hk, rfl⟩, fun q hq => Or.inr hq, hE, (name_of_methodNamed B.named B.method).1⟩ s.heap [] la hP ⟨hl.1, hl.2.1, fun i v hi => ?_⟩ va_S.rf
  subst hls
  unfold l0 at hi
  rw [List.getElem?_map] at hi
  obtain ⟨q, hq1, hq2⟩ := Option.map_eq_some_iff.mp hi
  have hq : q = i := by
    have := List.getElem?_eq_some_iff.mp hq1
    obtain ⟨h3, h4⟩ := this
    rw [List.getElem_range] at h4
    exact h4.symm
  subst hq
  exact hl.2.2 (q, v) (List.mem_iff_getElem?.mpr (by
    have : (q, v) ∈ lv_args 0 As := by
      revert hq2
      generalize lv_args 0 As = L
      induction L with
      | nil => intro h; cases h
      | cons a t ih =>
        intro h
        obtain ⟨a1, a2⟩ := a
        rw [List.lookup_cons] at h
        split at h
        · rename_i hb
          have e1 : q = a1 := by simpa using hb
          cases h
          rw [e1]
          exact List.mem_cons_self
        · exact List.mem_cons_of_mem _ (ih h)
    exact List.getElem?_of_mem this))
theorem ty7_eq : zft 7 = tyX7 := rfl
abbrev mJ5_init_2 : zMr := ("java/lang/Throwable", cJ5_init_2, 5, none, 2, 0, 0, none)
theorem mv_J5_init_2 : ZI mJ5_init_2 yJ5_init_2 4 := ⟨q624, q164, q625, rfl, rfl, by decide, by decide, by decide +kernel⟩
def gF (G : zGw) (t1 t2 : Nat) : zGw := gP (gP G 99 t1) 100 t2
theorem gF_eq {G : zGw} {t1 t2 : Nat} {r1 r2 : Option Nat} (h0 : G.2.2.1 98 0 = none) (h1 : G.2.2.1 98 1 = none) (h2 : G.2.2.1 98 2 = none) (h3 : G.2.2.1 98 3 = none) :
    gR (gR (gR (gR (gR (gP (gR (gP (gR G 98 0 (some 98)) 99 t1) 98 1 r1) 100 t2) 98 2 r2) 98 1 none) 98 3 none) 98 0 none) 98 2 none = gF G t1 t2 := by
  unfold gF gP gR
  congr 3
  funext x y
  by_cases hx : x = 98
  · subst hx
    by_cases e0 : y = 0
    · subst e0; simp [h0]
    by_cases e1 : y = 1
    · subst e1; simp [h1]
    by_cases e2 : y = 2
    · subst e2; simp [h2]
    by_cases e3 : y = 3
    · subst e3; simp [h3]
    simp [e0, e1, e2, e3]
  · simp [hx]
theorem cg_J5_init_2 {G : zGw} (n99 : znr G 99) (n100 : znr G 100) (hb : G.2.1 98 = some (.inl 7)) (h99 : G.2.1 99 = none) (h100 : G.2.1 100 = none) (h0 : G.2.2.1 98 0 = none) (h1 : G.2.2.1 98 1 = none) (h2 : G.2.2.1 98 2 = none) (h3 : G.2.2.1 98 3 = none) : Zg mJ5_init_2 yJ5_init_2 (fun _ _ => none) G (fun G' => ∃ t1 t2, G' = gF G t1 t2) [.ref (G.1 98), .null, .null, .int 0, .int 0] (fun S => some ((), S)) := by
  refine Zg_ofF [some (.ref (G.1 98)), some .null, some .null, some (.int 0), some (.int 0)] (by decide +kernel) rfl rfl (Nat.le_of_ble_eq_true rfl) rfl (fun X S res => ?_)
  refine zz_aload_n (pc := 0) 0 dJ5_init_2_0 rfl rfl ?_
  refine zz_objInit (pc := 1) (kp := 98) q586 zq_oi1 zq_oi2 (Nat.le_of_ble_eq_true rfl) (Nat.le_of_ble_eq_true rfl) dJ5_init_2_1 ?_
  refine zz_aload_n (pc := 4) 0 dJ5_init_2_4 rfl rfl ?_
  refine zz_aload_n (pc := 5) 0 dJ5_init_2_5 rfl rfl ?_
  refine zz_putO (pc := 6) tyX7 98 7 0 (some 98) hb rfl in_X7 tyX7_ok (fun b hb9 hbj => nmX7 0 (by decide) b hb9 (Ne.symm hbj)) (by decide) q632 (Or.inl rfl) rfl rfl dJ5_init_2_6 ?_
  have c1 : znr (gR G 98 0 (some 98)) 99 := znr_gR n99 (by decide)
  have c2 : znr (gR G 98 0 (some 98)) 100 := znr_gR n100 (by decide)
  refine zz_aload_n (pc := 9) 0 dJ5_init_2_9 rfl rfl ?_
  refine zz_getsT (pc := 10) (k := 99) c1 h99 q587 (fun B U H h => h.1.1) dJ5_init_2_10 (fun r1 t1 hr1 => ?_)
  refine zz_putO (pc := 13) tyX7 98 7 1 r1 hb rfl in_X7 tyX7_ok (fun b hb9 hbj => nmX7 1 (by decide) b hb9 (Ne.symm hbj)) (by decide) q633 (Or.inl rfl) rfl rfl dJ5_init_2_13 ?_
  refine zz_aload_n (pc := 16) 0 dJ5_init_2_16 rfl rfl ?_
  have c3 : znr (gR (gP (gR G 98 0 (some 98)) 99 t1) 98 1 r1) 100 := znr_gR (G := gP (gR G 98 0 (some 98)) 99 t1) c2 (by rcases hr1 with h | h <;> rw [h] <;> decide)
  refine zz_getsT (pc := 17) (k := 100) c3 h100 q589 (fun B U H h => h.2.1) dJ5_init_2_17 (fun r2 t2 hr2 => ?_)
  refine zz_putO (pc := 20) tyX7 98 7 2 r2 hb rfl in_X7 tyX7_ok (fun b hb9 hbj => nmX7 2 (by decide) b hb9 (Ne.symm hbj)) (by decide) q634 (Or.inl rfl) rfl rfl dJ5_init_2_20 ?_
  refine zz_iload (pc := 23) dJ5_init_2_23 rfl ?_
  refine zz_ifd_eq (pc := 25) 36 dJ5_init_2_25 rfl (fun _ => ?_) (fun h => absurd rfl h)
  refine zz_aload_n (pc := 36) 0 dJ5_init_2_36 rfl rfl ?_
  refine zz_null (pc := 37) dJ5_init_2_37 ?_
  refine zz_putO (pc := 38) tyX7 98 7 1 none hb rfl in_X7 tyX7_ok (fun b hb9 hbj => nmX7 1 (by decide) b hb9 (Ne.symm hbj)) (by decide) q633 (Or.inl rfl) rfl rfl dJ5_init_2_38 ?_
  refine zz_aload_n (pc := 41) 0 dJ5_init_2_41 rfl rfl ?_
  refine zz_aload_nN (pc := 42) 1 dJ5_init_2_42 rfl rfl ?_
  refine zz_putO (pc := 43) tyX7 98 7 3 none hb rfl in_X7 tyX7_ok (fun b hb9 hbj => nmX7 3 (by decide) b hb9 (Ne.symm hbj)) (by decide) q631 (Or.inl rfl) rfl rfl dJ5_init_2_43 ?_
  refine zz_aload_n (pc := 46) 0 dJ5_init_2_46 rfl rfl ?_
  refine zz_aload_nN (pc := 47) 2 dJ5_init_2_47 rfl rfl ?_
  refine zz_putO (pc := 48) tyX7 98 7 0 none hb rfl in_X7 tyX7_ok (fun b hb9 hbj => nmX7 0 (by decide) b hb9 (Ne.symm hbj)) (by decide) q632 (Or.inl rfl) rfl rfl dJ5_init_2_48 ?_
  refine zz_iload_n (pc := 51) 3 dJ5_init_2_51 rfl rfl ?_
  refine zz_ifd_ne (pc := 52) 60 dJ5_init_2_52 rfl (fun h => absurd rfl h) (fun _ => ?_)
  refine zz_aload_n (pc := 55) 0 dJ5_init_2_55 rfl rfl ?_
  refine zz_null (pc := 56) dJ5_init_2_56 ?_
  refine zz_putO (pc := 57) tyX7 98 7 2 none hb rfl in_X7 tyX7_ok (fun b hb9 hbj => nmX7 2 (by decide) b hb9 (Ne.symm hbj)) (by decide) q634 (Or.inl rfl) rfl rfl dJ5_init_2_57 ?_
  exact zz_gvret (fun _ => rfl) rfl rfl ⟨t1, t2, gF_eq h0 h1 h2 h3⟩ dJ5_init_2_60 rfl
abbrev mJ6_init : zMr := ("java/lang/Exception", cJ6_init, 5, none, 3, 0, 0, none)
theorem mv_J6_init : ZI mJ6_init yJ6_init 4 := ⟨q621, q165, q622, rfl, rfl, by decide, by decide, by decide +kernel⟩
def F_J6_init (S : zSt) : Option (Unit × zSt) := (some ((), S) : Option (Unit × zSt)).bind (fun r => some ((), r.2))
theorem cg_J6_init {G : zGw} (n99 : znr G 99) (n100 : znr G 100) (hb : G.2.1 98 = some (.inl 7)) (h99 : G.2.1 99 = none) (h100 : G.2.1 100 = none) (h0 : G.2.2.1 98 0 = none) (h1 : G.2.2.1 98 1 = none) (h2 : G.2.2.1 98 2 = none) (h3 : G.2.2.1 98 3 = none) : Zg mJ6_init yJ6_init (fun _ _ => none) G (fun G' => ∃ t1 t2, G' = gF G t1 t2) [.ref (G.1 98), .null, .null, .int 0, .int 0] F_J6_init := by
  refine Zg_ofF [some (.ref (G.1 98)), some .null, some .null, some (.int 0), some (.int 0)] (by decide +kernel) rfl rfl (Nat.le_of_ble_eq_true rfl) rfl (fun X S res => ?_)
  unfold F_J6_init
  refine zz_aload_n (pc := 0) 0 dJ6_init_0 rfl rfl ?_
  refine zz_aload_nN (pc := 1) 1 dJ6_init_1 rfl rfl ?_
  refine zz_aload_nN (pc := 2) 2 dJ6_init_2 rfl rfl ?_
  refine zz_iload_n (pc := 3) 3 dJ6_init_3 rfl rfl ?_
  refine zz_iload (pc := 4) dJ6_init_4 rfl ?_
  refine zz_callGI (pc := 6) (cs := (0, 0)) (idx := 16) (M := mJ6_init) (0, 0) [.null, .null, .int 0, .int 0] [] 98 (cg_J5_init_2 n99 n100 hb h99 h100 h0 h1 h2 h3) mv_J5_init_2 q623 rfl (Nat.le_of_ble_eq_true rfl) (Nat.le_of_ble_eq_true rfl) rfl rfl rfl (Nat.le_of_ble_eq_true rfl) dJ6_init_6 (fun G1 r1 S1 hK => ?_)
  obtain ⟨t1, t2, rfl⟩ := hK
  exact zz_gvret (fun _ => rfl) rfl rfl ⟨t1, t2, rfl⟩ dJ6_init_9 rfl
abbrev mX7_init : zMr := ("HiddenCube$Fault", cX7_init, 3, none, 4, 0, 0, none)
theorem mv_X7_init : ZI mX7_init yX7_init 2 := ⟨q618, q166, q619, rfl, rfl, by decide, by decide, by decide +kernel⟩
def F_X7_init (a1 a2 : Int32) (S : zSt) : Option (Unit × zSt) := (F_J6_init S).bind (fun r => some ((), sI (sI r.2 98 6 a1) 98 7 a2))
theorem cg_X7_init {G : zGw} (n99 : znr G 99) (n100 : znr G 100) (hb : G.2.1 98 = some (.inl 7)) (h99 : G.2.1 99 = none) (h100 : G.2.1 100 = none) (h0 : G.2.2.1 98 0 = none) (h1 : G.2.2.1 98 1 = none) (h2 : G.2.2.1 98 2 = none) (h3 : G.2.2.1 98 3 = none) (a1 a2 : Int32) : Zg mX7_init yX7_init (fun _ _ => none) G (fun G' => ∃ t1 t2, G' = gF G t1 t2) [.ref (G.1 98), .int a1, .int a2] (F_X7_init a1 a2) := by
  refine Zg_of [some (.ref (G.1 98)), some (.int a1), some (.int a2)] (by decide) rfl rfl (Nat.le_of_ble_eq_true rfl) rfl (fun X S res => ?_)
  unfold F_X7_init
  refine zz_aload_n (pc := 0) 0 dX7_init_0 rfl rfl ?_
  refine zz_null (pc := 1) dX7_init_1 ?_
  refine zz_null (pc := 2) dX7_init_2 ?_
  refine zz_iconst (pc := 3) (v := 0) dX7_init_3 (by decide) ?_
  refine zz_iconst (pc := 4) (v := 0) dX7_init_4 (by decide) ?_
  refine zz_callGI (pc := 5) (cs := (0, 0)) (idx := 1) (M := mX7_init) (0, 0) [.null, .null, .int 0, .int 0] [] 98 (cg_J6_init n99 n100 hb h99 h100 h0 h1 h2 h3) mv_J6_init q620 rfl (Nat.le_of_ble_eq_true rfl) (Nat.le_of_ble_eq_true rfl) rfl rfl rfl (Nat.le_of_ble_eq_true rfl) dX7_init_5 (fun G1 r1 S1 hK => ?_)
  obtain ⟨t1, t2, rfl⟩ := hK
  refine zz_aload_n (pc := 8) 0 dX7_init_8 rfl rfl ?_
  refine zz_iload_n (pc := 9) 1 dX7_init_9 rfl rfl ?_
  refine zz_putIF (pc := 10) tyX7 98 7 6 hb rfl in_X7 tyX7_ok (fun b hb9 hbj => nmX7 6 (by decide) b hb9 (Ne.symm hbj)) (by decide) q626 (Or.inr ⟨rfl, rfl, rfl⟩) rfl rfl dX7_init_10 ?_
  refine zz_aload_n (pc := 13) 0 dX7_init_13 rfl rfl ?_
  refine zz_iload_n (pc := 14) 2 dX7_init_14 rfl rfl ?_
  refine zz_putIF (pc := 15) tyX7 98 7 7 hb rfl in_X7 tyX7_ok (fun b hb9 hbj => nmX7 7 (by decide) b hb9 (Ne.symm hbj)) (by decide) q628 (Or.inr ⟨rfl, rfl, rfl⟩) rfl rfl dX7_init_15 ?_
  exact zz_gvret (fun _ => rfl) rfl rfl ⟨t1, t2, rfl⟩ dX7_init_18 rfl
abbrev mX6_wrong : zMr := ("HiddenCube$Reader", cX6_wrong, 2, some (.object "HiddenCube$Fault"), 5, 1, 8, none)
theorem mv_X6_wrong : ZV mX6_wrong yX6_wrong 1 := ⟨q561, qs7, q156, q562, rfl, by decide, by decide, by decide +kernel⟩
def gX (G : zGw) (a t1 t2 : Nat) : zGw := gF (gA G 98 a (.inl 7)) t1 t2
def F_X6_wrong (a1 : Int32) (S : zSt) : Option (Unit × zSt) := (F_X7_init a1 (S.1 90 3) (sZ S 98)).bind (fun r => some ((), r.2))
theorem cg_X6_wrong {G : zGw} (n98 : znr G 98) (n99 : znr G 99) (n100 : znr G 100) (h90 : G.2.1 90 = some (.inl 6)) (h98 : G.2.1 98 = none) (h99 : G.2.1 99 = none) (h100 : G.2.1 100 = none) (a1 : Int32) : Zg mX6_wrong yX6_wrong (fun _ g => some (.ref (g.1 98))) G (fun G' => ∃ a t1 t2, G' = gX G a t1 t2) [.ref (G.1 90), .int a1] (F_X6_wrong a1) := by
  refine Zg_of [some (.ref (G.1 90)), some (.int a1)] (by decide) rfl rfl (Nat.le_of_ble_eq_true rfl) rfl (fun X S res => ?_)
  unfold F_X6_wrong
  refine zz_newR (pc := 0) (ci := 7) (C := RX7) (T := TX7) (N := 8) (N' := 8) (1, 8) 98 n98 h98 tyX7 rfl in_X7 tyX7_ok rfl (by decide) q563 q564 q166 rfl rfl dX6_wrong_0 (fun a => ?_)
  refine zz_dup (pc := 3) dX6_wrong_3 rfl ?_
  refine zz_iload_n (pc := 4) 1 dX6_wrong_4 rfl rfl ?_
  refine zz_aload_n (pc := 5) 0 dX6_wrong_5 rfl rfl ?_
  refine zz_get (pc := 6) (v := .int (S.1 90 3)) 90 6 3 h90 rfl in_X6 (by decide) q471 rfl dX6_wrong_6 ?_
  refine zz_callGI (pc := 9) (cs := (1, 8)) (idx := 83) (M := mX6_wrong) (1, 8) [.int a1, .int (S.1 90 3)] [.ref ((gA G 98 a (.inl 7)).1 98)] 98 (cg_X7_init (G := gA G 98 a (.inl 7)) (znr_gA n99) (znr_gA n100) rfl h99 h100 rfl rfl rfl rfl a1 (S.1 90 3)) mv_X7_init q617 rfl (Nat.le_of_ble_eq_true rfl) (Nat.le_of_ble_eq_true rfl) rfl rfl rfl (Nat.le_of_ble_eq_true rfl) dX6_wrong_9 (fun G1 r1 S1 hK => ?_)
  obtain ⟨t1, t2, rfl⟩ := hK
  exact zz_garet (q := 98) (C := "HiddenCube$Fault") rfl rfl rfl ⟨a, t1, t2, rfl⟩ dX6_wrong_12 rfl

