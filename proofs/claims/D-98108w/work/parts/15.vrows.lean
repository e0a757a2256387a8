/-! SLOTS READ, METHODS WITH HANDLERS -/
set_option maxRecDepth 100000
def zcV {α : Type} (o : Option (Nat × FieldType)) (a b : α) : α := match o with
  | none => a
  | some _ => b
theorem z_zcV {ρ : Type} {X : zCx} {M : zMr} {inj : ρ → Option Value} {G : zGw} {cs : Nat × Nat} {res : ρ × zSt} {S : zSt} {pc : Nat} {ls : List (Option Value)} {st : List Value} {o : Option (Nat × FieldType)} {f1 f2 : Option (ρ × zSt)} (k1 : o = none → Zm X M inj G cs res S pc ls st f1) (k2 : ∀ q, o = some q → Zm X M inj G cs res S pc ls st f2) : Zm X M inj G cs res S pc ls st (zcV o f1 f2) := by
  cases o with
  | none => exact k1 rfl
  | some q => exact k2 q rfl
def zout {α : Type} (o : Option (Nat × FieldType)) (i : Int32) (a b : Option α) : Option α := match o with
  | none => none
  | some q => if i < 0 ∨ q.1 ≤ i.toNatClampNeg then a else b
theorem z_zout {ρ : Type} {X : zCx} {M : zMr} {inj : ρ → Option Value} {G : zGw} {cs : Nat × Nat} {res : ρ × zSt} {S : zSt} {pc : Nat} {ls : List (Option Value)} {st : List Value} {o : Option (Nat × FieldType)} {q : Nat × FieldType} {i : Int32} {f1 f2 : Option (ρ × zSt)} (hq : o = some q) (k1 : ¬ vp_in i q.1 → Zm X M inj G cs res S pc ls st f1) (k2 : Zm X M inj G cs res S pc ls st f2) : Zm X M inj G cs res S pc ls st (zout o i f1 f2) := by
  subst hq
  show Zm X M inj G cs res S pc ls st (if i < 0 ∨ q.1 ≤ i.toNatClampNeg then f1 else f2)
  by_cases h : i < 0 ∨ q.1 ≤ i.toNatClampNeg
  · rw [if_pos h]
    exact k1 (fun h2 => h2 h)
  · rw [if_neg h]
    exact k2
theorem z_rowN {ρ : Type} {X : zCx} {M : zMr} {inj : ρ → Option Value} {G : zGw} {cs : Nat × Nat} {res : ρ × zSt} {S : zSt} {pc : Nat} {ls : List (Option Value)} {st : List Value} {f : Option (ρ × zSt)} {V : zSV} {i : Nat} {off : Int} (tgt : Nat) (hV : zGV G V) (hi : i < 4) (hq : V i = none) (d : decode M.2.1 pc = .ok (.getfield 499, 3)) (d2 : decode M.2.1 (pc + 3) = .ok (.ifnonnull off, 3)) (hM : M.1 = "HiddenCube") (k : Zm X M inj G cs res S (pc + 3 + 3) ls st f) : Zm X M inj G cs res S pc ls (.ref (G.1 (40 + i)) :: st) f := by
  have h := hV i hi
  rw [hq] at h
  refine z_getN (v := .null) (40 + i) 4 0 h.1 rfl in_X4 (by decide) (by rw [hM]; exact List.mem_of_getElem? (i := 13) rfl) (by rw [h.2.2]; rfl) d ?_
  exact fun hf ho H locs la hp hl hS => lv_ifnonnullN ho.1 ho.2.1 d2 (k hf ho H locs la hp hl hS)
theorem z_rowY {ρ : Type} {X : zCx} {M : zMr} {inj : ρ → Option Value} {G : zGw} {cs : Nat × Nat} {res : ρ × zSt} {S : zSt} {pc : Nat} {ls : List (Option Value)} {st : List Value} {f : Option (ρ × zSt)} {V : zSV} {i : Nat} {q : Nat × FieldType} {off : Int} (tgt : Nat) (hV : zGV G V) (hi : i < 4) (hq : V i = some q) (d : decode M.2.1 pc = .ok (.getfield 499, 3)) (d2 : decode M.2.1 (pc + 3) = .ok (.ifnonnull off, 3)) (ht : ((pc + 3 : Nat) : Int) + off = (tgt : Int)) (hM : M.1 = "HiddenCube") (k : Zm X M inj G cs res S tgt ls st f) : Zm X M inj G cs res S pc ls (.ref (G.1 (40 + i)) :: st) f := by
  have h := hV i hi
  rw [hq] at h
  refine z_getN (v := .ref (G.1 (44 + i))) (40 + i) 4 0 h.1 rfl in_X4 (by decide) (by rw [hM]; exact List.mem_of_getElem? (i := 13) rfl) (by rw [h.2.2.1]; rfl) d ?_
  exact fun hf ho H locs la hp hl hS => lv_ifnonnull ho.1 ho.2.1 d2 ht (k hf ho H locs la hp hl hS)
def ZVW (Mc : zMr) (yc : MethodName) (n : Nat) : Prop := Cond.instanceMethod yc ∈ lw_all ∧ Cond.selects Mc.1 yc yc ∈ lw_all ∧ Cond.initialized Mc.1 ∈ lw_all ∧ Cond.codeWith yc Mc.2.1 Mc.2.2.1 Mc.2.2.2.1 (zhh Mc) ∈ lw_all ∧ yc.cls = Mc.1 ∧ (yc.cls ≠ "java/lang/invoke/MethodHandle" ∧ yc.cls ≠ "java/lang/invoke/VarHandle" ∧ (parseMethodDescriptor yc.desc).map (fun d => d.parameters.length) = some n)
theorem z_callVW {ρ ρ' : Type} {X : zCx} {M : zMr} {inj : ρ → Option Value} {G : zGw} {cs : Nat × Nat} {res : ρ × zSt} {S : zSt} {pc : Nat} {ls : List (Option Value)} {Mc : zMr} {yc : MethodName} {injc : ρ' → Option Value} {Fc : zSt → Option (ρ' × zSt)} {k : ρ' × zSt → Option (ρ × zSt)} {idx : Nat} {st : List Value} (cs' : Nat × Nat) (As rest : List Value) (kp ci : Nat) (hct : Zc Mc yc injc G (.ref (G.1 kp) :: As) Fc) (hmv : ZVW Mc yc As.length) (hl : Cond.methodLink M.1 idx yc ∈ lw_all) (hst : st = As.reverse ++ .ref (G.1 kp) :: rest) (hsh : G.2.1 kp = some (.inl ci)) (hcn : (zcl[ci]?).map Prod.fst = some Mc.1) (hd : Mc.2.2.2.2.1 + 1 ≤ M.2.2.2.2.1) (hL : Mc.2.2.1 ≤ 45) (hz : ∃ hh, Mc.2.2.2.2.2.2.2 = some hh) (hcs : (cs.1 + Mc.2.2.2.2.2.1, cs.2 + Mc.2.2.2.2.2.2.1) = cs') (hq : zcs cs' M = true) (hcat : (rest.map fun v => v.category).sum ≤ 8) (d : decode M.2.1 pc = .ok (.invokevirtual idx, 3))
    (kk : ∀ r S', Zm X M inj G cs' res S' (pc + 3) ls ((injc r).toList ++ rest) (k (r, S'))) : Zm X M inj G cs res S pc ls st ((Fc S).bind k) := by
  subst hcs
  intro hf ho H locs la hp hl1 hS
  obtain ⟨⟨r, S'⟩, hF, hf2⟩ := Option.bind_eq_some_iff.mp hf
  obtain ⟨p, l, e, R, s, m, args, below, meth, c⟩ := X
  have hR : R = zRm M := ho.2.2.2.2.2.2.2.2.2.2
  subst hR
  obtain ⟨hh, hz3⟩ := hz
  have hzh : zhh Mc = hh := by unfold zhh; rw [hz3]
  have hcwc : zcw Mc yc = Cond.codeWith yc Mc.2.1 Mc.2.2.1 Mc.2.2.2.1 hh := by unfold zcw; rw [hz3]
  have hctl := hct l S (r, S') H.size ho.2.2.2.2.2.1.2.2.1 hF
  rw [hcwc] at hctl
  subst hst
  obtain ⟨m1, m2, m3, m4, m5, m6, m7, m8⟩ := hmv
  rw [hzh] at m4
  obtain ⟨q, hq1, hq2⟩ := Option.map_eq_some_iff.mp hcn
  obtain ⟨C, T9, N9⟩ := q
  have hC : C = Mc.1 := hq2
  subst hC
  have hob := zhp_obj hp hsh hq1
  have hkn := ho.2.2.2.2.2.2.2.2.1
  have hrec : ∃ cell : Cell, H[G.1 kp]? = some cell ∧ cell.vm.isStatics = false ∧ s.vm.findClass Mc.1 = some cell.cls := by
    obtain ⟨cell, g1, g2, g3, -⟩ := hob
    exact ⟨cell, g1, by rw [g3]; rfl, by rw [g2]; exact (hkn ci _ hq1).2.1⟩
  refine z_after (vx_runVW (As := As) (rest := rest) ⟨ho.1, ho.2.1, ho.2.2.1, ho.2.2.2.1, ho.2.2.2.2.1⟩ hctl (vx_cwVW As.length ho.2.2.2.2.1 (lw_VW hl m1 m2 m3 m4) rfl rfl rfl ⟨m5, m6, m7, m8⟩ (z_room hd hL)) ⟨z_blind, hrec, z_pre hp hkn ho.2.2.2.2.2.1.1 ho.2.2.2.2.2.2.2.2.2.1 ho.2.2.2.2.2.1.2.1 hS⟩ rfl rfl hl1.1 rfl (lv_room hcat) d ⟨zcs1 hq, zcs2 hq⟩) hS ?_
  intro H1 locs1 hp1 hS1
  exact kk r S' hf2 ho H1 locs1 la hp1 hl1 hS1
theorem z_callVWi {ρ : Type} {X : zCx} {M : zMr} {inj : ρ → Option Value} {G : zGw} {cs : Nat × Nat} {res : ρ × zSt} {S : zSt} {pc : Nat} {ls : List (Option Value)} {Mc : zMr} {yc : MethodName} {idx : Nat} {st : List Value} {Fc : zSt → Option (Int32 × zSt)} {k : Int32 → zSt → Option (ρ × zSt)} (cs' : Nat × Nat) (As rest : List Value) (kp ci : Nat) (hct : Zc Mc yc zJI G (.ref (G.1 kp) :: As) Fc) (hmv : ZVW Mc yc As.length) (hl : Cond.methodLink M.1 idx yc ∈ lw_all) (hst : st = As.reverse ++ .ref (G.1 kp) :: rest) (hsh : G.2.1 kp = some (.inl ci)) (hcn : (zcl[ci]?).map Prod.fst = some Mc.1) (hd : Mc.2.2.2.2.1 + 1 ≤ M.2.2.2.2.1) (hL : Mc.2.2.1 ≤ 45) (hz : ∃ hh, Mc.2.2.2.2.2.2.2 = some hh) (hcs : (cs.1 + Mc.2.2.2.2.2.1, cs.2 + Mc.2.2.2.2.2.2.1) = cs') (hq : zcs cs' M = true) (hcat : (rest.map fun v => v.category).sum ≤ 8) (d : decode M.2.1 pc = .ok (.invokevirtual idx, 3)) (kk : ∀ r S', Zm X M inj G cs' res S' (pc + 3) ls (.int r :: rest) (k r S')) : Zm X M inj G cs res S pc ls st (zbind (Fc S) k) := z_callVW cs' As rest kp ci hct hmv hl hst hsh hcn hd hL hz hcs hq hcat d kk
theorem Zc_ofW {ρ : Type} {M : zMr} {y : MethodName} {inj : ρ → Option Value} {G : zGw} {As : List Value} {F : zSt → Option (ρ × zSt)} (ls0 : List (Option Value)) (hy : plainName y.cls = true) (hM : M.1 = y.cls) (hh : List (Nat × Nat × Nat × Nat)) (hH : M.2.2.2.2.2.2.2 = some hh) (hlen : (lg_sl As).length ≤ M.2.2.1) (hls : l0 M.2.2.1 (lv_args 0 As) = ls0) (h : ∀ X S res, Zm X M inj G (0, 0) res S 0 ls0 [] (F S)) : Zc M y inj G As F := by
  intro l S res sz hfl hF
  have hcw : zcw M y = Cond.codeWith y M.2.1 M.2.2.1 M.2.2.2.1 hh := by unfold zcw; rw [hH]
  rw [hcw]
  refine va_MetW (cc := M.2.1) (maxL := M.2.2.1) (ret := M.2.2.2.1) hy rfl ?_
  intro p e s m args below meth c s₁ B hml hv
  obtain ⟨rfl, hsz, hP, hK, hN, hA, hE⟩ := hv
  have hts := atoms_spec (ws := wsW_ y M.2.1 M.2.2.1 M.2.2.2.1 hh) B.pre
  have hts : ∀ w ∈ lw_all, w.before As.toArray s = true := fun w h => hts w (List.mem_cons_of_mem _ h)
  have hown : s.vm.findClass M.1 = some m.cls := by rw [hM]; exact findClass_of_methodNamed B.named
  subst hsz
  have hl := lv_entry As (n := M.2.2.1) hlen
  rw [lg_entry_eq]
  generalize (lg_sl As ++ List.replicate (M.2.2.1 - (lg_sl As).length) Slot.unset).toArray = la at hl ⊢
  have hx : zok M G (p, l, e, zRm M, s, m, As.toArray, below, meth, c) := ⟨B.exec, B.bytes, hml, hown, hts, ⟨hN, hE, hfl, by
    unfold zhh
    rw [hH]
    exact vx_table (x := y) B (atoms_spec (ws := wsW_ y M.2.1 M.2.2.1 M.2.2.2.1 hh) B.pre _ List.mem_cons_self)⟩, B.notSynchronized, B.returns, hK, hA, rfl⟩
  refine h (p, l, e, zRm M, s, m, As.toArray, below, meth, c) S res hF hx s.heap [] la hP ⟨hl.1, hl.2.1, fun i v hi => ?_⟩ va_S.rf
  subst hls
  unfold l0 at hi
  rw [List.getElem?_map] at hi
  obtain ⟨q, hq1, hq2⟩ := Option.map_eq_some_iff.mp hi
  have hq : q = i := by
    have := List.getElem?_eq_some_iff.mp hq1
    obtain ⟨h3, h4⟩ := this
    rw [List.getElem_range] at h4
    exact h4.symm
  subst hq
  exact hl.2.2 (q, v) (List.mem_iff_getElem?.mpr (by
    have : (q, v) ∈ lv_args 0 As := by
      revert hq2
      generalize lv_args 0 As = L
      induction L with
      | nil => intro h; cases h
      | cons a t ih =>
        intro h
        obtain ⟨a1, a2⟩ := a
        rw [List.lookup_cons] at h
        split at h
        · rename_i hb
          have e1 : q = a1 := by simpa using hb
          cases h
          rw [e1]
          exact List.mem_cons_self
        · exact List.mem_cons_of_mem _ (ih h)
    exact List.getElem?_of_mem this))
