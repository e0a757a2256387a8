/-! THE READER's contracts and rows (written by gen/mkrrows.py) -/
set_option maxRecDepth 100000
/-- the token that a number tells -/
def tkq (v : Int32) : Nat := v.toNatClampNeg % 5
theorem tkq_lt (v : Int32) : tkq v < 5 := Nat.mod_lt _ (by decide)
/-- the Reader's world: its token goes with the state -/
def gT (G : zGw) (S : zSt) : zGw := gR G 90 5 (some (110 + tkq (S.1 90 5)))
theorem gT_eq {G : zGw} {S S' : zSt} (h : S'.1 90 5 = S.1 90 5) : gT G S' = gT G S := by unfold gT; rw [h]
def zGR (e : zRe) (G : zGw) : Prop := zGC G ∧ zcd G ∧ zGT G 80 ∧ G.2.1 90 = some (.inl 6) ∧ G.2.2.1 90 1 = some 80 ∧ G.2.2.1 90 6 = some 0 ∧ (∀ i, i < 5 → G.1 (110 + i) = e.1 i) ∧ G.2.1 98 = none ∧ G.2.1 99 = none ∧ G.2.1 100 = none
def zKX (G G' : zGw) : Prop := ∃ a t1 t2 S1, G' = gX (gT G S1) a t1 t2
def zQrC {ρ : Type} (inj : ρ → Option Value) (G : zGw) (res : Option ρ × zSt) (A : Nat → Prop) : Array Value → State → Outcome → State → Prop := fun _ st oc t => ∃ v, res.1 = some v ∧ oc = .returned (inj v) ∧ zhp (gT G res.2) res.2 t t.heap ∧ va_F A st t
def zQrX {ρ : Type} (G : zGw) (res : Option ρ × zSt) (A : Nat → Prop) : String → Addr → State → State → Prop := fun E q st t => res.1 = none ∧ E = "HiddenCube$Fault" ∧ (∃ G', zKX G G' ∧ q = G'.1 98 ∧ zhp G' res.2 t t.heap ∧ zap G' ∧ ∀ k, G'.2.1 k ≠ none → A (G'.1 k)) ∧ va_F A st t
def zQr {ρ : Type} (inj : ρ → Option Value) (M : zMr) (G : zGw) : zCx → Option ρ × zSt → State → Prop := fun X res =>
  vy_MQ X.2.2.2.2.2.2.2.1 (zQrC inj G res (zA G X.2.2.2.2.1.heap.size)) (zQrX G res (zA G X.2.2.2.2.1.heap.size)) X.2.2.2.2.2.2.1 X.2.2.2.2.1 M.2.2.2.2.2.1 M.2.2.2.2.2.2.1 (zA G X.2.2.2.2.1.heap.size)
/-- a contract: returns, or throws a Fault -/
def Zr {ρ : Type} (e : zRe) (M : zMr) (y : MethodName) (inj : ρ → Option Value) (G : zGw) (As : List Value) (F : zSt → Option (Option ρ × zSt)) : Prop :=
  ∀ (l : Launch) (S : zSt) (res : Option ρ × zSt) (sz : Nat), l.stackTraces = false → F S = some res → vy_Met l y (zcw M y :: lw_all) (zRm M) (va_Pc As (fun U => U.heap.size = sz ∧ zhp (gT G S) S U U.heap ∧ zkn (gT G S) U ∧ zNW U ∧ zap (gT G S) ∧ zEnv (zA (gT G S) sz) U U.heap ∧ zER e (zA (gT G S) sz) U U.heap)) (zQrC inj G res (zA G sz)) (zQrX G res (zA G sz)) M.2.2.2.2.2.1 M.2.2.2.2.2.2.1 (zA G sz)
def zbR {ρ ρ' : Type} (x : Option (Option ρ' × zSt)) (k : ρ' → zSt → Option (Option ρ × zSt)) : Option (Option ρ × zSt) := x.bind (fun q => match q.1 with
  | some v => k v q.2
  | none => some (none, q.2))
theorem Zr_of {ρ : Type} {e9 : zRe} {inj : ρ → Option Value} {M : zMr} {y : MethodName} {G : zGw} {As : List Value} {F : zSt → Option (Option ρ × zSt)} (ls0 : List (Option Value)) (hy : plainName y.cls = true) (hM : M.1 = y.cls) (hH : M.2.2.2.2.2.2.2 = none) (hlen : (lg_sl As).length ≤ M.2.2.1) (hls : l0 M.2.2.1 (lv_args 0 As) = ls0) (h : ∀ X S res, zER e9 (zA G X.2.2.2.2.1.heap.size) X.2.2.2.2.1 X.2.2.2.2.1.heap → Zz X M (zA G X.2.2.2.2.1.heap.size, y.name) (zQr inj M G) (gT G S) (0, 0) res S 0 ls0 [] (F S)) : Zr e9 M y inj G As F := by
  intro l S res sz hfl hF
  have hcw : zcw M y = Cond.code y M.2.1 M.2.2.1 M.2.2.2.1 := by unfold zcw; rw [hH]
  rw [hcw]
  refine vy_ofW (cc := M.2.1) (maxL := M.2.2.1) (ret := M.2.2.2.1) hy rfl ?_
  intro p e s m args below meth c s₁ B hml htab hv
  obtain ⟨rfl, hsz, hP, hK, hN, hA, hE, hER⟩ := hv
  have hts := atoms_spec (ws := ws_ y M.2.1 M.2.2.1 M.2.2.2.1) B.pre
  have hts : ∀ w ∈ lw_all, w.before As.toArray s = true := fun w h => hts w (List.mem_cons_of_mem _ h)
  have hown : s.vm.findClass M.1 = some m.cls := by rw [hM]; exact findClass_of_methodNamed B.named
  subst hsz
  have hl := lv_entry As (n := M.2.2.1) hlen
  rw [lg_entry_eq]
  generalize (lg_sl As ++ List.replicate (M.2.2.1 - (lg_sl As).length) Slot.unset).toArray = la at hl ⊢
  have hx : zok M (gT G S) (p, l, e, zRm M, s, m, As.toArray, below, meth, c) := ⟨B.exec, B.bytes, hml, hown, hts, ⟨hN, hE, hfl, by
    obtain ⟨meth9, c9, h1, h2, -, -, -, -, h7, -⟩ := Cond.code_spec B.named (atoms_spec (ws := ws_ y M.2.1 M.2.2.1 M.2.2.2.1) B.pre _ List.mem_cons_self)
    cases Option.some.inj (h1.symm.trans B.method)
    cases Option.some.inj (h2.symm.trans (Stand.of_body B).code)
    rw [Array.isEmpty_iff.mp h7]
    unfold zhh
    rw [hH]
    rfl⟩, B.notSynchronized, B.returns, hK, hA, rfl⟩
  refine h (p, l, e, zRm M, s, m, As.toArray, below, meth, c) S res hER hF hx ⟨fun k hk => Or.inl ⟨k, hk, rfl⟩, fun q hq => Or.inr hq, hE, (name_of_methodNamed B.named B.method).1⟩ s.heap [] la hP ⟨hl.1, hl.2.1, fun i v hi => ?_⟩ va_S.rf
  subst hls
  unfold l0 at hi
  rw [List.getElem?_map] at hi
  obtain ⟨q, hq1, hq2⟩ := Option.map_eq_some_iff.mp hi
  have hq : q = i := by
    have := List.getElem?_eq_some_iff.mp hq1
    obtain ⟨h3, h4⟩ := this
    rw [List.getElem_range] at h4
    exact h4.symm
  subst hq
  exact hl.2.2 (q, v) (List.mem_iff_getElem?.mpr (by
    have : (q, v) ∈ lv_args 0 As := by
      revert hq2
      generalize lv_args 0 As = L
      induction L with
      | nil => intro h; cases h
      | cons a t ih =>
        intro h
        obtain ⟨a1, a2⟩ := a
        rw [List.lookup_cons] at h
        split at h
        · rename_i hb
          have e1 : q = a1 := by simpa using hb
          cases h
          rw [e1]
          exact List.mem_cons_self
        · exact List.mem_cons_of_mem _ (ih h)
    exact List.getElem?_of_mem this))
theorem zx_callV {ρ ρ' : Type} {X : zCx} {M : zMr} {A : (Nat → Prop) × String} {Q : zCx → ρ × zSt → State → Prop} {G : zGw} {cs : Nat × Nat} {res : ρ × zSt} {S : zSt} {pc : Nat} {ls : List (Option Value)} {Mc : zMr} {yc : MethodName} {injc : ρ' → Option Value} {Fc : zSt → Option (ρ' × zSt)} {k : ρ' × zSt → Option (ρ × zSt)} {idx : Nat} {st : List Value} (As rest : List Value) (kp ci : Nat) (hct : Zc Mc yc injc G (.ref (G.1 kp) :: As) Fc) (hmv : ZV Mc yc As.length) (hl : Cond.methodLink M.1 idx yc ∈ lw_all) (hst : st = As.reverse ++ .ref (G.1 kp) :: rest) (hsh : G.2.1 kp = some (.inl ci)) (hcn : (zcl[ci]?).map Prod.fst = some Mc.1) (hd : Mc.2.2.2.2.1 + 1 ≤ M.2.2.2.2.1) (hL : Mc.2.2.1 ≤ 45) (hz : Mc.2.2.2.2.2 = (0, 0, none)) (hq : zcs cs M = true) (hcat : (rest.map fun v => v.category).sum ≤ 8) (d : decode M.2.1 pc = .ok (.invokevirtual idx, 3))
    (kk : ∀ r S', Fc S = some (r, S') → Zz X M A Q G cs res S' (pc + 3) ls ((injc r).toList ++ rest) (k (r, S'))) : Zz X M A Q G cs res S pc ls st ((Fc S).bind k) := by
  intro hf ho hA H locs la hp hl1 hS
  obtain ⟨⟨r, S'⟩, hF, hf2⟩ := Option.bind_eq_some_iff.mp hf
  obtain ⟨p, l, e, R, s, m, args, below, meth, c⟩ := X
  have hR : R = zRm M := ho.2.2.2.2.2.2.2.2.2.2
  subst hR
  have hz1 : Mc.2.2.2.2.2.1 = 0 := by rw [hz]
  have hz2 : Mc.2.2.2.2.2.2.1 = 0 := by rw [hz]
  have hz3 : Mc.2.2.2.2.2.2.2 = none := by rw [hz]
  have hcwc : zcw Mc yc = Cond.code yc Mc.2.1 Mc.2.2.1 Mc.2.2.2.1 := by unfold zcw; rw [hz3]
  have hctl := hct l S (r, S') H.size ho.2.2.2.2.2.1.2.2.1 hF
  rw [hcwc] at hctl
  subst hst
  obtain ⟨m1, m2, m3, m4, m5, m6, m7, m8⟩ := hmv
  obtain ⟨q, hq1, hq2⟩ := Option.map_eq_some_iff.mp hcn
  obtain ⟨C, T9, N9⟩ := q
  have hC : C = Mc.1 := hq2
  subst hC
  have hob := zhp_obj hp hsh hq1
  have hkn := ho.2.2.2.2.2.2.2.2.1
  have hrec : ∃ cell : Cell, H[G.1 kp]? = some cell ∧ cell.vm.isStatics = false ∧ s.vm.findClass Mc.1 = some cell.cls := by
    obtain ⟨cell, g1, g2, g3, -⟩ := hob
    exact ⟨cell, g1, by rw [g3]; rfl, by rw [g2]; exact (hkn ci _ hq1).2.1⟩
  refine zz_after hA (va_runV (As := As) (rest := rest) ⟨ho.1, ho.2.1, ho.2.2.1, ho.2.2.2.1, ho.2.2.2.2.1⟩ hctl (cwV As.length ho.2.2.2.2.1 (lw_V hl m1 m2 m3 m4) rfl rfl rfl ⟨m5, m6, m7, m8⟩ (z_room hd hL)) ⟨z_blind, hrec, zz_pre hA hp hkn ho.2.2.2.2.2.1.1 ho.2.2.2.2.2.2.2.2.2.1 hS⟩ rfl rfl hl1.1 rfl (lv_room hcat) d ⟨by rw [hz1]; exact zcs1 hq, by rw [hz2]; exact zcs2 hq⟩) hS ?_
  intro H1 locs1 hp1 hS1
  rw [hz1, hz2]
  exact kk r S' hF hf2 ho hA H1 locs1 la hp1 hl1 hS1
theorem zx_callS {ρ ρ' : Type} {X : zCx} {M : zMr} {A : (Nat → Prop) × String} {Q : zCx → ρ × zSt → State → Prop} {G : zGw} {cs : Nat × Nat} {res : ρ × zSt} {S : zSt} {pc : Nat} {ls : List (Option Value)} {Mc : zMr} {yc : MethodName} {injc : ρ' → Option Value} {Fc : zSt → Option (ρ' × zSt)} {k : ρ' × zSt → Option (ρ × zSt)} {idx : Nat} {st : List Value} (As rest : List Value) (hct : Zc Mc yc injc G As Fc) (hmv : ZS Mc yc As.length) (hl : Cond.methodLink M.1 idx yc ∈ lw_all) (hst : st = As.reverse ++ rest) (hd : Mc.2.2.2.2.1 + 1 ≤ M.2.2.2.2.1) (hL : Mc.2.2.1 ≤ 45) (hz : Mc.2.2.2.2.2 = (0, 0, none)) (hq : zcs cs M = true) (hcat : (rest.map fun v => v.category).sum ≤ 8) (d : decode M.2.1 pc = .ok (.invokestatic idx, 3))
    (kk : ∀ r S', Fc S = some (r, S') → Zz X M A Q G cs res S' (pc + 3) ls ((injc r).toList ++ rest) (k (r, S'))) : Zz X M A Q G cs res S pc ls st ((Fc S).bind k) := by
  intro hf ho hA H locs la hp hl1 hS
  obtain ⟨⟨r, S'⟩, hF, hf2⟩ := Option.bind_eq_some_iff.mp hf
  obtain ⟨p, l, e, R, s, m, args, below, meth, c⟩ := X
  have hR : R = zRm M := ho.2.2.2.2.2.2.2.2.2.2
  subst hR
  have hz1 : Mc.2.2.2.2.2.1 = 0 := by rw [hz]
  have hz2 : Mc.2.2.2.2.2.2.1 = 0 := by rw [hz]
  have hz3 : Mc.2.2.2.2.2.2.2 = none := by rw [hz]
  have hcwc : zcw Mc yc = Cond.code yc Mc.2.1 Mc.2.2.1 Mc.2.2.2.1 := by unfold zcw; rw [hz3]
  have hctl := hct l S (r, S') H.size ho.2.2.2.2.2.1.2.2.1 hF
  rw [hcwc] at hctl
  subst hst
  obtain ⟨m1, m2, m3, m4, m5, m6⟩ := hmv
  have hkn := ho.2.2.2.2.2.2.2.2.1
  refine zz_after hA (va_runS (As := As) (rest := rest) ⟨ho.1, ho.2.1, ho.2.2.1, ho.2.2.2.1, ho.2.2.2.2.1⟩ hctl (va_cwS As.length ho.2.2.2.2.1 (lw_S hl m1 m2 m3) rfl rfl rfl ⟨m4, m5, m6⟩ (z_room hd hL)) ⟨z_blind, zz_pre hA hp hkn ho.2.2.2.2.2.1.1 ho.2.2.2.2.2.2.2.2.2.1 hS⟩ rfl rfl hl1.1 rfl (lv_room hcat) d ⟨by rw [hz1]; exact zcs1 hq, by rw [hz2]; exact zcs2 hq⟩) hS ?_
  intro H1 locs1 hp1 hS1
  rw [hz1, hz2]
  exact kk r S' hF hf2 ho hA H1 locs1 la hp1 hl1 hS1
theorem zx_callSN {ρ ρ' : Type} {X : zCx} {M : zMr} {A : (Nat → Prop) × String} {Q : zCx → ρ × zSt → State → Prop} {G : zGw} {cs : Nat × Nat} {res : ρ × zSt} {S : zSt} {pc : Nat} {ls : List (Option Value)} {Mc : zMr} {yc : MethodName} {injc : ρ' → Option Value} {Fc : zSt → Option (ρ' × zSt)} {k : ρ' × zSt → Option (ρ × zSt)} {idx : Nat} {st : List Value} (As rest : List Value) (hct : Zc Mc yc injc G As Fc) (hmv : ZS Mc yc As.length) (hl : (M.1, idx, yc, "HiddenCube") ∈ znM) (hst : st = As.reverse ++ rest) (hd : Mc.2.2.2.2.1 + 1 ≤ M.2.2.2.2.1) (hL : Mc.2.2.1 ≤ 45) (hz : Mc.2.2.2.2.2 = (0, 0, none)) (hq : zcs cs M = true) (hcat : (rest.map fun v => v.category).sum ≤ 8) (d : decode M.2.1 pc = .ok (.invokestatic idx, 3))
    (kk : ∀ r S', Fc S = some (r, S') → Zz X M A Q G cs res S' (pc + 3) ls ((injc r).toList ++ rest) (k (r, S'))) : Zz X M A Q G cs res S pc ls st ((Fc S).bind k) := by
  intro hf ho hA H locs la hp hl1 hS
  obtain ⟨⟨r, S'⟩, hF, hf2⟩ := Option.bind_eq_some_iff.mp hf
  obtain ⟨p, l, e, R, s, m, args, below, meth, c⟩ := X
  have hR : R = zRm M := ho.2.2.2.2.2.2.2.2.2.2
  subst hR
  have hz1 : Mc.2.2.2.2.2.1 = 0 := by rw [hz]
  have hz2 : Mc.2.2.2.2.2.2.1 = 0 := by rw [hz]
  have hz3 : Mc.2.2.2.2.2.2.2 = none := by rw [hz]
  have hcwc : zcw Mc yc = Cond.code yc Mc.2.1 Mc.2.2.1 Mc.2.2.2.1 := by unfold zcw; rw [hz3]
  have hctl := hct l S (r, S') H.size ho.2.2.2.2.2.1.2.2.1 hF
  rw [hcwc] at hctl
  subst hst
  obtain ⟨m1, m2, m3, m4, m5, m6⟩ := hmv
  have hkn := ho.2.2.2.2.2.2.2.2.1
  have hts := ho.2.2.2.2.1
  refine zz_after hA (va_runSN (As := As) (rest := rest) ⟨ho.1, ho.2.1, ho.2.2.1, ho.2.2.2.1, hts⟩ hctl ⟨va_cnB As.length hts (lw_meth m3) rfl rfl rfl (ho.2.2.2.2.2.1.1.2.1 _ hl) (hts _ m2) ⟨m4, m5, m6⟩ (z_room hd hL), hts _ m1, trivial⟩ ⟨z_blind, zz_pre hA hp hkn ho.2.2.2.2.2.1.1 ho.2.2.2.2.2.2.2.2.2.1 hS⟩ rfl rfl hl1.1 rfl (lv_room hcat) d ⟨by rw [hz1]; exact zcs1 hq, by rw [hz2]; exact zcs2 hq⟩) hS ?_
  intro H1 locs1 hp1 hS1
  rw [hz1, hz2]
  exact kk r S' hF hf2 ho hA H1 locs1 la hp1 hl1 hS1
section
variable {ρ : Type} {X : zCx} {M : zMr} {nm : String} {G : zGw} {cs : Nat × Nat} {S : zSt} {pc : Nat} {ls : List (Option Value)} {st : List Value} {inj : ρ → Option Value} {res : Option ρ × zSt}
theorem zr_end {v : ρ} {o : Option Value} {H : Heap} {locs : List Loc} (hv : inj v = o) (hp : zhp (gT G S) S X.2.2.2.2.1 H) (hS : va_S (zA G X.2.2.2.2.1.heap.size) X.2.2.2.2.1.heap H locs) : ∀ t : State, t.heap = H → X.2.2.2.2.1.WarmedH t.vm → zQrC inj G (some v, S) (zA G X.2.2.2.2.1.heap.size) X.2.2.2.2.2.2.1 X.2.2.2.2.1 (.returned o) t := fun t ht hW => ⟨v, rfl, by rw [hv], by rw [ht]; exact zhp_moved hW.alike hp, hS.F ht⟩
end
section
variable {X : zCx} {M : zMr} {nm : String} {G : zGw} {S : zSt} {pc : Nat} {ls : List (Option Value)}
theorem zr_vret {res : Option Unit × zSt} (hr : M.2.2.2.1 = none) (d : decode M.2.1 pc = .ok (.return_, 1)) : Zz X M (zA G X.2.2.2.2.1.heap.size, nm) (zQr zJV M G) (gT G S) (0, 0) res S pc ls [] (some (some (), S)) := by
  intro hf ho hA H locs la hp hl hS
  cases hf
  exact vy_ret (W.vret ho.1 ho.2.1 (ho.2.2.2.2.2.2.2.1.trans hr) (zr_end rfl hp hS) hS.2.2 d ho.2.2.2.2.2.2.1)
theorem zr_iret {res : Option Int32 × zSt} {v : Int32} (hr : M.2.2.2.1 = some .int) (d : decode M.2.1 pc = .ok (.ireturn, 1)) : Zz X M (zA G X.2.2.2.2.1.heap.size, nm) (zQr zJI M G) (gT G S) (0, 0) res S pc ls [.int v] (some (some v, S)) := by
  intro hf ho hA H locs la hp hl hS
  cases hf
  exact vy_ret (W.iret ho.1 ho.2.1 (ho.2.2.2.2.2.2.2.1.trans hr) (zr_end (inj := zJI) (v := v) rfl hp hS) hS.2.2 d ho.2.2.2.2.2.2.1)
theorem zr_zret {res : Option Int32 × zSt} {v w : Int32} (hn : v &&& 1 = w) (hr : M.2.2.2.1 = some .boolean) (d : decode M.2.1 pc = .ok (.ireturn, 1)) : Zz X M (zA G X.2.2.2.2.1.heap.size, nm) (zQr zJI M G) (gT G S) (0, 0) res S pc ls [.int v] (some (some w, S)) := by
  intro hf ho hA H locs la hp hl hS
  cases hf
  exact vy_ret (z_Wzret (w := w) ho.1 ho.2.1 (ho.2.2.2.2.2.2.2.1.trans hr) (by rw [← hn]; rfl) (zr_end (inj := zJI) (v := w) rfl hp hS) hS.2.2 d ho.2.2.2.2.2.2.1)
theorem zr_aret {res : Option Unit × zSt} {q : Nat} {C : String} {inj : Unit → Option Value} (hi : inj () = some (.ref (G.1 q))) (hr : M.2.2.2.1 = some (.object C)) (d : decode M.2.1 pc = .ok (.areturn, 1)) : Zz X M (zA G X.2.2.2.2.1.heap.size, nm) (zQr inj M G) (gT G S) (0, 0) res S pc ls [.ref (G.1 q)] (some (some (), S)) := by
  intro hf ho hA H locs la hp hl hS
  cases hf
  exact vy_ret (W.aret ho.1 ho.2.1 (ho.2.2.2.2.2.2.2.1.trans hr) (Or.inl ⟨C, rfl⟩) (Or.inr ⟨_, rfl⟩) (zr_end hi hp hS) hS.2.2 d ho.2.2.2.2.2.2.1)
end
section
variable {ρ ρ' : Type} {X : zCx} {M : zMr} {nm : String} {G : zGw} {cs : Nat × Nat} {S : zSt} {pc : Nat} {ls : List (Option Value)} {st : List Value} {inj : ρ → Option Value} {res : Option ρ × zSt} {Mc : zMr} {yc : MethodName} {injc : ρ' → Option Value} {Fc : zSt → Option (Option ρ' × zSt)} {k : ρ' → zSt → Option (Option ρ × zSt)} {idx : Nat} {e9 : zRe}
theorem zr_out {Gx Gw : zGw} {H : Heap} {locs : List Loc} {la : Array Slot} {rest : List Value} {q : Addr} {ce : Cell} {kk nn : Nat} (hh : M.2.2.2.2.2.2.2 = none) (ho : zok M Gw X) (hK : zKX G Gx) (hq : q = Gx.1 98) (hp : zhp Gx S X.2.2.2.2.1 H) (hap : zap Gx) (hAd : ∀ j, Gx.2.1 j ≠ none → zA G X.2.2.2.2.1.heap.size (Gx.1 j)) (hS : va_S (zA G X.2.2.2.2.1.heap.size) X.2.2.2.2.1.heap H locs) (hce : H[q]? = some ce) (hcv : ce.vm = .none) (hcl : X.2.2.2.2.1.vm.findClass "HiddenCube$Fault" = some ce.cls) (hc : kk ≤ M.2.2.2.2.2.1) (hs : nn ≤ M.2.2.2.2.2.2.1) :
    vx_W X.1 X.2.1 X.2.2.1 X.2.2.2.1 X.2.2.2.2.1 X.2.2.2.2.2.1 X.2.2.2.2.2.2.1 X.2.2.2.2.2.2.2.1 X.2.2.2.2.2.2.2.2.1 X.2.2.2.2.2.2.2.2.2 H locs kk nn (zQr inj M G X (none, S)) (F0 X.2.2.2.2.2.1 pc la rest) q := by
  refine vy_out (E := "HiddenCube$Fault") (fun x hx => ?_) ho.2.2.2.2.2.2.1 hce hcv hcl (fun t ht hA => ⟨rfl, rfl, ⟨Gx, hK, hq, by rw [ht]; exact zhp_moved hA hp, hap, hAd⟩, hS.F ht⟩) hS.2.2 hc hs
  have h := ho.2.2.2.2.2.1.2.2.2
  unfold zhh at h
  rw [hh] at h
  rw [h] at hx
  cases hx
theorem zr_throw {S0 : zSt} {a t1 t2 : Nat} (hh : M.2.2.2.2.2.2.2 = none) (hc : cs.1 ≤ M.2.2.2.2.2.1) (hs : cs.2 ≤ M.2.2.2.2.2.2.1) (d : decode M.2.1 pc = .ok (.athrow, 1)) : Zz X M (zA G X.2.2.2.2.1.heap.size, nm) (zQr inj M G) (gX (gT G S0) a t1 t2) cs res S pc ls (.ref ((gX (gT G S0) a t1 t2).1 98) :: st) (some (none, S)) := by
  intro hf ho hA H locs la hp hl hS
  cases hf
  have hsh : (gX (gT G S0) a t1 t2).2.1 98 = some (.inl 7) := rfl
  obtain ⟨cell, q1, q2, q3, q4⟩ := zhp_obj hp hsh (show zcl[7]? = some (RX7, TX7, 8) from rfl)
  have hkn := ho.2.2.2.2.2.2.2.2.1 7 (RX7, TX7, 8) rfl
  exact vx_athrow ho.1 ho.2.1 d (zr_out hh ho ⟨a, t1, t2, S0, rfl⟩ rfl hp ho.2.2.2.2.2.2.2.2.2.1 hA.1 hS q1 q3 (by rw [q2]; exact hkn.2.1) hc hs)
theorem zA_gTi {S0 : zSt} {sz q : Nat} (h : zA (gT G S0) sz q) : zA G sz q := by
  rcases h with ⟨j, h1, h2⟩ | h
  · exact Or.inl ⟨j, h1, h2⟩
  · exact Or.inr h
theorem zA_gTo {S0 : zSt} {sz q : Nat} (h : zA G sz q) : zA (gT G S0) sz q := by
  rcases h with ⟨j, h1, h2⟩ | h
  · exact Or.inl ⟨j, h1, h2⟩
  · exact Or.inr h
theorem zap_gTi {S0 : zSt} (h : zap (gT G S0)) : zap G := fun i j hi hj hij => h i j hi hj hij
theorem zap_gTo {S0 : zSt} (h : zap G) : zap (gT G S0) := fun i j hi hj hij => h i j hi hj hij
theorem zkn_gTi {S0 : zSt} {s : State} (h : zkn (gT G S0) s) : zkn G s := fun c q hq => h c q hq
theorem zkn_gTo {S0 : zSt} {s : State} (h : zkn G s) : zkn (gT G S0) s := fun c q hq => h c q hq
theorem zok_gTi {S0 : zSt} (h : zok M (gT G S0) X) : zok M G X := ⟨h.1, h.2.1, h.2.2.1, h.2.2.2.1, h.2.2.2.2.1, ⟨h.2.2.2.2.2.1.1, zEnv_narrow h.2.2.2.2.2.1.2.1 (fun q hq => zA_gTo hq), h.2.2.2.2.2.1.2.2⟩, h.2.2.2.2.2.2.1, h.2.2.2.2.2.2.2.1, zkn_gTi h.2.2.2.2.2.2.2.2.1, zap_gTi h.2.2.2.2.2.2.2.2.2.1, h.2.2.2.2.2.2.2.2.2.2⟩
theorem zok_gTo {S0 : zSt} (h : zok M G X) : zok M (gT G S0) X := ⟨h.1, h.2.1, h.2.2.1, h.2.2.2.1, h.2.2.2.2.1, ⟨h.2.2.2.2.2.1.1, zEnv_narrow h.2.2.2.2.2.1.2.1 (fun q hq => zA_gTi hq), h.2.2.2.2.2.1.2.2⟩, h.2.2.2.2.2.2.1, h.2.2.2.2.2.2.2.1, zkn_gTo h.2.2.2.2.2.2.2.2.1, zap_gTo h.2.2.2.2.2.2.2.2.2.1, h.2.2.2.2.2.2.2.2.2.2⟩
theorem zAok_gTi {S0 : zSt} {A : (Nat → Prop) × String} (h : zAok A (gT G S0) X) : zAok A G X := ⟨fun j hj => h.1 j hj, h.2⟩
theorem zAok_gTo {S0 : zSt} {A : (Nat → Prop) × String} (h : zAok A G X) : zAok A (gT G S0) X := ⟨fun j hj => h.1 j hj, h.2⟩
/-- a call of a method of the Reader -/
theorem zr_callV (hE : zER e9 (zA G X.2.2.2.2.1.heap.size) X.2.2.2.2.1 X.2.2.2.2.1.heap) (As rest : List Value) (hct : Zr e9 Mc yc injc G (.ref (G.1 90) :: As) Fc) (hmv : ZV Mc yc As.length) (hl : Cond.methodLink M.1 idx yc ∈ lw_all) (hst : st = As.reverse ++ .ref (G.1 90) :: rest) (h90 : G.2.1 90 = some (.inl 6)) (hMc : Mc.1 = "HiddenCube$Reader") (hd : Mc.2.2.2.2.1 + 1 ≤ M.2.2.2.2.1) (hL : Mc.2.2.1 ≤ 45) (hz : Mc.2.2.2.2.2.2.2 = none) (hh : M.2.2.2.2.2.2.2 = none) (hq1 : cs.1 + Mc.2.2.2.2.2.1 ≤ M.2.2.2.2.2.1) (hq2 : cs.2 + Mc.2.2.2.2.2.2.1 ≤ M.2.2.2.2.2.2.1) (hcat : (rest.map fun v => v.category).sum ≤ 8) (d : decode M.2.1 pc = .ok (.invokevirtual idx, 3))
    (kk : ∀ r S', Zz X M (zA G X.2.2.2.2.1.heap.size, nm) (zQr inj M G) (gT G S') cs res S' (pc + 3) ls ((injc r).toList ++ rest) (k r S')) : Zz X M (zA G X.2.2.2.2.1.heap.size, nm) (zQr inj M G) (gT G S) cs res S pc ls st (zbR (Fc S) k) := by
  intro hf ho hA H locs la hp hl1 hS
  obtain ⟨⟨r, S'⟩, hF, hf2⟩ := Option.bind_eq_some_iff.mp hf
  obtain ⟨p, l, e, R, s, m, args, below, meth, c⟩ := X
  have hR : R = zRm M := ho.2.2.2.2.2.2.2.2.2.2
  subst hR
  have hcwc : zcw Mc yc = Cond.code yc Mc.2.1 Mc.2.2.1 Mc.2.2.2.1 := by unfold zcw; rw [hz]
  have hctl := hct l S (r, S') H.size ho.2.2.2.2.2.1.2.2.1 hF
  rw [hcwc] at hctl
  subst hst
  obtain ⟨m1, m2, m3, m4, m5, m6, m7, m8⟩ := hmv
  have hob := zhp_obj hp (show (gT G S).2.1 90 = some (.inl 6) from h90) (show zcl[6]? = some (RX6, TX6, 7) from rfl)
  have hkn := ho.2.2.2.2.2.2.2.2.1
  have hrec : ∃ cell : Cell, H[G.1 90]? = some cell ∧ cell.vm.isStatics = false ∧ s.vm.findClass Mc.1 = some cell.cls := by
    obtain ⟨cell, g1, g2, g3, -⟩ := hob
    exact ⟨cell, g1, by rw [g3]; rfl, by rw [g2, hMc]; exact (hkn 6 _ rfl).2.1⟩
  have hrun := vy_runV (p := p) (l := l) (e := e) (R := zRm M) (s := s) (m := m) (args := args) (below := below) (meth := meth) (c := c) (H := H) (locs := locs) (cells := cs.1) (slots := cs.2) (g := F0 m pc la (As.reverse ++ .ref (G.1 90) :: rest)) (As := As) (rest := rest) ⟨ho.1, ho.2.1, ho.2.2.1, ho.2.2.2.1, ho.2.2.2.2.1⟩ hctl (cwV As.length ho.2.2.2.2.1 (lw_V hl m1 m2 m3 m4) rfl rfl rfl ⟨m5, m6, m7, m8⟩ (z_room hd hL)) ⟨zE_blind, hrec, zE_pre hA hp hkn ho.2.2.2.2.2.1.1 ho.2.2.2.2.2.2.2.2.2.1 hS hE⟩ rfl rfl hl1.1 rfl (lv_room hcat) d ⟨hq1, hq2⟩
  have hsub : ∀ q, zA G H.size q → zA G s.heap.size q := fun q hq => zAok_sub (zAok_gTi hA) hS.1 hq
  have hmove : ∀ {T' t : State} {L : List Loc}, T'.heap = t.heap → H.size ≤ t.heap.size → (∀ q : Nat, q < H.size → ¬ zA G H.size q → t.heap[q]? = H[q]?) → (∀ q ∈ L, zA G H.size q.base) → va_S (zA G s.heap.size) s.heap T'.heap (locs ++ L) := fun e1 hF1 hF2 hL => ⟨Nat.le_trans hS.1 (by rw [e1]; exact hF1), fun q h1 h2 => by
      rw [e1, hF2 q (Nat.lt_of_lt_of_le h1 hS.1) (fun z => h2 (hsub q z))]
      exact hS.2.1 q h1 h2, fun q hq => by
      rcases List.mem_append.mp hq with h | h
      · exact hS.2.2 q h
      · exact hsub _ (hL q h)⟩
  intro T hT XX
  rcases hrun T hT XX with ⟨v, st₀, t, T', L, h0, X', hL, e1, e2, ⟨v', hr, hv, hz', hF1, hF2⟩, stp⟩ | ⟨q, st₀, t, T', L, E, ce, h0, X', hL, e1, e2, ⟨hr, hEq, ⟨G', hKX, hq, hz', hap, hAd⟩, hF1, hF2⟩, hce, hcv, hcl, stp⟩
  · cases hv
    have hr : r = some v' := hr
    subst hr
    rw [h0] at hF1 hF2
    have hal : t.vm.Alike s.vm := by rw [← e2]; exact X'.warmed.alike.symm
    obtain ⟨t2, a1, b1⟩ := kk v' S' hf2 (zok_gTo (zok_gTi ho)) (zAok_gTo (zAok_gTi hA)) T'.heap (locs ++ L) la (by rw [e1]; exact zhp_moved hal hz') hl1 (hmove e1 hF1 hF2 hL) T' rfl X'
    exact ⟨t2, stp t2 a1, b1⟩
  · have hr : r = none := hr
    subst hr
    cases hf2
    rw [h0] at hF1 hF2
    have hal : t.vm.Alike s.vm := by rw [← e2]; exact X'.warmed.alike.symm
    subst hEq
    obtain ⟨t2, a1, b1⟩ := zr_out (inj := inj) (S := S') (X := (p, l, e, zRm M, s, m, args, below, meth, c)) (H := T'.heap) (locs := locs ++ L) (la := la) (rest := rest) (pc := pc) (kk := cs.1 + Mc.2.2.2.2.2.1) (nn := cs.2 + Mc.2.2.2.2.2.2.1) hh ho hKX hq (by rw [e1]; exact zhp_moved hal hz') hap (fun j hj => hsub _ (hAd j hj)) (hmove e1 hF1 hF2 hL) (by rw [e1]; exact hce) hcv hcl hq1 hq2 T' rfl X'
    exact ⟨t2, stp.trans a1, b1⟩
end
section
variable {ρ : Type} {X : zCx} {M : zMr} {A : (Nat → Prop) × String} {Q : zCx → ρ × zSt → State → Prop} {G : zGw} {cs : Nat × Nat} {res : ρ × zSt} {S : zSt} {pc : Nat} {ls : List (Option Value)} {st : List Value} {f : Option (ρ × zSt)} {e9 : zRe} {idx : Nat}
theorem zr_letS {g : zSt → Option (ρ × zSt)} {e : zSt} (h : e.1 90 5 = S.1 90 5) (k : ∀ w, Zz X M A Q (gT G w) cs res w pc ls st (g w)) : Zz X M A Q (gT G S) cs res e pc ls st (zlet e g) := by
  rw [← gT_eq (G := G) h]
  exact k e
theorem zr_re {S' : zSt} (h : S'.1 90 5 = S.1 90 5) (k : Zz X M A Q (gT G S') cs res S' pc ls st f) : Zz X M A Q (gT G S) cs res S' pc ls st f := by
  rw [← gT_eq (G := G) h]
  exact k
theorem zr_getTok (hG : zGR e9 G) (hl : Cond.fieldLink M.1 idx "HiddenCube$Reader" "token" "LHiddenCube$Token;" ∈ lw_all) (d : decode M.2.1 pc = .ok (.getfield idx, 3)) (k : Zz X M A Q (gT G S) cs res S (pc + 3) ls (.ref (G.1 (110 + tkq (S.1 90 5))) :: st) f) : Zz X M A Q (gT G S) cs res S pc ls (.ref (G.1 90) :: st) f :=
  zz_get (v := .ref (G.1 (110 + tkq (S.1 90 5)))) 90 6 5 hG.2.2.2.1 rfl in_X6 (by decide) hl rfl d k
theorem zr_getsTok (i : Nat) (hi : i < 5) (hE : zER e9 A.1 X.2.2.2.2.1 X.2.2.2.2.1.heap) (hl : Cond.fieldLink M.1 idx "HiddenCube$Token" (tNm.getD i "") "LHiddenCube$Token;" ∈ lw_all) (d : decode M.2.1 pc = .ok (.getstatic idx, 3)) (k : Zz X M A Q G cs res S (pc + 3) ls (.ref (e9.1 i) :: st) f) : Zz X M A Q G cs res S pc ls st f := zz_getsE (hE.2.2.1 i hi) hl d k
theorem zr_tok {v : Int32} {i : Nat} (hG : zGR e9 G) (hE : zER e9 A.1 X.2.2.2.2.1 X.2.2.2.2.1.heap) (hi : i < 5) : some (G.1 (110 + tkq v)) = some (e9.1 i) ↔ tkq v = i := by
  rw [hG.2.2.2.2.2.2.1 _ (tkq_lt v)]
  exact ⟨fun h => hE.2.2.2.1 _ _ (tkq_lt v) hi (Option.some.inj h), fun h => by rw [h]⟩
theorem zr_acmp_eq {v : Int32} {off : Int} {f1 f2 : Option (ρ × zSt)} (i tgt : Nat) (hG : zGR e9 G) (hE : zER e9 A.1 X.2.2.2.2.1 X.2.2.2.2.1.heap) (hi : i < 5) (d : decode M.2.1 pc = .ok (.if_acmp .eq off, 3)) (ht : (pc : Int) + off = (tgt : Int)) (k1 : Zz X M A Q (gT G S) cs res S tgt ls st f1) (k2 : Zz X M A Q (gT G S) cs res S (pc + 3) ls st f2) : Zz X M A Q (gT G S) cs res S pc ls (.ref (e9.1 i) :: .ref (G.1 (110 + tkq v)) :: st) (if tkq v = i then f1 else f2) := by
  intro hf ho hA H locs la hp hl1 hS
  refine lv_acmp_eq (rx := some (G.1 (110 + tkq v))) (ry := some (e9.1 i)) ho.1 ho.2.1 d ht (fun h => ?_) (fun h => ?_)
  · exact k1 (by rw [if_pos ((zr_tok hG hE hi).mp h)] at hf; exact hf) ho hA H locs la hp hl1 hS
  · exact k2 (by rw [if_neg (fun z => h ((zr_tok hG hE hi).mpr z))] at hf; exact hf) ho hA H locs la hp hl1 hS
theorem zr_acmp_ne {v : Int32} {off : Int} {f1 f2 : Option (ρ × zSt)} (i tgt : Nat) (hG : zGR e9 G) (hE : zER e9 A.1 X.2.2.2.2.1 X.2.2.2.2.1.heap) (hi : i < 5) (d : decode M.2.1 pc = .ok (.if_acmp .ne off, 3)) (ht : (pc : Int) + off = (tgt : Int)) (k1 : Zz X M A Q (gT G S) cs res S tgt ls st f1) (k2 : Zz X M A Q (gT G S) cs res S (pc + 3) ls st f2) : Zz X M A Q (gT G S) cs res S pc ls (.ref (e9.1 i) :: .ref (G.1 (110 + tkq v)) :: st) (if tkq v = i then f2 else f1) := by
  intro hf ho hA H locs la hp hl1 hS
  refine lv_acmp_ne (rx := some (G.1 (110 + tkq v))) (ry := some (e9.1 i)) ho.1 ho.2.1 d ht (fun h => ?_) (fun h => ?_)
  · exact k1 (by rw [if_neg (fun z => h ((zr_tok hG hE hi).mpr z))] at hf; exact hf) ho hA H locs la hp hl1 hS
  · exact k2 (by rw [if_pos ((zr_tok hG hE hi).mp h)] at hf; exact hf) ho hA H locs la hp hl1 hS
theorem zhp_tok {s : State} {H : Heap} {v : Int32} (h90 : G.2.1 90 = some (.inl 6)) (h : zhp G S s H) : zhp G (sI S 90 5 v) s H := by
  intro k
  have hk := h k
  unfold zcellIs at hk ⊢
  cases hs : G.2.1 k with
  | none => trivial
  | some w =>
    rw [hs] at hk
    by_cases e : k = 90
    · subst e
      rw [h90] at hs
      cases hs
      obtain ⟨r, r1, r2⟩ := hk
      cases r1
      refine ⟨_, rfl, r2.to fun j hj => ?_⟩
      by_cases e5 : j = 5
      · subst e5; rfl
      · have : (sI S 90 5 v).1 90 j = S.1 90 j := by simp [sI, e5]
        rw [this]; rfl
    · have h1 : ∀ j, (sI S 90 5 v).1 k j = S.1 k j := fun j => if_neg e
      cases w with
      | inl ci => simp only [h1]; exact hk
      | inr x => simp only [h1]; exact hk
theorem zr_putTok {g : zSt → Option (ρ × zSt)} (i : Nat) (v : Int32) (hv : tkq v = i) (hG : zGR e9 G) (hi : i < 5) (hl : Cond.fieldLink M.1 idx "HiddenCube$Reader" "token" "LHiddenCube$Token;" ∈ lw_all) (d : decode M.2.1 pc = .ok (.putfield idx, 3)) (k : ∀ w, Zz X M A Q (gT G w) cs res w (pc + 3) ls st (g w)) : Zz X M A Q (gT G S) cs res S pc ls (.ref (e9.1 i) :: .ref (G.1 90) :: st) (zlet (sI S 90 5 v) g) := by
  rw [← hG.2.2.2.2.2.2.1 i hi]
  refine zz_putO (G := gT G S) tyX6 90 6 5 (some (110 + i)) hG.2.2.2.1 rfl in_X6 tyX6_ok (fun b hb9 hbj => nmX6 5 (by decide) b hb9 (Ne.symm hbj)) (by decide) hl (Or.inl rfl) rfl rfl d ?_
  have hw : gR (gT G S) 90 5 (some (110 + i)) = gT G (sI S 90 5 v) := by
    have h1 : (sI S 90 5 v).1 90 5 = v := rfl
    unfold gT
    rw [gR_gR, h1, hv]
  rw [hw]
  intro hf ho hA H locs la hp hl1 hS
  exact k (sI S 90 5 v) hf ho hA H locs la (zhp_tok hG.2.2.2.1 hp) hl1 hS
end
