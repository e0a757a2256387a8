/-! STRINGS AND TOKENS outside the world (written by gen/mkrenv.py) -/
set_option maxRecDepth 100000
def sTx : List String := ["town", "names", "shut", "person", "at", "carrier", "from", "to", "warden"]
def sIx : List Nat := [126, 131, 162, 167, 155, 178, 145, 146, 183]
def sLen : List Nat := [4, 5, 4, 6, 2, 7, 4, 2, 6]
def sByt : List (List Int32) := [[116, 111, 119, 110], [110, 97, 109, 101, 115], [115, 104, 117, 116], [112, 101, 114, 115, 111, 110], [97, 116], [99, 97, 114, 114, 105, 101, 114], [102, 114, 111, 109], [116, 111], [119, 97, 114, 100, 101, 110]]
def tNm : List String := ["END", "WORD", "NUMBER", "STOP", "NONE"]
abbrev zRe : Type := (Nat → Nat) × (Nat → Nat) × (Nat → Nat)
/-- tokens' addresses, strings' addresses, their arrays' -/
def zER (e : zRe) (A : Nat → Prop) (U : State) (H : Heap) : Prop :=
  vk_S 9 sLen sByt e.2.1 e.2.2 A U H ∧ (∀ i, i < 9 → vk_R "HiddenCube$Reader" (sIx.getD i 0) (sTx.getD i "") (e.2.1 i) U) ∧ (∀ i, i < 5 → va_Z "HiddenCube$Token" (tNm.getD i "") "LHiddenCube$Token;" (.ref (e.1 i)) A U H) ∧ (∀ i j, i < 5 → j < 5 → e.1 i = e.1 j → i = j) ∧ va_Z "java/lang/String" "COMPACT_STRINGS" "Z" (.int 1) A U H ∧ va_Zq "jdk/internal/util/Preconditions" "SIOOBE_FORMATTER" "Ljava/util/function/BiFunction;" A U H
theorem zER_warm {e : zRe} {A : Nat → Prop} {s U : State} {H : Heap} (hW : s.WarmedH U.vm) (h : zER e A s H) : zER e A U H := ⟨vk_S.moved hW.alike h.1, fun i hi => vk_R.warm hW (h.2.1 i hi), fun i hi => va_Z.moved hW.alike (h.2.2.1 i hi), h.2.2.2.1, va_Z.moved hW.alike h.2.2.2.2.1, va_Zq.moved hW.alike h.2.2.2.2.2⟩
theorem zER_kept {e : zRe} {A : Nat → Prop} {U : State} {H H1 : Heap} (h : zER e A U H) (hq : ∀ a : Nat, a < H.size → ¬ A a → H1[a]? = H[a]?) : zER e A U H1 := ⟨vk_S.kept h.1 hq, h.2.1, fun i hi => va_Z.kept (h.2.2.1 i hi) hq, h.2.2.2.1, va_Z.kept h.2.2.2.2.1 hq, va_Zq.kept h.2.2.2.2.2 hq⟩
theorem zER_narrow {e : zRe} {A B : Nat → Prop} {U : State} {H : Heap} (h : zER e A U H) (hAB : ∀ q, B q → A q) : zER e B U H := ⟨vk_S.narrow h.1 hAB, h.2.1, fun i hi => va_Z.narrow (h.2.2.1 i hi) hAB, h.2.2.2.1, va_Z.narrow h.2.2.2.2.1 hAB, va_Zq.narrow h.2.2.2.2.2 hAB⟩
section
variable {ρ : Type} {X : zCx} {M : zMr} {A : (Nat → Prop) × String} {Q : zCx → ρ × zSt → State → Prop} {G : zGw} {cs : Nat × Nat} {res : ρ × zSt} {S : zSt} {pc : Nat} {ls : List (Option Value)} {st : List Value} {f : Option (ρ × zSt)}
theorem zz_getsE {C n d : String} {idx : Nat} {v : Value} (hZ : va_Z C n d v A.1 X.2.2.2.2.1 X.2.2.2.2.1.heap) (hl : Cond.fieldLink M.1 idx C n d ∈ lw_all) (dd : decode M.2.1 pc = .ok (.getstatic idx, 3)) (k : Zz X M A Q G cs res S (pc + 3) ls (v :: st) f) : Zz X M A Q G cs res S pc ls st f :=
  fun hf ho hA H locs la hp hl1 hS => va_gets ho.1 ho.2.1 hZ hS ho.2.2.2.1 (ho.2.2.2.2.1 _ hl) (fun _ h => h) dd (k hf ho hA H locs la hp hl1 hS)
theorem zz_getsEq {C n d : String} {idx : Nat} (hZ : va_Zq C n d A.1 X.2.2.2.2.1 X.2.2.2.2.1.heap) (hl : Cond.fieldLink M.1 idx C n d ∈ lw_all) (dd : decode M.2.1 pc = .ok (.getstatic idx, 3)) (k : ∀ r, Zz X M A Q G cs res S (pc + 3) ls (va_rf r :: st) f) : Zz X M A Q G cs res S pc ls st f := by
  rcases hZ with h | ⟨t, h⟩
  · exact zz_getsE h hl dd (k none)
  · exact zz_getsE h hl dd (k (some t))
theorem zz_getfE {o n d : String} {idx q : Nat} {v : Value} (hE : va_OF o n d v q A.1 X.2.2.2.2.1 X.2.2.2.2.1.heap) (hl : Cond.fieldLink M.1 idx o n d ∈ lw_all) (dd : decode M.2.1 pc = .ok (.getfield idx, 3)) (k : Zz X M A Q G cs res S (pc + 3) ls (v :: st) f) : Zz X M A Q G cs res S pc ls (.ref q :: st) f :=
  fun hf ho hA H locs la hp hl1 hS => vk_getf ho.1 ho.2.1 hE hS ho.2.2.2.1 (ho.2.2.2.2.1 _ hl) (fun _ h => h) dd (k hf ho hA H locs la hp hl1 hS)
theorem zz_alenE {ty : FieldType} {t N : Nat} {g : Nat → Value} {v : Int32} (hT : va_T ty t N g A.1 X.2.2.2.2.1 X.2.2.2.2.1.heap) (hv : Int32.ofNat N = v) (dd : decode M.2.1 pc = .ok (.arraylength, 1)) (k : Zz X M A Q G cs res S (pc + 1) ls (.int v :: st) f) : Zz X M A Q G cs res S pc ls (.ref t :: st) f :=
  fun hf ho hA H locs la hp hl1 hS => va_tlen ho.1 ho.2.1 hT hS hv dd (k hf ho hA H locs la hp hl1 hS)
theorem zz_baldE {t N : Nat} {g : Nat → Value} {i : Int32} {v : Value} (hT : va_T .byte t N g A.1 X.2.2.2.2.1 X.2.2.2.2.1.heap) (hin : vp_in i N) (hv : g i.toNatClampNeg = v) (dd : decode M.2.1 pc = .ok (.baload, 1)) (k : Zz X M A Q G cs res S (pc + 1) ls (v :: st) f) : Zz X M A Q G cs res S pc ls (.int i :: .ref t :: st) f :=
  fun hf ho hA H locs la hp hl1 hS => va_tb ho.1 ho.2.1 hT hS hin hv dd (k hf ho hA H locs la hp hl1 hS)
theorem zz_i2c {x v : Int32} (hv : (x.toUInt32 % 65536).toInt32 = v) (dd : decode M.2.1 pc = .ok (.i2c, 1)) (k : Zz X M A Q G cs res S (pc + 1) ls (.int v :: st) f) : Zz X M A Q G cs res S pc ls (.int x :: st) f :=
  fun hf ho hA H locs la hp hl1 hS => lv_i2c ho.1 ho.2.1 dd hv (k hf ho hA H locs la hp hl1 hS)
theorem zz_ldcS {tx : String} {idx q : Nat} (hR : vk_R M.1 idx tx q X.2.2.2.2.1) (dd : decode M.2.1 pc = .ok (.ldc idx, 2)) (k : Zz X M A Q G cs res S (pc + 2) ls (.ref q :: st) f) : Zz X M A Q G cs res S pc ls st f :=
  fun hf ho hA H locs la hp hl1 hS => va_ldcS ho.1 ho.2.1 ho.2.2.2.1 hR dd (k hf ho hA H locs la hp hl1 hS)
end
section
variable {ρ : Type} {X : zCx} {M : zMr} {G0 G : zGw} {nm : String} {K : zGw → Prop} {cs : Nat × Nat} {S : zSt} {pc : Nat} {ls : List (Option Value)}
theorem zz_gzret {ty : FieldType} {inj : Int32 → zGw → Option Value} {res : Int32 × zSt} {v : Int32} (hn : narrow ty (.int v) = .int v) (hi : ∀ g, inj v g = some (.int v)) (hr : M.2.2.2.1 = some ty) (heq : G.2.2.2 = G0.2.2.2) (hK : K G) (d : decode M.2.1 pc = .ok (.ireturn, 1)) (hc : zcs cs M = true) : Zz X M (zA G0 X.2.2.2.2.1.heap.size, nm) (zQg inj M G0 K) G cs res S pc ls [.int v] (some (v, S)) := by
  intro hf ho hA H locs la hp hl hS
  cases hf
  exact W.widen (zcs1 hc) (zcs2 hc) (W.zret ho.1 ho.2.1 (ho.2.2.2.2.2.2.2.1.trans hr) hn (zz_end (hi G) ho hA heq hK hp hS) hS.2.2 d ho.2.2.2.2.2.2.1)
end
/-- a contract of a grown world, with the outside -/
def ZgE {ρ : Type} (e : zRe) (M : zMr) (y : MethodName) (inj : ρ → zGw → Option Value) (G : zGw) (K : zGw → Prop) (As : List Value) (F : zSt → Option (ρ × zSt)) : Prop :=
  ∀ (l : Launch) (S : zSt) (res : ρ × zSt) (sz : Nat), l.stackTraces = false → F S = some res → Met l y (zcw M y :: lw_all) (zRm M) (va_Pc As (fun U => U.heap.size = sz ∧ zhp G S U U.heap ∧ zkn G U ∧ zNW U ∧ zap G ∧ zEnv (zA G sz) U U.heap ∧ zER e (zA G sz) U U.heap)) (zQG inj G K res (zA G sz)) M.2.2.2.2.2.1 M.2.2.2.2.2.2.1 (zA G sz)
theorem ZgE_ofF {e9 : zRe} {ρ : Type} {M : zMr} {y : MethodName} {inj : ρ → zGw → Option Value} {K : zGw → Prop} {G : zGw} {As : List Value} {F : zSt → Option (ρ × zSt)} (ls0 : List (Option Value)) (hy : plainFor y = true) (hM : M.1 = y.cls) (hH : M.2.2.2.2.2.2.2 = none) (hlen : (lg_sl As).length ≤ M.2.2.1) (hls : l0 M.2.2.1 (lv_args 0 As) = ls0) (h : ∀ X S res, zER e9 (zA G X.2.2.2.2.1.heap.size) X.2.2.2.2.1 X.2.2.2.2.1.heap → Zz X M (zA G X.2.2.2.2.1.heap.size, y.name) (zQg inj M G K) G (0, 0) res S 0 ls0 [] (F S)) : ZgE e9 M y inj G K As F := by
  intro l S res sz hfl hF
  have hcw : zcw M y = Cond.code y M.2.1 M.2.2.1 M.2.2.2.1 := by unfold zcw; rw [hH]
  rw [hcw]
  refine va_MetF (cc := M.2.1) (maxL := M.2.2.1) (ret := M.2.2.2.1) hy rfl ?_
  intro p e s m args below meth c s₁ B hml hv
  obtain ⟨rfl, hsz, hP, hK, hN, hA, hE, hER⟩ := hv
  have hts := atoms_spec (ws := ws_ y M.2.1 M.2.2.1 M.2.2.2.1) B.pre
  have hts : ∀ w ∈ lw_all, w.before As.toArray s = true := fun w h => hts w (List.mem_cons_of_mem _ h)
  have hown : s.vm.findClass M.1 = some m.cls := by rw [hM]; exact findClass_of_methodNamed B.named
  subst hsz
  have hl := lv_entry As (n := M.2.2.1) hlen
  rw [lg_entry_eq]
  generalize (lg_sl As ++ List.replicate (M.2.2.1 - (lg_sl As).length) Slot.unset).toArray = la at hl ⊢
  have hx : zok M G (p, l, e, zRm M, s, m, As.toArray, below, meth, c) := ⟨B.exec, B.bytes, hml, hown, hts, ⟨hN, hE, hfl, by
    obtain ⟨meth9, c9, h1, h2, -, -, -, -, h7, -⟩ := Cond.code_spec B.named (atoms_spec (ws := ws_ y M.2.1 M.2.2.1 M.2.2.2.1) B.pre _ List.mem_cons_self)
    cases Option.some.inj (h1.symm.trans B.method)
    cases Option.some.inj (h2.symm.trans (Stand.of_body B).code)
    rw [Array.isEmpty_iff.mp h7]
    unfold zhh
    rw [hH]
    rfl⟩, B.notSynchronized, B.returns, hK, hA, rfl⟩
  refine h (p, l, e, zRm M, s, m, As.toArray, below, meth, c) S res hER hF hx ⟨fun k hk => Or.inl ⟨k, hk, rfl⟩, fun q hq => Or.inr hq, hE, (name_of_methodNamed B.named B.method).1⟩ s.heap [] la hP ⟨hl.1, hl.2.1, fun i v hi => ?_⟩ va_S.rf
  subst hls
  unfold l0 at hi
  rw [List.getElem?_map] at hi
  obtain ⟨q, hq1, hq2⟩ := Option.map_eq_some_iff.mp hi
  have hq : q = i := by
    have := List.getElem?_eq_some_iff.mp hq1
    obtain ⟨h3, h4⟩ := this
    rw [List.getElem_range] at h4
    exact h4.symm
  subst hq
  exact hl.2.2 (q, v) (List.mem_iff_getElem?.mpr (by
    have : (q, v) ∈ lv_args 0 As := by
      revert hq2
      generalize lv_args 0 As = L
      induction L with
      | nil => intro h; cases h
      | cons a t ih =>
        intro h
        obtain ⟨a1, a2⟩ := a
        rw [List.lookup_cons] at h
        split at h
        · rename_i hb
          have e1 : q = a1 := by simpa using hb
          cases h
          rw [e1]
          exact List.mem_cons_self
        · exact List.mem_cons_of_mem _ (ih h)
    exact List.getElem?_of_mem this))
theorem zE_blind {e : zRe} {As : List Value} {G : zGw} {S : zSt} {sz : Nat} : FrameBlind (va_Pc As (fun U => U.heap.size = sz ∧ zhp G S U U.heap ∧ zkn G U ∧ zNW U ∧ zap G ∧ zEnv (zA G sz) U U.heap ∧ zER e (zA G sz) U U.heap)) := by
  intro a U g mk q
  obtain ⟨q0, q1, q2, q3, q4, q5, q6, q7⟩ := q
  exact ⟨q0, q1, zhp_moved (u := U) (U := U.calling g mk a) (Vm.Alike.refl U.vm) q2, zkn_moved (u := U) (U := U.calling g mk a) (Vm.Alike.refl U.vm) q3, zNW_same (u := U) (U := U.calling g mk a) rfl q4, q5, zEnv_moved (u := U) (U := U.calling g mk a) (Vm.Alike.refl U.vm) q6, zER_warm (s := U) (U := U.calling g mk a) (State.WarmedH.refl U) q7⟩
theorem zE_pre {e : zRe} {As : List Value} {A : (Nat → Prop) × String} {G : zGw} {S : zSt} {X : zCx} {H : Heap} {locs : List Loc} (hA : zAok A G X) (hp : zhp G S X.2.2.2.2.1 H) (hk : zkn G X.2.2.2.2.1) (hn : zNW X.2.2.2.2.1) (ha : zap G) (hS : va_S A.1 X.2.2.2.2.1.heap H locs) (hE : zER e A.1 X.2.2.2.2.1 X.2.2.2.2.1.heap) : ∀ U : State, U.heap = H → X.2.2.2.2.1.WarmedH U.vm → va_Pc As (fun U => U.heap.size = H.size ∧ zhp G S U U.heap ∧ zkn G U ∧ zNW U ∧ zap G ∧ zEnv (zA G H.size) U U.heap ∧ zER e (zA G H.size) U U.heap) As.toArray U := fun U hU hW => ⟨rfl, by rw [hU], by rw [hU]; exact zhp_moved hW.alike hp, zkn_moved hW.alike hk, zNW_warm hW hn, ha, by rw [hU]; exact zEnv_moved hW.alike (zEnv_narrow (zEnv_kept hA.2.2.1 (fun a h1 h2 => hS.2.1 a h1 h2)) (fun q hq => zAok_sub hA hS.1 hq)), by rw [hU]; exact zER_warm hW (zER_narrow (zER_kept hE (fun a h1 h2 => hS.2.1 a h1 h2)) (fun q hq => zAok_sub hA hS.1 hq))⟩
section
variable {ρ ρ' : Type} {X : zCx} {M : zMr} {A : (Nat → Prop) × String} {Q : zCx → ρ × zSt → State → Prop} {G : zGw} {cs : Nat × Nat} {res : ρ × zSt} {S : zSt} {pc : Nat} {ls : List (Option Value)} {st : List Value} {Mc : zMr} {yc : MethodName} {injc : ρ' → zGw → Option Value} {Kc : zGw → Prop} {Fc : zSt → Option (ρ' × zSt)} {k : ρ' × zSt → Option (ρ × zSt)} {idx : Nat} {e9 : zRe}
/-- a call with the outside: a static method -/
theorem zz_callES (hE : zER e9 A.1 X.2.2.2.2.1 X.2.2.2.2.1.heap) (As rest : List Value) (hct : ZgE e9 Mc yc injc G Kc As Fc) (hmv : ZS Mc yc As.length) (hl : Cond.methodLink M.1 idx yc ∈ lw_all) (hst : st = As.reverse ++ rest) (hd : Mc.2.2.2.2.1 + 1 ≤ M.2.2.2.2.1) (hL : Mc.2.2.1 ≤ 45) (hz : Mc.2.2.2.2.2 = (0, 0, none)) (hq : zcs cs M = true) (hcat : (rest.map fun v => v.category).sum ≤ 8) (d : decode M.2.1 pc = .ok (.invokestatic idx, 3))
    (kk : ∀ G' r S', Fc S = some (r, S') → Kc G' → Zz X M A Q G' cs res S' (pc + 3) ls ((injc r G').toList ++ rest) (k (r, S'))) : Zz X M A Q G cs res S pc ls st ((Fc S).bind k) := by
  intro hf ho hA H locs la hp hl1 hS
  obtain ⟨⟨r, S'⟩, hF, hf2⟩ := Option.bind_eq_some_iff.mp hf
  obtain ⟨p, l, e, R, s, m, args, below, meth, c⟩ := X
  have hR : R = zRm M := ho.2.2.2.2.2.2.2.2.2.2
  subst hR
  have hz3 : Mc.2.2.2.2.2.2.2 = none := by rw [hz]
  have hz1 : Mc.2.2.2.2.2.1 = 0 := by rw [hz]
  have hz2 : Mc.2.2.2.2.2.2.1 = 0 := by rw [hz]
  have hcwc : zcw Mc yc = Cond.code yc Mc.2.1 Mc.2.2.1 Mc.2.2.2.1 := by unfold zcw; rw [hz3]
  have hctl := hct l S (r, S') H.size ho.2.2.2.2.2.1.2.2.1 hF
  rw [hcwc] at hctl
  subst hst
  obtain ⟨m1, m2, m3, m4⟩ := hmv
  have hkn := ho.2.2.2.2.2.2.2.2.1
  refine zz_afterG hA (va_runS (As := As) (rest := rest) ⟨ho.1, ho.2.1, ho.2.2.1, ho.2.2.2.1, ho.2.2.2.2.1⟩ hctl (va_cwS As.length ho.2.2.2.2.1 (lw_S hl m1 m2 m3) rfl rfl rfl m4 (z_room hd hL)) ⟨zE_blind, zE_pre hA hp hkn ho.2.2.2.2.2.1.1 ho.2.2.2.2.2.2.2.2.2.1 hS hE⟩ rfl rfl hl1.1 rfl (lv_room hcat) d ⟨by rw [hz1]; exact zcs1 hq, by rw [hz2]; exact zcs2 hq⟩) hS ?_
  intro G' H1 locs1 hK hA' heq hap hp1 hS1
  rw [hz1, hz2]
  exact kk G' r S' hF hK hf2 (zok_to ho hA' heq hap) hA' H1 locs1 la hp1 hl1 hS1
/-- a call with the outside: a method of the string i -/
theorem zz_callEV {i : Nat} (hi : i < 9) (hE : zER e9 A.1 X.2.2.2.2.1 X.2.2.2.2.1.heap) (As rest : List Value) (hct : ZgE e9 Mc yc injc G Kc (.ref (e9.2.1 i) :: As) Fc) (hcn : Mc.1 = "java/lang/String") (hmv : ZV Mc yc As.length) (hl : Cond.methodLink M.1 idx yc ∈ lw_all) (hst : st = As.reverse ++ .ref (e9.2.1 i) :: rest) (hd : Mc.2.2.2.2.1 + 1 ≤ M.2.2.2.2.1) (hL : Mc.2.2.1 ≤ 45) (hz : Mc.2.2.2.2.2 = (0, 0, none)) (hq : zcs cs M = true) (hcat : (rest.map fun v => v.category).sum ≤ 8) (d : decode M.2.1 pc = .ok (.invokevirtual idx, 3))
    (kk : ∀ G' r S', Fc S = some (r, S') → Kc G' → Zz X M A Q G' cs res S' (pc + 3) ls ((injc r G').toList ++ rest) (k (r, S'))) : Zz X M A Q G cs res S pc ls st ((Fc S).bind k) := by
  intro hf ho hA H locs la hp hl1 hS
  obtain ⟨⟨r, S'⟩, hF, hf2⟩ := Option.bind_eq_some_iff.mp hf
  obtain ⟨p, l, e, R, s, m, args, below, meth, c⟩ := X
  have hR : R = zRm M := ho.2.2.2.2.2.2.2.2.2.2
  subst hR
  have hz3 : Mc.2.2.2.2.2.2.2 = none := by rw [hz]
  have hz1 : Mc.2.2.2.2.2.1 = 0 := by rw [hz]
  have hz2 : Mc.2.2.2.2.2.2.1 = 0 := by rw [hz]
  have hcwc : zcw Mc yc = Cond.code yc Mc.2.1 Mc.2.2.1 Mc.2.2.2.1 := by unfold zcw; rw [hz3]
  have hctl := hct l S (r, S') H.size ho.2.2.2.2.2.1.2.2.1 hF
  rw [hcwc] at hctl
  subst hst
  obtain ⟨m1, m2, m3, m4, m5, m6, m7, m8⟩ := hmv
  have hkn := ho.2.2.2.2.2.2.2.2.1
  have hrec : ∃ cell : Cell, H[e9.2.1 i]? = some cell ∧ cell.vm.isStatics = false ∧ s.vm.findClass Mc.1 = some cell.cls := by rw [hcn]; exact vk_recv hE.1 hi hS
  refine zz_afterG hA (va_runV (As := As) (rest := rest) ⟨ho.1, ho.2.1, ho.2.2.1, ho.2.2.2.1, ho.2.2.2.2.1⟩ hctl (cwV As.length ho.2.2.2.2.1 (lw_V hl m1 m2 m3 m4) rfl rfl rfl ⟨m5, m6, m7, m8⟩ (z_room hd hL)) ⟨zE_blind, hrec, zE_pre hA hp hkn ho.2.2.2.2.2.1.1 ho.2.2.2.2.2.2.2.2.2.1 hS hE⟩ rfl rfl hl1.1 rfl (lv_room hcat) d ⟨by rw [hz1]; exact zcs1 hq, by rw [hz2]; exact zcs2 hq⟩) hS ?_
  intro G' H1 locs1 hK hA' heq hap hp1 hS1
  rw [hz1, hz2]
  exact kk G' r S' hF hK hf2 (zok_to ho hA' heq hap) hA' H1 locs1 la hp1 hl1 hS1
end
def zJg : Int32 → zGw → Option Value := fun v _ => some (.int v)
def zJ0 : Unit → zGw → Option Value := fun _ _ => none
def sCh (i : Nat) (k : Nat) : Int32 := (sByt.getD i []).getD k 0
theorem sLen_lt {i : Nat} (h : i < 9) : sLen.getD i 0 < 8 := by
  have h0 : ∀ i : Fin 9, sLen.getD i.1 0 < 8 := by decide +kernel
  exact h0 ⟨i, h⟩
theorem sCh_ok {i k : Nat} (h : i < 9) (hk : k < 8) : ((sCh i k &&& 255).toUInt32 % 65536).toInt32 = sCh i k ∧ narrow .char (.int (sCh i k)) = .int (sCh i k) := by
  have h0 : ∀ i : Fin 9, ∀ k : Fin 8, ((sCh i.1 k.1 &&& 255).toUInt32 % 65536).toInt32 = sCh i.1 k.1 ∧ narrow .char (.int (sCh i.1 k.1)) = .int (sCh i.1 k.1) := by decide +kernel
  exact h0 ⟨i, h⟩ ⟨k, hk⟩
section
variable {G : zGw} {e : zRe} {i : Nat}
abbrev mJ1_coder : zMr := ("java/lang/String", cJ1_coder, 1, some .byte, 1, 0, 0, none)
theorem mv_J1_coder : ZV mJ1_coder yJ1_coder 0 := ⟨q516, q517, q160, q518, rfl, by decide, by decide, by decide +kernel⟩
theorem cg_J1_coder (hi : i < 9) : ZgE e mJ1_coder yJ1_coder zJg G (fun G' => G' = G) [.ref (e.2.1 i)] (fun S => some (0, S)) := by
  refine ZgE_ofF [some (.ref (e.2.1 i))] (by decide +kernel) rfl rfl (Nat.le_of_ble_eq_true rfl) rfl (fun X S res hE => ?_)
  refine zz_getsE (pc := 0) hE.2.2.2.2.1 q519 dJ1_coder_0 ?_
  refine zz_ifd_eq (pc := 3) 13 dJ1_coder_3 rfl (fun h => absurd h (by decide)) (fun _ => ?_)
  refine zz_aload_n (pc := 6) 0 dJ1_coder_6 rfl rfl ?_
  refine zz_getfE (pc := 7) (hE.1.1 i hi).2.1 q2174 dJ1_coder_7 ?_
  refine zz_goto (pc := 10) 14 dJ1_coder_10 rfl ?_
  exact zz_gzret (by decide) (fun _ => rfl) rfl rfl rfl dJ1_coder_14 rfl
abbrev mJ1_length : zMr := ("java/lang/String", cJ1_length, 1, some .int, 2, 0, 0, none)
theorem mv_J1_length : ZV mJ1_length yJ1_length 0 := ⟨q512, q513, q160, q514, rfl, by decide, by decide, by decide +kernel⟩
def F_J1_length (i : Nat) (S : zSt) : Option (Int32 × zSt) := (some (0, S) : Option (Int32 × zSt)).bind (fun r => some (Int32.ofNat (sLen.getD i 0) >>> (r.1 &&& 31), r.2))
theorem cg_J1_length (hi : i < 9) : ZgE e mJ1_length yJ1_length zJg G (fun G' => G' = G) [.ref (e.2.1 i)] (F_J1_length i) := by
  refine ZgE_ofF [some (.ref (e.2.1 i))] (by decide +kernel) rfl rfl (Nat.le_of_ble_eq_true rfl) rfl (fun X S res hE => ?_)
  unfold F_J1_length
  refine zz_aload_n (pc := 0) 0 dJ1_length_0 rfl rfl ?_
  refine zz_getfE (pc := 1) (hE.1.1 i hi).2.2.1 q2173 dJ1_length_1 ?_
  refine zz_alenE (pc := 4) (hE.1.1 i hi).2.2.2 rfl dJ1_length_4 ?_
  refine zz_aload_n (pc := 5) 0 dJ1_length_5 rfl rfl ?_
  refine zz_callEV (pc := 6) hi hE [] [.int (Int32.ofNat (sLen.getD i 0))] (cg_J1_coder hi) rfl mv_J1_coder q515 rfl (Nat.le_of_ble_eq_true rfl) (Nat.le_of_ble_eq_true rfl) rfl rfl (Nat.le_of_ble_eq_true rfl) dJ1_length_6 (fun G1 r S1 _ hK => ?_)
  subst hK
  refine zz_ishr (pc := 9) dJ1_length_9 ?_
  exact zz_giret (fun _ => rfl) rfl rfl rfl dJ1_length_10 rfl
abbrev mJ1_isLatin1 : zMr := ("java/lang/String", cJ1_isLatin1, 1, some .boolean, 1, 0, 0, none)
theorem mv_J1_isLatin1 : ZV mJ1_isLatin1 yJ1_isLatin1 0 := ⟨q526, q527, q160, q528, rfl, by decide, by decide, by decide +kernel⟩
def F_J1_isLatin1 (S : zSt) : Option (Int32 × zSt) := some (1, S)
theorem cg_J1_isLatin1 (hi : i < 9) : ZgE e mJ1_isLatin1 yJ1_isLatin1 zJg G (fun G' => G' = G) [.ref (e.2.1 i)] F_J1_isLatin1 := by
  refine ZgE_ofF [some (.ref (e.2.1 i))] (by decide +kernel) rfl rfl (Nat.le_of_ble_eq_true rfl) rfl (fun X S res hE => ?_)
  unfold F_J1_isLatin1
  refine zz_getsE (pc := 0) hE.2.2.2.2.1 q519 dJ1_isLatin1_0 ?_
  refine zz_ifd_eq (pc := 3) 17 dJ1_isLatin1_3 rfl (fun h => absurd h (by decide)) (fun _ => ?_)
  refine zz_aload_n (pc := 6) 0 dJ1_isLatin1_6 rfl rfl ?_
  refine zz_getfE (pc := 7) (hE.1.1 i hi).2.1 q2174 dJ1_isLatin1_7 ?_
  refine zz_ifd_ne (pc := 10) 17 dJ1_isLatin1_10 rfl (fun h => absurd rfl h) (fun _ => ?_)
  refine zz_iconst (pc := 13) (v := 1) dJ1_isLatin1_13 (by decide) ?_
  refine zz_goto (pc := 14) 18 dJ1_isLatin1_14 rfl ?_
  exact zz_gzret (by decide) (fun _ => rfl) rfl rfl rfl dJ1_isLatin1_18 rfl
abbrev mJ3_checkIndex : zMr := ("jdk/internal/util/Preconditions", cJ3_checkIndex, 3, some .int, 1, 0, 0, none)
theorem mv_J3_checkIndex : ZS mJ3_checkIndex yJ3_checkIndex 3 := ⟨q538, q162, q539, by decide, by decide, by decide +kernel⟩
def F_J3_checkIndex (a1 a2 : Int32) (S : zSt) : Option (Int32 × zSt) := if a1 < 0 then none else if a1 < a2 then some (a1, S) else none
theorem cg_J3_checkIndex (a1 a2 : Int32) (r : Option Nat) : ZgE e mJ3_checkIndex yJ3_checkIndex zJg G (fun G' => G' = G) [.int a1, .int a2, va_rf r] (F_J3_checkIndex a1 a2) := by
  cases r
  · refine ZgE_ofF [some (.int a1), some (.int a2), some .null] (by decide +kernel) rfl rfl (Nat.le_of_ble_eq_true rfl) rfl (fun X S res hE => ?_)
    unfold F_J3_checkIndex
    refine zz_iload_n (pc := 0) 0 dJ3_checkIndex_0 rfl rfl ?_
    refine zz_if_lt (pc := 1) 9 dJ3_checkIndex_1 rfl ?_ ?_
    · exact zz_none
    · refine zz_iload_n (pc := 4) 0 dJ3_checkIndex_4 rfl rfl ?_
      refine zz_iload_n (pc := 5) 1 dJ3_checkIndex_5 rfl rfl ?_
      refine zz_icmp_lt (pc := 6) 16 dJ3_checkIndex_6 rfl ?_ ?_
      · refine zz_iload_n (pc := 16) 0 dJ3_checkIndex_16 rfl rfl ?_
        exact zz_giret (fun _ => rfl) rfl rfl rfl dJ3_checkIndex_17 rfl
      · exact zz_none
  · rename_i t
    refine ZgE_ofF [some (.int a1), some (.int a2), some (.ref t)] (by decide +kernel) rfl rfl (Nat.le_of_ble_eq_true rfl) rfl (fun X S res hE => ?_)
    unfold F_J3_checkIndex
    refine zz_iload_n (pc := 0) 0 dJ3_checkIndex_0 rfl rfl ?_
    refine zz_if_lt (pc := 1) 9 dJ3_checkIndex_1 rfl ?_ ?_
    · exact zz_none
    · refine zz_iload_n (pc := 4) 0 dJ3_checkIndex_4 rfl rfl ?_
      refine zz_iload_n (pc := 5) 1 dJ3_checkIndex_5 rfl rfl ?_
      refine zz_icmp_lt (pc := 6) 16 dJ3_checkIndex_6 rfl ?_ ?_
      · refine zz_iload_n (pc := 16) 0 dJ3_checkIndex_16 rfl rfl ?_
        exact zz_giret (fun _ => rfl) rfl rfl rfl dJ3_checkIndex_17 rfl
      · exact zz_none
abbrev mJ1_checkIndex : zMr := ("java/lang/String", cJ1_checkIndex, 2, none, 2, 0, 0, none)
theorem mv_J1_checkIndex : ZS mJ1_checkIndex yJ1_checkIndex 2 := ⟨q533, q160, q534, by decide, by decide, by decide +kernel⟩
def F_J1_checkIndex (a1 a2 : Int32) (S : zSt) : Option (Unit × zSt) := (F_J3_checkIndex a1 a2 S).bind (fun r => some ((), r.2))
theorem cg_J1_checkIndex (a1 a2 : Int32) : ZgE e mJ1_checkIndex yJ1_checkIndex zJ0 G (fun G' => G' = G) [.int a1, .int a2] (F_J1_checkIndex a1 a2) := by
  refine ZgE_ofF [some (.int a1), some (.int a2)] (by decide +kernel) rfl rfl (Nat.le_of_ble_eq_true rfl) rfl (fun X S res hE => ?_)
  unfold F_J1_checkIndex
  refine zz_iload_n (pc := 0) 0 dJ1_checkIndex_0 rfl rfl ?_
  refine zz_iload_n (pc := 1) 1 dJ1_checkIndex_1 rfl rfl ?_
  refine zz_getsEq (pc := 2) hE.2.2.2.2.2 q535 dJ1_checkIndex_2 (fun r => ?_)
  refine zz_callES (pc := 5) hE [.int a1, .int a2, va_rf r] [] (cg_J3_checkIndex a1 a2 r) mv_J3_checkIndex q537 rfl (Nat.le_of_ble_eq_true rfl) (Nat.le_of_ble_eq_true rfl) rfl rfl (Nat.le_of_ble_eq_true rfl) dJ1_checkIndex_5 (fun G1 r S1 _ hK => ?_)
  subst hK
  refine zz_pop (pc := 8) dJ1_checkIndex_8 rfl ?_
  exact zz_gvret (fun _ => rfl) rfl rfl rfl dJ1_checkIndex_9 rfl
abbrev mJ2_charAt : zMr := ("java/lang/StringLatin1", cJ2_charAt, 2, some .char, 3, 0, 0, none)
theorem mv_J2_charAt : ZS mJ2_charAt yJ2_charAt 2 := ⟨q530, q161, q531, by decide, by decide, by decide +kernel⟩
def F_J2_charAt (i : Nat) (a1 : Int32) (S : zSt) : Option (Int32 × zSt) := (F_J1_checkIndex a1 (Int32.ofNat (sLen.getD i 0)) S).bind (fun r => chk a1 (sLen.getD i 0) (some (sCh i a1.toNatClampNeg, r.2)))
theorem cg_J2_charAt (hi : i < 9) (a1 : Int32) : ZgE e mJ2_charAt yJ2_charAt zJg G (fun G' => G' = G) [.ref (e.2.2 i), .int a1] (F_J2_charAt i a1) := by
  refine ZgE_ofF [some (.ref (e.2.2 i)), some (.int a1)] (by decide +kernel) rfl rfl (Nat.le_of_ble_eq_true rfl) rfl (fun X S res hE => ?_)
  unfold F_J2_charAt
  refine zz_iload_n (pc := 0) 1 dJ2_charAt_0 rfl rfl ?_
  refine zz_aload_n (pc := 1) 0 dJ2_charAt_1 rfl rfl ?_
  refine zz_alenE (pc := 2) (hE.1.1 i hi).2.2.2 rfl dJ2_charAt_2 ?_
  refine zz_callES (pc := 3) hE [.int a1, .int (Int32.ofNat (sLen.getD i 0))] [] (cg_J1_checkIndex a1 _) mv_J1_checkIndex q532 rfl (Nat.le_of_ble_eq_true rfl) (Nat.le_of_ble_eq_true rfl) rfl rfl (Nat.le_of_ble_eq_true rfl) dJ2_charAt_3 (fun G1 r S1 _ hK => ?_)
  subst hK
  refine zz_chk (fun h4 => ?_)
  have hlt : a1.toNatClampNeg < 8 := by
    have h5 : a1.toNatClampNeg < sLen.getD i 0 := Nat.not_le.mp fun q => h4 (Or.inr q)
    have := sLen_lt hi
    omega
  refine zz_aload_n (pc := 6) 0 dJ2_charAt_6 rfl rfl ?_
  refine zz_iload_n (pc := 7) 1 dJ2_charAt_7 rfl rfl ?_
  refine zz_baldE (pc := 8) (hE.1.1 i hi).2.2.2 h4 rfl dJ2_charAt_8 ?_
  refine zz_sipush (pc := 9) (v := 255) dJ2_charAt_9 (by decide) ?_
  refine zz_iand (pc := 12) dJ2_charAt_12 ?_
  refine zz_i2c (pc := 13) (sCh_ok hi hlt).1 dJ2_charAt_13 ?_
  exact zz_gzret (sCh_ok hi hlt).2 (fun _ => rfl) rfl rfl rfl dJ2_charAt_14 rfl
abbrev mJ1_charAt : zMr := ("java/lang/String", cJ1_charAt, 2, some .char, 4, 0, 0, none)
theorem mv_J1_charAt : ZV mJ1_charAt yJ1_charAt 1 := ⟨q522, q523, q160, q524, rfl, by decide, by decide, by decide +kernel⟩
def F_J1_charAt (i : Nat) (a1 : Int32) (S : zSt) : Option (Int32 × zSt) := (F_J1_isLatin1 S).bind (fun r => if r.1 = 0 then none else (F_J2_charAt i a1 r.2).bind (fun r2 => chk a1 (sLen.getD i 0) (if r2.1 = sCh i a1.toNatClampNeg then some (r2.1, r2.2) else none)))
theorem cg_J1_charAt (hi : i < 9) (a1 : Int32) : ZgE e mJ1_charAt yJ1_charAt zJg G (fun G' => G' = G) [.ref (e.2.1 i), .int a1] (F_J1_charAt i a1) := by
  refine ZgE_ofF [some (.ref (e.2.1 i)), some (.int a1)] (by decide +kernel) rfl rfl (Nat.le_of_ble_eq_true rfl) rfl (fun X S res hE => ?_)
  unfold F_J1_charAt
  refine zz_aload_n (pc := 0) 0 dJ1_charAt_0 rfl rfl ?_
  refine zz_callEV (pc := 1) hi hE [] [] (cg_J1_isLatin1 hi) rfl mv_J1_isLatin1 q525 rfl (Nat.le_of_ble_eq_true rfl) (Nat.le_of_ble_eq_true rfl) rfl rfl (Nat.le_of_ble_eq_true rfl) dJ1_charAt_1 (fun G1 r S1 _ hK => ?_)
  subst hK
  refine zz_if_eq (pc := 4) 16 dJ1_charAt_4 rfl zz_none ?_
  refine zz_aload_n (pc := 7) 0 dJ1_charAt_7 rfl rfl ?_
  refine zz_getfE (pc := 8) (hE.1.1 i hi).2.2.1 q2173 dJ1_charAt_8 ?_
  refine zz_iload_n (pc := 11) 1 dJ1_charAt_11 rfl rfl ?_
  refine zz_callES (pc := 12) hE [.ref (e.2.2 i), .int a1] [] (cg_J2_charAt hi a1) mv_J2_charAt q529 rfl (Nat.le_of_ble_eq_true rfl) (Nat.le_of_ble_eq_true rfl) rfl rfl (Nat.le_of_ble_eq_true rfl) dJ1_charAt_12 (fun G1 r2 S2 _ hK => ?_)
  subst hK
  refine zz_chk (fun h4 => ?_)
  have hlt : a1.toNatClampNeg < 8 := by
    have h5 : a1.toNatClampNeg < sLen.getD i 0 := Nat.not_le.mp fun q => h4 (Or.inr q)
    have := sLen_lt hi
    omega
  by_cases h5 : r2 = sCh i a1.toNatClampNeg
  · subst h5
    rw [if_pos rfl]
    exact zz_gzret (sCh_ok hi hlt).2 (fun _ => rfl) rfl rfl rfl dJ1_charAt_15 rfl
  · rw [if_neg h5]
    exact zz_none
end
