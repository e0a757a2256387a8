/-! READER.<init> (written by gen/mkrinit.py) -/
set_option maxRecDepth 100000
/-- never a throw -/
def NT {ρ : Type} (f : Option (Option ρ × zSt)) : Prop := ∀ r S', f = some (r, S') → r ≠ none
section
variable {ρ ρ' : Type} {f g : Option (Option ρ × zSt)}
theorem NT_some {v : ρ} {S : zSt} : NT (some (some v, S)) := fun r S' h => by cases h; simp
theorem NT_none : NT (none : Option (Option ρ × zSt)) := fun r S' h => by cases h
theorem NT_if {c : Prop} [Decidable c] (h1 : NT f) (h2 : NT g) : NT (if c then f else g) := by split; exact h1; exact h2
theorem NT_chk {i : Int32} {n : Nat} (h : NT f) : NT (chk i n f) := NT_if NT_none h
theorem NT_let {α : Type} {e : α} {g : α → Option (Option ρ × zSt)} (h : ∀ w, NT (g w)) : NT (zlet e g) := h e
theorem NT_zbR {x : Option (Option ρ' × zSt)} {k : ρ' → zSt → Option (Option ρ × zSt)} (hx : NT x) (h : ∀ v w, NT (k v w)) : NT (zbR x k) := by
  intro r S' hf
  obtain ⟨⟨q, w⟩, h1, h2⟩ := Option.bind_eq_some_iff.mp hf
  cases q with
  | none => exact absurd rfl (hx _ _ h1)
  | some v => exact h v w r S' h2
theorem NT_zbind {α : Type} {x : Option (α × zSt)} {k : α → zSt → Option (Option ρ × zSt)} (h : ∀ v w, NT (k v w)) : NT (zbind x k) := by
  intro r S' hf
  unfold zbind at hf
  obtain ⟨⟨q, w⟩, h1, h2⟩ := Option.bind_eq_some_iff.mp hf
  exact h q w r S' h2
end
theorem NT_isNext (a b : Int32) (S : zSt) : NT (F_X6_isNext a b S) := by
  unfold F_X6_isNext
  exact NT_if NT_some (NT_chk (NT_zbind fun _ _ => NT_if NT_some NT_some))
theorem NT_join {κ ρ : Type} {k : κ} {e : κ → Option (Option ρ × zSt)} (P : κ → Prop) (hk : P k) (he : ∀ j, P j → NT (e j)) : NT (joinK k e) := he k hk
theorem NT_next (S : zSt) : NT (F_X6_next S) := by
  unfold F_X6_next
  refine NT_join (fun k : zSt → Option (Option Unit × zSt) => ∀ S, NT (k S)) (fun S2 => ?_) (fun k1 hk1 => ?_)
  · refine NT_let fun S3 => NT_if (NT_let fun _ => NT_some) (NT_zbR (NT_isNext _ _ _) fun r5 S4 => NT_if (NT_zbR (NT_isNext _ _ _) fun r7 S6 => NT_if (NT_chk (NT_if (NT_let fun _ => NT_let fun _ => NT_some) (NT_let fun _ => NT_let fun _ => NT_some))) (NT_let fun S13 => ?_)) ?_)
    · refine NT_join (fun k : zSt → Option (Option Unit × zSt) => ∀ S, NT (k S)) (fun S15 => NT_let fun _ => NT_some) (fun k14 hk14 => ?_)
      refine z_loopK (fun k : zSt → Option (Option Unit × zSt) => ∀ S, NT (k S)) (fun S => NT_none) (fun j hj S => ?_) zfuel S13
      unfold LB_X6_next_1
      exact NT_zbR (NT_isNext _ _ _) fun _ _ => NT_if (hk14 _) (NT_chk (NT_zbind fun _ _ => NT_let fun _ => NT_let fun _ => hj _))
    · refine NT_join (fun k : zSt → Option (Option Unit × zSt) => ∀ S, NT (k S)) (fun S15 => NT_let fun _ => NT_some) (fun k26 hk26 => ?_)
      refine z_loopK (fun k : zSt → Option (Option Unit × zSt) => ∀ S, NT (k S)) (fun S => NT_none) (fun j hj S => ?_) zfuel S4
      unfold LB_X6_next_2
      exact NT_zbR (NT_isNext _ _ _) fun _ _ => NT_if (hk26 _) (NT_let fun _ => hj _)
  · refine z_loopK (fun k : zSt → Option (Option Unit × zSt) => ∀ S, NT (k S)) (fun S => NT_none) (fun j hj S => ?_) zfuel S
    unfold LB_X6_next_3
    exact NT_if (hk1 _) (NT_chk (NT_join (fun k => NT k) (NT_let fun _ => hj _) (fun j38 h38 => NT_if h38 (NT_chk (NT_if h38 (hk1 _))))))
def zQT (G : zGw) (K : zGw → Prop) (res : Unit × zSt) (A : Nat → Prop) : Array Value → State → Outcome → State → Prop := fun _ st oc t => ∃ G', oc = .returned none ∧ zhp (gT G' res.2) res.2 t t.heap ∧ zap G' ∧ G'.2.2.2 = G.2.2.2 ∧ (∀ k, G'.2.1 k ≠ none → A (G'.1 k)) ∧ K G' ∧ va_F A st t
def zQt2 (M : zMr) (G : zGw) (K : zGw → Prop) : zCx → Unit × zSt → State → Prop := fun X res =>
  MQ X.2.2.2.2.2.2.2.1 (zQT G K res (zA G X.2.2.2.2.1.heap.size)) X.2.2.2.2.2.2.1 X.2.2.2.2.1 M.2.2.2.2.2.1 M.2.2.2.2.2.2.1 (zA G X.2.2.2.2.1.heap.size)
/-- a contract of a grown Reader's world -/
def ZgT (e : zRe) (M : zMr) (y : MethodName) (G : zGw) (K : zGw → Prop) (As : List Value) (F : zSt → Option (Unit × zSt)) : Prop :=
  ∀ (l : Launch) (S : zSt) (res : Unit × zSt) (sz : Nat), l.stackTraces = false → F S = some res → Met l y (zcw M y :: lw_all) (zRm M) (va_Pc As (fun U => U.heap.size = sz ∧ zhp G S U U.heap ∧ zkn G U ∧ zNW U ∧ zap G ∧ zEnv (zA G sz) U U.heap ∧ zER e (zA G sz) U U.heap)) (zQT G K res (zA G sz)) M.2.2.2.2.2.1 M.2.2.2.2.2.2.1 (zA G sz)
theorem ZgT_of {e9 : zRe} {M : zMr} {y : MethodName} {K : zGw → Prop} {G : zGw} {As : List Value} {F : zSt → Option (Unit × zSt)} (ls0 : List (Option Value)) (hy : plainName y.cls = true) (hM : M.1 = y.cls) (hH : M.2.2.2.2.2.2.2 = none) (hlen : (lg_sl As).length ≤ M.2.2.1) (hls : l0 M.2.2.1 (lv_args 0 As) = ls0) (h : ∀ X S res, zER e9 (zA G X.2.2.2.2.1.heap.size) X.2.2.2.2.1 X.2.2.2.2.1.heap → Zz X M (zA G X.2.2.2.2.1.heap.size, y.name) (zQt2 M G K) G (0, 0) res S 0 ls0 [] (F S)) : ZgT e9 M y G K As F := by
  intro l S res sz hfl hF
  have hcw : zcw M y = Cond.code y M.2.1 M.2.2.1 M.2.2.2.1 := by unfold zcw; rw [hH]
  rw [hcw]
  refine Met.ofW (cc := M.2.1) (maxL := M.2.2.1) (ret := M.2.2.2.1) hy rfl ?_
  intro p e s m args below meth c s₁ B hml hv
  obtain ⟨rfl, hsz, hP, hK, hN, hA, hE, hER⟩ := hv
  have hts := atoms_spec (ws := ws_ y M.2.1 M.2.2.1 M.2.2.2.1) B.pre
  have hts : ∀ w ∈ lw_all, w.before As.toArray s = true := fun w h => hts w (List.mem_cons_of_mem _ h)
  have hown : s.vm.findClass M.1 = some m.cls := by rw [hM]; exact findClass_of_methodNamed B.named
  subst hsz
  have hl := lv_entry As (n := M.2.2.1) hlen
  rw [lg_entry_eq]
  generalize (lg_sl As ++ List.replicate (M.2.2.1 - (lg_sl As).length) Slot.unset).toArray = la at hl ⊢
  have hx : zok M G (p, l, e, zRm M, s, m, As.toArray, below, meth, c) := ⟨B.exec, B.bytes, hml, hown, hts, ⟨hN, hE, hfl, by
    obtain ⟨meth9, c9, h1, h2, -, -, -, -, h7, -⟩ := Cond.code_spec B.named (atoms_spec (ws := ws_ y M.2.1 M.2.2.1 M.2.2.2.1) B.pre _ List.mem_cons_self)
    cases Option.some.inj (h1.symm.trans B.method)
    cases Option.some.inj (h2.symm.trans (Stand.of_body B).code)
    rw [Array.isEmpty_iff.mp h7]
    unfold zhh
    rw [hH]
    rfl⟩, B.notSynchronized, B.returns, hK, hA, rfl⟩
  refine h (p, l, e, zRm M, s, m, As.toArray, below, meth, c) S res hER hF hx ⟨fun k hk => Or.inl ⟨k, hk, rfl⟩, fun q hq => Or.inr hq, hE, (name_of_methodNamed B.named B.method).1⟩ s.heap [] la hP ⟨hl.1, hl.2.1, fun i v hi => ?_⟩ va_S.rf
  subst hls
  unfold l0 at hi
  rw [List.getElem?_map] at hi
  obtain ⟨q, hq1, hq2⟩ := Option.map_eq_some_iff.mp hi
  have hq : q = i := by
    have := List.getElem?_eq_some_iff.mp hq1
    obtain ⟨h3, h4⟩ := this
    rw [List.getElem_range] at h4
    exact h4.symm
  subst hq
  exact hl.2.2 (q, v) (List.mem_iff_getElem?.mpr (by
    have : (q, v) ∈ lv_args 0 As := by
      revert hq2
      generalize lv_args 0 As = L
      induction L with
      | nil => intro h; cases h
      | cons a t ih =>
        intro h
        obtain ⟨a1, a2⟩ := a
        rw [List.lookup_cons] at h
        split at h
        · rename_i hb
          have e1 : q = a1 := by simpa using hb
          cases h
          rw [e1]
          exact List.mem_cons_self
        · exact List.mem_cons_of_mem _ (ih h)
    exact List.getElem?_of_mem this))
theorem zt_vret9 {X : zCx} {M : zMr} {G0 G : zGw} {nm : String} {K : zGw → Prop} {cs : Nat × Nat} {S : zSt} {pc : Nat} {ls : List (Option Value)} {res : Unit × zSt} (hr : M.2.2.2.1 = none) (heq : G.2.2.2 = G0.2.2.2) (hK : K G) (d : decode M.2.1 pc = .ok (.return_, 1)) (hc : zcs cs M = true) : Zz X M (zA G0 X.2.2.2.2.1.heap.size, nm) (zQt2 M G0 K) (gT G S) cs res S pc ls [] (some ((), S)) := by
  intro hf ho hA H locs la hp hl hS
  cases hf
  exact W.widen (zcs1 hc) (zcs2 hc) (W.vret ho.1 ho.2.1 (ho.2.2.2.2.2.2.2.1.trans hr) (fun t ht hW => ⟨G, rfl, by rw [ht]; exact zhp_moved hW.alike hp, zap_gTi ho.2.2.2.2.2.2.2.2.2.1, heq, hA.1, hK, hS.F ht⟩) hS.2.2 d ho.2.2.2.2.2.2.1)
section
variable {ρ : Type} {X : zCx} {M : zMr} {A : (Nat → Prop) × String} {Q : zCx → ρ × zSt → State → Prop} {G : zGw} {cs : Nat × Nat} {res : ρ × zSt} {S : zSt} {pc : Nat} {ls : List (Option Value)} {st : List Value} {idx : Nat} {e9 : zRe}
theorem zx_callR {ρ' : Type} {Mc : zMr} {yc : MethodName} {injc : ρ' → Option Value} {Fc : zSt → Option (Option ρ' × zSt)} {k : Option ρ' × zSt → Option (ρ × zSt)} (hNT : ∀ S, NT (Fc S)) (hE : zER e9 A.1 X.2.2.2.2.1 X.2.2.2.2.1.heap) (As rest : List Value) (hct : Zr e9 Mc yc injc G (.ref (G.1 90) :: As) Fc) (hmv : ZV Mc yc As.length) (hl : Cond.methodLink M.1 idx yc ∈ lw_all) (hst : st = As.reverse ++ .ref (G.1 90) :: rest) (h90 : G.2.1 90 = some (.inl 6)) (hMc : Mc.1 = "HiddenCube$Reader") (hd : Mc.2.2.2.2.1 + 1 ≤ M.2.2.2.2.1) (hL : Mc.2.2.1 ≤ 45) (hz : Mc.2.2.2.2.2.2.2 = none) (hq1 : cs.1 + Mc.2.2.2.2.2.1 ≤ M.2.2.2.2.2.1) (hq2 : cs.2 + Mc.2.2.2.2.2.2.1 ≤ M.2.2.2.2.2.2.1) (hcat : (rest.map fun v => v.category).sum ≤ 8) (d : decode M.2.1 pc = .ok (.invokevirtual idx, 3))
    (kk : ∀ r S', Fc S = some (some r, S') → Zz X M A Q (gT G S') cs res S' (pc + 3) ls ((injc r).toList ++ rest) (k (some r, S'))) : Zz X M A Q (gT G S) cs res S pc ls st ((Fc S).bind k) := by
  intro hf ho hA H locs la hp hl1 hS
  obtain ⟨⟨r, S'⟩, hF, hf2⟩ := Option.bind_eq_some_iff.mp hf
  obtain ⟨p, l, e, R, s, m, args, below, meth, c⟩ := X
  have hR : R = zRm M := ho.2.2.2.2.2.2.2.2.2.2
  subst hR
  have hcwc : zcw Mc yc = Cond.code yc Mc.2.1 Mc.2.2.1 Mc.2.2.2.1 := by unfold zcw; rw [hz]
  have hctl := hct l S (r, S') H.size ho.2.2.2.2.2.1.2.2.1 hF
  rw [hcwc] at hctl
  subst hst
  obtain ⟨m1, m2, m3, m4, m5, m6, m7, m8⟩ := hmv
  have hob := zhp_obj hp (show (gT G S).2.1 90 = some (.inl 6) from h90) (show zcl[6]? = some (RX6, TX6, 7) from rfl)
  have hkn := ho.2.2.2.2.2.2.2.2.1
  have hrec : ∃ cell : Cell, H[G.1 90]? = some cell ∧ cell.vm.isStatics = false ∧ s.vm.findClass Mc.1 = some cell.cls := by
    obtain ⟨cell, g1, g2, g3, -⟩ := hob
    exact ⟨cell, g1, by rw [g3]; rfl, by rw [g2, hMc]; exact (hkn 6 _ rfl).2.1⟩
  have hrun := vy_runV (p := p) (l := l) (e := e) (R := zRm M) (s := s) (m := m) (args := args) (below := below) (meth := meth) (c := c) (H := H) (locs := locs) (cells := cs.1) (slots := cs.2) (g := F0 m pc la (As.reverse ++ .ref (G.1 90) :: rest)) (As := As) (rest := rest) ⟨ho.1, ho.2.1, ho.2.2.1, ho.2.2.2.1, ho.2.2.2.2.1⟩ hctl (cwV As.length ho.2.2.2.2.1 (lw_V hl m1 m2 m3 m4) rfl rfl rfl ⟨m5, m6, m7, m8⟩ (z_room hd hL)) ⟨zE_blind, hrec, zE_pre hA hp hkn ho.2.2.2.2.2.1.1 ho.2.2.2.2.2.2.2.2.2.1 hS hE⟩ rfl rfl hl1.1 rfl (lv_room hcat) d ⟨hq1, hq2⟩
  have hsub : ∀ q, zA G H.size q → A.1 q := fun q hq => zAok_sub (zAok_gTi hA) hS.1 hq
  have hmove : ∀ {T' t : State} {L : List Loc}, T'.heap = t.heap → H.size ≤ t.heap.size → (∀ q : Nat, q < H.size → ¬ zA G H.size q → t.heap[q]? = H[q]?) → (∀ q ∈ L, zA G H.size q.base) → va_S A.1 s.heap T'.heap (locs ++ L) := fun e1 hF1 hF2 hL => ⟨Nat.le_trans hS.1 (by rw [e1]; exact hF1), fun q h1 h2 => by
      rw [e1, hF2 q (Nat.lt_of_lt_of_le h1 hS.1) (fun z => h2 (hsub q z))]
      exact hS.2.1 q h1 h2, fun q hq => by
      rcases List.mem_append.mp hq with h | h
      · exact hS.2.2 q h
      · exact hsub _ (hL q h)⟩
  intro T hT XX
  rcases hrun T hT XX with ⟨v, st₀, t, T', L, h0, X', hL, e1, e2, ⟨v', hr, hv, hz', hF1, hF2⟩, stp⟩ | ⟨q, st₀, t, T', L, E, ce, h0, X', hL, e1, e2, ⟨hr, hEq, ⟨G', hKX, hq, hz', hap, hAd⟩, hF1, hF2⟩, hce, hcv, hcl, stp⟩
  · cases hv
    have hr : r = some v' := hr
    subst hr
    rw [h0] at hF1 hF2
    have hal : t.vm.Alike s.vm := by rw [← e2]; exact X'.warmed.alike.symm
    obtain ⟨t2, a1, b1⟩ := kk v' S' hF hf2 (zok_gTo (zok_gTi ho)) (zAok_gTo (zAok_gTi hA)) T'.heap (locs ++ L) la (by rw [e1]; exact zhp_moved hal hz') hl1 (hmove e1 hF1 hF2 hL) T' rfl X'
    exact ⟨t2, stp t2 a1, b1⟩
  · have hr : r = none := hr
    exact absurd hr (hNT S r S' hF)
end
theorem zrfC_lo {q : Nat × Nat × Nat} (h : q ∈ zrfC) : q.1 < 44 := by
  have h0 : ∀ q ∈ zrfC, q.1 < 44 := by decide +kernel
  exact h0 q h
theorem zGC_gA {G : zGw} {k a : Nat} {w : zCell} (hk : 44 ≤ k) (h : zGC G) : zGC (gA G k a w) := ⟨fun j hj => by
  rw [gA_ne (by omega)]
  exact h.1 j hj, fun q hq => by
  have e : q.1 ≠ k := by have := zrfC_lo hq; omega
  show (if q.1 = k then none else G.2.2.1 q.1 q.2.1) = _
  rw [if_neg e]
  exact h.2 q hq⟩
theorem zGC_gR {G : zGw} {k i : Nat} {r : Option Nat} (hk : 44 ≤ k) (h : zGC G) : zGC (gR G k i r) := ⟨h.1, fun q hq => by
  have e : q.1 ≠ k := by have := zrfC_lo hq; omega
  show (if q.1 = k then (if q.2.1 = i then r else G.2.2.1 q.1 q.2.1) else G.2.2.1 q.1 q.2.1) = _
  rw [if_neg e]
  exact h.2 q hq⟩
/-- the Reader's world made -/
def gRd (G : zGw) (a b0 b1 b2 b3 b4 b5 : Nat) : zGw := gR (gX1_init_80 (gA (gR G 90 6 (some 0)) 80 a (.inl 1)) b0 b1 b2 b3 b4 b5) 90 1 (some 80)
/-- what Reader.<init> asks -/
def zGi (e : zRe) (G : zGw) : Prop := zGC G ∧ zcd G ∧ G.2.1 90 = some (.inl 6) ∧ (∀ i, i < 5 → G.1 (110 + i) = e.1 i) ∧ (∀ k, 80 ≤ k → k ≠ 90 → G.2.1 k = none)
theorem zGR_gRd {e : zRe} {G : zGw} {a b0 b1 b2 b3 b4 b5 : Nat} (h : zGi e G) : zGR e (gRd G a b0 b1 b2 b3 b4 b5) := by
  obtain ⟨h1, h2, h3, h4, h5⟩ := h
  have hc1 : zcd (gR G 90 6 (some 0)) := zcd_gR (fun x hx => by cases hx; rw [zGC_s0 h1]; simp) h2
  have hc2 : zcd (gA (gR G 90 6 (some 0)) 80 a (.inl 1)) := zcd_gA hc1
  have hc3 : zcd (gX1_init_80 (gA (gR G 90 6 (some 0)) 80 a (.inl 1)) b0 b1 b2 b3 b4 b5) := zcd_X1_init_80 hc2 rfl (h5 81 (by decide) (by decide)) (h5 82 (by decide) (by decide)) (h5 83 (by decide) (by decide)) (h5 84 (by decide) (by decide)) (h5 85 (by decide) (by decide)) (h5 86 (by decide) (by decide)) _ _ _ _ _ _
  refine ⟨?_, zcd_gR (fun x hx => by cases hx; show (some (Sum.inl 1) : Option zCell) ≠ none; simp) hc3, ⟨rfl, rfl, rfl, rfl, rfl, rfl, rfl, rfl, rfl, rfl, rfl, rfl, rfl⟩, h3, rfl, rfl, fun i hi => ?_, h5 98 (by decide) (by decide), h5 99 (by decide) (by decide), h5 100 (by decide) (by decide)⟩
  · exact zGC_gR (by decide) (zGC_gR (by decide) (zGC_gA (by decide) (zGC_gR (by decide) (zGC_gA (by decide) (zGC_gR (by decide) (zGC_gA (by decide) (zGC_gR (by decide) (zGC_gA (by decide) (zGC_gR (by decide) (zGC_gA (by decide) (zGC_gR (by decide) (zGC_gA (by decide) (zGC_gA (by decide) (zGC_gR (by decide) h1))))))))))))))
  · match i, hi with
    | 0, _ => exact h4 0 (by decide)
    | 1, _ => exact h4 1 (by decide)
    | 2, _ => exact h4 2 (by decide)
    | 3, _ => exact h4 3 (by decide)
    | 4, _ => exact h4 4 (by decide)
    | n + 5, hn => omega
abbrev mX6_init : zMr := ("HiddenCube$Reader", cX6_init, 2, none, 9, 8, 114, none)
def F_X6_init (S : zSt) : Option (Unit × zSt) := (F_X1_init_80 (sZ (sI S 90 0 (S.1 0 2)) 80)).bind (fun r1 => (F_X6_next (sI r1.2 90 5 0)).bind (fun r2 => some ((), r2.2)))
theorem mv_X6_init : ZI mX6_init yX6_init 1 := ⟨q440, q156, q441, rfl, rfl, by decide, by decide, by decide +kernel⟩
theorem cg_X6_init {G : zGw} {e9 : zRe} (hG : zGi e9 G) : ZgT e9 mX6_init yX6_init G (fun G' => ∃ a b0 b1 b2 b3 b4 b5, G' = gRd G a b0 b1 b2 b3 b4 b5) [.ref (G.1 90), .ref (G.1 0)] F_X6_init := by
  obtain ⟨h1, h2, h3, h4, h5⟩ := id hG
  have h0 := zGC_s0 h1
  have hc1 : zcd (gR G 90 6 (some 0)) := zcd_gR (fun x hx => by cases hx; rw [h0]; simp) h2
  refine ZgT_of [some (.ref (G.1 90)), some (.ref (G.1 0))] (by decide) rfl rfl (Nat.le_of_ble_eq_true rfl) rfl (fun X S res hE => ?_)
  unfold F_X6_init
  refine zz_aload_n (pc := 0) 0 dX6_init_0 rfl rfl ?_
  refine zz_aload_n (pc := 1) 1 dX6_init_1 rfl rfl ?_
  refine zz_putR (pc := 2) tyX6 90 6 6 0 h3 rfl in_X6 tyX6_ok (fun b hb9 hbj => nmX6 _ (by decide) b hb9 (Ne.symm hbj)) (by decide) q474 (by first | exact Or.inl rfl | exact Or.inr ⟨rfl, rfl, rfl⟩) rfl rfl dX6_init_2 ?_
  refine zz_aload_n (pc := 5) 0 dX6_init_5 rfl rfl ?_
  refine zz_objInit (pc := 6) (kp := 90) q442 zq_oi1 zq_oi2 (Nat.le_of_ble_eq_true rfl) (Nat.le_of_ble_eq_true rfl) dX6_init_6 ?_
  refine zz_aload_n (pc := 9) 0 dX6_init_9 rfl rfl ?_
  refine zz_aload_n (pc := 10) 0 dX6_init_10 rfl rfl ?_
  refine zz_get (pc := 11) (v := .ref (G.1 0)) 90 6 6 h3 rfl in_X6 (by decide) q474 rfl dX6_init_11 ?_
  refine zz_getN (pc := 14) (v := .int (S.1 0 2)) 0 0 2 h0 rfl in_X0 (by decide) (List.mem_of_getElem? (i := 29) rfl) rfl dX6_init_14 ?_
  refine zz_putIF (pc := 17) tyX6 90 6 0 h3 rfl in_X6 tyX6_ok (fun b hb9 hbj => nmX6 _ (by decide) b hb9 (Ne.symm hbj)) (by decide) q468 (by first | exact Or.inl rfl | exact Or.inr ⟨rfl, rfl, rfl⟩) rfl rfl dX6_init_17 ?_
  refine zz_aload_n (pc := 20) 0 dX6_init_20 rfl rfl ?_
  refine zz_new (pc := 21) (ci := 1) (C := RX1) (T := TX1) (N := 11) (N' := 11) (1, 11) 80 hc1 (h5 80 (by decide) (by decide)) tyX1 rfl in_X1 tyX1_ok rfl (by decide) q443 q184 q151 rfl rfl dX6_init_21 (fun a => ?_)
  refine zz_dup (pc := 24) dX6_init_24 rfl ?_
  have ct := cg_X1_init_80 (G := gA (gR G 90 6 (some 0)) 80 a (.inl 1)) (zcd_gA hc1) rfl (h5 81 (by decide) (by decide)) (h5 82 (by decide) (by decide)) (h5 83 (by decide) (by decide)) (h5 84 (by decide) (by decide)) (h5 85 (by decide) (by decide)) (h5 86 (by decide) (by decide))
  refine zz_callGN (pc := 25) (idx := 24) (M := mX6_init) (7, 106) _ _ 80 ct mv_X1_init_80 (List.mem_of_getElem? (i := 6) rfl) rfl (Nat.le_of_ble_eq_true rfl) (Nat.le_of_ble_eq_true rfl) rfl rfl rfl (Nat.le_of_ble_eq_true rfl) dX6_init_25 (fun G1 r1 S1 hK => ?_)
  obtain ⟨b0, b1, b2, b3, b4, b5, rfl⟩ := hK
  refine zz_putR (pc := 28) tyX6 90 6 1 80 h3 rfl in_X6 tyX6_ok (fun b hb9 hbj => nmX6 _ (by decide) b hb9 (Ne.symm hbj)) (by decide) q469 (by first | exact Or.inl rfl | exact Or.inr ⟨rfl, rfl, rfl⟩) rfl rfl dX6_init_28 ?_
  have hR := zGR_gRd (a := a) (b0 := b0) (b1 := b1) (b2 := b2) (b3 := b3) (b4 := b4) (b5 := b5) hG
  have key : ∀ Gx : zGw, zGR e9 Gx → Gx.2.2.2 = G.2.2.2 → (∃ a b0 b1 b2 b3 b4 b5, Gx = gRd G a b0 b1 b2 b3 b4 b5) → Gx.1 90 = G.1 90 → Zz X mX6_init (zA G X.2.2.2.2.1.heap.size, yX6_init.name) (zQt2 mX6_init G (fun G' => ∃ a b0 b1 b2 b3 b4 b5, G' = gRd G a b0 b1 b2 b3 b4 b5)) Gx (7, 106) res S1 31 [some (.ref (G.1 90)), some (.ref (G.1 0))] [] ((F_X6_next (sI S1 90 5 0)).bind (fun r2 => some ((), r2.2))) := by
    intro Gx hx heq hK h90
    rw [← h90]
    refine zz_aload_n (pc := 31) 0 dX6_init_31 rfl rfl ?_
    refine zr_getsTok (pc := 32) 0 (by decide) hE q445 dX6_init_32 ?_
    rw [← hx.2.2.2.2.2.2.1 0 (by decide)]
    refine zz_putO (pc := 35) tyX6 90 6 5 (some 110) hx.2.2.2.1 rfl in_X6 tyX6_ok (fun b hb9 hbj => nmX6 5 (by decide) b hb9 (Ne.symm hbj)) (by decide) q473 (Or.inl rfl) rfl rfl dX6_init_35 ?_
    have hw : gR Gx 90 5 (some 110) = gT Gx (sI S1 90 5 0) := rfl
    rw [hw]
    have key2 : Zz X mX6_init (zA G X.2.2.2.2.1.heap.size, yX6_init.name) (zQt2 mX6_init G (fun G' => ∃ a b0 b1 b2 b3 b4 b5, G' = gRd G a b0 b1 b2 b3 b4 b5)) (gT Gx (sI S1 90 5 0)) (7, 106) res (sI S1 90 5 0) 38 [some (.ref (Gx.1 90)), some (.ref (G.1 0))] [] ((F_X6_next (sI S1 90 5 0)).bind (fun r2 => some ((), r2.2))) := by
      refine zz_aload_n (pc := 38) 0 dX6_init_38 rfl rfl ?_
      refine zx_callR (pc := 39) NT_next hE _ _ (cr_X6_next hx) mv_X6_next q447 rfl hx.2.2.2.1 rfl (Nat.le_of_ble_eq_true rfl) (Nat.le_of_ble_eq_true rfl) rfl (Nat.le_of_ble_eq_true rfl) (Nat.le_of_ble_eq_true rfl) (Nat.le_of_ble_eq_true rfl) dX6_init_39 (fun u S2 hF => ?_)
      exact zt_vret9 rfl heq hK dX6_init_42 rfl
    intro hf ho hA H locs la hp hl1 hS
    exact key2 hf ho hA H locs la (zhp_tok hx.2.2.2.1 hp) hl1 hS
  exact key (gRd G a b0 b1 b2 b3 b4 b5) hR rfl ⟨a, b0, b1, b2, b3, b4, b5, rfl⟩ rfl
