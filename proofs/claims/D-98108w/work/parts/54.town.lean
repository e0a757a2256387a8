/-! HIDDENCUBE.town (written by gen/mktown.py) -/
set_option maxRecDepth 100000
theorem ZgE_ofW {e9 : zRe} {ρ : Type} {M : zMr} {y : MethodName} {inj : ρ → zGw → Option Value} {K : zGw → Prop} {G : zGw} {As : List Value} {F : zSt → Option (ρ × zSt)} (ls0 : List (Option Value)) (hy : plainName y.cls = true) (hM : M.1 = y.cls) (hh : List (Nat × Nat × Nat × Nat)) (hH : M.2.2.2.2.2.2.2 = some hh) (hlen : (lg_sl As).length ≤ M.2.2.1) (hls : l0 M.2.2.1 (lv_args 0 As) = ls0) (h : ∀ X S res, zER e9 (zA G X.2.2.2.2.1.heap.size) X.2.2.2.2.1 X.2.2.2.2.1.heap → Zz X M (zA G X.2.2.2.2.1.heap.size, y.name) (zQg inj M G K) G (0, 0) res S 0 ls0 [] (F S)) : ZgE e9 M y inj G K As F := by
  intro l S res sz hfl hF
  have hcw : zcw M y = Cond.codeWith y M.2.1 M.2.2.1 M.2.2.2.1 hh := by unfold zcw; rw [hH]
  rw [hcw]
  refine va_MetW (cc := M.2.1) (maxL := M.2.2.1) (ret := M.2.2.2.1) hy rfl ?_
  intro p e s m args below meth c s₁ B hml hv
  obtain ⟨rfl, hsz, hP, hK, hN, hA, hE, hER⟩ := hv
  have hts := atoms_spec (ws := wsW_ y M.2.1 M.2.2.1 M.2.2.2.1 hh) B.pre
  have hts : ∀ w ∈ lw_all, w.before As.toArray s = true := fun w h => hts w (List.mem_cons_of_mem _ h)
  have hown : s.vm.findClass M.1 = some m.cls := by rw [hM]; exact findClass_of_methodNamed B.named
  subst hsz
  have hl := lv_entry As (n := M.2.2.1) hlen
  rw [lg_entry_eq]
  generalize (lg_sl As ++ List.replicate (M.2.2.1 - (lg_sl As).length) Slot.unset).toArray = la at hl ⊢
  have hx : zok M G (p, l, e, zRm M, s, m, As.toArray, below, meth, c) := ⟨B.exec, B.bytes, hml, hown, hts, ⟨hN, hE, hfl, by
    unfold zhh
    rw [hH]
    exact vx_table (x := y) B (atoms_spec (ws := wsW_ y M.2.1 M.2.2.1 M.2.2.2.1 hh) B.pre _ List.mem_cons_self)⟩, B.notSynchronized, B.returns, hK, hA, rfl⟩
  refine h (p, l, e, zRm M, s, m, As.toArray, below, meth, c) S res hER hF hx ⟨fun k hk => Or.inl ⟨k, hk, rfl⟩, fun q hq => Or.inr hq, hE, (name_of_methodNamed B.named B.method).1⟩ s.heap [] la hP ⟨hl.1, hl.2.1, fun i v hi => ?_⟩ va_S.rf
  subst hls
  unfold l0 at hi
  rw [List.getElem?_map] at hi
  obtain ⟨q, hq1, hq2⟩ := Option.map_eq_some_iff.mp hi
  have hq : q = i := by
    have := List.getElem?_eq_some_iff.mp hq1
    obtain ⟨h3, h4⟩ := this
    rw [List.getElem_range] at h4
    exact h4.symm
  subst hq
  exact hl.2.2 (q, v) (List.mem_iff_getElem?.mpr (by
    have : (q, v) ∈ lv_args 0 As := by
      revert hq2
      generalize lv_args 0 As = L
      induction L with
      | nil => intro h; cases h
      | cons a t ih =>
        intro h
        obtain ⟨a1, a2⟩ := a
        rw [List.lookup_cons] at h
        split at h
        · rename_i hb
          have e1 : q = a1 := by simpa using hb
          cases h
          rw [e1]
          exact List.mem_cons_self
        · exact List.mem_cons_of_mem _ (ih h)
    exact List.getElem?_of_mem this))

theorem zz_afterT {p : Program} {l : Launch} {e : Env} {R : Room} {s : State} {m : MethodId} {args : Array Value} {below : List Frame} {meth : Method} {c : Code} {H : Heap} {locs : List Loc} {Q : State → Prop} {pc : Nat} {la : Array Slot} {rest st : List Value} {a : Array Value} {A : (Nat → Prop) × String} {G : zGw} {Kc : zGw → Prop} {S' : zSt} {cells slots mc ms : Nat}
    (hA : zAok A G (p, l, e, R, s, m, args, below, meth, c)) (hr : va_Run p l e R s m args below meth c H locs cells slots mc ms (F0 m pc la st) rest (zQT G Kc ((), S') (zA G H.size) a) (zA G H.size)) (hS : va_S A.1 s.heap H locs)
    (kk : ∀ (G' : zGw) (H1 : Heap) (locs1 : List Loc), Kc G' → zAok A G' (p, l, e, R, s, m, args, below, meth, c) → G'.2.2.2 = G.2.2.2 → zap G' → zhp (gT G' S') S' s H1 → va_S A.1 s.heap H1 locs1 → W p l e R s m args below meth c H1 locs1 (cells + mc) (slots + ms) Q (F0 m (pc + 3) la rest)) : W p l e R s m args below meth c H locs cells slots Q (F0 m pc la st) := by
  intro T hT X
  obtain ⟨v, st₀, t, T', L, h0, X', hL, e1, e2, ⟨G', hv, hz, hap, heq, hAd, hK, hF1, hF2⟩, stp⟩ := hr T hT X
  cases hv
  rw [h0] at hF1 hF2
  have hsub : ∀ q, zA G H.size q → A.1 q := fun q hq => zAok_sub hA hS.1 hq
  have hal : t.vm.Alike s.vm := by rw [← e2]; exact X'.warmed.alike.symm
  obtain ⟨t2, a1, b1⟩ := kk G' T'.heap (locs ++ L) hK ⟨fun k hk => hsub _ (hAd k hk), hA.2.1, hA.2.2.1, hA.2.2.2⟩ heq hap (by rw [e1]; exact zhp_moved hal hz) ⟨Nat.le_trans hS.1 (by rw [e1]; exact hF1), fun q h1 h2 => by
      rw [e1, hF2 q (Nat.lt_of_lt_of_le h1 hS.1) (fun z => h2 (hsub q z))]
      exact hS.2.1 q h1 h2, fun q hq => by
      rcases List.mem_append.mp hq with h | h
      · exact hS.2.2 q h
      · exact hsub _ (hL q h)⟩ T' rfl X'
  exact ⟨t2, stp t2 a1, b1⟩
section
variable {ρ : Type} {X : zCx} {M : zMr} {A : (Nat → Prop) × String} {Q : zCx → ρ × zSt → State → Prop} {G : zGw} {cs : Nat × Nat} {res : ρ × zSt} {S : zSt} {pc : Nat} {ls : List (Option Value)} {st : List Value} {Mc : zMr} {yc : MethodName} {Kc : zGw → Prop} {Fc : zSt → Option (Unit × zSt)} {k : Unit × zSt → Option (ρ × zSt)} {idx : Nat} {e9 : zRe}
theorem zz_callGT (hE : zER e9 A.1 X.2.2.2.2.1 X.2.2.2.2.1.heap) (cs' : Nat × Nat) (As rest : List Value) (kp : Nat) (hct : ZgT e9 Mc yc G Kc (.ref (G.1 kp) :: As) Fc) (hmv : ZI Mc yc As.length) (hl : Cond.methodLink M.1 idx yc ∈ lw_all) (hst : st = As.reverse ++ .ref (G.1 kp) :: rest) (hd : Mc.2.2.2.2.1 + 1 ≤ M.2.2.2.2.1) (hL : Mc.2.2.1 ≤ 45) (hz : Mc.2.2.2.2.2.2.2 = none) (hcs : (cs.1 + Mc.2.2.2.2.2.1, cs.2 + Mc.2.2.2.2.2.2.1) = cs') (hq : zcs cs' M = true) (hcat : (rest.map fun v => v.category).sum ≤ 8) (d : decode M.2.1 pc = .ok (.invokespecial idx, 3))
    (kk : ∀ G' S', Kc G' → Zz X M A Q (gT G' S') cs' res S' (pc + 3) ls rest (k ((), S'))) : Zz X M A Q G cs res S pc ls st ((Fc S).bind k) := by
  subst hcs
  intro hf ho hA H locs la hp hl1 hS
  obtain ⟨⟨⟨⟩, S'⟩, hF, hf2⟩ := Option.bind_eq_some_iff.mp hf
  obtain ⟨p, l, e, R, s, m, args, below, meth, c⟩ := X
  have hR : R = zRm M := ho.2.2.2.2.2.2.2.2.2.2
  subst hR
  have hcwc : zcw Mc yc = Cond.code yc Mc.2.1 Mc.2.2.1 Mc.2.2.2.1 := by unfold zcw; rw [hz]
  have hctl := hct l S ((), S') H.size ho.2.2.2.2.2.1.2.2.1 hF
  rw [hcwc] at hctl
  subst hst
  obtain ⟨m1, m2, m3, m4, m4b, m5, m6, m7⟩ := hmv
  have hts := ho.2.2.2.2.1
  rw [m4b] at hctl m3
  have hkn := ho.2.2.2.2.2.2.2.2.1
  refine zz_afterT hA (va_runI (As := As) (rest := rest) ⟨ho.1, ho.2.1, ho.2.2.1, ho.2.2.2.1, hts⟩ hctl (cwI As.length hts (lw_meth m3) rfl rfl rfl (hts _ m2) (hts _ hl) (hts _ m1) m4 ⟨m5, m6, m7⟩ (z_room hd hL)) ⟨zE_blind, zE_pre hA hp hkn ho.2.2.2.2.2.1.1 ho.2.2.2.2.2.2.2.2.2.1 hS hE⟩ rfl rfl hl1.1 rfl (lv_room hcat) d ⟨zcs1 hq, zcs2 hq⟩) hS ?_
  intro G' H1 locs1 hK hA' heq hap hp1 hS1
  exact kk G' S' hK hf2 (zok_gTo (zok_to ho hA' heq hap)) (zAok_gTo hA') H1 locs1 la hp1 hl1 hS1
end
section
variable {ρ : Type} {X : zCx} {M : zMr} {A : (Nat → Prop) × String} {Q : zCx → ρ × zSt → State → Prop} {G : zGw} {cs : Nat × Nat} {res : ρ × zSt} {S : zSt} {pc : Nat} {ls : List (Option Value)} {st : List Value} {idx : Nat} {e9 : zRe}
theorem zx_callRH {ρ' : Type} {Mc : zMr} {yc : MethodName} {injc : ρ' → Option Value} {Fc : zSt → Option (Option ρ' × zSt)} {k : Option ρ' × zSt → Option (ρ × zSt)} (cs' : Nat × Nat) (hE : zER e9 A.1 X.2.2.2.2.1 X.2.2.2.2.1.heap) (As rest : List Value) (hct : Zr e9 Mc yc injc G (.ref (G.1 90) :: As) Fc) (hmv : ZV Mc yc As.length) (hl : Cond.methodLink M.1 idx yc ∈ lw_all) (hst : st = As.reverse ++ .ref (G.1 90) :: rest) (h90 : G.2.1 90 = some (.inl 6)) (hMc : Mc.1 = "HiddenCube$Reader") (hd : Mc.2.2.2.2.1 + 1 ≤ M.2.2.2.2.1) (hL : Mc.2.2.1 ≤ 45) (hz : Mc.2.2.2.2.2.2.2 = none) (hcs : (cs.1 + Mc.2.2.2.2.2.1, cs.2 + Mc.2.2.2.2.2.2.1) = cs') (hq : zcs cs' M = true) (hcat : (rest.map fun v => v.category).sum ≤ 8) (d : decode M.2.1 pc = .ok (.invokevirtual idx, 3))
    (pre : List ExceptionTableEntry) (x : ExceptionTableEntry) (suf : List ExceptionTableEntry) (hsp : tableOf (zhh M) = pre ++ x :: suf) (hpass : ∀ z ∈ pre, covers z pc = false) (hx : covers x pc = true) (h0 : x.catchType ≠ 0) (hlink : Cond.classLink M.1 x.catchType "HiddenCube$Fault" ∈ lw_all)
    (kk : ∀ r S', Fc S = some (some r, S') → Zz X M A Q (gT G S') cs res S' (pc + 3) ls ((injc r).toList ++ rest) (k (some r, S')))
    (kk2 : ∀ G' S', Fc S = some (none, S') → zKX G G' → Zz X M A Q G' cs' res S' x.handlerPc ls [.ref (G'.1 98)] (k (none, S'))) : Zz X M A Q (gT G S) cs res S pc ls st ((Fc S).bind k) := by
  subst hcs
  intro hf ho hA H locs la hp hl1 hS
  obtain ⟨⟨r, S'⟩, hF, hf2⟩ := Option.bind_eq_some_iff.mp hf
  obtain ⟨p, l, e, R, s, m, args, below, meth, c⟩ := X
  have hR : R = zRm M := ho.2.2.2.2.2.2.2.2.2.2
  subst hR
  have hcwc : zcw Mc yc = Cond.code yc Mc.2.1 Mc.2.2.1 Mc.2.2.2.1 := by unfold zcw; rw [hz]
  have hctl := hct l S (r, S') H.size ho.2.2.2.2.2.1.2.2.1 hF
  rw [hcwc] at hctl
  subst hst
  obtain ⟨m1, m2, m3, m4, m5, m6, m7, m8⟩ := hmv
  have hob := zhp_obj hp (show (gT G S).2.1 90 = some (.inl 6) from h90) (show zcl[6]? = some (RX6, TX6, 7) from rfl)
  have hkn := ho.2.2.2.2.2.2.2.2.1
  have hrec : ∃ cell : Cell, H[G.1 90]? = some cell ∧ cell.vm.isStatics = false ∧ s.vm.findClass Mc.1 = some cell.cls := by
    obtain ⟨cell, g1, g2, g3, -⟩ := hob
    exact ⟨cell, g1, by rw [g3]; rfl, by rw [g2, hMc]; exact (hkn 6 _ rfl).2.1⟩
  have hrun := vy_runV (p := p) (l := l) (e := e) (R := zRm M) (s := s) (m := m) (args := args) (below := below) (meth := meth) (c := c) (H := H) (locs := locs) (cells := cs.1) (slots := cs.2) (g := F0 m pc la (As.reverse ++ .ref (G.1 90) :: rest)) (As := As) (rest := rest) ⟨ho.1, ho.2.1, ho.2.2.1, ho.2.2.2.1, ho.2.2.2.2.1⟩ hctl (cwV As.length ho.2.2.2.2.1 (lw_V hl m1 m2 m3 m4) rfl rfl rfl ⟨m5, m6, m7, m8⟩ (z_room hd hL)) ⟨zE_blind, hrec, zE_pre hA hp hkn ho.2.2.2.2.2.1.1 ho.2.2.2.2.2.2.2.2.2.1 hS hE⟩ rfl rfl hl1.1 rfl (lv_room hcat) d ⟨zcs1 hq, zcs2 hq⟩
  have hsub : ∀ q, zA G H.size q → A.1 q := fun q hq => zAok_sub (zAok_gTi hA) hS.1 hq
  have hmove : ∀ {T' t : State} {L : List Loc}, T'.heap = t.heap → H.size ≤ t.heap.size → (∀ q : Nat, q < H.size → ¬ zA G H.size q → t.heap[q]? = H[q]?) → (∀ q ∈ L, zA G H.size q.base) → va_S A.1 s.heap T'.heap (locs ++ L) := fun e1 hF1 hF2 hL => ⟨Nat.le_trans hS.1 (by rw [e1]; exact hF1), fun q h1 h2 => by
      rw [e1, hF2 q (Nat.lt_of_lt_of_le h1 hS.1) (fun z => h2 (hsub q z))]
      exact hS.2.1 q h1 h2, fun q hq => by
      rcases List.mem_append.mp hq with h | h
      · exact hS.2.2 q h
      · exact hsub _ (hL q h)⟩
  intro T hT XX
  rcases hrun T hT XX with ⟨v, st₀, t, T', L, h0, X', hL, e1, e2, ⟨v', hr, hv, hz', hF1, hF2⟩, stp⟩ | ⟨q, st₀, t, T', L, E, ce, h0', X', hL, e1, e2, ⟨hr, hEq, ⟨G', hKX, hq9, hz', hap, hAd⟩, hF1, hF2⟩, hce, hcv, hcl, stp⟩
  · cases hv
    have hr : r = some v' := hr
    subst hr
    rw [h0] at hF1 hF2
    have hal : t.vm.Alike s.vm := by rw [← e2]; exact X'.warmed.alike.symm
    obtain ⟨t2, a1, b1⟩ := kk v' S' hF hf2 (zok_gTo (zok_gTi ho)) (zAok_gTo (zAok_gTi hA)) T'.heap (locs ++ L) la (by rw [e1]; exact zhp_moved hal hz') hl1 (hmove e1 hF1 hF2 hL) T' rfl X'
    exact ⟨t2, stp t2 a1, b1⟩
  · have hr : r = none := hr
    subst hr
    rw [h0'] at hF1 hF2
    have hal : t.vm.Alike s.vm := by rw [← e2]; exact X'.warmed.alike.symm
    subst hEq
    subst hq9
    have heq : G'.2.2.2 = G.2.2.2 := by
      obtain ⟨a9, t19, t29, S19, rfl⟩ := hKX
      rfl
    have hA' : zAok A G' (p, l, e, zRm M, s, m, args, below, meth, c) := ⟨fun j hj => hsub _ (hAd j hj), hA.2.1, hA.2.2.1, hA.2.2.2⟩
    have ho' := zok_to (zok_gTi ho) hA' heq hap
    obtain ⟨t2, a1, b1⟩ := vx_catch (own := M.1) (name := "HiddenCube$Fault") ho.2.2.2.1 pre x suf (ho.2.2.2.2.2.1.2.2.2.trans hsp) (fun z hz9 => Or.inl (hpass z hz9)) hx h0 (ho.2.2.2.2.1 _ hlink) ((ho.2.2.2.2.2.1.1.2.2.2.1 ("HiddenCube$Fault", "HiddenCube$Fault") (List.mem_of_getElem? (i := 5) rfl)).use rfl) (by rw [e1]; exact hce) hcv hcl (kk2 G' S' hF hKX hf2 ho' hA' T'.heap (locs ++ L) la (by rw [e1]; exact zhp_moved hal hz') hl1 (hmove e1 hF1 hF2 hL)) T' rfl X'
    exact ⟨t2, stp.trans a1, b1⟩
end
/-- a world as the canonical one below place 80 -/
def loW (G : zGw) (ad : Nat → Nat) (V : zSV) (I : Nat → Bool) : Prop := ∀ k, k < 80 → G.1 k = ad k ∧ G.2.1 k = cSh V I k ∧ ∀ i, G.2.2.1 k i = cRf V I k i
section
variable {G : zGw} {ad : Nat → Nat} {V : zSV} {I : Nat → Bool} {D : va_G}
theorem lo_gA {k a : Nat} {w : zCell} (hk : 80 ≤ k) (h : loW G ad V I) : loW (gA G k a w) ad V I := fun j hj => by
  have e : j ≠ k := by omega
  obtain ⟨h1, h2, h3⟩ := h j hj
  exact ⟨(gA_ad e).trans h1, (gA_ne e).trans h2, fun i => (if_neg e).trans (h3 i)⟩
theorem lo_gP {k a : Nat} (hk : 80 ≤ k) (h : loW G ad V I) : loW (gP G k a) ad V I := fun j hj => by
  have e : j ≠ k := by omega
  obtain ⟨h1, h2, h3⟩ := h j hj
  exact ⟨(gP_ad e).trans h1, h2, h3⟩
theorem lo_gR {k i : Nat} {r : Option Nat} (hk : 80 ≤ k) (h : loW G ad V I) : loW (gR G k i r) ad V I := fun j hj => by
  have e : j ≠ k := by omega
  obtain ⟨h1, h2, h3⟩ := h j hj
  exact ⟨h1, h2, fun i => (if_neg e).trans (h3 i)⟩
theorem lo_gT {S : zSt} (h : loW G ad V I) : loW (gT G S) ad V I := lo_gR (by decide) h
theorem lo_gX {a t1 t2 : Nat} (h : loW G ad V I) : loW (gX G a t1 t2) ad V I := lo_gP (by decide) (lo_gP (by decide) (lo_gA (by decide) h))
theorem lo_cG : loW (cG ad V I D) ad V I := fun _ _ => ⟨rfl, rfl, fun _ => rfl⟩
theorem lo_gRd {a b0 b1 b2 b3 b4 b5 : Nat} (h : loW G ad V I) : loW (gRd G a b0 b1 b2 b3 b4 b5) ad V I := lo_gR (by decide) (lo_gR (by decide) (lo_gA (by decide) (lo_gR (by decide) (lo_gA (by decide) (lo_gR (by decide) (lo_gA (by decide) (lo_gR (by decide) (lo_gA (by decide) (lo_gR (by decide) (lo_gA (by decide) (lo_gR (by decide) (lo_gA (by decide) (lo_gA (by decide) (lo_gR (by decide) h))))))))))))))
theorem lo_blk (h : loW G ad V I) (hT : zGT G 80) : blkH (gR G 0 0 (some 80)) ad V I I 1 0 0 := by
  have hb := blkH_back (ad := ad) (V := V) (I := I) (D := G.2.2.2) (a1 := 0) (b0 := 0) (b1 := 0) (b2 := 0) (b3 := 0) (b4 := 0) (b5 := 0)
  refine ⟨fun k hk => ?_, fun o ho => ?_, fun i h1 h2 => ?_, hb.2.2.2⟩
  · obtain ⟨e1, e2, e3⟩ := h k hk
    refine ⟨e1, e2, fun i => ?_⟩
    show (if k = 0 then (if i = 0 then some 80 else G.2.2.1 k i) else G.2.2.1 k i) = _
    rw [e3]
    by_cases c1 : k = 0 <;> by_cases c2 : i = 0 <;> simp [c1, c2]
  · obtain ⟨t0, t1, t2, t3, t4, t5, t6, -⟩ := hT
    match o, ho with
    | 0, _ => exact t0
    | 1, _ => exact t1
    | 2, _ => exact t2
    | 3, _ => exact t3
    | 4, _ => exact t4
    | 5, _ => exact t5
    | 6, _ => exact t6
    | n + 7, hn => omega
  · obtain ⟨-, -, -, -, -, -, -, t2, t3, t4, t5, t6, t7⟩ := hT
    match i, h1, h2 with
    | 2, _, _ => exact t2
    | 3, _, _ => exact t3
    | 4, _, _ => exact t4
    | 5, _, _ => exact t5
    | 6, _, _ => exact t6
    | 7, _, _ => exact t7
    | n + 8, _, hn => omega
theorem cRf_lt {k i q : Nat} (h : cRf V I k i = some q) : q < 80 := by
  rcases cRf_to h with h | h | h <;> omega
theorem lo_hi {k : Nat} (h : cSh V I k ≠ none) : k < 80 := Nat.not_le.mp fun e => h (cSh_hi (by omega))
theorem lo_sh (h : loW G ad V I) : ∀ k, (cG ad V I D).2.1 k ≠ none → (cG ad V I D).2.1 k = G.2.1 k ∧ (cG ad V I D).1 k = G.1 k := fun k hk => by
  obtain ⟨e1, e2, e3⟩ := h k (lo_hi hk)
  exact ⟨e2.symm, e1.symm⟩
theorem lo_rf (h : loW G ad V I) {k i : Nat} (hk : k < 80) : ((cG ad V I D).2.2.1 k i).map (cG ad V I D).1 = (G.2.2.1 k i).map G.1 := by
  obtain ⟨e1, e2, e3⟩ := h k hk
  show (cRf V I k i).map ad = _
  rw [e3]
  cases hq : cRf V I k i with
  | none => rfl
  | some q =>
    show some (ad q) = some (G.1 q)
    rw [(h q (cRf_lt hq)).1]
theorem lo_O (h : loW G ad V I) : ∀ k ci, (cG ad V I D).2.1 k = some (.inl ci) → ∀ r, zcl[ci]? = some r → ∀ i, i < r.2.2 → zrft (zft ci i) = true → ((cG ad V I D).2.2.1 k i).map (cG ad V I D).1 = (G.2.2.1 k i).map G.1 := fun k ci hk r hr i hi hz => lo_rf h (lo_hi (by rw [show cSh V I k = _ from hk]; simp))
theorem lo_A (h : loW G ad V I) : ∀ k n ty, (cG ad V I D).2.1 k = some (.inr (n, ty)) → zrft ty = true → ∀ i, i < n → ((cG ad V I D).2.2.1 k i).map (cG ad V I D).1 = (G.2.2.1 k i).map G.1 := fun k n ty hk hz i hi => lo_rf h (lo_hi (by rw [show cSh V I k = _ from hk]; simp))
end
abbrev mX0_town : zMr := ("HiddenCube", cX0_town, 4, some .int, 14, 10, 129, some [(0, 33, 40, 150), (0, 33, 67, 0), (40, 60, 67, 0)])
def F_X0_town (S : zSt) : Option (Int32 × zSt) := (F_X6_init (sZ S 90)).bind (fun r1 => (F_X6_read r1.2).bind (fun r2 => match r2.1 with
  | some _ => some (r2.2.1 80 1, rS (pB 1) (sI (sI (sI r2.2 0 3 0) 0 4 (-1)) 0 2 0))
  | none => some (-4, sI (sI (sI r2.2 0 3 (r2.2.1 98 6)) 0 4 (r2.2.1 98 7)) 0 2 0)))
theorem mv_X0_town : ZVW mX0_town yX0_town 0 := ⟨q433, q434, q150, q435, rfl, by decide, by decide, by decide +kernel⟩
theorem cg_X0_town {ad : Nat → Nat} {V : zSV} {I : Nat → Bool} {D : va_G} {e9 : zRe} : ZgE e9 mX0_town yX0_town zJIg (cG ad V I D) (fun G' => ∃ ad', ad' 0 = ad 0 ∧ G' = cG ad' V I D) [.ref ((cG ad V I D).1 0)] F_X0_town := by
  have hG : zGC (cG ad V I D) := zGC_c
  have hcd : zcd (cG ad V I D) := zcd_c
  have hhi : ∀ k, 74 ≤ k → (cG ad V I D).2.1 k = none := fun k hk => cG_hi k hk
  refine ZgE_ofW [some (.ref ((cG ad V I D).1 0)), none, none, none] (by decide) rfl _ rfl (Nat.le_of_ble_eq_true rfl) rfl (fun X S res hE => ?_)
  unfold F_X0_town
  refine zz_aload_n (pc := 0) 0 dX0_town_0 rfl rfl ?_
  refine zz_place 110 (e9.1 0) (znr_cd hcd (hhi _ (by decide))) (hhi _ (by decide)) ?_
  refine zz_place 111 (e9.1 1) (znr_cd hcd (hhi _ (by decide))) (hhi _ (by decide)) ?_
  refine zz_place 112 (e9.1 2) (znr_cd hcd (hhi _ (by decide))) (hhi _ (by decide)) ?_
  refine zz_place 113 (e9.1 3) (znr_cd hcd (hhi _ (by decide))) (hhi _ (by decide)) ?_
  refine zz_place 114 (e9.1 4) (znr_cd hcd (hhi _ (by decide))) (hhi _ (by decide)) ?_
  have hlo0 : loW (gP (gP (gP (gP (gP (cG ad V I D) 110 (e9.1 0)) 111 (e9.1 1)) 112 (e9.1 2)) 113 (e9.1 3)) 114 (e9.1 4)) ad V I := lo_gP (by decide) (lo_gP (by decide) (lo_gP (by decide) (lo_gP (by decide) (lo_gP (by decide) lo_cG))))
  have keyN : ∀ Gr : zGw, loW Gr ad V I → zcd Gr → zGC Gr → Gr.2.2.2 = D → (∀ i, i < 5 → Gr.1 (110 + i) = e9.1 i) → (∀ k, 74 ≤ k → Gr.2.1 k = none) → Zz X mX0_town (zA (cG ad V I D) X.2.2.2.2.1.heap.size, yX0_town.name) (zQg zJIg mX0_town (cG ad V I D) (fun G' => ∃ ad', ad' 0 = ad 0 ∧ G' = cG ad' V I D)) Gr (0, 0) res S 1 [some (.ref (Gr.1 0)), none, none, none] [.ref (Gr.1 0)] ((F_X6_init (sZ S 90)).bind (fun r1 => (F_X6_read r1.2).bind (fun r2 => match r2.1 with
      | some _ => some (r2.2.1 80 1, rS (pB 1) (sI (sI (sI r2.2 0 3 0) 0 4 (-1)) 0 2 0))
      | none => some (-4, sI (sI (sI r2.2 0 3 (r2.2.1 98 6)) 0 4 (r2.2.1 98 7)) 0 2 0)))) := by
    intro Gr hlo hcd1 hG1 hD1 hp1 hh1
    refine zz_new (pc := 1) (ci := 6) (C := RX6) (T := TX6) (N := 7) (N' := 7) (1, 7) 90 hcd1 (hh1 90 (by decide)) tyX6 rfl in_X6 tyX6_ok rfl (by decide) q437 q438 q156 rfl rfl dX0_town_1 (fun a => ?_)
    have hGi : zGi e9 (gA Gr 90 a (.inl 6)) := ⟨zGC_gA (by decide) hG1, zcd_gA hcd1, rfl, fun i hi => (gA_ad (by omega)).trans (hp1 i hi), fun k hk hn => (gA_ne hn).trans (hh1 k (by omega))⟩
    refine zz_dup (pc := 4) dX0_town_4 rfl ?_
    refine zz_aload_n (pc := 5) 0 dX0_town_5 rfl rfl ?_
    refine zz_callGT (pc := 6) hE (9, 121) [.ref (Gr.1 0)] [.ref ((gA Gr 90 a (.inl 6)).1 90), .ref (Gr.1 0)] 90 (cg_X6_init hGi) mv_X6_init q439 rfl (Nat.le_of_ble_eq_true rfl) (Nat.le_of_ble_eq_true rfl) rfl rfl rfl (Nat.le_of_ble_eq_true rfl) dX0_town_6 (fun G' S1 hK => ?_)
    have hx : zGR e9 G' := by obtain ⟨a9, b0, b1, b2, b3, b4, b5, rfl⟩ := hK; exact zGR_gRd hGi
    have hlo2 : loW G' ad V I := by obtain ⟨a9, b0, b1, b2, b3, b4, b5, rfl⟩ := hK; exact lo_gRd (lo_gA (by decide) hlo)
    have hD2 : G'.2.2.2 = D := by obtain ⟨a9, b0, b1, b2, b3, b4, b5, rfl⟩ := hK; exact hD1
    have h90 : (gA Gr 90 a (.inl 6)).1 90 = G'.1 90 := by obtain ⟨a9, b0, b1, b2, b3, b4, b5, rfl⟩ := hK; rfl
    have h00 : Gr.1 0 = G'.1 0 := (hlo 0 (by decide)).1.trans (hlo2 0 (by decide)).1.symm
    rw [h90, h00]
    clear hK h90 h00
    refine zx_callRH (pc := 9) (10, 129) hE [] [.ref (G'.1 0)] (cr_X6_read hx) mv_X6_read q490 rfl hx.2.2.2.1 rfl (Nat.le_of_ble_eq_true rfl) (Nat.le_of_ble_eq_true rfl) rfl rfl rfl (Nat.le_of_ble_eq_true rfl) dX0_town_9 [] ⟨0, 33, 40, 150⟩ _ rfl (fun z hz => by cases hz) rfl (by decide) q436 (fun u S2 hF => ?_) (fun G2 S2 hF hKX => ?_)
    · have hT : zGT (gT G' S2) 80 := hx.2.2.1
      have hs0 : G'.2.1 0 = some (.inl 0) := zGC_s0 hx.1
      have hB := lo_blk (lo_gT (S := S2) hlo2) hT
      refine zz_putR (pc := 12) (G := gT G' S2) tyX0 0 0 0 80 hs0 rfl in_X0 tyX0_ok (fun b hb9 hbj => nmX0 _ (by decide) b hb9 (Ne.symm hbj)) (by decide) q297 (Or.inl rfl) rfl rfl dX0_town_12 ?_
      have hD3 : (gR (gT G' S2) 0 0 (some 80)).2.2.2 = D := hD2
      have hr3 : (gR (gT G' S2) 0 0 (some 80)).2.2.1 0 0 = some 80 := rfl
      have hs3 : (gR (gT G' S2) 0 0 (some 80)).2.1 0 = some (.inl 0) := hs0
      have h83 : (gR (gT G' S2) 0 0 (some 80)).2.1 80 = some (.inl 1) := hT.1
      have e00 : G'.1 0 = (gR (gT G' S2) 0 0 (some 80)).1 0 := rfl
      have hz0 : (gR (gT G' S2) 0 0 (some 80)).1 0 = ad 0 := (hlo2 0 (by decide)).1
      rw [e00]
      generalize gR (gT G' S2) 0 0 (some 80) = Gz at hB hD3 hr3 hs3 h83 hz0 ⊢
      refine zz_aload_n (pc := 15) 0 dX0_town_15 rfl rfl ?_
      refine zz_iconst (pc := 16) (v := 0) dX0_town_16 (by decide) ?_
      refine zz_putI (pc := 17) tyX0 0 0 3 hs3 rfl in_X0 tyX0_ok (fun b hb9 hbj => nmX0 _ (by decide) b hb9 (Ne.symm hbj)) (by decide) q302 rfl rfl rfl dX0_town_17 ?_
      refine zz_aload_n (pc := 20) 0 dX0_town_20 rfl rfl ?_
      refine zz_iconst (pc := 21) (v := -1) dX0_town_21 (by decide) ?_
      refine zz_putI (pc := 22) tyX0 0 0 4 hs3 rfl in_X0 tyX0_ok (fun b hb9 hbj => nmX0 _ (by decide) b hb9 (Ne.symm hbj)) (by decide) q303 rfl rfl rfl dX0_town_22 ?_
      refine zz_aload_n (pc := 25) 0 dX0_town_25 rfl rfl ?_
      refine zz_get (pc := 26) (v := .ref (Gz.1 80)) 0 0 0 hs3 rfl in_X0 (by decide) q297 (zval_rf rfl hr3) dX0_town_26 ?_
      refine zz_getN (pc := 29) (v := .int (S2.1 80 1)) 80 1 1 h83 rfl in_X1 (by decide) (List.mem_of_getElem? (i := 1) rfl) rfl dX0_town_29 ?_
      refine zz_istore_n (pc := 32) 1 dX0_town_32 rfl (Nat.le_of_ble_eq_true rfl) rfl ?_
      refine zz_aload_n (pc := 33) 0 dX0_town_33 rfl rfl ?_
      refine zz_iconst (pc := 34) (v := 0) dX0_town_34 (by decide) ?_
      refine zz_putI (pc := 35) tyX0 0 0 2 hs3 rfl in_X0 tyX0_ok (fun b hb9 hbj => nmX0 _ (by decide) b hb9 (Ne.symm hbj)) (by decide) q301 rfl rfl rfl dX0_town_35 ?_
      refine zz_iload_n (pc := 38) 1 dX0_town_38 rfl rfl ?_
      exact zz_giretR (pB 1) (cG _ V I D) (rS (pB 1) (sI (sI (sI S2 0 3 0) 0 4 (-1)) 0 2 0)) hD3.symm (fun _ _ => ⟨rfl, rfl⟩) (blk_sh hB) (blk_O hB) (blk_A hB) blk_inj (fun _ => rfl) rfl hD3 ⟨_, (by exact hz0), rfl⟩ dX0_town_39 rfl
    · have hlo3 : loW G2 ad V I := by obtain ⟨a9, t1, t2, S9, rfl⟩ := hKX; exact lo_gX (lo_gT hlo2)
      have hD3 : G2.2.2.2 = D := by obtain ⟨a9, t1, t2, S9, rfl⟩ := hKX; exact hD2
      have h98 : G2.2.1 98 = some (.inl 7) := by obtain ⟨a9, t1, t2, S9, rfl⟩ := hKX; rfl
      have hs3 : G2.2.1 0 = some (.inl 0) := (hlo3 0 (by decide)).2.1.trans ((hlo2 0 (by decide)).2.1.symm.trans (zGC_s0 hx.1))
      have e00 : G'.1 0 = G2.1 0 := (hlo2 0 (by decide)).1.trans (hlo3 0 (by decide)).1.symm
      rw [e00]
      refine zz_astore_n (pc := 40) 1 dX0_town_40 rfl (Nat.le_of_ble_eq_true rfl) rfl ?_
      refine zz_aload_n (pc := 41) 0 dX0_town_41 rfl rfl ?_
      refine zz_aload_n (pc := 42) 1 dX0_town_42 rfl rfl ?_
      refine zz_getN (pc := 43) (v := .int (S2.1 98 6)) 98 7 6 h98 rfl in_X7 (by decide) (List.mem_of_getElem? (i := 14) rfl) rfl dX0_town_43 ?_
      refine zz_putI (pc := 46) tyX0 0 0 3 hs3 rfl in_X0 tyX0_ok (fun b hb9 hbj => nmX0 _ (by decide) b hb9 (Ne.symm hbj)) (by decide) q302 rfl rfl rfl dX0_town_46 ?_
      refine zz_aload_n (pc := 49) 0 dX0_town_49 rfl rfl ?_
      refine zz_aload_n (pc := 50) 1 dX0_town_50 rfl rfl ?_
      refine zz_getN (pc := 51) (v := .int (S2.1 98 7)) 98 7 7 h98 rfl in_X7 (by decide) (List.mem_of_getElem? (i := 15) rfl) rfl dX0_town_51 ?_
      refine zz_putI (pc := 54) tyX0 0 0 4 hs3 rfl in_X0 tyX0_ok (fun b hb9 hbj => nmX0 _ (by decide) b hb9 (Ne.symm hbj)) (by decide) q303 rfl rfl rfl dX0_town_54 ?_
      refine zz_bipush (pc := 57) (v := -4) dX0_town_57 (by decide) ?_
      refine zz_istore_n (pc := 59) 2 dX0_town_59 rfl (Nat.le_of_ble_eq_true rfl) rfl ?_
      refine zz_aload_n (pc := 60) 0 dX0_town_60 rfl rfl ?_
      refine zz_iconst (pc := 61) (v := 0) dX0_town_61 (by decide) ?_
      refine zz_putI (pc := 62) tyX0 0 0 2 hs3 rfl in_X0 tyX0_ok (fun b hb9 hbj => nmX0 _ (by decide) b hb9 (Ne.symm hbj)) (by decide) q301 rfl rfl rfl dX0_town_62 ?_
      refine zz_iload_n (pc := 65) 2 dX0_town_65 rfl rfl ?_
      exact zz_giretR (fun k => k) (cG ad V I D) _ hD3.symm (fun _ _ => ⟨rfl, rfl⟩) (lo_sh hlo3) (lo_O hlo3) (lo_A hlo3) (fun i j _ _ h => h) (fun _ => rfl) rfl hD3 ⟨_, by exact rfl, rfl⟩ dX0_town_66 rfl
  exact keyN _ hlo0 hcd hG rfl (fun i hi => by
    match i, hi with
    | 0, _ => rfl
    | 1, _ => rfl
    | 2, _ => rfl
    | 3, _ => rfl
    | 4, _ => rfl
    | n + 5, hn => omega) hhi
