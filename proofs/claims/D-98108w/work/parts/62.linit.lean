/-! THE LAW's BEGINNING (written by gen/mklinit.py) -/
set_option maxRecDepth 100000
section
variable {X : zCx} {Q : State → Prop} {G1 G2 : zGw} {S1 S2 : zSt} {cs : Nat × Nat} {pc : Nat} {ls : List (Option Value)} {st : List Value} {e9 : zRe} {D : va_G} {b L : Nat} {xs : Nat → Int32}
theorem l_new (hC : lC e9 D X b L xs) {idx ci N N' : Nat} {C : String} {T : u_T} (k : Nat) (hcd : zcd G1) (hfree : G1.2.1 k = none) (ty : Nat → FieldType) (hc : zcl[ci]? = some (C, T, N)) (hin : ∀ w ∈ u_ws C T N, w ∈ lw_all) (hty : ∀ k, k < N → parseFieldDescriptor (T k).2.2.1 = some (ty k)) (hzf : zft ci = ty) (hd0 : ∀ j, j < N → zdok (ty j) = true) (hcl : Cond.classLink "HiddenCubeLaw" idx C ∈ lw_all) (hins : Cond.instantiable C N' ∈ lw_all) (hini : Cond.initialized C ∈ lw_all) (hD : G1.2.2.2 = D) (hq1 : cs.1 + 1 ≤ 1200384) (hq2 : cs.2 + N' ≤ 5488810) (d : decode code pc = .ok (.new idx, 3))
    (kk : ∀ a : Nat, Zl X Q (gA G1 k a (.inl ci)) G2 (sZ S1 k) S2 (cs.1 + 1, cs.2 + N') (pc + 3) ls (.ref ((gA G1 k a (.inl ci)).1 k) :: st)) : Zl X Q G1 G2 S1 S2 cs pc ls st := by
  subst hzf
  intro H locs la hI hl
  have hR : X.2.2.2.1 = room_1 := hC.2.2.2.2.2.1
  have hKn := hC.2.2.2.2.2.2.2.2.2.2.1 G1 hD ci _ hc
  have hts := hC.2.2.2.2.1
  refine W.newcK hC.1 hC.2.1 hC.2.2.2.1 (hts _ hcl) (hts _ hins) (hts _ hini) rfl d (by rw [hR]; exact hq1) (by rw [hR]; exact hq2) hKn.2.1 rfl fun H1 kC hkC e1 z1 o1 => ?_
  have had : (gA G1 k H.size (.inl ci)).1 k = H.size := if_pos rfl
  have hS := hI.2.2.2.2.2.2.2
  have hk := kk H.size H1 locs la ⟨zhp_new hcd hfree hI.1 o1 ?_, zhp_at (fun j hj => o1 _ (zhp_lt hI.2.1 hj)) hI.2.1, zap_gA hI.2.2.1 (fun _ hj => Nat.ne_of_lt (zhp_lt hI.1 hj)), hI.2.2.2.1, fun j hj => ?_, hI.2.2.2.2.2.1, fun i j hi hj he => ?_, ⟨Nat.le_trans hS.1 (by omega), fun x h1 h2 => (o1 x (Nat.lt_of_lt_of_le h1 hS.1)).trans (hS.2.1 x h1 h2), hS.2.2⟩⟩ hl
  · rw [had] at hk
    exact hk
  · unfold zcellIs
    rw [gA_sh, had]
    exact ⟨_, hc, (u_born (zft ci) hts hin hKn hkC e1 hty).to (fun j hj => zval_mk (hd0 j hj))⟩
  · by_cases e : j = k
    · subst e
      rw [had]
      exact hS.1
    · rw [gA_ad e]
      exact hI.2.2.2.2.1 j (by rw [gA_ne e] at hj; exact hj)
  · by_cases e : i = k
    · subst e
      rw [had] at he
      have := zhp_lt hI.2.1 hj
      omega
    · rw [gA_ad e] at he
      exact hI.2.2.2.2.2.2.1 i j (by rw [gA_ne e] at hi; exact hi) hj he
theorem l_cI {ρ' : Type} {Mc : zMr} {yc : MethodName} {idx : Nat} {r : ρ'} {S' : zSt} {injc : ρ' → zGw → Option Value} {Kc : zGw → Prop} {Fc : zSt → Option (ρ' × zSt)} (As rest : List Value) (hC : lC e9 D X b L xs) (hct : Zg Mc yc injc G1 Kc (.ref (G1.1 0) :: As) Fc) (hF : Fc S1 = some (r, S')) (hD : G1.2.2.2 = D) (hmv : ZI Mc yc As.length) (hl9 : Cond.methodLink "HiddenCubeLaw" idx yc ∈ lw_all) (hst : st = As.reverse ++ .ref (G1.1 0) :: rest) (hd : Mc.2.2.2.2.1 ≤ 1500) (hL : Mc.2.2.1 ≤ 45) (hz : Mc.2.2.2.2.2.2.2 = none) (hq1 : cs.1 + Mc.2.2.2.2.2.1 ≤ 1200384) (hq2 : cs.2 + Mc.2.2.2.2.2.2.1 ≤ 5488810) (hcat : (rest.map fun v => v.category).sum ≤ 8) (d : decode code pc = .ok (.invokespecial idx, 3))
    (kk : ∀ G', Kc G' → G'.2.2.2 = D → Zl X Q G' G2 S' S2 (cs.1 + Mc.2.2.2.2.2.1, cs.2 + Mc.2.2.2.2.2.2.1) (pc + 3) ls ((injc r G').toList ++ rest)) : Zl X Q G1 G2 S1 S2 cs pc ls st := by
  intro H locs la hI hl
  obtain ⟨p, l, e, R, s, m, args, below, meth, c⟩ := X
  have hR : R = room_1 := hC.2.2.2.2.2.1
  subst hR
  have hcwc : zcw Mc yc = Cond.code yc Mc.2.1 Mc.2.2.1 Mc.2.2.2.1 := by unfold zcw; rw [hz]
  have hctl := hct l S1 (r, S') H.size hC.2.2.2.2.2.2.1 hF
  rw [hcwc] at hctl
  subst hst
  obtain ⟨m1, m2, m3, m4, m4b, m5, m6, m7⟩ := hmv
  have hts := hC.2.2.2.2.1
  rw [m4b] at hctl m3
  have hkn := hC.2.2.2.2.2.2.2.2.2.2.1 G1 hD
  refine l_after hI (va_runI (As := As) (rest := rest) ⟨hC.1, hC.2.1, hC.2.2.1, hC.2.2.2.1, hts⟩ hctl (cwI As.length hts (lw_meth m3) rfl rfl rfl (hts _ m2) (hts _ hl9) (hts _ m1) m4 ⟨m5, m6, m7⟩ (l_room hd hL)) ⟨z_blind, l_pre hI hkn hC.2.2.2.2.2.2.2.1 hC.2.2.2.2.2.2.2.2.1⟩ rfl rfl hl.1 rfl (lv_room hcat) d ⟨hq1, hq2⟩) ?_
  intro G' H1 locs1 hK heq hI1
  exact kk G' hK (heq.trans hD) H1 locs1 la hI1 hl
/-- the first world told anew, places as they are -/
theorem l_tell (Gn : zGw) (hD : Gn.2.2.2 = G1.2.2.2) (hsh : ∀ k, Gn.2.1 k ≠ none → Gn.2.1 k = G1.2.1 k ∧ Gn.1 k = G1.1 k)
    (hO : ∀ k ci, Gn.2.1 k = some (.inl ci) → ∀ r, zcl[ci]? = some r → ∀ i, i < r.2.2 → zrft (zft ci i) = true → (Gn.2.2.1 k i).map Gn.1 = (G1.2.2.1 k i).map G1.1)
    (hA : ∀ k n ty, Gn.2.1 k = some (.inr (n, ty)) → zrft ty = true → ∀ i, i < n → (Gn.2.2.1 k i).map Gn.1 = (G1.2.2.1 k i).map G1.1) (kk : Zl X Q Gn G2 S1 S2 cs pc ls st) : Zl X Q G1 G2 S1 S2 cs pc ls st := by
  intro H locs la hI hl
  refine kk H locs la ⟨zhp_to (fun k => k) hD (fun _ _ => ⟨rfl, rfl⟩) hsh hO hA hI.1, hI.2.1, zap_to (fun k => k) hsh (fun i j _ _ h => h) hI.2.2.1, hI.2.2.2.1, fun k hk => ?_, hI.2.2.2.2.2.1, fun i j hi hj he => ?_, hI.2.2.2.2.2.2.2⟩ hl
  · obtain ⟨a1, a2⟩ := hsh k hk
    rw [a2]
    exact hI.2.2.2.2.1 k (by rw [← a1]; exact hk)
  · obtain ⟨a1, a2⟩ := hsh i hi
    rw [a2] at he
    exact hI.2.2.2.2.2.2.1 i j (by rw [← a1]; exact hi) hj he
end
def sh0 : Nat → Option zCell := fun _ => none
def rf0 : Nat → Nat → Option Nat := fun _ _ => none
def shA (f : Nat → Option zCell) (k : Nat) (w : zCell) : Nat → Option zCell := fun j => if j = k then some w else f j
def rfA (f : Nat → Nat → Option Nat) (k : Nat) : Nat → Nat → Option Nat := fun j i => if j = k then none else f j i
def rfR (f : Nat → Nat → Option Nat) (k i : Nat) (q : Option Nat) : Nat → Nat → Option Nat := fun a b => if a = k then (if b = i then q else f a b) else f a b
/-- no world -/
def gE (D : va_G) : zGw := (fun _ => 0, sh0, rf0, D)
theorem zcd_gE {D : va_G} : zcd (gE D) := fun j i q hj => absurd rfl hj
def SH0 : Nat → Option zCell := shA (shA (shA (shA (shA (shA (shA (shA (shA (shA (shA (shA (shA (shA (shA (shA (shA (shA (shA (shA (shA (shA (shA (shA (shA (shA (shA (shA (shA (shA (shA (shA (shA (shA (shA (shA (shA (shA (shA (shA (shA (shA (shA sh0 0 (.inl 0)) 1 (.inl 1)) 2 (.inr (40, .byte))) 3 (.inr (5, .int))) 4 (.inr (6, .int))) 5 (.inr (6, .int))) 6 (.inr (6, .int))) 7 (.inr (32, .int))) 12 (.inr (1400, .byte))) 8 (.inl 2)) 9 (.inr (32, .int))) 10 (.inl 3)) 11 (.inr (32, .int))) 13 (.inr (32, .int))) 14 (.inr (32, .int))) 15 (.inr (64, .int))) 16 (.inr (64, .int))) 17 (.inr (33, .int))) 18 (.inr (33, .int))) 19 (.inr (32, .int))) 20 (.inr (1400, .int))) 21 (.inr (19200, .int))) 22 (.inr (3840, .int))) 23 (.inr (5, .int))) 24 (.inr (32, .int))) 25 (.inr (1400, .int))) 26 (.inr (65536, .int))) 27 (.inr (65536, .boolean))) 28 (.inr (32, .int))) 29 (.inr (32, .int))) 30 (.inr (6, .int))) 31 (.inr (6, .int))) 32 (.inr (6, .int))) 33 (.inr (6, .int))) 34 (.inr (6, .int))) 35 (.inr (6, .int))) 36 (.inr (60, .int))) 37 (.inr (4, .object "HiddenCube$Slot"))) 40 (.inl 4)) 41 (.inl 4)) 42 (.inl 4)) 43 (.inl 4)) 38 (.inr (3, .object "HiddenCube$Town"))
def RF0 : Nat → Nat → Option Nat := rfR (rfA (rfR (rfR (rfA (rfR (rfA (rfR (rfA (rfR (rfA (rfA (rfR (rfA (rfR (rfA (rfR (rfA (rfR (rfA (rfR (rfA (rfR (rfA (rfR (rfA (rfR (rfA (rfR (rfA (rfR (rfA (rfR (rfA (rfR (rfA (rfR (rfA (rfR (rfA (rfR (rfA (rfR (rfA (rfR (rfA (rfR (rfA (rfR (rfA (rfR (rfA (rfR (rfA (rfR (rfA (rfR (rfA (rfR (rfA (rfR (rfR (rfA (rfR (rfR (rfA (rfR (rfR (rfA (rfR (rfA (rfR (rfA (rfR (rfR (rfA (rfR (rfA (rfR (rfA (rfR (rfA (rfR (rfA (rfR (rfA (rfA (rfA rf0 0) 1) 2) 1 2 (some 2)) 3) 1 3 (some 3)) 4) 1 4 (some 4)) 5) 1 5 (some 5)) 6) 1 6 (some 6)) 7) 1 7 (some 7)) 0 0 (some 1)) 12) 0 1 (some 12)) 8) 8 1 (some 0)) 9) 8 0 (some 9)) 0 5 (some 8)) 10) 10 4 (some 0)) 10 1 (some 0)) 11) 10 0 (some 11)) 0 6 (some 10)) 13) 0 7 (some 13)) 14) 0 8 (some 14)) 15) 0 9 (some 15)) 16) 0 10 (some 16)) 17) 0 12 (some 17)) 18) 0 13 (some 18)) 19) 0 14 (some 19)) 20) 0 15 (some 20)) 21) 0 17 (some 21)) 22) 0 18 (some 22)) 23) 0 19 (some 23)) 24) 0 21 (some 24)) 25) 0 22 (some 25)) 26) 0 23 (some 26)) 27) 0 24 (some 27)) 28) 0 25 (some 28)) 29) 0 26 (some 29)) 30) 0 27 (some 30)) 31) 0 28 (some 31)) 32) 0 30 (some 32)) 33) 0 31 (some 33)) 34) 0 32 (some 34)) 35) 0 33 (some 35)) 36) 0 36 (some 36)) 37) 40) 37 0 (some 40)) 41) 37 1 (some 41)) 42) 37 2 (some 42)) 43) 37 3 (some 43)) 0 37 (some 37)) 38) 0 38 (some 38)
def SH5 : Nat → Option zCell := shA (shA (shA (shA (shA (shA (shA (shA (shA (shA (shA (shA (shA (shA (shA (shA (shA (shA (shA (shA (shA (shA (shA (shA (shA (shA (shA (shA (shA (shA (shA (shA (shA (shA (shA (shA (shA (shA (shA sh0 0 (.inl 5)) 2 (.inr (4, .int))) 3 (.inr (4, .int))) 4 (.inr (240, .long))) 5 (.inr (60, .long))) 6 (.inr (1400, .byte))) 17 (.inr (5, .int))) 18 (.inr (15, .int))) 19 (.inr (25, .long))) 20 (.inr (25, .int))) 21 (.inr (200, .int))) 22 (.inr (160, .int))) 23 (.inr (5, .int))) 24 (.inr (30, .int))) 25 (.inr (60, .int))) 26 (.inr (3, .boolean))) 27 (.inr (32, .int))) 28 (.inr (32, .int))) 29 (.inr (4096, .int))) 30 (.inr (64, .int))) 31 (.inr (64, .int))) 32 (.inr (32, .int))) 33 (.inr (19200, .int))) 34 (.inr (3840, .int))) 36 (.inr (5, .int))) 37 (.inr (80, .int))) 38 (.inr (1400, .int))) 40 (.inr (17, .int))) 41 (.inr (16, .int))) 42 (.inr (32, .int))) 43 (.inr (32, .int))) 47 (.inr (32, .int))) 48 (.inr (80, .int))) 49 (.inr (80, .int))) 50 (.inr (6, .int))) 51 (.inr (6, .int))) 53 (.inr (6, .int))) 54 (.inr (6, .int))) 55 (.inr (6, .int))
def RF5 : Nat → Nat → Option Nat := rfR (rfA (rfR (rfA (rfR (rfA (rfR (rfA (rfR (rfA (rfR (rfA (rfR (rfA (rfR (rfA (rfR (rfA (rfR (rfA (rfR (rfA (rfR (rfA (rfR (rfA (rfR (rfA (rfR (rfA (rfR (rfA (rfR (rfA (rfR (rfA (rfR (rfA (rfR (rfA (rfR (rfA (rfR (rfA (rfR (rfA (rfR (rfA (rfR (rfA (rfR (rfA (rfR (rfA (rfR (rfA (rfR (rfA (rfR (rfA (rfR (rfA (rfR (rfA (rfR (rfA (rfR (rfA (rfR (rfA (rfR (rfA (rfR (rfA (rfR (rfA (rfA rf0 0) 2) 0 1 (some 2)) 3) 0 2 (some 3)) 4) 0 3 (some 4)) 5) 0 4 (some 5)) 6) 0 5 (some 6)) 17) 0 16 (some 17)) 18) 0 17 (some 18)) 19) 0 18 (some 19)) 20) 0 19 (some 20)) 21) 0 20 (some 21)) 22) 0 21 (some 22)) 23) 0 22 (some 23)) 24) 0 23 (some 24)) 25) 0 24 (some 25)) 26) 0 25 (some 26)) 27) 0 26 (some 27)) 28) 0 27 (some 28)) 29) 0 28 (some 29)) 30) 0 29 (some 30)) 31) 0 30 (some 31)) 32) 0 31 (some 32)) 33) 0 32 (some 33)) 34) 0 33 (some 34)) 36) 0 35 (some 36)) 37) 0 36 (some 37)) 38) 0 37 (some 38)) 40) 0 39 (some 40)) 41) 0 40 (some 41)) 42) 0 41 (some 42)) 43) 0 42 (some 43)) 47) 0 46 (some 47)) 48) 0 47 (some 48)) 49) 0 48 (some 49)) 50) 0 49 (some 50)) 51) 0 50 (some 51)) 53) 0 52 (some 53)) 54) 0 53 (some 54)) 55) 0 54 (some 55)
theorem x0_sh {D : va_G} {a0 a1 b1_0 b1_1 b1_2 b1_3 b1_4 b1_5 a2 a3 b2_0 a4 b3_0 a5 a6 a7 a8 a9 a10 a11 a12 a13 a14 a15 a16 a17 a18 a19 a20 a21 a22 a23 a24 a25 a26 a27 a28 a29 a30 a31 a32 a33 a34 : Nat} : (gX0_init (gA (gE D) 0 a0 (.inl 0)) a1 b1_0 b1_1 b1_2 b1_3 b1_4 b1_5 a2 a3 b2_0 a4 b3_0 a5 a6 a7 a8 a9 a10 a11 a12 a13 a14 a15 a16 a17 a18 a19 a20 a21 a22 a23 a24 a25 a26 a27 a28 a29 a30 a31 a32 a33 a34).2.1 = SH0 := rfl
theorem x0_rf {D : va_G} {a0 a1 b1_0 b1_1 b1_2 b1_3 b1_4 b1_5 a2 a3 b2_0 a4 b3_0 a5 a6 a7 a8 a9 a10 a11 a12 a13 a14 a15 a16 a17 a18 a19 a20 a21 a22 a23 a24 a25 a26 a27 a28 a29 a30 a31 a32 a33 a34 : Nat} : (gX0_init (gA (gE D) 0 a0 (.inl 0)) a1 b1_0 b1_1 b1_2 b1_3 b1_4 b1_5 a2 a3 b2_0 a4 b3_0 a5 a6 a7 a8 a9 a10 a11 a12 a13 a14 a15 a16 a17 a18 a19 a20 a21 a22 a23 a24 a25 a26 a27 a28 a29 a30 a31 a32 a33 a34).2.2.1 = RF0 := rfl
theorem x5_sh {D : va_G} {a0 a1 a2 a3 a4 a5 a6 a7 a8 a9 a10 a11 a12 a13 a14 a15 a16 a17 a18 a19 a20 a21 a22 a23 a24 a25 a26 a27 a28 a29 a30 a31 a32 a33 a34 a35 a36 a37 a38 : Nat} : (gX5_init_0 (gA (gE D) 0 a0 (.inl 5)) a1 a2 a3 a4 a5 a6 a7 a8 a9 a10 a11 a12 a13 a14 a15 a16 a17 a18 a19 a20 a21 a22 a23 a24 a25 a26 a27 a28 a29 a30 a31 a32 a33 a34 a35 a36 a37 a38).2.1 = SH5 := rfl
theorem x5_rf {D : va_G} {a0 a1 a2 a3 a4 a5 a6 a7 a8 a9 a10 a11 a12 a13 a14 a15 a16 a17 a18 a19 a20 a21 a22 a23 a24 a25 a26 a27 a28 a29 a30 a31 a32 a33 a34 a35 a36 a37 a38 : Nat} : (gX5_init_0 (gA (gE D) 0 a0 (.inl 5)) a1 a2 a3 a4 a5 a6 a7 a8 a9 a10 a11 a12 a13 a14 a15 a16 a17 a18 a19 a20 a21 a22 a23 a24 a25 a26 a27 a28 a29 a30 a31 a32 a33 a34 a35 a36 a37 a38).2.2.1 = RF5 := rfl
def V0 : zSV := fun _ => none
def I0 : Nat → Bool := fun _ => false
theorem V0_ok : zVok V0 := fun i hi q hq => by cases hq
theorem SH0_c (k : Nat) (hk : k < 80) : SH0 k = cSh V0 I0 k := by
  have h0 : ∀ k : Fin 80, SH0 k.1 = cSh V0 I0 k.1 := by decide +kernel
  exact h0 ⟨k, hk⟩
theorem RF0_c (k i : Nat) (hk : k < 44) (hi : i < 60) : RF0 k i = cRf V0 I0 k i := by
  have h0 : ∀ k : Fin 44, ∀ i : Fin 60, RF0 k.1 i.1 = cRf V0 I0 k.1 i.1 := by decide +kernel
  exact h0 ⟨k, hk⟩ ⟨i, hi⟩
theorem lo_hi0 {k : Nat} (h : cSh V0 I0 k ≠ none) : k < 44 := by
  have h1 := lo_hi h
  have h0 : ∀ k : Fin 80, 44 ≤ k.1 → cSh V0 I0 k.1 = none := by decide +kernel
  exact Nat.not_le.mp fun e => h (h0 ⟨k, h1⟩ e)
theorem SH0_r (k n : Nat) (ty : FieldType) (hk : k < 80) (h : cSh V0 I0 k = some (.inr (n, ty))) (hz : zrft ty = true) : n ≤ 60 := by
  have h0 : ∀ k : Fin 80, (match cSh V0 I0 k.1 with
      | some (.inr x) => !(zrft x.2) || Nat.ble x.1 60
      | _ => true) = true := by decide +kernel
  have h1 := h0 ⟨k, hk⟩
  simp only [h, hz] at h1
  exact Nat.le_of_ble_eq_true h1
theorem zcl_N {ci : Nat} {r : vw_C} (h : zcl[ci]? = some r) : r.2.2 ≤ 60 := by
  match ci, h with
  | 0, h => cases h; decide
  | 1, h => cases h; decide
  | 2, h => cases h; decide
  | 3, h => cases h; decide
  | 4, h => cases h; decide
  | 5, h => cases h; decide
  | 6, h => cases h; decide
  | 7, h => cases h; decide
theorem zGM_5 {G : zGw} (h1 : G.2.1 = SH5) (h2 : G.2.2.1 = RF5) : zGM G := by
  refine ⟨fun k hk => ?_, fun q hq => ?_⟩
  · rw [h1]
    have h0 : ∀ k : Fin 59, some (SH5 k.1) = zshM[k.1]? := by decide +kernel
    exact h0 ⟨k, hk⟩
  · rw [h2]
    have h0 : ∀ q ∈ zrfM, RF5 q.1 q.2.1 = some q.2.2 := by decide +kernel
    exact h0 q hq
section
variable {X : zCx} {Q : State → Prop} {e9 : zRe} {D : va_G} {b L : Nat} {xs : Nat → Int32}
def sE : zSt := (fun _ _ => 0, fun _ _ => 0)
/-- from the entry to the loop's head: two objects are made -/
theorem law_begins (hC : lC e9 D X b L xs) {Sc Sm : zSt} (h1 : F_X0_init (sZ sE 0) = some ((), Sc)) (h2 : F_X5_init_0 (sZ sE 0) = some ((), Sm))
    (kk : ∀ (ad : Nat → Nat) (Gm : zGw), zGM Gm → Gm.2.2.2 = D → Zl X Q (cG ad V0 I0 D) Gm Sc Sm (200, 200000) 18 (lls b (ad 0) (Gm.1 0) 0) []) : Zl X Q (gE D) (gE D) sE sE (0, 0) 0 [some (.ref b), none, none, none] [] := by
  refine l_new (pc := 0) (ci := 0) (C := RX0) (T := TX0) (N := 39) (N' := 39) hC 0 zcd_gE rfl tyX0 rfl in_X0 tyX0_ok rfl (by decide) q175 q176 q150 rfl (Nat.le_of_ble_eq_true rfl) (Nat.le_of_ble_eq_true rfl) dL_law_0 (fun a0 => ?_)
  refine l_dup (pc := 3) hC dL_law_3 rfl ?_
  refine l_cI (pc := 4) (idx := 9) [] [.ref ((gA (gE D) 0 a0 (.inl 0)).1 0)] hC (cg_X0_init (zcd_gA zcd_gE) (fun k hk => gA_ne hk) rfl) h1 rfl mv_X0_init q177 rfl (Nat.le_of_ble_eq_true rfl) (Nat.le_of_ble_eq_true rfl) rfl (Nat.le_of_ble_eq_true rfl) (Nat.le_of_ble_eq_true rfl) (Nat.le_of_ble_eq_true rfl) dL_law_4 (fun G' hK hD => ?_)
  have hK9 : G'.2.1 = SH0 ∧ G'.2.2.1 = RF0 ∧ (gA (gE D) 0 a0 (.inl 0)).1 0 = G'.1 0 := by
    obtain ⟨a1, b1_0, b1_1, b1_2, b1_3, b1_4, b1_5, a2, a3, b2_0, a4, b3_0, a5, a6, a7, a8, a9, a10, a11, a12, a13, a14, a15, a16, a17, a18, a19, a20, a21, a22, a23, a24, a25, a26, a27, a28, a29, a30, a31, a32, a33, a34, rfl⟩ := hK
    exact ⟨x0_sh, x0_rf, rfl⟩
  obtain ⟨k1, k2, k3⟩ := hK9
  rw [k3]
  clear hK k3
  refine l_tell (cG G'.1 V0 I0 D) hD.symm (fun k hk => ⟨?_, rfl⟩) (fun k ci hk r hr i hi hz => ?_) (fun k n ty hk hz i hi => ?_) ?_
  · rw [k1, SH0_c k (lo_hi hk)]; rfl
  · rw [k2, RF0_c k i (lo_hi0 (by rw [show cSh V0 I0 k = _ from hk]; simp)) (Nat.lt_of_lt_of_le hi (zcl_N hr))]; rfl
  · have hk8 := lo_hi0 (k := k) (by rw [show cSh V0 I0 k = _ from hk]; simp)
    rw [k2, RF0_c k i hk8 (Nat.lt_of_lt_of_le hi (SH0_r k n ty (by omega) hk hz))]; rfl
  refine l_astore (pc := 7) hC 1 dL_law_7 rfl (by decide) rfl ?_
  change Zl X Q (cG G'.1 V0 I0 D) (gE D) Sc sE (0 + 1 + 42, 0 + 39 + 158987) 8 [some (.ref b), some (.ref (G'.1 0)), none, none] []
  generalize G'.1 = ad
  refine Zl_swap ?_
  refine l_new (pc := 8) (ci := 5) (C := RX5) (T := TX5) (N := 58) (N' := 58) hC 0 zcd_gE rfl tyX5 rfl in_X5 tyX5_ok rfl (by decide) q1389 q1390 q155 rfl (Nat.le_of_ble_eq_true rfl) (Nat.le_of_ble_eq_true rfl) dL_law_8 (fun a5 => ?_)
  refine l_dup (pc := 11) hC dL_law_11 rfl ?_
  refine l_cI (pc := 12) (idx := 12) [] [.ref ((gA (gE D) 0 a5 (.inl 5)).1 0)] hC (cg_X5_init_0 (zcd_gA zcd_gE) rfl rfl rfl rfl rfl rfl rfl rfl rfl rfl rfl rfl rfl rfl rfl rfl rfl rfl rfl rfl rfl rfl rfl rfl rfl rfl rfl rfl rfl rfl rfl rfl rfl rfl rfl rfl rfl rfl rfl) h2 rfl mv_X5_init_0 q1391 rfl (Nat.le_of_ble_eq_true rfl) (Nat.le_of_ble_eq_true rfl) rfl (Nat.le_of_ble_eq_true rfl) (Nat.le_of_ble_eq_true rfl) (Nat.le_of_ble_eq_true rfl) dL_law_12 (fun Gm hK hD => ?_)
  have hK9 : zGM Gm ∧ (gA (gE D) 0 a5 (.inl 5)).1 0 = Gm.1 0 := by
    obtain ⟨a1, a2, a3, a4, a5, a6, a7, a8, a9, a10, a11, a12, a13, a14, a15, a16, a17, a18, a19, a20, a21, a22, a23, a24, a25, a26, a27, a28, a29, a30, a31, a32, a33, a34, a35, a36, a37, a38, rfl⟩ := hK
    exact ⟨zGM_5 x5_sh x5_rf, rfl⟩
  obtain ⟨k1, k2⟩ := hK9
  rw [k2]
  refine l_astore (pc := 15) hC 2 dL_law_15 rfl (by decide) rfl ?_
  refine l_iconst (pc := 16) (v := 0) hC dL_law_16 (by decide) ?_
  refine l_istore (pc := 17) hC 3 dL_law_17 rfl (by decide) rfl ?_
  refine Zl_swap ?_
  exact Zl_wide (cs' := (200, 200000)) (Nat.le_of_ble_eq_true rfl) (Nat.le_of_ble_eq_true rfl) (kk ad Gm k1 hD)
end
