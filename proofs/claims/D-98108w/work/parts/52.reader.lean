/-! THE READER's methods (written by gen/gen_r.py) -/
set_option maxRecDepth 100000
abbrev ZW {ρ : Type} (X : zCx) (M : zMr) (nm : String) (inj : ρ → Option Value) (G : zGw) (cs : Nat × Nat) (res : Option ρ × zSt) (S : zSt) (pc : Nat) (ls : List (Option Value)) (st : List Value) (f : Option (Option ρ × zSt)) : Prop := Zz X M (zA G X.2.2.2.2.1.heap.size, nm) (zQr inj M G) (gT G S) cs res S pc ls st f
def n9s (i : Nat) : Int32 := Int32.ofNat (sLen.getD i 0)
theorem n98 {e9 : zRe} {G : zGw} {S : zSt} (hG : zGR e9 G) : znr (gT G S) 98 := znr_gR (znr_cd hG.2.1 hG.2.2.2.2.2.2.2.1) (by have := tkq_lt (S.1 90 5); intro h; have := Option.some.inj h; omega)
theorem n99 {e9 : zRe} {G : zGw} {S : zSt} (hG : zGR e9 G) : znr (gT G S) 99 := znr_gR (znr_cd hG.2.1 hG.2.2.2.2.2.2.2.2.1) (by have := tkq_lt (S.1 90 5); intro h; have := Option.some.inj h; omega)
theorem n100 {e9 : zRe} {G : zGw} {S : zSt} (hG : zGR e9 G) : znr (gT G S) 100 := znr_gR (znr_cd hG.2.1 hG.2.2.2.2.2.2.2.2.2) (by have := tkq_lt (S.1 90 5); intro h; have := Option.some.inj h; omega)
theorem pu_X0_isIn {a b c : Int64} {r : Int32} {S S' : zSt} (h : F_X0_isIn a b c S = some (r, S')) : S' = S := by
  unfold F_X0_isIn at h
  split at h
  · cases h; rfl
  · split at h <;> (cases h; rfl)
theorem pu_X0_has {a b : Int32} {r : Int32} {S S' : zSt} (h : F_X0_has a b S = some (r, S')) : S' = S := by
  unfold F_X0_has at h
  split at h <;> (cases h; rfl)
theorem pu_J0_min {a b : Int32} {r : Int32} {S S' : zSt} (h : F_J0_min a b S = some (r, S')) : S' = S := by
  unfold F_J0_min at h
  split at h <;> (cases h; rfl)
theorem pu_X1_squares {r : Int32} {S S' : zSt} (h : F_X1_squares 80 S = some (r, S')) : S'.1 90 5 = S.1 90 5 := by
  unfold F_X1_squares at h
  split at h <;> (cases h; rfl)
theorem pu_X1_isOpen {a b : Int32} {r : Int32} {S S' : zSt} (h : F_X1_isOpen 80 a b S = some (r, S')) : S'.1 90 5 = S.1 90 5 := by
  unfold F_X1_isOpen chk zbind at h
  split at h
  · cases h
  · obtain ⟨⟨r1, S1⟩, h1, h2⟩ := Option.bind_eq_some_iff.mp h
    have := pu_X0_has h1
    subst this
    dsimp only at h2
    split at h2 <;> (cases h2; rfl)
theorem pu_X1_sets {a b c : Int32} {r : Unit} {S S' : zSt} (h : F_X1_sets 80 a b c S = some (r, S')) : S'.1 90 5 = S.1 90 5 := by
  unfold F_X1_sets chk zlet at h
  dsimp only at h
  split at h
  · cases h
  split at h
  · cases h
  cases h
  rfl
section
variable {ρ : Type} {X : zCx} {M : zMr} {A : (Nat → Prop) × String} {Q : zCx → ρ × zSt → State → Prop} {G : zGw} {cs : Nat × Nat} {res : ρ × zSt} {S : zSt} {pc : Nat} {ls : List (Option Value)} {st : List Value} {f : Option (ρ × zSt)} {e9 : zRe} {idx : Nat}
theorem zr_length {i : Nat} (hi : i < 9) (hE : zER e9 A.1 X.2.2.2.2.1 X.2.2.2.2.1.heap) (hl : Cond.methodLink M.1 idx yJ1_length ∈ lw_all) (hd : 3 ≤ M.2.2.2.2.1) (d : decode M.2.1 pc = .ok (.invokevirtual idx, 3)) (k : Zz X M A Q G cs res S (pc + 3) ls (.int (n9s i) :: st) f) (hcs : zcs cs M = true := by rfl) (hcat : (st.map fun v => v.category).sum ≤ 8 := by exact Nat.le_of_ble_eq_true rfl) : Zz X M A Q G cs res S pc ls (.ref (e9.2.1 i) :: st) f := by
  have hz : ∀ n : Int32, n >>> ((0 : Int32) &&& 31) = n := by intro n; rw [show (0 : Int32) &&& 31 = 0 from by decide, Int32.shiftRight_zero]
  have hv : F_J1_length i S = some (n9s i, S) := by unfold F_J1_length n9s; simp only [Option.bind_some, hz]
  have hk : f = (F_J1_length i S).bind (fun _ => f) := by rw [hv]; rfl
  rw [hk]
  refine zz_callEV (pc := pc) hi hE [] st (cg_J1_length hi) rfl mv_J1_length hl rfl hd (Nat.le_of_ble_eq_true rfl) rfl hcs hcat d (fun G1 r S1 hF hK => ?_)
  subst hK
  rw [hv] at hF
  cases hF
  exact k
theorem zr_charAt {i : Nat} {a1 : Int32} (hi : i < 9) (h : vp_in a1 (sLen.getD i 0)) (hE : zER e9 A.1 X.2.2.2.2.1 X.2.2.2.2.1.heap) (hl : Cond.methodLink M.1 idx yJ1_charAt ∈ lw_all) (hd : 5 ≤ M.2.2.2.2.1) (d : decode M.2.1 pc = .ok (.invokevirtual idx, 3)) (k : Zz X M A Q G cs res S (pc + 3) ls (.int (sCh i a1.toNatClampNeg) :: st) f) (hcs : zcs cs M = true := by rfl) (hcat : (st.map fun v => v.category).sum ≤ 8 := by exact Nat.le_of_ble_eq_true rfl) : Zz X M A Q G cs res S pc ls (.int a1 :: .ref (e9.2.1 i) :: st) f := by
  have h0 : ¬ a1 < 0 := fun q => h (Or.inl q)
  have h1 : a1.toNatClampNeg < sLen.getD i 0 := Nat.not_le.mp fun q => h (Or.inr q)
  have h2 : a1 < Int32.ofNat (sLen.getD i 0) := by
    have h3 := sLen_lt hi
    have h4 : a1 = Int32.ofNat a1.toNatClampNeg := (Int32.ofNat_toNatClampNeg a1 (Int32.not_lt.mp h0)).symm
    rw [h4]
    exact (Int32.ofNat_lt_iff_lt (by omega) (by omega)).mpr h1
  have hc : chk a1 (sLen.getD i 0) (some (sCh i a1.toNatClampNeg, S)) = some (sCh i a1.toNatClampNeg, S) := by
    unfold chk
    rw [if_neg h]
  have hv2 : F_J2_charAt i a1 S = some (sCh i a1.toNatClampNeg, S) := by
    unfold F_J2_charAt F_J1_checkIndex F_J3_checkIndex
    rw [if_neg h0, if_pos h2]
    exact hc
  have hv : F_J1_charAt i a1 S = some (sCh i a1.toNatClampNeg, S) := by
    unfold F_J1_charAt F_J1_isLatin1
    show (if (1 : Int32) = 0 then none else (F_J2_charAt i a1 S).bind _) = _
    rw [if_neg (by decide), hv2]
    show chk a1 (sLen.getD i 0) (if sCh i a1.toNatClampNeg = sCh i a1.toNatClampNeg then some (sCh i a1.toNatClampNeg, S) else none) = _
    rw [if_pos rfl]
    exact hc
  have hk : f = (F_J1_charAt i a1 S).bind (fun _ => f) := by rw [hv]; rfl
  rw [hk]
  refine zz_callEV (pc := pc) hi hE [.int a1] st (cg_J1_charAt hi a1) rfl mv_J1_charAt hl rfl hd (Nat.le_of_ble_eq_true rfl) rfl hcs hcat d (fun G1 r S1 hF hK => ?_)
  subst hK
  rw [hv] at hF
  cases hF
  exact k
end
abbrev mX6_isNext : zMr := ("HiddenCube$Reader", cX6_isNext, 3, (some .boolean), 7, 1, 8, none)
def F_X6_isNext (a1 : Int32) (a2 : Int32) (S : zSt) : Option (Option Int32 × zSt) :=
if (S.1 90 0) ≤ (S.1 90 2) then (some (some 0, S)) else (chk (S.1 90 2) 1400 (zbind (F_X0_isIn ((S.1 12 (S.1 90 2).toNatClampNeg).toInt64) ((a1).toInt64) ((a2).toInt64) S) (fun r3 S2 =>
if r3 = 0 then (some (some 0, S)) else (some (some 1, S)))))
theorem mv_X6_isNext : ZV mX6_isNext yX6_isNext 2 := ⟨q453, qs2, q156, q454, rfl, by decide, by decide, by decide +kernel⟩
theorem cr_X6_isNext {G : zGw} {e9 : zRe} (hG : zGR e9 G) (a1 : Int32) (a2 : Int32) : Zr e9 mX6_isNext yX6_isNext zJI G [.ref (G.1 90), .int a1, .int a2] (F_X6_isNext a1 a2) := by
  refine Zr_of [some (.ref (G.1 90)), some (.int a1), some (.int a2)] (by decide) rfl rfl (Nat.le_of_ble_eq_true rfl) rfl (fun X S res hE => ?_)
  unfold F_X6_isNext
  refine zz_aload_n (pc := 0) 0 dX6_isNext_0 rfl rfl ?_
  refine zz_get (pc := 1) (v := .int (S.1 90 2)) 90 6 2 hG.2.2.2.1 rfl in_X6 (by decide) q470 rfl dX6_isNext_1 ?_
  refine zz_aload_n (pc := 4) 0 dX6_isNext_4 rfl rfl ?_
  refine zz_get (pc := 5) (v := .int (S.1 90 0)) 90 6 0 hG.2.2.2.1 rfl in_X6 (by decide) q468 rfl dX6_isNext_5 ?_
  refine zz_icmp_ge (pc := 8) 38 dX6_isNext_8 rfl ?_ ?_
  · refine zz_iconst (pc := 38) (v := 0) dX6_isNext_38 (by decide) ?_
    exact zr_zret (by decide) rfl dX6_isNext_39
  · refine zz_aload_n (pc := 11) 0 dX6_isNext_11 rfl rfl ?_
    refine zz_get (pc := 12) (v := .ref (G.1 0)) 90 6 6 hG.2.2.2.1 rfl in_X6 (by decide) q474 (zval_rf rfl hG.2.2.2.2.2.1) dX6_isNext_12 ?_
    refine zz_getN (pc := 15) (v := .ref (G.1 12)) 0 0 1 (zGC_s0 (G := G) hG.1) rfl in_X0 (by decide) (List.mem_of_getElem? (i := 28) rfl) (zval_rf rfl (zGC_r0_1 (G := G) hG.1)) dX6_isNext_15 ?_
    refine zz_aload_n (pc := 18) 0 dX6_isNext_18 rfl rfl ?_
    refine zz_get (pc := 19) (v := .int (S.1 90 2)) 90 6 2 hG.2.2.2.1 rfl in_X6 (by decide) q470 rfl dX6_isNext_19 ?_
    refine zz_chk (fun h1 => ?_)
    refine zz_baload (pc := 22) 12 1400 (zGC_s12 (G := G) hG.1) h1 dX6_isNext_22 ?_
    refine zz_i2l (pc := 23) dX6_isNext_23 ?_
    refine zz_iload_n (pc := 24) 1 dX6_isNext_24 rfl rfl ?_
    refine zz_i2l (pc := 25) dX6_isNext_25 ?_
    refine zz_iload_n (pc := 26) 2 dX6_isNext_26 rfl rfl ?_
    refine zz_i2l (pc := 27) dX6_isNext_27 ?_
    refine zx_callSN (pc := 28) [.long ((S.1 12 (S.1 90 2).toNatClampNeg).toInt64), .long ((a1).toInt64), .long ((a2).toInt64)] [] (ct_X0_isIn _ _ _) mv_X0_isIn (by decide) rfl (Nat.le_of_ble_eq_true rfl) (Nat.le_of_ble_eq_true rfl) rfl rfl (Nat.le_of_ble_eq_true rfl) dX6_isNext_28 (fun r3 S2 hF => ?_)
    have hF := (pu_X0_isIn hF).symm
    subst hF
    refine zz_if_eq (pc := 31) 38 dX6_isNext_31 rfl ?_ ?_
    · refine zz_iconst (pc := 38) (v := 0) dX6_isNext_38 (by decide) ?_
      exact zr_zret (by decide) rfl dX6_isNext_39
    · refine zz_iconst (pc := 34) (v := 1) dX6_isNext_34 (by decide) ?_
      refine zz_goto (pc := 35) 39 dX6_isNext_35 rfl ?_
      exact zr_zret (by decide) rfl dX6_isNext_39
abbrev mX6_next : zMr := ("HiddenCube$Reader", cX6_next, 1, none, 8, 1, 8, none)
def LB_X6_next_1 (k14 : zSt → Option (Option Unit × zSt)) (rec17 : zSt → Option (Option Unit × zSt))  (S18 : zSt) : Option (Option Unit × zSt) :=
zbR (F_X6_isNext 48 57 S18) (fun r20 S19 =>
if r20 = 0 then (k14 S19) else (chk (S19.1 90 2) 1400 (zbind (F_J0_min 99999 (((10 * (S19.1 90 4)) + (S19.1 12 (S19.1 90 2).toNatClampNeg)) - 48) S19) (fun r23 S22 =>
zlet (sI S19 90 4 r23 : zSt) (fun S24 : zSt =>
zlet (sI S24 90 2 ((S24.1 90 2) + 1) : zSt) (fun S25 : zSt =>
rec17 S25))))))
def LB_X6_next_2 (k26 : zSt → Option (Option Unit × zSt)) (rec29 : zSt → Option (Option Unit × zSt))  (S30 : zSt) : Option (Option Unit × zSt) :=
zbR (F_X6_isNext 97 122 S30) (fun r32 S31 =>
if r32 = 0 then (k26 S31) else (zlet (sI S31 90 2 ((S31.1 90 2) + 1) : zSt) (fun S33 : zSt =>
rec29 S33)))
def LB_X6_next_3 (k1 : zSt → Option (Option Unit × zSt)) (rec35 : zSt → Option (Option Unit × zSt))  (S36 : zSt) : Option (Option Unit × zSt) :=
if (S36.1 90 0) ≤ (S36.1 90 2) then (k1 S36) else (chk (S36.1 90 2) 1400 (joinK (zlet (sI S36 90 2 ((S36.1 90 2) + 1) : zSt) (fun S39 : zSt =>
rec35 S39)) (fun j38 : Option (Option Unit × zSt) =>
if (S36.1 12 (S36.1 90 2).toNatClampNeg) = 32 then (j38) else (chk (S36.1 90 2) 1400 (if (S36.1 12 (S36.1 90 2).toNatClampNeg) = 10 then (j38) else (k1 S36))))))
def F_X6_next  (S : zSt) : Option (Option Unit × zSt) :=
joinK (fun  (S2 : zSt) => zlet (sI S2 90 3 (S2.1 90 2) : zSt) (fun S3 : zSt =>
if (S3.1 90 2) = (S3.1 90 0) then (zlet (sI S3 90 5 0 : zSt) (fun S34 : zSt =>
some (some (), S34))) else (zbR (F_X6_isNext 97 122 S3) (fun r5 S4 =>
if r5 = 0 then (zbR (F_X6_isNext 48 57 S4) (fun r7 S6 =>
if r7 = 0 then (chk (S6.1 90 2) 1400 (if (S6.1 12 (S6.1 90 2).toNatClampNeg) = 59 then (zlet (sI S6 90 5 3 : zSt) (fun S11 : zSt =>
zlet (sI S11 90 2 ((S11.1 90 2) + 1) : zSt) (fun S12 : zSt =>
some (some (), S12)))) else (zlet (sI S6 90 5 4 : zSt) (fun S9 : zSt =>
zlet (sI S9 90 2 ((S9.1 90 2) + 1) : zSt) (fun S10 : zSt =>
some (some (), S10)))))) else (zlet (sI S6 90 4 0 : zSt) (fun S13 : zSt =>
joinK (fun  (S15 : zSt) => zlet (sI S15 90 5 2 : zSt) (fun S16 : zSt =>
some (some (), S16))) (fun k14 : zSt → Option (Option Unit × zSt) =>
loopK (fun _ => none) (LB_X6_next_1 k14) zfuel S13))))) else (joinK (fun  (S27 : zSt) => zlet (sI S27 90 5 1 : zSt) (fun S28 : zSt =>
some (some (), S28))) (fun k26 : zSt → Option (Option Unit × zSt) =>
loopK (fun _ => none) (LB_X6_next_2 k26) zfuel S4)))))) (fun k1 : zSt → Option (Option Unit × zSt) =>
loopK (fun _ => none) (LB_X6_next_3 k1) zfuel S)
theorem mv_X6_next : ZV mX6_next yX6_next 0 := ⟨q449, qs1, q156, q450, rfl, by decide, by decide, by decide +kernel⟩
theorem cr_X6_next {G : zGw} {e9 : zRe} (hG : zGR e9 G)  : Zr e9 mX6_next yX6_next zJV G [.ref (G.1 90)] (F_X6_next) := by
  refine Zr_of [some (.ref (G.1 90))] (by decide) rfl rfl (Nat.le_of_ble_eq_true rfl) rfl (fun X S res hE => ?_)
  unfold F_X6_next
  refine zz_join (fun j : zSt → Option (Option Unit × zSt) => ∀  (S2 : zSt), ZW X mX6_next yX6_next.name zJV G (0, 0) res S2 58 [some (.ref (G.1 90))] [] (j S2)) ?_ (fun k1 hk1 => ?_)
  · intro S2
    refine zz_aload_n (pc := 58) 0 dX6_next_58 rfl rfl ?_
    refine zz_aload_n (pc := 59) 0 dX6_next_59 rfl rfl ?_
    refine zz_get (pc := 60) (v := .int (S2.1 90 2)) 90 6 2 hG.2.2.2.1 rfl in_X6 (by decide) q470 rfl dX6_next_60 ?_
    refine zz_putI (pc := 63) tyX6 90 6 3 hG.2.2.2.1 rfl in_X6 tyX6_ok (fun b hb9 hbj => nmX6 _ (by decide) b hb9 (Ne.symm hbj)) (by decide) q471 rfl rfl rfl dX6_next_63 ?_
    refine zr_letS rfl (fun S3 => ?_)
    refine zz_aload_n (pc := 66) 0 dX6_next_66 rfl rfl ?_
    refine zz_get (pc := 67) (v := .int (S3.1 90 2)) 90 6 2 hG.2.2.2.1 rfl in_X6 (by decide) q470 rfl dX6_next_67 ?_
    refine zz_aload_n (pc := 70) 0 dX6_next_70 rfl rfl ?_
    refine zz_get (pc := 71) (v := .int (S3.1 90 0)) 90 6 0 hG.2.2.2.1 rfl in_X6 (by decide) q468 rfl dX6_next_71 ?_
    refine zz_icmp_ne (pc := 74) 87 dX6_next_74 rfl ?_ ?_
    · refine zz_aload_n (pc := 87) 0 dX6_next_87 rfl rfl ?_
      refine zz_bipush (pc := 88) (v := 97) dX6_next_88 (by decide) ?_
      refine zz_bipush (pc := 90) (v := 122) dX6_next_90 (by decide) ?_
      refine zr_callV (pc := 92) hE _ _ (cr_X6_isNext hG _ _) mv_X6_isNext q451 rfl hG.2.2.2.1 rfl (Nat.le_of_ble_eq_true rfl) (Nat.le_of_ble_eq_true rfl) rfl rfl (Nat.le_of_ble_eq_true rfl) (Nat.le_of_ble_eq_true rfl) (Nat.le_of_ble_eq_true rfl) dX6_next_92 (fun r5 S4 => ?_)
      refine zz_if_eq (pc := 95) 132 dX6_next_95 rfl ?_ ?_
      · refine zz_aload_n (pc := 132) 0 dX6_next_132 rfl rfl ?_
        refine zz_bipush (pc := 133) (v := 48) dX6_next_133 (by decide) ?_
        refine zz_bipush (pc := 135) (v := 57) dX6_next_135 (by decide) ?_
        refine zr_callV (pc := 137) hE _ _ (cr_X6_isNext hG _ _) mv_X6_isNext q451 rfl hG.2.2.2.1 rfl (Nat.le_of_ble_eq_true rfl) (Nat.le_of_ble_eq_true rfl) rfl rfl (Nat.le_of_ble_eq_true rfl) (Nat.le_of_ble_eq_true rfl) (Nat.le_of_ble_eq_true rfl) dX6_next_137 (fun r7 S6 => ?_)
        refine zz_if_eq (pc := 140) 214 dX6_next_140 rfl ?_ ?_
        · refine zz_aload_n (pc := 214) 0 dX6_next_214 rfl rfl ?_
          refine zz_aload_n (pc := 215) 0 dX6_next_215 rfl rfl ?_
          refine zz_get (pc := 216) (v := .ref (G.1 0)) 90 6 6 hG.2.2.2.1 rfl in_X6 (by decide) q474 (zval_rf rfl hG.2.2.2.2.2.1) dX6_next_216 ?_
          refine zz_getN (pc := 219) (v := .ref (G.1 12)) 0 0 1 (zGC_s0 (G := G) hG.1) rfl in_X0 (by decide) (List.mem_of_getElem? (i := 28) rfl) (zval_rf rfl (zGC_r0_1 (G := G) hG.1)) dX6_next_219 ?_
          refine zz_aload_n (pc := 222) 0 dX6_next_222 rfl rfl ?_
          refine zz_get (pc := 223) (v := .int (S6.1 90 2)) 90 6 2 hG.2.2.2.1 rfl in_X6 (by decide) q470 rfl dX6_next_223 ?_
          refine zz_chk (fun h8 => ?_)
          refine zz_baload (pc := 226) 12 1400 (zGC_s12 (G := G) hG.1) h8 dX6_next_226 ?_
          refine zz_bipush (pc := 227) (v := 59) dX6_next_227 (by decide) ?_
          refine zz_icmp_ne (pc := 229) 238 dX6_next_229 rfl ?_ ?_
          · refine zr_getsTok (pc := 238) 4 (by decide) hE q466 dX6_next_238 ?_
            refine zr_putTok (pc := 241) 4 4 (by decide) hG (by decide) q473 dX6_next_241 (fun S9 => ?_)
            refine zz_aload_n (pc := 244) 0 dX6_next_244 rfl rfl ?_
            refine zz_dup (pc := 245) dX6_next_245 rfl ?_
            refine zz_get (pc := 246) (v := .int (S9.1 90 2)) 90 6 2 hG.2.2.2.1 rfl in_X6 (by decide) q470 rfl dX6_next_246 ?_
            refine zz_iconst (pc := 249) (v := 1) dX6_next_249 (by decide) ?_
            refine zz_iadd (pc := 250) dX6_next_250 ?_
            refine zz_putI (pc := 251) tyX6 90 6 2 hG.2.2.2.1 rfl in_X6 tyX6_ok (fun b hb9 hbj => nmX6 _ (by decide) b hb9 (Ne.symm hbj)) (by decide) q470 rfl rfl rfl dX6_next_251 ?_
            refine zr_letS rfl (fun S10 => ?_)
            exact zr_vret rfl dX6_next_254
          · refine zr_getsTok (pc := 232) 3 (by decide) hE q464 dX6_next_232 ?_
            refine zz_goto (pc := 235) 241 dX6_next_235 rfl ?_
            refine zr_putTok (pc := 241) 3 3 (by decide) hG (by decide) q473 dX6_next_241 (fun S11 => ?_)
            refine zz_aload_n (pc := 244) 0 dX6_next_244 rfl rfl ?_
            refine zz_dup (pc := 245) dX6_next_245 rfl ?_
            refine zz_get (pc := 246) (v := .int (S11.1 90 2)) 90 6 2 hG.2.2.2.1 rfl in_X6 (by decide) q470 rfl dX6_next_246 ?_
            refine zz_iconst (pc := 249) (v := 1) dX6_next_249 (by decide) ?_
            refine zz_iadd (pc := 250) dX6_next_250 ?_
            refine zz_putI (pc := 251) tyX6 90 6 2 hG.2.2.2.1 rfl in_X6 tyX6_ok (fun b hb9 hbj => nmX6 _ (by decide) b hb9 (Ne.symm hbj)) (by decide) q470 rfl rfl rfl dX6_next_251 ?_
            refine zr_letS rfl (fun S12 => ?_)
            exact zr_vret rfl dX6_next_254
        · refine zz_aload_n (pc := 143) 0 dX6_next_143 rfl rfl ?_
          refine zz_iconst (pc := 144) (v := 0) dX6_next_144 (by decide) ?_
          refine zz_putI (pc := 145) tyX6 90 6 4 hG.2.2.2.1 rfl in_X6 tyX6_ok (fun b hb9 hbj => nmX6 _ (by decide) b hb9 (Ne.symm hbj)) (by decide) q472 rfl rfl rfl dX6_next_145 ?_
          refine zr_letS rfl (fun S13 => ?_)
          refine zz_join (fun j : zSt → Option (Option Unit × zSt) => ∀  (S15 : zSt), ZW X mX6_next yX6_next.name zJV G (0, 0) res S15 204 [some (.ref (G.1 90))] [] (j S15)) ?_ (fun k14 hk14 => ?_)
          · intro S15
            refine zz_aload_n (pc := 204) 0 dX6_next_204 rfl rfl ?_
            refine zr_getsTok (pc := 205) 2 (by decide) hE q462 dX6_next_205 ?_
            refine zr_putTok (pc := 208) 2 2 (by decide) hG (by decide) q473 dX6_next_208 (fun S16 => ?_)
            refine zz_goto (pc := 211) 254 dX6_next_211 rfl ?_
            exact zr_vret rfl dX6_next_254
          · refine z_loopK (fun j : zSt → Option (Option Unit × zSt) => ∀  (S18 : zSt), ZW X mX6_next yX6_next.name zJV G (0, 0) res S18 148 [some (.ref (G.1 90))] [] (j S18)) ?_ ?_ zfuel _
            · intro S18; exact zz_none
            · intro rec17 hrec17 S18
              unfold LB_X6_next_1
              refine zz_aload_n (pc := 148) 0 dX6_next_148 rfl rfl ?_
              refine zz_bipush (pc := 149) (v := 48) dX6_next_149 (by decide) ?_
              refine zz_bipush (pc := 151) (v := 57) dX6_next_151 (by decide) ?_
              refine zr_callV (pc := 153) hE _ _ (cr_X6_isNext hG _ _) mv_X6_isNext q451 rfl hG.2.2.2.1 rfl (Nat.le_of_ble_eq_true rfl) (Nat.le_of_ble_eq_true rfl) rfl rfl (Nat.le_of_ble_eq_true rfl) (Nat.le_of_ble_eq_true rfl) (Nat.le_of_ble_eq_true rfl) dX6_next_153 (fun r20 S19 => ?_)
              refine zz_if_eq (pc := 156) 204 dX6_next_156 rfl ?_ ?_
              · exact hk14 _
              · refine zz_aload_n (pc := 159) 0 dX6_next_159 rfl rfl ?_
                refine zz_ldc (pc := 160) (v := 99999) dX6_next_160 q458 ?_
                refine zz_bipush (pc := 162) (v := 10) dX6_next_162 (by decide) ?_
                refine zz_aload_n (pc := 164) 0 dX6_next_164 rfl rfl ?_
                refine zz_get (pc := 165) (v := .int (S19.1 90 4)) 90 6 4 hG.2.2.2.1 rfl in_X6 (by decide) q472 rfl dX6_next_165 ?_
                refine zz_imul (pc := 168) dX6_next_168 ?_
                refine zz_aload_n (pc := 169) 0 dX6_next_169 rfl rfl ?_
                refine zz_get (pc := 170) (v := .ref (G.1 0)) 90 6 6 hG.2.2.2.1 rfl in_X6 (by decide) q474 (zval_rf rfl hG.2.2.2.2.2.1) dX6_next_170 ?_
                refine zz_getN (pc := 173) (v := .ref (G.1 12)) 0 0 1 (zGC_s0 (G := G) hG.1) rfl in_X0 (by decide) (List.mem_of_getElem? (i := 28) rfl) (zval_rf rfl (zGC_r0_1 (G := G) hG.1)) dX6_next_173 ?_
                refine zz_aload_n (pc := 176) 0 dX6_next_176 rfl rfl ?_
                refine zz_get (pc := 177) (v := .int (S19.1 90 2)) 90 6 2 hG.2.2.2.1 rfl in_X6 (by decide) q470 rfl dX6_next_177 ?_
                refine zz_chk (fun h21 => ?_)
                refine zz_baload (pc := 180) 12 1400 (zGC_s12 (G := G) hG.1) h21 dX6_next_180 ?_
                refine zz_iadd (pc := 181) dX6_next_181 ?_
                refine zz_bipush (pc := 182) (v := 48) dX6_next_182 (by decide) ?_
                refine zz_isub (pc := 184) dX6_next_184 ?_
                refine zx_callS (pc := 185) [.int 99999, .int (((10 * (S19.1 90 4)) + (S19.1 12 (S19.1 90 2).toNatClampNeg)) - 48)] [.ref (G.1 90)] (ct_J0_min _ _) mv_J0_min q459 rfl (Nat.le_of_ble_eq_true rfl) (Nat.le_of_ble_eq_true rfl) rfl rfl (Nat.le_of_ble_eq_true rfl) dX6_next_185 (fun r23 S22 hF => ?_)
                have hF := (pu_J0_min hF).symm
                subst hF
                refine zz_putI (pc := 188) tyX6 90 6 4 hG.2.2.2.1 rfl in_X6 tyX6_ok (fun b hb9 hbj => nmX6 _ (by decide) b hb9 (Ne.symm hbj)) (by decide) q472 rfl rfl rfl dX6_next_188 ?_
                refine zr_letS rfl (fun S24 => ?_)
                refine zz_aload_n (pc := 191) 0 dX6_next_191 rfl rfl ?_
                refine zz_dup (pc := 192) dX6_next_192 rfl ?_
                refine zz_get (pc := 193) (v := .int (S24.1 90 2)) 90 6 2 hG.2.2.2.1 rfl in_X6 (by decide) q470 rfl dX6_next_193 ?_
                refine zz_iconst (pc := 196) (v := 1) dX6_next_196 (by decide) ?_
                refine zz_iadd (pc := 197) dX6_next_197 ?_
                refine zz_putI (pc := 198) tyX6 90 6 2 hG.2.2.2.1 rfl in_X6 tyX6_ok (fun b hb9 hbj => nmX6 _ (by decide) b hb9 (Ne.symm hbj)) (by decide) q470 rfl rfl rfl dX6_next_198 ?_
                refine zr_letS rfl (fun S25 => ?_)
                refine zz_goto (pc := 201) 148 dX6_next_201 rfl ?_
                exact hrec17 _
      · refine zz_join (fun j : zSt → Option (Option Unit × zSt) => ∀  (S27 : zSt), ZW X mX6_next yX6_next.name zJV G (0, 0) res S27 122 [some (.ref (G.1 90))] [] (j S27)) ?_ (fun k26 hk26 => ?_)
        · intro S27
          refine zz_aload_n (pc := 122) 0 dX6_next_122 rfl rfl ?_
          refine zr_getsTok (pc := 123) 1 (by decide) hE q456 dX6_next_123 ?_
          refine zr_putTok (pc := 126) 1 1 (by decide) hG (by decide) q473 dX6_next_126 (fun S28 => ?_)
          refine zz_goto (pc := 129) 254 dX6_next_129 rfl ?_
          exact zr_vret rfl dX6_next_254
        · refine z_loopK (fun j : zSt → Option (Option Unit × zSt) => ∀  (S30 : zSt), ZW X mX6_next yX6_next.name zJV G (0, 0) res S30 98 [some (.ref (G.1 90))] [] (j S30)) ?_ ?_ zfuel _
          · intro S30; exact zz_none
          · intro rec29 hrec29 S30
            unfold LB_X6_next_2
            refine zz_aload_n (pc := 98) 0 dX6_next_98 rfl rfl ?_
            refine zz_bipush (pc := 99) (v := 97) dX6_next_99 (by decide) ?_
            refine zz_bipush (pc := 101) (v := 122) dX6_next_101 (by decide) ?_
            refine zr_callV (pc := 103) hE _ _ (cr_X6_isNext hG _ _) mv_X6_isNext q451 rfl hG.2.2.2.1 rfl (Nat.le_of_ble_eq_true rfl) (Nat.le_of_ble_eq_true rfl) rfl rfl (Nat.le_of_ble_eq_true rfl) (Nat.le_of_ble_eq_true rfl) (Nat.le_of_ble_eq_true rfl) dX6_next_103 (fun r32 S31 => ?_)
            refine zz_if_eq (pc := 106) 122 dX6_next_106 rfl ?_ ?_
            · exact hk26 _
            · refine zz_aload_n (pc := 109) 0 dX6_next_109 rfl rfl ?_
              refine zz_dup (pc := 110) dX6_next_110 rfl ?_
              refine zz_get (pc := 111) (v := .int (S31.1 90 2)) 90 6 2 hG.2.2.2.1 rfl in_X6 (by decide) q470 rfl dX6_next_111 ?_
              refine zz_iconst (pc := 114) (v := 1) dX6_next_114 (by decide) ?_
              refine zz_iadd (pc := 115) dX6_next_115 ?_
              refine zz_putI (pc := 116) tyX6 90 6 2 hG.2.2.2.1 rfl in_X6 tyX6_ok (fun b hb9 hbj => nmX6 _ (by decide) b hb9 (Ne.symm hbj)) (by decide) q470 rfl rfl rfl dX6_next_116 ?_
              refine zr_letS rfl (fun S33 => ?_)
              refine zz_goto (pc := 119) 98 dX6_next_119 rfl ?_
              exact hrec29 _
    · refine zz_aload_n (pc := 77) 0 dX6_next_77 rfl rfl ?_
      refine zr_getsTok (pc := 78) 0 (by decide) hE q445 dX6_next_78 ?_
      refine zr_putTok (pc := 81) 0 0 (by decide) hG (by decide) q473 dX6_next_81 (fun S34 => ?_)
      refine zz_goto (pc := 84) 254 dX6_next_84 rfl ?_
      exact zr_vret rfl dX6_next_254
  · refine z_loopK (fun j : zSt → Option (Option Unit × zSt) => ∀  (S36 : zSt), ZW X mX6_next yX6_next.name zJV G (0, 0) res S36 0 [some (.ref (G.1 90))] [] (j S36)) ?_ ?_ zfuel _
    · intro S36; exact zz_none
    · intro rec35 hrec35 S36
      unfold LB_X6_next_3
      refine zz_aload_n (pc := 0) 0 dX6_next_0 rfl rfl ?_
      refine zz_get (pc := 1) (v := .int (S36.1 90 2)) 90 6 2 hG.2.2.2.1 rfl in_X6 (by decide) q470 rfl dX6_next_1 ?_
      refine zz_aload_n (pc := 4) 0 dX6_next_4 rfl rfl ?_
      refine zz_get (pc := 5) (v := .int (S36.1 90 0)) 90 6 0 hG.2.2.2.1 rfl in_X6 (by decide) q468 rfl dX6_next_5 ?_
      refine zz_icmp_ge (pc := 8) 58 dX6_next_8 rfl ?_ ?_
      · exact hk1 _
      · refine zz_aload_n (pc := 11) 0 dX6_next_11 rfl rfl ?_
        refine zz_get (pc := 12) (v := .ref (G.1 0)) 90 6 6 hG.2.2.2.1 rfl in_X6 (by decide) q474 (zval_rf rfl hG.2.2.2.2.2.1) dX6_next_12 ?_
        refine zz_getN (pc := 15) (v := .ref (G.1 12)) 0 0 1 (zGC_s0 (G := G) hG.1) rfl in_X0 (by decide) (List.mem_of_getElem? (i := 28) rfl) (zval_rf rfl (zGC_r0_1 (G := G) hG.1)) dX6_next_15 ?_
        refine zz_aload_n (pc := 18) 0 dX6_next_18 rfl rfl ?_
        refine zz_get (pc := 19) (v := .int (S36.1 90 2)) 90 6 2 hG.2.2.2.1 rfl in_X6 (by decide) q470 rfl dX6_next_19 ?_
        refine zz_chk (fun h37 => ?_)
        refine zz_baload (pc := 22) 12 1400 (zGC_s12 (G := G) hG.1) h37 dX6_next_22 ?_
        refine zz_bipush (pc := 23) (v := 32) dX6_next_23 (by decide) ?_
        refine zz_join (fun j : Option (Option Unit × zSt) =>  ZW X mX6_next yX6_next.name zJV G (0, 0) res S36 45 [some (.ref (G.1 90))] [] (j)) ?_ (fun j38 hj38 => ?_)
        · show _
          refine zz_aload_n (pc := 45) 0 dX6_next_45 rfl rfl ?_
          refine zz_dup (pc := 46) dX6_next_46 rfl ?_
          refine zz_get (pc := 47) (v := .int (S36.1 90 2)) 90 6 2 hG.2.2.2.1 rfl in_X6 (by decide) q470 rfl dX6_next_47 ?_
          refine zz_iconst (pc := 50) (v := 1) dX6_next_50 (by decide) ?_
          refine zz_iadd (pc := 51) dX6_next_51 ?_
          refine zz_putI (pc := 52) tyX6 90 6 2 hG.2.2.2.1 rfl in_X6 tyX6_ok (fun b hb9 hbj => nmX6 _ (by decide) b hb9 (Ne.symm hbj)) (by decide) q470 rfl rfl rfl dX6_next_52 ?_
          refine zr_letS rfl (fun S39 => ?_)
          refine zz_goto (pc := 55) 0 dX6_next_55 rfl ?_
          exact hrec35 _
        · refine zz_icmp_eq (pc := 25) 45 dX6_next_25 rfl ?_ ?_
          · exact hj38 
          · refine zz_aload_n (pc := 28) 0 dX6_next_28 rfl rfl ?_
            refine zz_get (pc := 29) (v := .ref (G.1 0)) 90 6 6 hG.2.2.2.1 rfl in_X6 (by decide) q474 (zval_rf rfl hG.2.2.2.2.2.1) dX6_next_29 ?_
            refine zz_getN (pc := 32) (v := .ref (G.1 12)) 0 0 1 (zGC_s0 (G := G) hG.1) rfl in_X0 (by decide) (List.mem_of_getElem? (i := 28) rfl) (zval_rf rfl (zGC_r0_1 (G := G) hG.1)) dX6_next_32 ?_
            refine zz_aload_n (pc := 35) 0 dX6_next_35 rfl rfl ?_
            refine zz_get (pc := 36) (v := .int (S36.1 90 2)) 90 6 2 hG.2.2.2.1 rfl in_X6 (by decide) q470 rfl dX6_next_36 ?_
            refine zz_chk (fun h40 => ?_)
            refine zz_baload (pc := 39) 12 1400 (zGC_s12 (G := G) hG.1) h40 dX6_next_39 ?_
            refine zz_bipush (pc := 40) (v := 10) dX6_next_40 (by decide) ?_
            refine zz_icmp_ne (pc := 42) 58 dX6_next_42 rfl ?_ ?_
            · exact hk1 _
            · exact hj38 
abbrev mX6_is : zMr := ("HiddenCube$Reader", cX6_is, 3, (some .boolean), 7, 1, 8, none)
def LB_X6_is_1 (i9 : Nat) (rec1 : Int32 → zSt → Option (Option Int32 × zSt)) (x2 : Int32) (S3 : zSt) : Option (Option Int32 × zSt) :=
if (n9s i9) ≤ x2 then (some (some 1, S3)) else (zlet ((S3.1 90 3) + x2 : Int32) (fun w4 : Int32 =>
chk w4 1400 (chk x2 (sLen.getD i9 0) (if (S3.1 12 (w4).toNatClampNeg) = (sCh i9 (x2).toNatClampNeg) then (rec1 (x2 + 1) S3) else (some (some 0, S3))))))
def F_X6_is (i9 : Nat) (S : zSt) : Option (Option Int32 × zSt) :=
if tkq (S.1 90 5) = 1 then (if ((S.1 90 2) - (S.1 90 3)) = (n9s i9) then (loopK (fun _ _ => none) (LB_X6_is_1 i9) zfuel 0 S) else (some (some 0, S))) else (some (some 0, S))
theorem mv_X6_is : ZV mX6_is yX6_is 1 := ⟨q509, qs6, q156, q510, rfl, by decide, by decide, by decide +kernel⟩
theorem cr_X6_is {G : zGw} {e9 : zRe} (hG : zGR e9 G) {i9 : Nat} (hi : i9 < 9)  : Zr e9 mX6_is yX6_is zJI G [.ref (G.1 90), .ref (e9.2.1 i9)] (F_X6_is i9) := by
  refine Zr_of [some (.ref (G.1 90)), some (.ref (e9.2.1 i9)), none] (by decide) rfl rfl (Nat.le_of_ble_eq_true rfl) rfl (fun X S res hE => ?_)
  unfold F_X6_is
  refine zz_aload_n (pc := 0) 0 dX6_is_0 rfl rfl ?_
  refine zr_getTok (pc := 1) hG q473 dX6_is_1 ?_
  refine zr_getsTok (pc := 4) 1 (by decide) hE q456 dX6_is_4 ?_
  refine zr_acmp_ne (pc := 7) 1 26 hG hE (by decide) dX6_is_7 rfl ?_ ?_
  · refine zz_iconst (pc := 26) (v := 0) dX6_is_26 (by decide) ?_
    exact zr_zret (by decide) rfl dX6_is_27
  · refine zz_aload_n (pc := 10) 0 dX6_is_10 rfl rfl ?_
    refine zz_get (pc := 11) (v := .int (S.1 90 2)) 90 6 2 hG.2.2.2.1 rfl in_X6 (by decide) q470 rfl dX6_is_11 ?_
    refine zz_aload_n (pc := 14) 0 dX6_is_14 rfl rfl ?_
    refine zz_get (pc := 15) (v := .int (S.1 90 3)) 90 6 3 hG.2.2.2.1 rfl in_X6 (by decide) q471 rfl dX6_is_15 ?_
    refine zz_isub (pc := 18) dX6_is_18 ?_
    refine zz_aload_n (pc := 19) 1 dX6_is_19 rfl rfl ?_
    refine zr_length (pc := 20) hi hE q511 (Nat.le_of_ble_eq_true rfl) dX6_is_20 ?_
    refine zz_icmp_eq (pc := 23) 28 dX6_is_23 rfl ?_ ?_
    · refine zz_iconst (pc := 28) (v := 0) dX6_is_28 (by decide) ?_
      refine zz_istore_n (pc := 29) 2 dX6_is_29 rfl (Nat.le_of_ble_eq_true rfl) rfl ?_
      refine z_loopK (fun j : Int32 → zSt → Option (Option Int32 × zSt) => ∀ (x2 : Int32) (S3 : zSt), ZW X mX6_is yX6_is.name zJI G (0, 0) res S3 30 [some (.ref (G.1 90)), some (.ref (e9.2.1 i9)), some (.int x2)] [] (j x2 S3)) ?_ ?_ zfuel _ _
      · intro x2 S3; exact zz_none
      · intro rec1 hrec1 x2 S3
        unfold LB_X6_is_1
        refine zz_iload_n (pc := 30) 2 dX6_is_30 rfl rfl ?_
        refine zz_aload_n (pc := 31) 1 dX6_is_31 rfl rfl ?_
        refine zr_length (pc := 32) hi hE q511 (Nat.le_of_ble_eq_true rfl) dX6_is_32 ?_
        refine zz_icmp_ge (pc := 35) 68 dX6_is_35 rfl ?_ ?_
        · refine zz_iconst (pc := 68) (v := 1) dX6_is_68 (by decide) ?_
          exact zr_zret (by decide) rfl dX6_is_69
        · refine zz_aload_n (pc := 38) 0 dX6_is_38 rfl rfl ?_
          refine zz_get (pc := 39) (v := .ref (G.1 0)) 90 6 6 hG.2.2.2.1 rfl in_X6 (by decide) q474 (zval_rf rfl hG.2.2.2.2.2.1) dX6_is_39 ?_
          refine zz_getN (pc := 42) (v := .ref (G.1 12)) 0 0 1 (zGC_s0 (G := G) hG.1) rfl in_X0 (by decide) (List.mem_of_getElem? (i := 28) rfl) (zval_rf rfl (zGC_r0_1 (G := G) hG.1)) dX6_is_42 ?_
          refine zz_aload_n (pc := 45) 0 dX6_is_45 rfl rfl ?_
          refine zz_get (pc := 46) (v := .int (S3.1 90 3)) 90 6 3 hG.2.2.2.1 rfl in_X6 (by decide) q471 rfl dX6_is_46 ?_
          refine zz_iload_n (pc := 49) 2 dX6_is_49 rfl rfl ?_
          refine zz_iadd (pc := 50) dX6_is_50 ?_
          refine zz_letI (fun w4 => ?_)
          refine zz_chk (fun h5 => ?_)
          refine zz_baload (pc := 51) 12 1400 (zGC_s12 (G := G) hG.1) h5 dX6_is_51 ?_
          refine zz_aload_n (pc := 52) 1 dX6_is_52 rfl rfl ?_
          refine zz_iload_n (pc := 53) 2 dX6_is_53 rfl rfl ?_
          refine zz_chk (fun h6 => ?_)
          refine zr_charAt (pc := 54) hi h6 hE q521 (Nat.le_of_ble_eq_true rfl) dX6_is_54 ?_
          refine zz_icmp_eq (pc := 57) 62 dX6_is_57 rfl ?_ ?_
          · refine zz_iinc (pc := 62) (w := x2 + 1) dX6_is_62 rfl (by rw [show Int32.ofInt 1 = 1 from by decide]) (Nat.le_of_ble_eq_true rfl) rfl ?_
            refine zz_goto (pc := 65) 30 dX6_is_65 rfl ?_
            exact hrec1 _ _
          · refine zz_iconst (pc := 60) (v := 0) dX6_is_60 (by decide) ?_
            exact zr_zret (by decide) rfl dX6_is_61
    · refine zz_iconst (pc := 26) (v := 0) dX6_is_26 (by decide) ?_
      exact zr_zret (by decide) rfl dX6_is_27
abbrev mX6_takes : zMr := ("HiddenCube$Reader", cX6_takes, 3, (some .boolean), 9, 1, 8, none)
def F_X6_takes (i9 : Nat) (S : zSt) : Option (Option Int32 × zSt) :=
zbR (F_X6_is i9 S) (fun r2 S1 =>
if r2 = 0 then (some (some (r2 &&& 1), S1)) else (zbR (F_X6_next S1) (fun _ S3 =>
some (some (r2 &&& 1), S3))))
theorem mv_X6_takes : ZV mX6_takes yX6_takes 1 := ⟨q505, qs5, q156, q506, rfl, by decide, by decide, by decide +kernel⟩
theorem cr_X6_takes {G : zGw} {e9 : zRe} (hG : zGR e9 G) {i9 : Nat} (hi : i9 < 9)  : Zr e9 mX6_takes yX6_takes zJI G [.ref (G.1 90), .ref (e9.2.1 i9)] (F_X6_takes i9) := by
  refine Zr_of [some (.ref (G.1 90)), some (.ref (e9.2.1 i9)), none] (by decide) rfl rfl (Nat.le_of_ble_eq_true rfl) rfl (fun X S res hE => ?_)
  unfold F_X6_takes
  refine zz_aload_n (pc := 0) 0 dX6_takes_0 rfl rfl ?_
  refine zz_aload_n (pc := 1) 1 dX6_takes_1 rfl rfl ?_
  refine zr_callV (pc := 2) hE _ _ (cr_X6_is hG hi) mv_X6_is q507 rfl hG.2.2.2.1 rfl (Nat.le_of_ble_eq_true rfl) (Nat.le_of_ble_eq_true rfl) rfl rfl (Nat.le_of_ble_eq_true rfl) (Nat.le_of_ble_eq_true rfl) (Nat.le_of_ble_eq_true rfl) dX6_takes_2 (fun r2 S1 => ?_)
  refine zz_istore_n (pc := 5) 2 dX6_takes_5 rfl (Nat.le_of_ble_eq_true rfl) rfl ?_
  refine zz_iload_n (pc := 6) 2 dX6_takes_6 rfl rfl ?_
  refine zz_if_eq (pc := 7) 14 dX6_takes_7 rfl ?_ ?_
  · refine zz_iload_n (pc := 14) 2 dX6_takes_14 rfl rfl ?_
    exact zr_zret rfl rfl dX6_takes_15
  · refine zz_aload_n (pc := 10) 0 dX6_takes_10 rfl rfl ?_
    refine zr_callV (pc := 11) hE _ _ (cr_X6_next hG) mv_X6_next q447 rfl hG.2.2.2.1 rfl (Nat.le_of_ble_eq_true rfl) (Nat.le_of_ble_eq_true rfl) rfl rfl (Nat.le_of_ble_eq_true rfl) (Nat.le_of_ble_eq_true rfl) (Nat.le_of_ble_eq_true rfl) dX6_takes_11 (fun _ S3 => ?_)
    refine zz_iload_n (pc := 14) 2 dX6_takes_14 rfl rfl ?_
    exact zr_zret rfl rfl dX6_takes_15
abbrev mX6_needs : zMr := ("HiddenCube$Reader", cX6_needs, 2, none, 10, 1, 8, none)
def F_X6_needs (i9 : Nat) (S : zSt) : Option (Option Unit × zSt) :=
zbR (F_X6_takes i9 S) (fun r2 S1 =>
if r2 = 0 then ((F_X6_wrong 1 S1).bind (fun q9 =>
some (none, q9.2))) else (some (some (), S1)))
theorem mv_X6_needs : ZV mX6_needs yX6_needs 1 := ⟨q501, qs4, q156, q502, rfl, by decide, by decide, by decide +kernel⟩
theorem cr_X6_needs {G : zGw} {e9 : zRe} (hG : zGR e9 G) {i9 : Nat} (hi : i9 < 9)  : Zr e9 mX6_needs yX6_needs zJV G [.ref (G.1 90), .ref (e9.2.1 i9)] (F_X6_needs i9) := by
  refine Zr_of [some (.ref (G.1 90)), some (.ref (e9.2.1 i9))] (by decide) rfl rfl (Nat.le_of_ble_eq_true rfl) rfl (fun X S res hE => ?_)
  unfold F_X6_needs
  refine zz_aload_n (pc := 0) 0 dX6_needs_0 rfl rfl ?_
  refine zz_aload_n (pc := 1) 1 dX6_needs_1 rfl rfl ?_
  refine zr_callV (pc := 2) hE _ _ (cr_X6_takes hG hi) mv_X6_takes q503 rfl hG.2.2.2.1 rfl (Nat.le_of_ble_eq_true rfl) (Nat.le_of_ble_eq_true rfl) rfl rfl (Nat.le_of_ble_eq_true rfl) (Nat.le_of_ble_eq_true rfl) (Nat.le_of_ble_eq_true rfl) dX6_needs_2 (fun r2 S1 => ?_)
  refine zz_if_ne (pc := 5) 14 dX6_needs_5 rfl ?_ ?_
  · exact zr_vret rfl dX6_needs_14
  · refine zz_aload_n (pc := 8) 0 dX6_needs_8 rfl rfl ?_
    refine zz_iconst (pc := 9) (v := 1) dX6_needs_9 (by decide) ?_
    refine zz_callGV (pc := 10) (cs := (0, 0)) (idx := 103) (M := mX6_needs) (1, 8) [.int 1] [] 90 (cg_X6_wrong (G := gT G _) (n98 hG) (n99 hG) (n100 hG) hG.2.2.2.1 hG.2.2.2.2.2.2.2.1 hG.2.2.2.2.2.2.2.2.1 hG.2.2.2.2.2.2.2.2.2 _) 6 hG.2.2.2.1 rfl mv_X6_wrong q559 rfl (Nat.le_of_ble_eq_true rfl) (Nat.le_of_ble_eq_true rfl) rfl rfl rfl (Nat.le_of_ble_eq_true rfl) dX6_needs_10 (fun G9 r9 S9 hK9 => ?_)
    obtain ⟨a9, t9, u9, rfl⟩ := hK9
    exact zr_throw rfl (Nat.le_of_ble_eq_true rfl) (Nat.le_of_ble_eq_true rfl) dX6_needs_13
abbrev mX6_number : zMr := ("HiddenCube$Reader", cX6_number, 4, (some .int), 9, 1, 8, none)
def F_X6_number (a1 : Int32) (a2 : Int32) (S : zSt) : Option (Option Int32 × zSt) :=
if tkq (S.1 90 5) = 2 then (zbind (F_X0_isIn ((S.1 90 4).toInt64) ((a1).toInt64) ((a2).toInt64) S) (fun r2 S1 =>
if r2 = 0 then ((F_X6_wrong 2 S).bind (fun q9 =>
some (none, q9.2))) else (zbR (F_X6_next S) (fun _ S3 =>
some (some (S.1 90 4), S3))))) else ((F_X6_wrong 1 S).bind (fun q9 =>
some (none, q9.2)))
theorem mv_X6_number : ZV mX6_number yX6_number 2 := ⟨q675, qs15, q156, q676, rfl, by decide, by decide, by decide +kernel⟩
theorem cr_X6_number {G : zGw} {e9 : zRe} (hG : zGR e9 G) (a1 : Int32) (a2 : Int32) : Zr e9 mX6_number yX6_number zJI G [.ref (G.1 90), .int a1, .int a2] (F_X6_number a1 a2) := by
  refine Zr_of [some (.ref (G.1 90)), some (.int a1), some (.int a2), none] (by decide) rfl rfl (Nat.le_of_ble_eq_true rfl) rfl (fun X S res hE => ?_)
  unfold F_X6_number
  refine zz_aload_n (pc := 0) 0 dX6_number_0 rfl rfl ?_
  refine zr_getTok (pc := 1) hG q473 dX6_number_1 ?_
  refine zr_getsTok (pc := 4) 2 (by decide) hE q462 dX6_number_4 ?_
  refine zr_acmp_eq (pc := 7) 2 16 hG hE (by decide) dX6_number_7 rfl ?_ ?_
  · refine zz_aload_n (pc := 16) 0 dX6_number_16 rfl rfl ?_
    refine zz_get (pc := 17) (v := .int (S.1 90 4)) 90 6 4 hG.2.2.2.1 rfl in_X6 (by decide) q472 rfl dX6_number_17 ?_
    refine zz_i2l (pc := 20) dX6_number_20 ?_
    refine zz_iload_n (pc := 21) 1 dX6_number_21 rfl rfl ?_
    refine zz_i2l (pc := 22) dX6_number_22 ?_
    refine zz_iload_n (pc := 23) 2 dX6_number_23 rfl rfl ?_
    refine zz_i2l (pc := 24) dX6_number_24 ?_
    refine zx_callSN (pc := 25) [.long ((S.1 90 4).toInt64), .long ((a1).toInt64), .long ((a2).toInt64)] [] (ct_X0_isIn _ _ _) mv_X0_isIn (by decide) rfl (Nat.le_of_ble_eq_true rfl) (Nat.le_of_ble_eq_true rfl) rfl rfl (Nat.le_of_ble_eq_true rfl) dX6_number_25 (fun r2 S1 hF => ?_)
    have hF := (pu_X0_isIn hF).symm
    subst hF
    refine zz_if_ne (pc := 28) 37 dX6_number_28 rfl ?_ ?_
    · refine zz_aload_n (pc := 37) 0 dX6_number_37 rfl rfl ?_
      refine zz_get (pc := 38) (v := .int (S.1 90 4)) 90 6 4 hG.2.2.2.1 rfl in_X6 (by decide) q472 rfl dX6_number_38 ?_
      refine zz_istore_n (pc := 41) 3 dX6_number_41 rfl (Nat.le_of_ble_eq_true rfl) rfl ?_
      refine zz_aload_n (pc := 42) 0 dX6_number_42 rfl rfl ?_
      refine zr_callV (pc := 43) hE _ _ (cr_X6_next hG) mv_X6_next q447 rfl hG.2.2.2.1 rfl (Nat.le_of_ble_eq_true rfl) (Nat.le_of_ble_eq_true rfl) rfl rfl (Nat.le_of_ble_eq_true rfl) (Nat.le_of_ble_eq_true rfl) (Nat.le_of_ble_eq_true rfl) dX6_number_43 (fun _ S3 => ?_)
      refine zz_iload_n (pc := 46) 3 dX6_number_46 rfl rfl ?_
      exact zr_iret rfl dX6_number_47
    · refine zz_aload_n (pc := 31) 0 dX6_number_31 rfl rfl ?_
      refine zz_iconst (pc := 32) (v := 2) dX6_number_32 (by decide) ?_
      refine zz_callGV (pc := 33) (cs := (0, 0)) (idx := 103) (M := mX6_number) (1, 8) [.int 2] [] 90 (cg_X6_wrong (G := gT G _) (n98 hG) (n99 hG) (n100 hG) hG.2.2.2.1 hG.2.2.2.2.2.2.2.1 hG.2.2.2.2.2.2.2.2.1 hG.2.2.2.2.2.2.2.2.2 _) 6 hG.2.2.2.1 rfl mv_X6_wrong q559 rfl (Nat.le_of_ble_eq_true rfl) (Nat.le_of_ble_eq_true rfl) rfl rfl rfl (Nat.le_of_ble_eq_true rfl) dX6_number_33 (fun G9 r9 S9 hK9 => ?_)
      obtain ⟨a9, t9, u9, rfl⟩ := hK9
      exact zr_throw rfl (Nat.le_of_ble_eq_true rfl) (Nat.le_of_ble_eq_true rfl) dX6_number_36
  · refine zz_aload_n (pc := 10) 0 dX6_number_10 rfl rfl ?_
    refine zz_iconst (pc := 11) (v := 1) dX6_number_11 (by decide) ?_
    refine zz_callGV (pc := 12) (cs := (0, 0)) (idx := 103) (M := mX6_number) (1, 8) [.int 1] [] 90 (cg_X6_wrong (G := gT G _) (n98 hG) (n99 hG) (n100 hG) hG.2.2.2.1 hG.2.2.2.2.2.2.2.1 hG.2.2.2.2.2.2.2.2.1 hG.2.2.2.2.2.2.2.2.2 _) 6 hG.2.2.2.1 rfl mv_X6_wrong q559 rfl (Nat.le_of_ble_eq_true rfl) (Nat.le_of_ble_eq_true rfl) rfl rfl rfl (Nat.le_of_ble_eq_true rfl) dX6_number_12 (fun G9 r9 S9 hK9 => ?_)
    obtain ⟨a9, t9, u9, rfl⟩ := hK9
    exact zr_throw rfl (Nat.le_of_ble_eq_true rfl) (Nat.le_of_ble_eq_true rfl) dX6_number_15
abbrev mX6_square : zMr := ("HiddenCube$Reader", cX6_square, 1, (some .int), 10, 1, 8, none)
def F_X6_square  (S : zSt) : Option (Option Int32 × zSt) :=
zbind (F_X1_squares 80  S) (fun r2 S1 =>
zbR (F_X6_number 0 (r2 - 1) S1) (fun r4 S3 =>
some (some r4, S3)))
theorem mv_X6_square : ZV mX6_square yX6_square 0 := ⟨q667, qs14, q156, q668, rfl, by decide, by decide, by decide +kernel⟩
theorem cr_X6_square {G : zGw} {e9 : zRe} (hG : zGR e9 G)  : Zr e9 mX6_square yX6_square zJI G [.ref (G.1 90)] (F_X6_square) := by
  refine Zr_of [some (.ref (G.1 90))] (by decide) rfl rfl (Nat.le_of_ble_eq_true rfl) rfl (fun X S res hE => ?_)
  unfold F_X6_square
  refine zz_aload_n (pc := 0) 0 dX6_square_0 rfl rfl ?_
  refine zz_iconst (pc := 1) (v := 0) dX6_square_1 (by decide) ?_
  refine zz_aload_n (pc := 2) 0 dX6_square_2 rfl rfl ?_
  refine zz_get (pc := 3) (v := .ref (G.1 80)) 90 6 1 hG.2.2.2.1 rfl in_X6 (by decide) q469 (zval_rf rfl hG.2.2.2.2.1) dX6_square_3 ?_
  refine zx_callV (pc := 6) [] [.int 0, .ref (G.1 90)] 80 1 (ct_X1_squares (G := gT G S) (b := 80) hG.2.2.1 ) mv_X1_squares q669 rfl hG.2.2.1.1 rfl (Nat.le_of_ble_eq_true rfl) (Nat.le_of_ble_eq_true rfl) rfl rfl (Nat.le_of_ble_eq_true rfl) dX6_square_6 (fun r2 S1 hF => ?_)
  refine zr_re (pu_X1_squares hF) ?_
  refine zz_iconst (pc := 9) (v := 1) dX6_square_9 (by decide) ?_
  refine zz_isub (pc := 10) dX6_square_10 ?_
  refine zr_callV (pc := 11) hE _ _ (cr_X6_number hG _ _) mv_X6_number q673 rfl hG.2.2.2.1 rfl (Nat.le_of_ble_eq_true rfl) (Nat.le_of_ble_eq_true rfl) rfl rfl (Nat.le_of_ble_eq_true rfl) (Nat.le_of_ble_eq_true rfl) (Nat.le_of_ble_eq_true rfl) dX6_square_11 (fun r4 S3 => ?_)
  exact zr_iret rfl dX6_square_14
abbrev mX6_name : zMr := ("HiddenCube$Reader", cX6_name, 3, (some .int), 7, 1, 8, none)
def LB_X6_name_1 (S : zSt) (x2 : Int32) (rec1 : Int32 → Option (Option Int32 × zSt)) (rec4 : Int32 → Option (Option Int32 × zSt)) (x5 : Int32) : Option (Option Int32 × zSt) :=
if ((S.1 90 2) - (S.1 90 3)) ≤ x5 then (some (some x2, S)) else (chk ((8 * x2) + x5) 40 (zlet ((S.1 90 3) + x5 : Int32) (fun w7 : Int32 =>
chk w7 1400 (if (S.1 81 ((8 * x2) + x5).toNatClampNeg) = (S.1 12 (w7).toNatClampNeg) then (rec4 (x5 + 1)) else (rec1 (x2 + 1))))))
def LB_X6_name_2 (S : zSt) (rec1 : Int32 → Option (Option Int32 × zSt)) (x2 : Int32) : Option (Option Int32 × zSt) :=
if (S.1 80 0) ≤ x2 then (some (some (-1), S)) else (chk x2 5 (if (S.1 82 (x2).toNatClampNeg) = ((S.1 90 2) - (S.1 90 3)) then (loopK (fun _ => none) (LB_X6_name_1 S x2 rec1) zfuel 0) else (rec1 (x2 + 1))))
def F_X6_name  (S : zSt) : Option (Option Int32 × zSt) :=
if tkq (S.1 90 5) = 1 then (loopK (fun _ => none) (LB_X6_name_2 S) zfuel 0) else ((F_X6_wrong 1 S).bind (fun q9 =>
some (none, q9.2)))
theorem mv_X6_name : ZV mX6_name yX6_name 0 := ⟨q654, qs11, q156, q655, rfl, by decide, by decide, by decide +kernel⟩
theorem cr_X6_name {G : zGw} {e9 : zRe} (hG : zGR e9 G)  : Zr e9 mX6_name yX6_name zJI G [.ref (G.1 90)] (F_X6_name) := by
  refine Zr_of [some (.ref (G.1 90)), none, none] (by decide) rfl rfl (Nat.le_of_ble_eq_true rfl) rfl (fun X S res hE => ?_)
  unfold F_X6_name
  refine zz_aload_n (pc := 0) 0 dX6_name_0 rfl rfl ?_
  refine zr_getTok (pc := 1) hG q473 dX6_name_1 ?_
  refine zr_getsTok (pc := 4) 1 (by decide) hE q456 dX6_name_4 ?_
  refine zr_acmp_eq (pc := 7) 1 16 hG hE (by decide) dX6_name_7 rfl ?_ ?_
  · refine zz_iconst (pc := 16) (v := 0) dX6_name_16 (by decide) ?_
    refine zz_istore_n (pc := 17) 1 dX6_name_17 rfl (Nat.le_of_ble_eq_true rfl) rfl ?_
    refine z_loopK (fun j : Int32 → Option (Option Int32 × zSt) => ∀ (x2 : Int32), ZW X mX6_name yX6_name.name zJI G (0, 0) res S 18 [some (.ref (G.1 90)), some (.int x2), none] [] (j x2)) ?_ ?_ zfuel _
    · intro x2; exact zz_none
    · intro rec1 hrec1 x2
      unfold LB_X6_name_2
      refine zz_iload_n (pc := 18) 1 dX6_name_18 rfl rfl ?_
      refine zz_aload_n (pc := 19) 0 dX6_name_19 rfl rfl ?_
      refine zz_get (pc := 20) (v := .ref (G.1 80)) 90 6 1 hG.2.2.2.1 rfl in_X6 (by decide) q469 (zval_rf rfl hG.2.2.2.2.1) dX6_name_20 ?_
      refine zz_getN (pc := 23) (v := .int (S.1 80 0)) 80 1 0 hG.2.2.1.1 rfl in_X1 (by decide) (List.mem_of_getElem? (i := 18) rfl) rfl dX6_name_23 ?_
      refine zz_icmp_ge (pc := 26) 116 dX6_name_26 rfl ?_ ?_
      · refine zz_iconst (pc := 116) (v := (-1)) dX6_name_116 (by decide) ?_
        exact zr_iret rfl dX6_name_117
      · refine zz_aload_n (pc := 29) 0 dX6_name_29 rfl rfl ?_
        refine zz_get (pc := 30) (v := .ref (G.1 80)) 90 6 1 hG.2.2.2.1 rfl in_X6 (by decide) q469 (zval_rf rfl hG.2.2.2.2.1) dX6_name_30 ?_
        refine zz_getN (pc := 33) (v := .ref (G.1 82)) 80 1 3 hG.2.2.1.1 rfl in_X1 (by decide) (List.mem_of_getElem? (i := 21) rfl) (zval_rf rfl (zGT_r3 hG.2.2.1)) dX6_name_33 ?_
        refine zz_iload_n (pc := 36) 1 dX6_name_36 rfl rfl ?_
        refine zz_chk (fun h3 => ?_)
        refine zz_iaload (pc := 37) 82 5 (zGT_a2 hG.2.2.1) h3 dX6_name_37 ?_
        refine zz_aload_n (pc := 38) 0 dX6_name_38 rfl rfl ?_
        refine zz_get (pc := 39) (v := .int (S.1 90 2)) 90 6 2 hG.2.2.2.1 rfl in_X6 (by decide) q470 rfl dX6_name_39 ?_
        refine zz_aload_n (pc := 42) 0 dX6_name_42 rfl rfl ?_
        refine zz_get (pc := 43) (v := .int (S.1 90 3)) 90 6 3 hG.2.2.2.1 rfl in_X6 (by decide) q471 rfl dX6_name_43 ?_
        refine zz_isub (pc := 46) dX6_name_46 ?_
        refine zz_icmp_eq (pc := 47) 53 dX6_name_47 rfl ?_ ?_
        · refine zz_iconst (pc := 53) (v := 0) dX6_name_53 (by decide) ?_
          refine zz_istore_n (pc := 54) 2 dX6_name_54 rfl (Nat.le_of_ble_eq_true rfl) rfl ?_
          refine z_loopK (fun j : Int32 → Option (Option Int32 × zSt) => ∀ (x5 : Int32), ZW X mX6_name yX6_name.name zJI G (0, 0) res S 55 [some (.ref (G.1 90)), some (.int x2), some (.int x5)] [] (j x5)) ?_ ?_ zfuel _
          · intro x5; exact zz_none
          · intro rec4 hrec4 x5
            unfold LB_X6_name_1
            refine zz_iload_n (pc := 55) 2 dX6_name_55 rfl rfl ?_
            refine zz_aload_n (pc := 56) 0 dX6_name_56 rfl rfl ?_
            refine zz_get (pc := 57) (v := .int (S.1 90 2)) 90 6 2 hG.2.2.2.1 rfl in_X6 (by decide) q470 rfl dX6_name_57 ?_
            refine zz_aload_n (pc := 60) 0 dX6_name_60 rfl rfl ?_
            refine zz_get (pc := 61) (v := .int (S.1 90 3)) 90 6 3 hG.2.2.2.1 rfl in_X6 (by decide) q471 rfl dX6_name_61 ?_
            refine zz_isub (pc := 64) dX6_name_64 ?_
            refine zz_icmp_ge (pc := 65) 108 dX6_name_65 rfl ?_ ?_
            · refine zz_iload_n (pc := 108) 1 dX6_name_108 rfl rfl ?_
              exact zr_iret rfl dX6_name_109
            · refine zz_aload_n (pc := 68) 0 dX6_name_68 rfl rfl ?_
              refine zz_get (pc := 69) (v := .ref (G.1 80)) 90 6 1 hG.2.2.2.1 rfl in_X6 (by decide) q469 (zval_rf rfl hG.2.2.2.2.1) dX6_name_69 ?_
              refine zz_getN (pc := 72) (v := .ref (G.1 81)) 80 1 2 hG.2.2.1.1 rfl in_X1 (by decide) (List.mem_of_getElem? (i := 20) rfl) (zval_rf rfl (zGT_r2 hG.2.2.1)) dX6_name_72 ?_
              refine zz_bipush (pc := 75) (v := 8) dX6_name_75 (by decide) ?_
              refine zz_iload_n (pc := 77) 1 dX6_name_77 rfl rfl ?_
              refine zz_imul (pc := 78) dX6_name_78 ?_
              refine zz_iload_n (pc := 79) 2 dX6_name_79 rfl rfl ?_
              refine zz_iadd (pc := 80) dX6_name_80 ?_
              refine zz_chk (fun h6 => ?_)
              refine zz_baload (pc := 81) 81 40 (zGT_a1 hG.2.2.1) h6 dX6_name_81 ?_
              refine zz_aload_n (pc := 82) 0 dX6_name_82 rfl rfl ?_
              refine zz_get (pc := 83) (v := .ref (G.1 0)) 90 6 6 hG.2.2.2.1 rfl in_X6 (by decide) q474 (zval_rf rfl hG.2.2.2.2.2.1) dX6_name_83 ?_
              refine zz_getN (pc := 86) (v := .ref (G.1 12)) 0 0 1 (zGC_s0 (G := G) hG.1) rfl in_X0 (by decide) (List.mem_of_getElem? (i := 28) rfl) (zval_rf rfl (zGC_r0_1 (G := G) hG.1)) dX6_name_86 ?_
              refine zz_aload_n (pc := 89) 0 dX6_name_89 rfl rfl ?_
              refine zz_get (pc := 90) (v := .int (S.1 90 3)) 90 6 3 hG.2.2.2.1 rfl in_X6 (by decide) q471 rfl dX6_name_90 ?_
              refine zz_iload_n (pc := 93) 2 dX6_name_93 rfl rfl ?_
              refine zz_iadd (pc := 94) dX6_name_94 ?_
              refine zz_letI (fun w7 => ?_)
              refine zz_chk (fun h8 => ?_)
              refine zz_baload (pc := 95) 12 1400 (zGC_s12 (G := G) hG.1) h8 dX6_name_95 ?_
              refine zz_icmp_eq (pc := 96) 102 dX6_name_96 rfl ?_ ?_
              · refine zz_iinc (pc := 102) (w := x5 + 1) dX6_name_102 rfl (by rw [show Int32.ofInt 1 = 1 from by decide]) (Nat.le_of_ble_eq_true rfl) rfl ?_
                refine zz_goto (pc := 105) 55 dX6_name_105 rfl ?_
                exact hrec4 _
              · refine zz_goto (pc := 99) 110 dX6_name_99 rfl ?_
                refine zz_iinc (pc := 110) (w := x2 + 1) dX6_name_110 rfl (by rw [show Int32.ofInt 1 = 1 from by decide]) (Nat.le_of_ble_eq_true rfl) rfl ?_
                refine zz_goto (pc := 113) 18 dX6_name_113 rfl ?_
                exact zz_mask [true, true, false] (hrec1 _) rfl
        · refine zz_goto (pc := 50) 110 dX6_name_50 rfl ?_
          refine zz_iinc (pc := 110) (w := x2 + 1) dX6_name_110 rfl (by rw [show Int32.ofInt 1 = 1 from by decide]) (Nat.le_of_ble_eq_true rfl) rfl ?_
          refine zz_goto (pc := 113) 18 dX6_name_113 rfl ?_
          exact hrec1 _
  · refine zz_aload_n (pc := 10) 0 dX6_name_10 rfl rfl ?_
    refine zz_iconst (pc := 11) (v := 1) dX6_name_11 (by decide) ?_
    refine zz_callGV (pc := 12) (cs := (0, 0)) (idx := 103) (M := mX6_name) (1, 8) [.int 1] [] 90 (cg_X6_wrong (G := gT G _) (n98 hG) (n99 hG) (n100 hG) hG.2.2.2.1 hG.2.2.2.2.2.2.2.1 hG.2.2.2.2.2.2.2.2.1 hG.2.2.2.2.2.2.2.2.2 _) 6 hG.2.2.2.1 rfl mv_X6_wrong q559 rfl (Nat.le_of_ble_eq_true rfl) (Nat.le_of_ble_eq_true rfl) rfl rfl rfl (Nat.le_of_ble_eq_true rfl) dX6_name_12 (fun G9 r9 S9 hK9 => ?_)
    obtain ⟨a9, t9, u9, rfl⟩ := hK9
    exact zr_throw rfl (Nat.le_of_ble_eq_true rfl) (Nat.le_of_ble_eq_true rfl) dX6_name_15
abbrev mX6_newName : zMr := ("HiddenCube$Reader", cX6_newName, 2, none, 9, 1, 8, none)
def LB_X6_newName_1 (k5 : zSt → Option (Option Unit × zSt)) (rec11 : Int32 → zSt → Option (Option Unit × zSt)) (x12 : Int32) (S13 : zSt) : Option (Option Unit × zSt) :=
if ((S13.1 90 2) - (S13.1 90 3)) ≤ x12 then (k5 S13) else (zlet ((S13.1 90 3) + x12 : Int32) (fun w14 : Int32 =>
chk w14 1400 (zlet ((8 * (S13.1 80 0)) + x12 : Int32) (fun w16 : Int32 =>
chk w16 40 (zlet (sI S13 81 (w16).toNatClampNeg ((S13.1 12 (w14).toNatClampNeg).toInt8.toInt32) : zSt) (fun S18 : zSt =>
rec11 (x12 + 1) S18))))))
def F_X6_newName  (S : zSt) : Option (Option Unit × zSt) :=
zbR (F_X6_name S) (fun r2 S1 =>
joinK ((F_X6_wrong 2 S1).bind (fun q9 =>
some (none, q9.2))) (fun j3 : Option (Option Unit × zSt) =>
if r2 = (-1) then (if ((S1.1 90 2) - (S1.1 90 3)) ≤ 8 then (if (S1.1 80 0) = 5 then ((F_X6_wrong 3 S1).bind (fun q9 =>
some (none, q9.2))) else (joinK (fun  (S6 : zSt) => chk (S6.1 80 0) 5 (zlet (sI S6 82 (S6.1 80 0).toNatClampNeg ((S6.1 90 2) - (S6.1 90 3)) : zSt) (fun S8 : zSt =>
zlet (sI S8 80 0 ((S8.1 80 0) + 1) : zSt) (fun S9 : zSt =>
zbR (F_X6_next S9) (fun _ S10 =>
some (some (), S10)))))) (fun k5 : zSt → Option (Option Unit × zSt) =>
loopK (fun _ _ => none) (LB_X6_newName_1 k5) zfuel 0 S1))) else (j3)) else (j3)))
theorem mv_X6_newName : ZV mX6_newName yX6_newName 0 := ⟨q650, qs10, q156, q651, rfl, by decide, by decide, by decide +kernel⟩
theorem cr_X6_newName {G : zGw} {e9 : zRe} (hG : zGR e9 G)  : Zr e9 mX6_newName yX6_newName zJV G [.ref (G.1 90)] (F_X6_newName) := by
  refine Zr_of [some (.ref (G.1 90)), none] (by decide) rfl rfl (Nat.le_of_ble_eq_true rfl) rfl (fun X S res hE => ?_)
  unfold F_X6_newName
  refine zz_aload_n (pc := 0) 0 dX6_newName_0 rfl rfl ?_
  refine zr_callV (pc := 1) hE _ _ (cr_X6_name hG) mv_X6_name q652 rfl hG.2.2.2.1 rfl (Nat.le_of_ble_eq_true rfl) (Nat.le_of_ble_eq_true rfl) rfl rfl (Nat.le_of_ble_eq_true rfl) (Nat.le_of_ble_eq_true rfl) (Nat.le_of_ble_eq_true rfl) dX6_newName_1 (fun r2 S1 => ?_)
  refine zz_iconst (pc := 4) (v := (-1)) dX6_newName_4 (by decide) ?_
  refine zz_join (fun j : Option (Option Unit × zSt) =>  ZW X mX6_newName yX6_newName.name zJV G (0, 0) res S1 22 [some (.ref (G.1 90)), none] [] (j)) ?_ (fun j3 hj3 => ?_)
  · show _
    refine zz_aload_n (pc := 22) 0 dX6_newName_22 rfl rfl ?_
    refine zz_iconst (pc := 23) (v := 2) dX6_newName_23 (by decide) ?_
    refine zz_callGV (pc := 24) (cs := (0, 0)) (idx := 103) (M := mX6_newName) (1, 8) [.int 2] [] 90 (cg_X6_wrong (G := gT G _) (n98 hG) (n99 hG) (n100 hG) hG.2.2.2.1 hG.2.2.2.2.2.2.2.1 hG.2.2.2.2.2.2.2.2.1 hG.2.2.2.2.2.2.2.2.2 _) 6 hG.2.2.2.1 rfl mv_X6_wrong q559 rfl (Nat.le_of_ble_eq_true rfl) (Nat.le_of_ble_eq_true rfl) rfl rfl rfl (Nat.le_of_ble_eq_true rfl) dX6_newName_24 (fun G9 r9 S9 hK9 => ?_)
    obtain ⟨a9, t9, u9, rfl⟩ := hK9
    exact zr_throw rfl (Nat.le_of_ble_eq_true rfl) (Nat.le_of_ble_eq_true rfl) dX6_newName_27
  · refine zz_icmp_ne (pc := 5) 22 dX6_newName_5 rfl ?_ ?_
    · exact hj3 
    · refine zz_aload_n (pc := 8) 0 dX6_newName_8 rfl rfl ?_
      refine zz_get (pc := 9) (v := .int (S1.1 90 2)) 90 6 2 hG.2.2.2.1 rfl in_X6 (by decide) q470 rfl dX6_newName_9 ?_
      refine zz_aload_n (pc := 12) 0 dX6_newName_12 rfl rfl ?_
      refine zz_get (pc := 13) (v := .int (S1.1 90 3)) 90 6 3 hG.2.2.2.1 rfl in_X6 (by decide) q471 rfl dX6_newName_13 ?_
      refine zz_isub (pc := 16) dX6_newName_16 ?_
      refine zz_bipush (pc := 17) (v := 8) dX6_newName_17 (by decide) ?_
      refine zz_icmp_le (pc := 19) 28 dX6_newName_19 rfl ?_ ?_
      · refine zz_aload_n (pc := 28) 0 dX6_newName_28 rfl rfl ?_
        refine zz_get (pc := 29) (v := .ref (G.1 80)) 90 6 1 hG.2.2.2.1 rfl in_X6 (by decide) q469 (zval_rf rfl hG.2.2.2.2.1) dX6_newName_29 ?_
        refine zz_getN (pc := 32) (v := .int (S1.1 80 0)) 80 1 0 hG.2.2.1.1 rfl in_X1 (by decide) (List.mem_of_getElem? (i := 18) rfl) rfl dX6_newName_32 ?_
        refine zz_iconst (pc := 35) (v := 5) dX6_newName_35 (by decide) ?_
        refine zz_icmp_ne (pc := 36) 45 dX6_newName_36 rfl ?_ ?_
        · refine zz_iconst (pc := 45) (v := 0) dX6_newName_45 (by decide) ?_
          refine zz_istore_n (pc := 46) 1 dX6_newName_46 rfl (Nat.le_of_ble_eq_true rfl) rfl ?_
          refine zz_join (fun j : zSt → Option (Option Unit × zSt) => ∀  (S6 : zSt), ZW X mX6_newName yX6_newName.name zJV G (0, 0) res S6 100 [some (.ref (G.1 90)), none] [] (j S6)) ?_ (fun k5 hk5 => ?_)
          · intro S6
            refine zz_aload_n (pc := 100) 0 dX6_newName_100 rfl rfl ?_
            refine zz_get (pc := 101) (v := .ref (G.1 80)) 90 6 1 hG.2.2.2.1 rfl in_X6 (by decide) q469 (zval_rf rfl hG.2.2.2.2.1) dX6_newName_101 ?_
            refine zz_getN (pc := 104) (v := .ref (G.1 82)) 80 1 3 hG.2.2.1.1 rfl in_X1 (by decide) (List.mem_of_getElem? (i := 21) rfl) (zval_rf rfl (zGT_r3 hG.2.2.1)) dX6_newName_104 ?_
            refine zz_aload_n (pc := 107) 0 dX6_newName_107 rfl rfl ?_
            refine zz_get (pc := 108) (v := .ref (G.1 80)) 90 6 1 hG.2.2.2.1 rfl in_X6 (by decide) q469 (zval_rf rfl hG.2.2.2.2.1) dX6_newName_108 ?_
            refine zz_getN (pc := 111) (v := .int (S6.1 80 0)) 80 1 0 hG.2.2.1.1 rfl in_X1 (by decide) (List.mem_of_getElem? (i := 18) rfl) rfl dX6_newName_111 ?_
            refine zz_aload_n (pc := 114) 0 dX6_newName_114 rfl rfl ?_
            refine zz_get (pc := 115) (v := .int (S6.1 90 2)) 90 6 2 hG.2.2.2.1 rfl in_X6 (by decide) q470 rfl dX6_newName_115 ?_
            refine zz_aload_n (pc := 118) 0 dX6_newName_118 rfl rfl ?_
            refine zz_get (pc := 119) (v := .int (S6.1 90 3)) 90 6 3 hG.2.2.2.1 rfl in_X6 (by decide) q471 rfl dX6_newName_119 ?_
            refine zz_isub (pc := 122) dX6_newName_122 ?_
            refine zz_chk (fun h7 => ?_)
            refine zz_iastore (pc := 123) 82 5 (zGT_a2 hG.2.2.1) h7 dX6_newName_123 ?_
            refine zr_letS rfl (fun S8 => ?_)
            refine zz_aload_n (pc := 124) 0 dX6_newName_124 rfl rfl ?_
            refine zz_get (pc := 125) (v := .ref (G.1 80)) 90 6 1 hG.2.2.2.1 rfl in_X6 (by decide) q469 (zval_rf rfl hG.2.2.2.2.1) dX6_newName_125 ?_
            refine zz_dup (pc := 128) dX6_newName_128 rfl ?_
            refine zz_getN (pc := 129) (v := .int (S8.1 80 0)) 80 1 0 hG.2.2.1.1 rfl in_X1 (by decide) (List.mem_of_getElem? (i := 18) rfl) rfl dX6_newName_129 ?_
            refine zz_iconst (pc := 132) (v := 1) dX6_newName_132 (by decide) ?_
            refine zz_iadd (pc := 133) dX6_newName_133 ?_
            refine zz_putIN (pc := 134) tyX1 80 1 0 hG.2.2.1.1 rfl in_X1 tyX1_ok (fun b hb9 hbj => nmX1 _ (by decide) b hb9 (Ne.symm hbj)) (by decide) (List.mem_of_getElem? (i := 18) rfl) rfl rfl rfl dX6_newName_134 ?_
            refine zr_letS rfl (fun S9 => ?_)
            refine zz_aload_n (pc := 137) 0 dX6_newName_137 rfl rfl ?_
            refine zr_callV (pc := 138) hE _ _ (cr_X6_next hG) mv_X6_next q447 rfl hG.2.2.2.1 rfl (Nat.le_of_ble_eq_true rfl) (Nat.le_of_ble_eq_true rfl) rfl rfl (Nat.le_of_ble_eq_true rfl) (Nat.le_of_ble_eq_true rfl) (Nat.le_of_ble_eq_true rfl) dX6_newName_138 (fun _ S10 => ?_)
            exact zr_vret rfl dX6_newName_141
          · refine z_loopK (fun j : Int32 → zSt → Option (Option Unit × zSt) => ∀ (x12 : Int32) (S13 : zSt), ZW X mX6_newName yX6_newName.name zJV G (0, 0) res S13 47 [some (.ref (G.1 90)), some (.int x12)] [] (j x12 S13)) ?_ ?_ zfuel _ _
            · intro x12 S13; exact zz_none
            · intro rec11 hrec11 x12 S13
              unfold LB_X6_newName_1
              refine zz_iload_n (pc := 47) 1 dX6_newName_47 rfl rfl ?_
              refine zz_aload_n (pc := 48) 0 dX6_newName_48 rfl rfl ?_
              refine zz_get (pc := 49) (v := .int (S13.1 90 2)) 90 6 2 hG.2.2.2.1 rfl in_X6 (by decide) q470 rfl dX6_newName_49 ?_
              refine zz_aload_n (pc := 52) 0 dX6_newName_52 rfl rfl ?_
              refine zz_get (pc := 53) (v := .int (S13.1 90 3)) 90 6 3 hG.2.2.2.1 rfl in_X6 (by decide) q471 rfl dX6_newName_53 ?_
              refine zz_isub (pc := 56) dX6_newName_56 ?_
              refine zz_icmp_ge (pc := 57) 100 dX6_newName_57 rfl ?_ ?_
              · exact zz_mask [true, false] (hk5 _) rfl
              · refine zz_aload_n (pc := 60) 0 dX6_newName_60 rfl rfl ?_
                refine zz_get (pc := 61) (v := .ref (G.1 80)) 90 6 1 hG.2.2.2.1 rfl in_X6 (by decide) q469 (zval_rf rfl hG.2.2.2.2.1) dX6_newName_61 ?_
                refine zz_getN (pc := 64) (v := .ref (G.1 81)) 80 1 2 hG.2.2.1.1 rfl in_X1 (by decide) (List.mem_of_getElem? (i := 20) rfl) (zval_rf rfl (zGT_r2 hG.2.2.1)) dX6_newName_64 ?_
                refine zz_bipush (pc := 67) (v := 8) dX6_newName_67 (by decide) ?_
                refine zz_aload_n (pc := 69) 0 dX6_newName_69 rfl rfl ?_
                refine zz_get (pc := 70) (v := .ref (G.1 80)) 90 6 1 hG.2.2.2.1 rfl in_X6 (by decide) q469 (zval_rf rfl hG.2.2.2.2.1) dX6_newName_70 ?_
                refine zz_getN (pc := 73) (v := .int (S13.1 80 0)) 80 1 0 hG.2.2.1.1 rfl in_X1 (by decide) (List.mem_of_getElem? (i := 18) rfl) rfl dX6_newName_73 ?_
                refine zz_imul (pc := 76) dX6_newName_76 ?_
                refine zz_iload_n (pc := 77) 1 dX6_newName_77 rfl rfl ?_
                refine zz_iadd (pc := 78) dX6_newName_78 ?_
                refine zz_aload_n (pc := 79) 0 dX6_newName_79 rfl rfl ?_
                refine zz_get (pc := 80) (v := .ref (G.1 0)) 90 6 6 hG.2.2.2.1 rfl in_X6 (by decide) q474 (zval_rf rfl hG.2.2.2.2.2.1) dX6_newName_80 ?_
                refine zz_getN (pc := 83) (v := .ref (G.1 12)) 0 0 1 (zGC_s0 (G := G) hG.1) rfl in_X0 (by decide) (List.mem_of_getElem? (i := 28) rfl) (zval_rf rfl (zGC_r0_1 (G := G) hG.1)) dX6_newName_83 ?_
                refine zz_aload_n (pc := 86) 0 dX6_newName_86 rfl rfl ?_
                refine zz_get (pc := 87) (v := .int (S13.1 90 3)) 90 6 3 hG.2.2.2.1 rfl in_X6 (by decide) q471 rfl dX6_newName_87 ?_
                refine zz_iload_n (pc := 90) 1 dX6_newName_90 rfl rfl ?_
                refine zz_iadd (pc := 91) dX6_newName_91 ?_
                refine zz_letI (fun w14 => ?_)
                refine zz_chk (fun h15 => ?_)
                refine zz_baload (pc := 92) 12 1400 (zGC_s12 (G := G) hG.1) h15 dX6_newName_92 ?_
                refine zz_letI2 (fun w16 => ?_)
                refine zz_chk (fun h17 => ?_)
                refine zz_bastore (pc := 93) 81 40 (zGT_a1 hG.2.2.1) h17 dX6_newName_93 ?_
                refine zr_letS rfl (fun S18 => ?_)
                refine zz_iinc (pc := 94) (w := x12 + 1) dX6_newName_94 rfl (by rw [show Int32.ofInt 1 = 1 from by decide]) (Nat.le_of_ble_eq_true rfl) rfl ?_
                refine zz_goto (pc := 97) 47 dX6_newName_97 rfl ?_
                exact hrec11 _ _
        · refine zz_aload_n (pc := 39) 0 dX6_newName_39 rfl rfl ?_
          refine zz_iconst (pc := 40) (v := 3) dX6_newName_40 (by decide) ?_
          refine zz_callGV (pc := 41) (cs := (0, 0)) (idx := 103) (M := mX6_newName) (1, 8) [.int 3] [] 90 (cg_X6_wrong (G := gT G _) (n98 hG) (n99 hG) (n100 hG) hG.2.2.2.1 hG.2.2.2.2.2.2.2.1 hG.2.2.2.2.2.2.2.2.1 hG.2.2.2.2.2.2.2.2.2 _) 6 hG.2.2.2.1 rfl mv_X6_wrong q559 rfl (Nat.le_of_ble_eq_true rfl) (Nat.le_of_ble_eq_true rfl) rfl rfl rfl (Nat.le_of_ble_eq_true rfl) dX6_newName_41 (fun G9 r9 S9 hK9 => ?_)
          obtain ⟨a9, t9, u9, rfl⟩ := hK9
          exact zr_throw rfl (Nat.le_of_ble_eq_true rfl) (Nat.le_of_ble_eq_true rfl) dX6_newName_44
      · exact hj3 
abbrev mX6_first : zMr := ("HiddenCube$Reader", cX6_first, 1, none, 11, 1, 8, none)
def LB_X6_first_1 (rec5 : zSt → Option (Option Unit × zSt))  (S6 : zSt) : Option (Option Unit × zSt) :=
if tkq (S6.1 90 5) = 1 then (zbR (F_X6_newName S6) (fun _ S7 =>
rec5 S7)) else (some (some (), S6))
def F_X6_first  (S : zSt) : Option (Option Unit × zSt) :=
zbR (F_X6_needs 0 S) (fun _ S1 =>
zbR (F_X6_needs 1 S1) (fun _ S2 =>
zbR (F_X6_newName S2) (fun _ S3 =>
zbR (F_X6_newName S3) (fun _ S4 =>
loopK (fun _ => none) (LB_X6_first_1) zfuel S4))))
theorem mv_X6_first : ZV mX6_first yX6_first 0 := ⟨q496, qs3, q156, q497, rfl, by decide, by decide, by decide +kernel⟩
theorem cr_X6_first {G : zGw} {e9 : zRe} (hG : zGR e9 G)  : Zr e9 mX6_first yX6_first zJV G [.ref (G.1 90)] (F_X6_first) := by
  refine Zr_of [some (.ref (G.1 90))] (by decide) rfl rfl (Nat.le_of_ble_eq_true rfl) rfl (fun X S res hE => ?_)
  unfold F_X6_first
  refine zz_aload_n (pc := 0) 0 dX6_first_0 rfl rfl ?_
  refine zz_ldcS (pc := 1) (hE.2.1 0 (by decide)) dX6_first_1 ?_
  refine zr_callV (pc := 3) hE _ _ (cr_X6_needs hG (by decide)) mv_X6_needs q499 rfl hG.2.2.2.1 rfl (Nat.le_of_ble_eq_true rfl) (Nat.le_of_ble_eq_true rfl) rfl rfl (Nat.le_of_ble_eq_true rfl) (Nat.le_of_ble_eq_true rfl) (Nat.le_of_ble_eq_true rfl) dX6_first_3 (fun _ S1 => ?_)
  refine zz_aload_n (pc := 6) 0 dX6_first_6 rfl rfl ?_
  refine zz_ldcS (pc := 7) (hE.2.1 1 (by decide)) dX6_first_7 ?_
  refine zr_callV (pc := 9) hE _ _ (cr_X6_needs hG (by decide)) mv_X6_needs q499 rfl hG.2.2.2.1 rfl (Nat.le_of_ble_eq_true rfl) (Nat.le_of_ble_eq_true rfl) rfl rfl (Nat.le_of_ble_eq_true rfl) (Nat.le_of_ble_eq_true rfl) (Nat.le_of_ble_eq_true rfl) dX6_first_9 (fun _ S2 => ?_)
  refine zz_aload_n (pc := 12) 0 dX6_first_12 rfl rfl ?_
  refine zr_callV (pc := 13) hE _ _ (cr_X6_newName hG) mv_X6_newName q648 rfl hG.2.2.2.1 rfl (Nat.le_of_ble_eq_true rfl) (Nat.le_of_ble_eq_true rfl) rfl rfl (Nat.le_of_ble_eq_true rfl) (Nat.le_of_ble_eq_true rfl) (Nat.le_of_ble_eq_true rfl) dX6_first_13 (fun _ S3 => ?_)
  refine zz_aload_n (pc := 16) 0 dX6_first_16 rfl rfl ?_
  refine zr_callV (pc := 17) hE _ _ (cr_X6_newName hG) mv_X6_newName q648 rfl hG.2.2.2.1 rfl (Nat.le_of_ble_eq_true rfl) (Nat.le_of_ble_eq_true rfl) rfl rfl (Nat.le_of_ble_eq_true rfl) (Nat.le_of_ble_eq_true rfl) (Nat.le_of_ble_eq_true rfl) dX6_first_17 (fun _ S4 => ?_)
  refine z_loopK (fun j : zSt → Option (Option Unit × zSt) => ∀  (S6 : zSt), ZW X mX6_first yX6_first.name zJV G (0, 0) res S6 20 [some (.ref (G.1 90))] [] (j S6)) ?_ ?_ zfuel _
  · intro S6; exact zz_none
  · intro rec5 hrec5 S6
    unfold LB_X6_first_1
    refine zz_aload_n (pc := 20) 0 dX6_first_20 rfl rfl ?_
    refine zr_getTok (pc := 21) hG q473 dX6_first_21 ?_
    refine zr_getsTok (pc := 24) 1 (by decide) hE q456 dX6_first_24 ?_
    refine zr_acmp_ne (pc := 27) 1 37 hG hE (by decide) dX6_first_27 rfl ?_ ?_
    · exact zr_vret rfl dX6_first_37
    · refine zz_aload_n (pc := 30) 0 dX6_first_30 rfl rfl ?_
      refine zr_callV (pc := 31) hE _ _ (cr_X6_newName hG) mv_X6_newName q648 rfl hG.2.2.2.1 rfl (Nat.le_of_ble_eq_true rfl) (Nat.le_of_ble_eq_true rfl) rfl rfl (Nat.le_of_ble_eq_true rfl) (Nat.le_of_ble_eq_true rfl) (Nat.le_of_ble_eq_true rfl) dX6_first_31 (fun _ S7 => ?_)
      refine zz_goto (pc := 34) 20 dX6_first_34 rfl ?_
      exact hrec5 _
abbrev mX6_newShut : zMr := ("HiddenCube$Reader", cX6_newShut, 3, none, 11, 1, 8, none)
def F_X6_newShut  (S : zSt) : Option (Option Unit × zSt) :=
zbR (F_X6_square S) (fun r2 S1 =>
zbR (F_X6_name S1) (fun r4 S3 =>
joinK (fun  (S6 : zSt) => (F_X6_wrong 2 S6).bind (fun q9 =>
some (none, q9.2))) (fun j5 : zSt → Option (Option Unit × zSt) =>
if r4 = (-1) then (j5 S3) else (zbind (F_X1_isOpen 80 r2 r4 S3) (fun r9 S8 =>
if r9 = 0 then (j5 S8) else (zbR (F_X6_next S8) (fun _ S10 =>
zbind (F_X1_sets 80 r2 r4 1 S10) (fun _ S11 =>
some (some (), S11)))))))))
theorem mv_X6_newShut : ZV mX6_newShut yX6_newShut 0 := ⟨q663, qs13, q156, q664, rfl, by decide, by decide, by decide +kernel⟩
theorem cr_X6_newShut {G : zGw} {e9 : zRe} (hG : zGR e9 G)  : Zr e9 mX6_newShut yX6_newShut zJV G [.ref (G.1 90)] (F_X6_newShut) := by
  refine Zr_of [some (.ref (G.1 90)), none, none] (by decide) rfl rfl (Nat.le_of_ble_eq_true rfl) rfl (fun X S res hE => ?_)
  unfold F_X6_newShut
  refine zz_aload_n (pc := 0) 0 dX6_newShut_0 rfl rfl ?_
  refine zr_callV (pc := 1) hE _ _ (cr_X6_square hG) mv_X6_square q665 rfl hG.2.2.2.1 rfl (Nat.le_of_ble_eq_true rfl) (Nat.le_of_ble_eq_true rfl) rfl rfl (Nat.le_of_ble_eq_true rfl) (Nat.le_of_ble_eq_true rfl) (Nat.le_of_ble_eq_true rfl) dX6_newShut_1 (fun r2 S1 => ?_)
  refine zz_istore_n (pc := 4) 1 dX6_newShut_4 rfl (Nat.le_of_ble_eq_true rfl) rfl ?_
  refine zz_aload_n (pc := 5) 0 dX6_newShut_5 rfl rfl ?_
  refine zr_callV (pc := 6) hE _ _ (cr_X6_name hG) mv_X6_name q652 rfl hG.2.2.2.1 rfl (Nat.le_of_ble_eq_true rfl) (Nat.le_of_ble_eq_true rfl) rfl rfl (Nat.le_of_ble_eq_true rfl) (Nat.le_of_ble_eq_true rfl) (Nat.le_of_ble_eq_true rfl) dX6_newShut_6 (fun r4 S3 => ?_)
  refine zz_istore_n (pc := 9) 2 dX6_newShut_9 rfl (Nat.le_of_ble_eq_true rfl) rfl ?_
  refine zz_iload_n (pc := 10) 2 dX6_newShut_10 rfl rfl ?_
  refine zz_iconst (pc := 11) (v := (-1)) dX6_newShut_11 (by decide) ?_
  refine zz_join (fun j : zSt → Option (Option Unit × zSt) => ∀  (S6 : zSt), ZW X mX6_newShut yX6_newShut.name zJV G (0, 0) res S6 27 [some (.ref (G.1 90)), none, none] [] (j S6)) ?_ (fun j5 hj5 => ?_)
  · intro S6
    refine zz_aload_n (pc := 27) 0 dX6_newShut_27 rfl rfl ?_
    refine zz_iconst (pc := 28) (v := 2) dX6_newShut_28 (by decide) ?_
    refine zz_callGV (pc := 29) (cs := (0, 0)) (idx := 103) (M := mX6_newShut) (1, 8) [.int 2] [] 90 (cg_X6_wrong (G := gT G _) (n98 hG) (n99 hG) (n100 hG) hG.2.2.2.1 hG.2.2.2.2.2.2.2.1 hG.2.2.2.2.2.2.2.2.1 hG.2.2.2.2.2.2.2.2.2 _) 6 hG.2.2.2.1 rfl mv_X6_wrong q559 rfl (Nat.le_of_ble_eq_true rfl) (Nat.le_of_ble_eq_true rfl) rfl rfl rfl (Nat.le_of_ble_eq_true rfl) dX6_newShut_29 (fun G9 r9 S9 hK9 => ?_)
    obtain ⟨a9, t9, u9, rfl⟩ := hK9
    exact zr_throw rfl (Nat.le_of_ble_eq_true rfl) (Nat.le_of_ble_eq_true rfl) dX6_newShut_32
  · refine zz_icmp_eq (pc := 12) 27 dX6_newShut_12 rfl ?_ ?_
    · exact zz_mask [true, false, false] (hj5 _) rfl
    · refine zz_aload_n (pc := 15) 0 dX6_newShut_15 rfl rfl ?_
      refine zz_get (pc := 16) (v := .ref (G.1 80)) 90 6 1 hG.2.2.2.1 rfl in_X6 (by decide) q469 (zval_rf rfl hG.2.2.2.2.1) dX6_newShut_16 ?_
      refine zz_iload_n (pc := 19) 1 dX6_newShut_19 rfl rfl ?_
      refine zz_iload_n (pc := 20) 2 dX6_newShut_20 rfl rfl ?_
      refine zx_callV (pc := 21) [.int r2, .int r4] [] 80 1 (ct_X1_isOpen (G := gT G S3) (b := 80) hG.2.2.1 _ _) mv_X1_isOpen q677 rfl hG.2.2.1.1 rfl (Nat.le_of_ble_eq_true rfl) (Nat.le_of_ble_eq_true rfl) rfl rfl (Nat.le_of_ble_eq_true rfl) dX6_newShut_21 (fun r9 S8 hF => ?_)
      refine zr_re (pu_X1_isOpen hF) ?_
      refine zz_if_ne (pc := 24) 33 dX6_newShut_24 rfl ?_ ?_
      · refine zz_aload_n (pc := 33) 0 dX6_newShut_33 rfl rfl ?_
        refine zr_callV (pc := 34) hE _ _ (cr_X6_next hG) mv_X6_next q447 rfl hG.2.2.2.1 rfl (Nat.le_of_ble_eq_true rfl) (Nat.le_of_ble_eq_true rfl) rfl rfl (Nat.le_of_ble_eq_true rfl) (Nat.le_of_ble_eq_true rfl) (Nat.le_of_ble_eq_true rfl) dX6_newShut_34 (fun _ S10 => ?_)
        refine zz_aload_n (pc := 37) 0 dX6_newShut_37 rfl rfl ?_
        refine zz_get (pc := 38) (v := .ref (G.1 80)) 90 6 1 hG.2.2.2.1 rfl in_X6 (by decide) q469 (zval_rf rfl hG.2.2.2.2.1) dX6_newShut_38 ?_
        refine zz_iload_n (pc := 41) 1 dX6_newShut_41 rfl rfl ?_
        refine zz_iload_n (pc := 42) 2 dX6_newShut_42 rfl rfl ?_
        refine zz_iconst (pc := 43) (v := 1) dX6_newShut_43 (by decide) ?_
        refine zx_callV (pc := 44) [.int r2, .int r4, .int 1] [] 80 1 (ct_X1_sets (G := gT G S10) (b := 80) hG.2.2.1 _ _ _) mv_X1_sets q684 rfl hG.2.2.1.1 rfl (Nat.le_of_ble_eq_true rfl) (Nat.le_of_ble_eq_true rfl) rfl rfl (Nat.le_of_ble_eq_true rfl) dX6_newShut_44 (fun _ S11 hF => ?_)
        refine zr_re (pu_X1_sets hF) ?_
        exact zr_vret rfl dX6_newShut_47
      · exact zz_mask [true, false, false] (hj5 _) rfl
abbrev mX6_newCarrier : zMr := ("HiddenCube$Reader", cX6_newCarrier, 2, none, 11, 1, 8, none)
def F_X6_newCarrier  (S : zSt) : Option (Option Unit × zSt) :=
zbR (F_X6_needs 6 S) (fun _ S1 =>
zbR (F_X6_square S1) (fun r3 S2 =>
zbR (F_X6_needs 7 S2) (fun _ S4 =>
joinK (zbR (F_X6_square S4) (fun r7 S6 =>
chk (S4.1 80 9) 6 (zlet (sI S6 85 (S4.1 80 9).toNatClampNeg r7 : zSt) (fun S9 : zSt =>
chk (S9.1 80 9) 6 (zlet (sI S9 84 (S9.1 80 9).toNatClampNeg r3 : zSt) (fun S11 : zSt =>
zlet (sI S11 80 9 ((S11.1 80 9) + 1) : zSt) (fun S12 : zSt =>
some (some (), S12)))))))) (fun j5 : Option (Option Unit × zSt) =>
if tkq (S4.1 90 5) = 2 then (if (S4.1 90 4) = r3 then ((F_X6_wrong 2 S4).bind (fun q9 =>
some (none, q9.2))) else (j5)) else (j5)))))
theorem mv_X6_newCarrier : ZV mX6_newCarrier yX6_newCarrier 0 := ⟨q697, qs17, q156, q698, rfl, by decide, by decide, by decide +kernel⟩
theorem cr_X6_newCarrier {G : zGw} {e9 : zRe} (hG : zGR e9 G)  : Zr e9 mX6_newCarrier yX6_newCarrier zJV G [.ref (G.1 90)] (F_X6_newCarrier) := by
  refine Zr_of [some (.ref (G.1 90)), none] (by decide) rfl rfl (Nat.le_of_ble_eq_true rfl) rfl (fun X S res hE => ?_)
  unfold F_X6_newCarrier
  refine zz_aload_n (pc := 0) 0 dX6_newCarrier_0 rfl rfl ?_
  refine zz_ldcS (pc := 1) (hE.2.1 6 (by decide)) dX6_newCarrier_1 ?_
  refine zr_callV (pc := 3) hE _ _ (cr_X6_needs hG (by decide)) mv_X6_needs q499 rfl hG.2.2.2.1 rfl (Nat.le_of_ble_eq_true rfl) (Nat.le_of_ble_eq_true rfl) rfl rfl (Nat.le_of_ble_eq_true rfl) (Nat.le_of_ble_eq_true rfl) (Nat.le_of_ble_eq_true rfl) dX6_newCarrier_3 (fun _ S1 => ?_)
  refine zz_aload_n (pc := 6) 0 dX6_newCarrier_6 rfl rfl ?_
  refine zr_callV (pc := 7) hE _ _ (cr_X6_square hG) mv_X6_square q665 rfl hG.2.2.2.1 rfl (Nat.le_of_ble_eq_true rfl) (Nat.le_of_ble_eq_true rfl) rfl rfl (Nat.le_of_ble_eq_true rfl) (Nat.le_of_ble_eq_true rfl) (Nat.le_of_ble_eq_true rfl) dX6_newCarrier_7 (fun r3 S2 => ?_)
  refine zz_istore_n (pc := 10) 1 dX6_newCarrier_10 rfl (Nat.le_of_ble_eq_true rfl) rfl ?_
  refine zz_aload_n (pc := 11) 0 dX6_newCarrier_11 rfl rfl ?_
  refine zz_ldcS (pc := 12) (hE.2.1 7 (by decide)) dX6_newCarrier_12 ?_
  refine zr_callV (pc := 14) hE _ _ (cr_X6_needs hG (by decide)) mv_X6_needs q499 rfl hG.2.2.2.1 rfl (Nat.le_of_ble_eq_true rfl) (Nat.le_of_ble_eq_true rfl) rfl rfl (Nat.le_of_ble_eq_true rfl) (Nat.le_of_ble_eq_true rfl) (Nat.le_of_ble_eq_true rfl) dX6_newCarrier_14 (fun _ S4 => ?_)
  refine zz_aload_n (pc := 17) 0 dX6_newCarrier_17 rfl rfl ?_
  refine zr_getTok (pc := 18) hG q473 dX6_newCarrier_18 ?_
  refine zr_getsTok (pc := 21) 2 (by decide) hE q462 dX6_newCarrier_21 ?_
  refine zz_join (fun j : Option (Option Unit × zSt) =>  ZW X mX6_newCarrier yX6_newCarrier.name zJV G (0, 0) res S4 41 [some (.ref (G.1 90)), some (.int r3)] [] (j)) ?_ (fun j5 hj5 => ?_)
  · show _
    refine zz_aload_n (pc := 41) 0 dX6_newCarrier_41 rfl rfl ?_
    refine zz_get (pc := 42) (v := .ref (G.1 80)) 90 6 1 hG.2.2.2.1 rfl in_X6 (by decide) q469 (zval_rf rfl hG.2.2.2.2.1) dX6_newCarrier_42 ?_
    refine zz_getN (pc := 45) (v := .ref (G.1 85)) 80 1 6 hG.2.2.1.1 rfl in_X1 (by decide) (List.mem_of_getElem? (i := 24) rfl) (zval_rf rfl (zGT_r6 hG.2.2.1)) dX6_newCarrier_45 ?_
    refine zz_aload_n (pc := 48) 0 dX6_newCarrier_48 rfl rfl ?_
    refine zz_get (pc := 49) (v := .ref (G.1 80)) 90 6 1 hG.2.2.2.1 rfl in_X6 (by decide) q469 (zval_rf rfl hG.2.2.2.2.1) dX6_newCarrier_49 ?_
    refine zz_getN (pc := 52) (v := .int (S4.1 80 9)) 80 1 9 hG.2.2.1.1 rfl in_X1 (by decide) (List.mem_of_getElem? (i := 26) rfl) rfl dX6_newCarrier_52 ?_
    refine zz_aload_n (pc := 55) 0 dX6_newCarrier_55 rfl rfl ?_
    refine zr_callV (pc := 56) hE _ _ (cr_X6_square hG) mv_X6_square q665 rfl hG.2.2.2.1 rfl (Nat.le_of_ble_eq_true rfl) (Nat.le_of_ble_eq_true rfl) rfl rfl (Nat.le_of_ble_eq_true rfl) (Nat.le_of_ble_eq_true rfl) (Nat.le_of_ble_eq_true rfl) dX6_newCarrier_56 (fun r7 S6 => ?_)
    refine zz_chk (fun h8 => ?_)
    refine zz_iastore (pc := 59) 85 6 (zGT_a5 hG.2.2.1) h8 dX6_newCarrier_59 ?_
    refine zr_letS rfl (fun S9 => ?_)
    refine zz_aload_n (pc := 60) 0 dX6_newCarrier_60 rfl rfl ?_
    refine zz_get (pc := 61) (v := .ref (G.1 80)) 90 6 1 hG.2.2.2.1 rfl in_X6 (by decide) q469 (zval_rf rfl hG.2.2.2.2.1) dX6_newCarrier_61 ?_
    refine zz_getN (pc := 64) (v := .ref (G.1 84)) 80 1 5 hG.2.2.1.1 rfl in_X1 (by decide) (List.mem_of_getElem? (i := 23) rfl) (zval_rf rfl (zGT_r5 hG.2.2.1)) dX6_newCarrier_64 ?_
    refine zz_aload_n (pc := 67) 0 dX6_newCarrier_67 rfl rfl ?_
    refine zz_get (pc := 68) (v := .ref (G.1 80)) 90 6 1 hG.2.2.2.1 rfl in_X6 (by decide) q469 (zval_rf rfl hG.2.2.2.2.1) dX6_newCarrier_68 ?_
    refine zz_getN (pc := 71) (v := .int (S9.1 80 9)) 80 1 9 hG.2.2.1.1 rfl in_X1 (by decide) (List.mem_of_getElem? (i := 26) rfl) rfl dX6_newCarrier_71 ?_
    refine zz_iload_n (pc := 74) 1 dX6_newCarrier_74 rfl rfl ?_
    refine zz_chk (fun h10 => ?_)
    refine zz_iastore (pc := 75) 84 6 (zGT_a4 hG.2.2.1) h10 dX6_newCarrier_75 ?_
    refine zr_letS rfl (fun S11 => ?_)
    refine zz_aload_n (pc := 76) 0 dX6_newCarrier_76 rfl rfl ?_
    refine zz_get (pc := 77) (v := .ref (G.1 80)) 90 6 1 hG.2.2.2.1 rfl in_X6 (by decide) q469 (zval_rf rfl hG.2.2.2.2.1) dX6_newCarrier_77 ?_
    refine zz_dup (pc := 80) dX6_newCarrier_80 rfl ?_
    refine zz_getN (pc := 81) (v := .int (S11.1 80 9)) 80 1 9 hG.2.2.1.1 rfl in_X1 (by decide) (List.mem_of_getElem? (i := 26) rfl) rfl dX6_newCarrier_81 ?_
    refine zz_iconst (pc := 84) (v := 1) dX6_newCarrier_84 (by decide) ?_
    refine zz_iadd (pc := 85) dX6_newCarrier_85 ?_
    refine zz_putIN (pc := 86) tyX1 80 1 9 hG.2.2.1.1 rfl in_X1 tyX1_ok (fun b hb9 hbj => nmX1 _ (by decide) b hb9 (Ne.symm hbj)) (by decide) (List.mem_of_getElem? (i := 26) rfl) rfl rfl rfl dX6_newCarrier_86 ?_
    refine zr_letS rfl (fun S12 => ?_)
    exact zr_vret rfl dX6_newCarrier_89
  · refine zr_acmp_ne (pc := 24) 2 41 hG hE (by decide) dX6_newCarrier_24 rfl ?_ ?_
    · exact hj5 
    · refine zz_aload_n (pc := 27) 0 dX6_newCarrier_27 rfl rfl ?_
      refine zz_get (pc := 28) (v := .int (S4.1 90 4)) 90 6 4 hG.2.2.2.1 rfl in_X6 (by decide) q472 rfl dX6_newCarrier_28 ?_
      refine zz_iload_n (pc := 31) 1 dX6_newCarrier_31 rfl rfl ?_
      refine zz_icmp_ne (pc := 32) 41 dX6_newCarrier_32 rfl ?_ ?_
      · exact hj5 
      · refine zz_aload_n (pc := 35) 0 dX6_newCarrier_35 rfl rfl ?_
        refine zz_iconst (pc := 36) (v := 2) dX6_newCarrier_36 (by decide) ?_
        refine zz_callGV (pc := 37) (cs := (0, 0)) (idx := 103) (M := mX6_newCarrier) (1, 8) [.int 2] [] 90 (cg_X6_wrong (G := gT G _) (n98 hG) (n99 hG) (n100 hG) hG.2.2.2.1 hG.2.2.2.2.2.2.2.1 hG.2.2.2.2.2.2.2.2.1 hG.2.2.2.2.2.2.2.2.2 _) 6 hG.2.2.2.1 rfl mv_X6_wrong q559 rfl (Nat.le_of_ble_eq_true rfl) (Nat.le_of_ble_eq_true rfl) rfl rfl rfl (Nat.le_of_ble_eq_true rfl) dX6_newCarrier_37 (fun G9 r9 S9 hK9 => ?_)
        obtain ⟨a9, t9, u9, rfl⟩ := hK9
        exact zr_throw rfl (Nat.le_of_ble_eq_true rfl) (Nat.le_of_ble_eq_true rfl) dX6_newCarrier_40
abbrev mX6_newWarden : zMr := ("HiddenCube$Reader", cX6_newWarden, 1, none, 11, 1, 8, none)
def F_X6_newWarden  (S : zSt) : Option (Option Unit × zSt) :=
zbR (F_X6_needs 4 S) (fun _ S1 =>
joinK (fun  (S3 : zSt) => zbR (F_X6_square S3) (fun r5 S4 =>
zlet (sI S4 80 10 ((S3.1 80 10) ||| ((1 : Int32) <<< (r5 &&& 31))) : zSt) (fun S6 : zSt =>
some (some (), S6)))) (fun j2 : zSt → Option (Option Unit × zSt) =>
if tkq (S1.1 90 5) = 2 then (zbind (F_X1_squares 80  S1) (fun r8 S7 =>
if r8 ≤ (S1.1 90 4) then (j2 S7) else (zbind (F_X0_has (S7.1 80 10) (S7.1 90 4) S7) (fun r10 S9 =>
if r10 = 0 then (j2 S7) else ((F_X6_wrong 2 S7).bind (fun q9 =>
some (none, q9.2))))))) else (j2 S1)))
theorem mv_X6_newWarden : ZV mX6_newWarden yX6_newWarden 0 := ⟨q704, qs18, q156, q705, rfl, by decide, by decide, by decide +kernel⟩
theorem cr_X6_newWarden {G : zGw} {e9 : zRe} (hG : zGR e9 G)  : Zr e9 mX6_newWarden yX6_newWarden zJV G [.ref (G.1 90)] (F_X6_newWarden) := by
  refine Zr_of [some (.ref (G.1 90))] (by decide) rfl rfl (Nat.le_of_ble_eq_true rfl) rfl (fun X S res hE => ?_)
  unfold F_X6_newWarden
  refine zz_aload_n (pc := 0) 0 dX6_newWarden_0 rfl rfl ?_
  refine zz_ldcS (pc := 1) (hE.2.1 4 (by decide)) dX6_newWarden_1 ?_
  refine zr_callV (pc := 3) hE _ _ (cr_X6_needs hG (by decide)) mv_X6_needs q499 rfl hG.2.2.2.1 rfl (Nat.le_of_ble_eq_true rfl) (Nat.le_of_ble_eq_true rfl) rfl rfl (Nat.le_of_ble_eq_true rfl) (Nat.le_of_ble_eq_true rfl) (Nat.le_of_ble_eq_true rfl) dX6_newWarden_3 (fun _ S1 => ?_)
  refine zz_aload_n (pc := 6) 0 dX6_newWarden_6 rfl rfl ?_
  refine zr_getTok (pc := 7) hG q473 dX6_newWarden_7 ?_
  refine zr_getsTok (pc := 10) 2 (by decide) hE q462 dX6_newWarden_10 ?_
  refine zz_join (fun j : zSt → Option (Option Unit × zSt) => ∀  (S3 : zSt), ZW X mX6_newWarden yX6_newWarden.name zJV G (0, 0) res S3 53 [some (.ref (G.1 90))] [] (j S3)) ?_ (fun j2 hj2 => ?_)
  · intro S3
    refine zz_aload_n (pc := 53) 0 dX6_newWarden_53 rfl rfl ?_
    refine zz_get (pc := 54) (v := .ref (G.1 80)) 90 6 1 hG.2.2.2.1 rfl in_X6 (by decide) q469 (zval_rf rfl hG.2.2.2.2.1) dX6_newWarden_54 ?_
    refine zz_dup (pc := 57) dX6_newWarden_57 rfl ?_
    refine zz_getN (pc := 58) (v := .int (S3.1 80 10)) 80 1 10 hG.2.2.1.1 rfl in_X1 (by decide) (List.mem_of_getElem? (i := 27) rfl) rfl dX6_newWarden_58 ?_
    refine zz_iconst (pc := 61) (v := 1) dX6_newWarden_61 (by decide) ?_
    refine zz_aload_n (pc := 62) 0 dX6_newWarden_62 rfl rfl ?_
    refine zr_callV (pc := 63) hE _ _ (cr_X6_square hG) mv_X6_square q665 rfl hG.2.2.2.1 rfl (Nat.le_of_ble_eq_true rfl) (Nat.le_of_ble_eq_true rfl) rfl rfl (Nat.le_of_ble_eq_true rfl) (Nat.le_of_ble_eq_true rfl) (Nat.le_of_ble_eq_true rfl) dX6_newWarden_63 (fun r5 S4 => ?_)
    refine zz_ishl (pc := 66) dX6_newWarden_66 ?_
    refine zz_ior (pc := 67) dX6_newWarden_67 ?_
    refine zz_putIN (pc := 68) tyX1 80 1 10 hG.2.2.1.1 rfl in_X1 tyX1_ok (fun b hb9 hbj => nmX1 _ (by decide) b hb9 (Ne.symm hbj)) (by decide) (List.mem_of_getElem? (i := 27) rfl) rfl rfl rfl dX6_newWarden_68 ?_
    refine zr_letS rfl (fun S6 => ?_)
    exact zr_vret rfl dX6_newWarden_71
  · refine zr_acmp_ne (pc := 13) 2 53 hG hE (by decide) dX6_newWarden_13 rfl ?_ ?_
    · exact hj2 _
    · refine zz_aload_n (pc := 16) 0 dX6_newWarden_16 rfl rfl ?_
      refine zz_get (pc := 17) (v := .int (S1.1 90 4)) 90 6 4 hG.2.2.2.1 rfl in_X6 (by decide) q472 rfl dX6_newWarden_17 ?_
      refine zz_aload_n (pc := 20) 0 dX6_newWarden_20 rfl rfl ?_
      refine zz_get (pc := 21) (v := .ref (G.1 80)) 90 6 1 hG.2.2.2.1 rfl in_X6 (by decide) q469 (zval_rf rfl hG.2.2.2.2.1) dX6_newWarden_21 ?_
      refine zx_callV (pc := 24) [] [.int (S1.1 90 4)] 80 1 (ct_X1_squares (G := gT G S1) (b := 80) hG.2.2.1 ) mv_X1_squares q669 rfl hG.2.2.1.1 rfl (Nat.le_of_ble_eq_true rfl) (Nat.le_of_ble_eq_true rfl) rfl rfl (Nat.le_of_ble_eq_true rfl) dX6_newWarden_24 (fun r8 S7 hF => ?_)
      refine zr_re (pu_X1_squares hF) ?_
      refine zz_icmp_ge (pc := 27) 53 dX6_newWarden_27 rfl ?_ ?_
      · exact hj2 _
      · refine zz_aload_n (pc := 30) 0 dX6_newWarden_30 rfl rfl ?_
        refine zz_get (pc := 31) (v := .ref (G.1 80)) 90 6 1 hG.2.2.2.1 rfl in_X6 (by decide) q469 (zval_rf rfl hG.2.2.2.2.1) dX6_newWarden_31 ?_
        refine zz_getN (pc := 34) (v := .int (S7.1 80 10)) 80 1 10 hG.2.2.1.1 rfl in_X1 (by decide) (List.mem_of_getElem? (i := 27) rfl) rfl dX6_newWarden_34 ?_
        refine zz_aload_n (pc := 37) 0 dX6_newWarden_37 rfl rfl ?_
        refine zz_get (pc := 38) (v := .int (S7.1 90 4)) 90 6 4 hG.2.2.2.1 rfl in_X6 (by decide) q472 rfl dX6_newWarden_38 ?_
        refine zx_callSN (pc := 41) [.int (S7.1 80 10), .int (S7.1 90 4)] [] (ct_X0_has _ _) mv_X0_has (by decide) rfl (Nat.le_of_ble_eq_true rfl) (Nat.le_of_ble_eq_true rfl) rfl rfl (Nat.le_of_ble_eq_true rfl) dX6_newWarden_41 (fun r10 S9 hF => ?_)
        have hF := (pu_X0_has hF).symm
        subst hF
        refine zz_if_eq (pc := 44) 53 dX6_newWarden_44 rfl ?_ ?_
        · exact hj2 _
        · refine zz_aload_n (pc := 47) 0 dX6_newWarden_47 rfl rfl ?_
          refine zz_iconst (pc := 48) (v := 2) dX6_newWarden_48 (by decide) ?_
          refine zz_callGV (pc := 49) (cs := (0, 0)) (idx := 103) (M := mX6_newWarden) (1, 8) [.int 2] [] 90 (cg_X6_wrong (G := gT G _) (n98 hG) (n99 hG) (n100 hG) hG.2.2.2.1 hG.2.2.2.2.2.2.2.1 hG.2.2.2.2.2.2.2.2.1 hG.2.2.2.2.2.2.2.2.2 _) 6 hG.2.2.2.1 rfl mv_X6_wrong q559 rfl (Nat.le_of_ble_eq_true rfl) (Nat.le_of_ble_eq_true rfl) rfl rfl rfl (Nat.le_of_ble_eq_true rfl) dX6_newWarden_49 (fun G9 r9 S9 hK9 => ?_)
          obtain ⟨a9, t9, u9, rfl⟩ := hK9
          exact zr_throw rfl (Nat.le_of_ble_eq_true rfl) (Nat.le_of_ble_eq_true rfl) dX6_newWarden_52
abbrev mX6_takes_2 : zMr := ("HiddenCube$Reader", cX6_takes_2, 3, (some .boolean), 10, 1, 8, none)
def F_X6_takes_2 (i9 : Nat) (a2 : Int32) (S : zSt) : Option (Option Int32 × zSt) :=
zbR (F_X6_is i9 S) (fun r2 S1 =>
joinK (zbR (F_X6_takes i9 S1) (fun r5 S4 =>
some (some (r5 &&& 1), S4))) (fun j3 : Option (Option Int32 × zSt) =>
if r2 = 0 then (j3) else (if a2 = 0 then (j3) else ((F_X6_wrong 3 S1).bind (fun q9 =>
some (none, q9.2))))))
theorem mv_X6_takes_2 : ZV mX6_takes_2 yX6_takes_2 2 := ⟨q691, qs16, q156, q692, rfl, by decide, by decide, by decide +kernel⟩
theorem cr_X6_takes_2 {G : zGw} {e9 : zRe} (hG : zGR e9 G) {i9 : Nat} (hi : i9 < 9) (a2 : Int32) : Zr e9 mX6_takes_2 yX6_takes_2 zJI G [.ref (G.1 90), .ref (e9.2.1 i9), .int a2] (F_X6_takes_2 i9 a2) := by
  refine Zr_of [some (.ref (G.1 90)), some (.ref (e9.2.1 i9)), some (.int a2)] (by decide) rfl rfl (Nat.le_of_ble_eq_true rfl) rfl (fun X S res hE => ?_)
  unfold F_X6_takes_2
  refine zz_aload_n (pc := 0) 0 dX6_takes_2_0 rfl rfl ?_
  refine zz_aload_n (pc := 1) 1 dX6_takes_2_1 rfl rfl ?_
  refine zr_callV (pc := 2) hE _ _ (cr_X6_is hG hi) mv_X6_is q507 rfl hG.2.2.2.1 rfl (Nat.le_of_ble_eq_true rfl) (Nat.le_of_ble_eq_true rfl) rfl rfl (Nat.le_of_ble_eq_true rfl) (Nat.le_of_ble_eq_true rfl) (Nat.le_of_ble_eq_true rfl) dX6_takes_2_2 (fun r2 S1 => ?_)
  refine zz_join (fun j : Option (Option Int32 × zSt) =>  ZW X mX6_takes_2 yX6_takes_2.name zJI G (0, 0) res S1 18 [some (.ref (G.1 90)), some (.ref (e9.2.1 i9)), none] [] (j)) ?_ (fun j3 hj3 => ?_)
  · show _
    refine zz_aload_n (pc := 18) 0 dX6_takes_2_18 rfl rfl ?_
    refine zz_aload_n (pc := 19) 1 dX6_takes_2_19 rfl rfl ?_
    refine zr_callV (pc := 20) hE _ _ (cr_X6_takes hG hi) mv_X6_takes q503 rfl hG.2.2.2.1 rfl (Nat.le_of_ble_eq_true rfl) (Nat.le_of_ble_eq_true rfl) rfl rfl (Nat.le_of_ble_eq_true rfl) (Nat.le_of_ble_eq_true rfl) (Nat.le_of_ble_eq_true rfl) dX6_takes_2_20 (fun r5 S4 => ?_)
    exact zr_zret rfl rfl dX6_takes_2_23
  · refine zz_if_eq (pc := 5) 18 dX6_takes_2_5 rfl ?_ ?_
    · exact zz_mask [true, true, false] (hj3) rfl
    · refine zz_iload_n (pc := 8) 2 dX6_takes_2_8 rfl rfl ?_
      refine zz_if_eq (pc := 9) 18 dX6_takes_2_9 rfl ?_ ?_
      · exact zz_mask [true, true, false] (hj3) rfl
      · refine zz_aload_n (pc := 12) 0 dX6_takes_2_12 rfl rfl ?_
        refine zz_iconst (pc := 13) (v := 3) dX6_takes_2_13 (by decide) ?_
        refine zz_callGV (pc := 14) (cs := (0, 0)) (idx := 103) (M := mX6_takes_2) (1, 8) [.int 3] [] 90 (cg_X6_wrong (G := gT G _) (n98 hG) (n99 hG) (n100 hG) hG.2.2.2.1 hG.2.2.2.2.2.2.2.1 hG.2.2.2.2.2.2.2.2.1 hG.2.2.2.2.2.2.2.2.2 _) 6 hG.2.2.2.1 rfl mv_X6_wrong q559 rfl (Nat.le_of_ble_eq_true rfl) (Nat.le_of_ble_eq_true rfl) rfl rfl rfl (Nat.le_of_ble_eq_true rfl) dX6_takes_2_14 (fun G9 r9 S9 hK9 => ?_)
        obtain ⟨a9, t9, u9, rfl⟩ := hK9
        exact zr_throw rfl (Nat.le_of_ble_eq_true rfl) (Nat.le_of_ble_eq_true rfl) dX6_takes_2_17
abbrev mX6_line : zMr := ("HiddenCube$Reader", cX6_line, 1, none, 12, 1, 8, none)
def F_X6_line  (S : zSt) : Option (Option Unit × zSt) :=
zbR (F_X6_takes 2 S) (fun r2 S1 =>
if r2 = 0 then (zbR (F_X6_takes_2 3 (if (S1.1 80 8) = 6 then 1 else 0) S1) (fun r5 S4 =>
if r5 = 0 then (zbR (F_X6_takes_2 5 (if (S4.1 80 9) = 6 then 1 else 0) S4) (fun r8 S7 =>
if r8 = 0 then (zbR (F_X6_needs 8 S7) (fun _ S9 =>
zbR (F_X6_newWarden S9) (fun _ S10 =>
some (some (), S10)))) else (zbR (F_X6_newCarrier S7) (fun _ S11 =>
some (some (), S11))))) else (zbR (F_X6_needs 4 S4) (fun _ S13 =>
zbR (F_X6_square S13) (fun r15 S14 =>
chk (S13.1 80 8) 6 (zlet (sI S14 83 (S13.1 80 8).toNatClampNeg r15 : zSt) (fun S17 : zSt =>
zlet (sI S17 80 8 ((S17.1 80 8) + 1) : zSt) (fun S18 : zSt =>
some (some (), S18))))))))) else (zbR (F_X6_newShut S1) (fun _ S20 =>
some (some (), S20))))
theorem mv_X6_line : ZV mX6_line yX6_line 0 := ⟨q658, qs12, q156, q659, rfl, by decide, by decide, by decide +kernel⟩
theorem cr_X6_line {G : zGw} {e9 : zRe} (hG : zGR e9 G)  : Zr e9 mX6_line yX6_line zJV G [.ref (G.1 90)] (F_X6_line) := by
  refine Zr_of [some (.ref (G.1 90))] (by decide) rfl rfl (Nat.le_of_ble_eq_true rfl) rfl (fun X S res hE => ?_)
  unfold F_X6_line
  refine zz_aload_n (pc := 0) 0 dX6_line_0 rfl rfl ?_
  refine zz_ldcS (pc := 1) (hE.2.1 2 (by decide)) dX6_line_1 ?_
  refine zr_callV (pc := 3) hE _ _ (cr_X6_takes hG (by decide)) mv_X6_takes q503 rfl hG.2.2.2.1 rfl (Nat.le_of_ble_eq_true rfl) (Nat.le_of_ble_eq_true rfl) rfl rfl (Nat.le_of_ble_eq_true rfl) (Nat.le_of_ble_eq_true rfl) (Nat.le_of_ble_eq_true rfl) dX6_line_3 (fun r2 S1 => ?_)
  refine zz_if_eq (pc := 6) 16 dX6_line_6 rfl ?_ ?_
  · refine zz_aload_n (pc := 16) 0 dX6_line_16 rfl rfl ?_
    refine zz_ldcS (pc := 17) (hE.2.1 3 (by decide)) dX6_line_17 ?_
    refine zz_aload_n (pc := 19) 0 dX6_line_19 rfl rfl ?_
    refine zz_get (pc := 20) (v := .ref (G.1 80)) 90 6 1 hG.2.2.2.1 rfl in_X6 (by decide) q469 (zval_rf rfl hG.2.2.2.2.1) dX6_line_20 ?_
    refine zz_getN (pc := 23) (v := .int (S1.1 80 8)) 80 1 8 hG.2.2.1.1 rfl in_X1 (by decide) (List.mem_of_getElem? (i := 25) rfl) rfl dX6_line_23 ?_
    refine zz_bipush (pc := 26) (v := 6) dX6_line_26 (by decide) ?_
    refine zz_pure (st0 := [.ref (e9.2.1 3), .ref (G.1 90)]) 36 ((if (S1.1 80 8) = 6 then 1 else 0)) ?_ (fun hJ => ?_)
    · refine zr_callV (pc := 36) hE _ _ (cr_X6_takes_2 hG (by decide) _) mv_X6_takes_2 q689 rfl hG.2.2.2.1 rfl (Nat.le_of_ble_eq_true rfl) (Nat.le_of_ble_eq_true rfl) rfl rfl (Nat.le_of_ble_eq_true rfl) (Nat.le_of_ble_eq_true rfl) (Nat.le_of_ble_eq_true rfl) dX6_line_36 (fun r5 S4 => ?_)
      refine zz_if_eq (pc := 39) 83 dX6_line_39 rfl ?_ ?_
      · refine zz_aload_n (pc := 83) 0 dX6_line_83 rfl rfl ?_
        refine zz_ldcS (pc := 84) (hE.2.1 5 (by decide)) dX6_line_84 ?_
        refine zz_aload_n (pc := 86) 0 dX6_line_86 rfl rfl ?_
        refine zz_get (pc := 87) (v := .ref (G.1 80)) 90 6 1 hG.2.2.2.1 rfl in_X6 (by decide) q469 (zval_rf rfl hG.2.2.2.2.1) dX6_line_87 ?_
        refine zz_getN (pc := 90) (v := .int (S4.1 80 9)) 80 1 9 hG.2.2.1.1 rfl in_X1 (by decide) (List.mem_of_getElem? (i := 26) rfl) rfl dX6_line_90 ?_
        refine zz_bipush (pc := 93) (v := 6) dX6_line_93 (by decide) ?_
        refine zz_pure (st0 := [.ref (e9.2.1 5), .ref (G.1 90)]) 103 ((if (S4.1 80 9) = 6 then 1 else 0)) ?_ (fun hJ => ?_)
        · refine zr_callV (pc := 103) hE _ _ (cr_X6_takes_2 hG (by decide) _) mv_X6_takes_2 q689 rfl hG.2.2.2.1 rfl (Nat.le_of_ble_eq_true rfl) (Nat.le_of_ble_eq_true rfl) rfl rfl (Nat.le_of_ble_eq_true rfl) (Nat.le_of_ble_eq_true rfl) (Nat.le_of_ble_eq_true rfl) dX6_line_103 (fun r8 S7 => ?_)
          refine zz_if_eq (pc := 106) 116 dX6_line_106 rfl ?_ ?_
          · refine zz_aload_n (pc := 116) 0 dX6_line_116 rfl rfl ?_
            refine zz_ldcS (pc := 117) (hE.2.1 8 (by decide)) dX6_line_117 ?_
            refine zr_callV (pc := 119) hE _ _ (cr_X6_needs hG (by decide)) mv_X6_needs q499 rfl hG.2.2.2.1 rfl (Nat.le_of_ble_eq_true rfl) (Nat.le_of_ble_eq_true rfl) rfl rfl (Nat.le_of_ble_eq_true rfl) (Nat.le_of_ble_eq_true rfl) (Nat.le_of_ble_eq_true rfl) dX6_line_119 (fun _ S9 => ?_)
            refine zz_aload_n (pc := 122) 0 dX6_line_122 rfl rfl ?_
            refine zr_callV (pc := 123) hE _ _ (cr_X6_newWarden hG) mv_X6_newWarden q702 rfl hG.2.2.2.1 rfl (Nat.le_of_ble_eq_true rfl) (Nat.le_of_ble_eq_true rfl) rfl rfl (Nat.le_of_ble_eq_true rfl) (Nat.le_of_ble_eq_true rfl) (Nat.le_of_ble_eq_true rfl) dX6_line_123 (fun _ S10 => ?_)
            exact zr_vret rfl dX6_line_126
          · refine zz_aload_n (pc := 109) 0 dX6_line_109 rfl rfl ?_
            refine zr_callV (pc := 110) hE _ _ (cr_X6_newCarrier hG) mv_X6_newCarrier q695 rfl hG.2.2.2.1 rfl (Nat.le_of_ble_eq_true rfl) (Nat.le_of_ble_eq_true rfl) rfl rfl (Nat.le_of_ble_eq_true rfl) (Nat.le_of_ble_eq_true rfl) (Nat.le_of_ble_eq_true rfl) dX6_line_110 (fun _ S11 => ?_)
            refine zz_goto (pc := 113) 126 dX6_line_113 rfl ?_
            exact zr_vret rfl dX6_line_126
        · refine zz_icmpd_ne (pc := 95) 102 dX6_line_95 rfl (fun c12 => ?_) (fun c12 => ?_)
          · refine zz_iconst (pc := 102) (v := 0) dX6_line_102 (by decide) ?_
            exact zz_leaf hJ (by simp only [if_neg c12])
          · refine zz_iconst (pc := 98) (v := 1) dX6_line_98 (by decide) ?_
            refine zz_goto (pc := 99) 103 dX6_line_99 rfl ?_
            exact zz_leaf hJ (by simp only [if_pos c12])
      · refine zz_aload_n (pc := 42) 0 dX6_line_42 rfl rfl ?_
        refine zz_ldcS (pc := 43) (hE.2.1 4 (by decide)) dX6_line_43 ?_
        refine zr_callV (pc := 45) hE _ _ (cr_X6_needs hG (by decide)) mv_X6_needs q499 rfl hG.2.2.2.1 rfl (Nat.le_of_ble_eq_true rfl) (Nat.le_of_ble_eq_true rfl) rfl rfl (Nat.le_of_ble_eq_true rfl) (Nat.le_of_ble_eq_true rfl) (Nat.le_of_ble_eq_true rfl) dX6_line_45 (fun _ S13 => ?_)
        refine zz_aload_n (pc := 48) 0 dX6_line_48 rfl rfl ?_
        refine zz_get (pc := 49) (v := .ref (G.1 80)) 90 6 1 hG.2.2.2.1 rfl in_X6 (by decide) q469 (zval_rf rfl hG.2.2.2.2.1) dX6_line_49 ?_
        refine zz_getN (pc := 52) (v := .ref (G.1 83)) 80 1 4 hG.2.2.1.1 rfl in_X1 (by decide) (List.mem_of_getElem? (i := 22) rfl) (zval_rf rfl (zGT_r4 hG.2.2.1)) dX6_line_52 ?_
        refine zz_aload_n (pc := 55) 0 dX6_line_55 rfl rfl ?_
        refine zz_get (pc := 56) (v := .ref (G.1 80)) 90 6 1 hG.2.2.2.1 rfl in_X6 (by decide) q469 (zval_rf rfl hG.2.2.2.2.1) dX6_line_56 ?_
        refine zz_getN (pc := 59) (v := .int (S13.1 80 8)) 80 1 8 hG.2.2.1.1 rfl in_X1 (by decide) (List.mem_of_getElem? (i := 25) rfl) rfl dX6_line_59 ?_
        refine zz_aload_n (pc := 62) 0 dX6_line_62 rfl rfl ?_
        refine zr_callV (pc := 63) hE _ _ (cr_X6_square hG) mv_X6_square q665 rfl hG.2.2.2.1 rfl (Nat.le_of_ble_eq_true rfl) (Nat.le_of_ble_eq_true rfl) rfl rfl (Nat.le_of_ble_eq_true rfl) (Nat.le_of_ble_eq_true rfl) (Nat.le_of_ble_eq_true rfl) dX6_line_63 (fun r15 S14 => ?_)
        refine zz_chk (fun h16 => ?_)
        refine zz_iastore (pc := 66) 83 6 (zGT_a3 hG.2.2.1) h16 dX6_line_66 ?_
        refine zr_letS rfl (fun S17 => ?_)
        refine zz_aload_n (pc := 67) 0 dX6_line_67 rfl rfl ?_
        refine zz_get (pc := 68) (v := .ref (G.1 80)) 90 6 1 hG.2.2.2.1 rfl in_X6 (by decide) q469 (zval_rf rfl hG.2.2.2.2.1) dX6_line_68 ?_
        refine zz_dup (pc := 71) dX6_line_71 rfl ?_
        refine zz_getN (pc := 72) (v := .int (S17.1 80 8)) 80 1 8 hG.2.2.1.1 rfl in_X1 (by decide) (List.mem_of_getElem? (i := 25) rfl) rfl dX6_line_72 ?_
        refine zz_iconst (pc := 75) (v := 1) dX6_line_75 (by decide) ?_
        refine zz_iadd (pc := 76) dX6_line_76 ?_
        refine zz_putIN (pc := 77) tyX1 80 1 8 hG.2.2.1.1 rfl in_X1 tyX1_ok (fun b hb9 hbj => nmX1 _ (by decide) b hb9 (Ne.symm hbj)) (by decide) (List.mem_of_getElem? (i := 25) rfl) rfl rfl rfl dX6_line_77 ?_
        refine zr_letS rfl (fun S18 => ?_)
        refine zz_goto (pc := 80) 126 dX6_line_80 rfl ?_
        exact zr_vret rfl dX6_line_126
    · refine zz_icmpd_ne (pc := 28) 35 dX6_line_28 rfl (fun c19 => ?_) (fun c19 => ?_)
      · refine zz_iconst (pc := 35) (v := 0) dX6_line_35 (by decide) ?_
        exact zz_leaf hJ (by simp only [if_neg c19])
      · refine zz_iconst (pc := 31) (v := 1) dX6_line_31 (by decide) ?_
        refine zz_goto (pc := 32) 36 dX6_line_32 rfl ?_
        exact zz_leaf hJ (by simp only [if_pos c19])
  · refine zz_aload_n (pc := 9) 0 dX6_line_9 rfl rfl ?_
    refine zr_callV (pc := 10) hE _ _ (cr_X6_newShut hG) mv_X6_newShut q661 rfl hG.2.2.2.1 rfl (Nat.le_of_ble_eq_true rfl) (Nat.le_of_ble_eq_true rfl) rfl rfl (Nat.le_of_ble_eq_true rfl) (Nat.le_of_ble_eq_true rfl) (Nat.le_of_ble_eq_true rfl) dX6_line_10 (fun _ S20 => ?_)
    refine zz_goto (pc := 13) 126 dX6_line_13 rfl ?_
    exact zr_vret rfl dX6_line_126
abbrev mX6_read : zMr := ("HiddenCube$Reader", cX6_read, 1, (some (.object "HiddenCube$Town")), 13, 1, 8, none)
def LB_X6_read_1 (k1 : zSt → Option (Option Unit × zSt)) (k3 : zSt → Option (Option Unit × zSt)) (rec6 : zSt → Option (Option Unit × zSt))  (S7 : zSt) : Option (Option Unit × zSt) :=
if tkq (S7.1 90 5) = 0 then (k1 S7) else (joinK (fun  (S9 : zSt) => if tkq (S9.1 90 5) = 3 then (zbR (F_X6_next S9) (fun _ S10 =>
zlet (sI S10 80 1 ((S10.1 80 1) + 1) : zSt) (fun S11 : zSt =>
rec6 S11))) else (k3 S9)) (fun j8 : zSt → Option (Option Unit × zSt) =>
if (S7.1 80 1) = 0 then (zbR (F_X6_first S7) (fun _ S13 =>
j8 S13)) else (zbR (F_X6_line S7) (fun _ S12 =>
j8 S12))))
def F_X6_read  (S : zSt) : Option (Option Unit × zSt) :=
joinK (fun  (S2 : zSt) => some (some (), S2)) (fun k1 : zSt → Option (Option Unit × zSt) =>
joinK (fun  (S4 : zSt) => (F_X6_wrong 1 S4).bind (fun q9 =>
some (none, q9.2))) (fun k3 : zSt → Option (Option Unit × zSt) =>
loopK (fun _ => none) (LB_X6_read_1 k1 k3) zfuel S))
theorem mv_X6_read : ZV mX6_read yX6_read 0 := ⟨q491, q492, q156, q493, rfl, by decide, by decide, by decide +kernel⟩
theorem cr_X6_read {G : zGw} {e9 : zRe} (hG : zGR e9 G)  : Zr e9 mX6_read yX6_read (fun _ => some (.ref (G.1 80))) G [.ref (G.1 90)] (F_X6_read) := by
  refine Zr_of [some (.ref (G.1 90))] (by decide) rfl rfl (Nat.le_of_ble_eq_true rfl) rfl (fun X S res hE => ?_)
  unfold F_X6_read
  refine zz_join (fun j : zSt → Option (Option Unit × zSt) => ∀  (S2 : zSt), ZW X mX6_read yX6_read.name (fun _ => some (.ref (G.1 80))) G (0, 0) res S2 67 [some (.ref (G.1 90))] [] (j S2)) ?_ (fun k1 hk1 => ?_)
  · intro S2
    refine zz_aload_n (pc := 67) 0 dX6_read_67 rfl rfl ?_
    refine zz_get (pc := 68) (v := .ref (G.1 80)) 90 6 1 hG.2.2.2.1 rfl in_X6 (by decide) q469 (zval_rf rfl hG.2.2.2.2.1) dX6_read_68 ?_
    exact zr_aret (q := 80) (C := "HiddenCube$Town") rfl rfl dX6_read_71
  · refine zz_join (fun j : zSt → Option (Option Unit × zSt) => ∀  (S4 : zSt), ZW X mX6_read yX6_read.name (fun _ => some (.ref (G.1 80))) G (0, 0) res S4 41 [some (.ref (G.1 90))] [] (j S4)) ?_ (fun k3 hk3 => ?_)
    · intro S4
      refine zz_aload_n (pc := 41) 0 dX6_read_41 rfl rfl ?_
      refine zz_iconst (pc := 42) (v := 1) dX6_read_42 (by decide) ?_
      refine zz_callGV (pc := 43) (cs := (0, 0)) (idx := 103) (M := mX6_read) (1, 8) [.int 1] [] 90 (cg_X6_wrong (G := gT G _) (n98 hG) (n99 hG) (n100 hG) hG.2.2.2.1 hG.2.2.2.2.2.2.2.1 hG.2.2.2.2.2.2.2.2.1 hG.2.2.2.2.2.2.2.2.2 _) 6 hG.2.2.2.1 rfl mv_X6_wrong q559 rfl (Nat.le_of_ble_eq_true rfl) (Nat.le_of_ble_eq_true rfl) rfl rfl rfl (Nat.le_of_ble_eq_true rfl) dX6_read_43 (fun G9 r9 S9 hK9 => ?_)
      obtain ⟨a9, t9, u9, rfl⟩ := hK9
      exact zr_throw rfl (Nat.le_of_ble_eq_true rfl) (Nat.le_of_ble_eq_true rfl) dX6_read_46
    · refine z_loopK (fun j : zSt → Option (Option Unit × zSt) => ∀  (S7 : zSt), ZW X mX6_read yX6_read.name (fun _ => some (.ref (G.1 80))) G (0, 0) res S7 0 [some (.ref (G.1 90))] [] (j S7)) ?_ ?_ zfuel _
      · intro S7; exact zz_none
      · intro rec6 hrec6 S7
        unfold LB_X6_read_1
        refine zz_aload_n (pc := 0) 0 dX6_read_0 rfl rfl ?_
        refine zr_getTok (pc := 1) hG q473 dX6_read_1 ?_
        refine zr_getsTok (pc := 4) 0 (by decide) hE q445 dX6_read_4 ?_
        refine zr_acmp_eq (pc := 7) 0 67 hG hE (by decide) dX6_read_7 rfl ?_ ?_
        · exact hk1 _
        · refine zz_aload_n (pc := 10) 0 dX6_read_10 rfl rfl ?_
          refine zz_get (pc := 11) (v := .ref (G.1 80)) 90 6 1 hG.2.2.2.1 rfl in_X6 (by decide) q469 (zval_rf rfl hG.2.2.2.2.1) dX6_read_11 ?_
          refine zz_getN (pc := 14) (v := .int (S7.1 80 1)) 80 1 1 hG.2.2.1.1 rfl in_X1 (by decide) (List.mem_of_getElem? (i := 19) rfl) rfl dX6_read_14 ?_
          refine zz_join (fun j : zSt → Option (Option Unit × zSt) => ∀  (S9 : zSt), ZW X mX6_read yX6_read.name (fun _ => some (.ref (G.1 80))) G (0, 0) res S9 31 [some (.ref (G.1 90))] [] (j S9)) ?_ (fun j8 hj8 => ?_)
          · intro S9
            refine zz_aload_n (pc := 31) 0 dX6_read_31 rfl rfl ?_
            refine zr_getTok (pc := 32) hG q473 dX6_read_32 ?_
            refine zr_getsTok (pc := 35) 3 (by decide) hE q464 dX6_read_35 ?_
            refine zr_acmp_eq (pc := 38) 3 47 hG hE (by decide) dX6_read_38 rfl ?_ ?_
            · refine zz_aload_n (pc := 47) 0 dX6_read_47 rfl rfl ?_
              refine zr_callV (pc := 48) hE _ _ (cr_X6_next hG) mv_X6_next q447 rfl hG.2.2.2.1 rfl (Nat.le_of_ble_eq_true rfl) (Nat.le_of_ble_eq_true rfl) rfl rfl (Nat.le_of_ble_eq_true rfl) (Nat.le_of_ble_eq_true rfl) (Nat.le_of_ble_eq_true rfl) dX6_read_48 (fun _ S10 => ?_)
              refine zz_aload_n (pc := 51) 0 dX6_read_51 rfl rfl ?_
              refine zz_get (pc := 52) (v := .ref (G.1 80)) 90 6 1 hG.2.2.2.1 rfl in_X6 (by decide) q469 (zval_rf rfl hG.2.2.2.2.1) dX6_read_52 ?_
              refine zz_dup (pc := 55) dX6_read_55 rfl ?_
              refine zz_getN (pc := 56) (v := .int (S10.1 80 1)) 80 1 1 hG.2.2.1.1 rfl in_X1 (by decide) (List.mem_of_getElem? (i := 19) rfl) rfl dX6_read_56 ?_
              refine zz_iconst (pc := 59) (v := 1) dX6_read_59 (by decide) ?_
              refine zz_iadd (pc := 60) dX6_read_60 ?_
              refine zz_putIN (pc := 61) tyX1 80 1 1 hG.2.2.1.1 rfl in_X1 tyX1_ok (fun b hb9 hbj => nmX1 _ (by decide) b hb9 (Ne.symm hbj)) (by decide) (List.mem_of_getElem? (i := 19) rfl) rfl rfl rfl dX6_read_61 ?_
              refine zr_letS rfl (fun S11 => ?_)
              refine zz_goto (pc := 64) 0 dX6_read_64 rfl ?_
              exact hrec6 _
            · exact hk3 _
          · refine zz_if_ne (pc := 17) 27 dX6_read_17 rfl ?_ ?_
            · refine zz_aload_n (pc := 27) 0 dX6_read_27 rfl rfl ?_
              refine zr_callV (pc := 28) hE _ _ (cr_X6_line hG) mv_X6_line q656 rfl hG.2.2.2.1 rfl (Nat.le_of_ble_eq_true rfl) (Nat.le_of_ble_eq_true rfl) rfl rfl (Nat.le_of_ble_eq_true rfl) (Nat.le_of_ble_eq_true rfl) (Nat.le_of_ble_eq_true rfl) dX6_read_28 (fun _ S12 => ?_)
              exact hj8 _
            · refine zz_aload_n (pc := 20) 0 dX6_read_20 rfl rfl ?_
              refine zr_callV (pc := 21) hE _ _ (cr_X6_first hG) mv_X6_first q494 rfl hG.2.2.2.1 rfl (Nat.le_of_ble_eq_true rfl) (Nat.le_of_ble_eq_true rfl) rfl rfl (Nat.le_of_ble_eq_true rfl) (Nat.le_of_ble_eq_true rfl) (Nat.le_of_ble_eq_true rfl) dX6_read_21 (fun _ S13 => ?_)
              refine zz_goto (pc := 24) 31 dX6_read_24 rfl ?_
              exact hj8 _
