/-! WALKS (written by gen/mkparts.py) -/
set_option maxRecDepth 100000
abbrev mX0_even : zMr := ("HiddenCube", cX0_even, 6, (some .int), 8, 0, 0, none)
def LB_X0_even_1 (x5 : Int32) (k7 : Int32 → zSt → Option (Int32 × zSt)) (rec13 : Int32 → Int32 → zSt → Option (Int32 × zSt)) (x14 : Int32) (x15 : Int32) (S16 : zSt) : Option (Int32 × zSt) :=
if (S16.1 1 0) ≤ x15 then (k7 x14 S16) else (joinK (fun (v18 : Int32) (S19 : zSt) => rec13 v18 (x15 + 1) S19) (fun j17 : Int32 → zSt → Option (Int32 × zSt) =>
joinK (fun  (S21 : zSt) => j17 0 S21) (fun j20 : zSt → Option (Int32 × zSt) =>
if x14 = 0 then (j20 S16) else (chk x5 1400 (zbind (F_X0_stepsBy (S16.1 20 (x5).toNatClampNeg) x15 S16) (fun r24 S23 =>
chk x5 1400 (zbind (F_X0_stepsBy (S23.1 20 (x5).toNatClampNeg) 0 S23) (fun r27 S26 =>
if r24 = r27 then (j17 1 S26) else (j20 S26)))))))))
def LB_X0_even_2 (rec3 : Int32 → Int32 → zSt → Option (Int32 × zSt)) (x4 : Int32) (x5 : Int32) (S6 : zSt) : Option (Int32 × zSt) :=
if (S6.1 0 16) ≤ x5 then (some (x4, S6)) else (joinK (fun (x8 : Int32) (S9 : zSt) => zlet (x4 + (if x8 = 0 then 0 else 1) : Int32) (fun w11 : Int32 =>
rec3 w11 (x5 + 1) S9)) (fun k7 : Int32 → zSt → Option (Int32 × zSt) =>
loopK (fun _ _ _ => none) (LB_X0_even_1 x5 k7) zfuel 1 1 S6))
def F_X0_even  (S : zSt) : Option (Int32 × zSt) :=
zbind (F_X0_asksRounds 1 S) (fun r2 S1 =>
if 0 ≤ r2 then (loopK (fun _ _ _ => none) (LB_X0_even_2) zfuel 0 0 S1) else (some (r2, S1)))
theorem mv_X0_even : ZV mX0_even yX0_even 0 := ⟨q984, q985, q150, q986, rfl, by decide, by decide, by decide +kernel⟩
theorem ct_X0_even {G : zGw} (hG : zGC G)  : Zc mX0_even yX0_even zJI G [.ref (G.1 0)] (F_X0_even) := by
  refine Zc_of [some (.ref (G.1 0)), none, none, none, none, none] (by decide) rfl rfl (Nat.le_of_ble_eq_true rfl) rfl (fun X S res => ?_)
  unfold F_X0_even
  refine z_aload_n (pc := 0) 0 dX0_even_0 rfl rfl ?_
  refine z_iconst (pc := 1) (v := 1) dX0_even_1 (by decide) ?_
  refine z_callVi (pc := 2) _ _ 0 0 (ct_X0_asksRounds hG _) mv_X0_asksRounds q948 rfl (zGC_s0 hG) rfl (Nat.le_of_ble_eq_true rfl) (Nat.le_of_ble_eq_true rfl) rfl rfl (Nat.le_of_ble_eq_true rfl) dX0_even_2 (fun r2 S1 => ?_)
  refine z_istore_n (pc := 5) 1 dX0_even_5 rfl (Nat.le_of_ble_eq_true rfl) rfl ?_
  refine z_iload_n (pc := 6) 1 dX0_even_6 rfl rfl ?_
  refine z_if_ge (pc := 7) 12 dX0_even_7 rfl ?_ ?_
  · refine z_iconst (pc := 12) (v := 0) dX0_even_12 (by decide) ?_
    refine z_istore_n (pc := 13) 2 dX0_even_13 rfl (Nat.le_of_ble_eq_true rfl) rfl ?_
    refine z_iconst (pc := 14) (v := 0) dX0_even_14 (by decide) ?_
    refine z_istore_n (pc := 15) 3 dX0_even_15 rfl (Nat.le_of_ble_eq_true rfl) rfl ?_
    refine z_maskk [true, false, true, true, false, false] ?_
    refine z_loopK (fun j : Int32 → Int32 → zSt → Option (Int32 × zSt) => ∀ (x4 : Int32) (x5 : Int32) (S6 : zSt), Zm X mX0_even zJI G (0, 0) res S6 16 [some (.ref (G.1 0)), none, some (.int x4), some (.int x5), none, none] [] (j x4 x5 S6)) ?_ ?_ zfuel _ _ _
    · intro x4 x5 S6; exact z_none
    · intro rec3 hrec3 x4 x5 S6
      unfold LB_X0_even_2
      refine z_iload_n (pc := 16) 3 dX0_even_16 rfl rfl ?_
      refine z_aload_n (pc := 17) 0 dX0_even_17 rfl rfl ?_
      refine gf_X0_C_309_0 hG (pc := 18) dX0_even_18 ?_
      refine z_icmp_ge (pc := 21) 105 dX0_even_21 rfl ?_ ?_
      · refine z_iload_n (pc := 105) 2 dX0_even_105 rfl rfl ?_
        exact z_iret rfl dX0_even_106 rfl
      · refine z_iconst (pc := 24) (v := 1) dX0_even_24 (by decide) ?_
        refine z_istore (pc := 25) dX0_even_25 (Nat.le_of_ble_eq_true rfl) rfl ?_
        refine z_iconst (pc := 27) (v := 1) dX0_even_27 (by decide) ?_
        refine z_istore (pc := 28) dX0_even_28 (Nat.le_of_ble_eq_true rfl) rfl ?_
        refine z_join (fun j : Int32 → zSt → Option (Int32 × zSt) => ∀ (x8 : Int32) (S9 : zSt), Zm X mX0_even zJI G (0, 0) res S9 86 [some (.ref (G.1 0)), none, some (.int x4), some (.int x5), some (.int x8), none] [] (j x8 S9)) ?_ (fun k7 hk7 => ?_)
        · intro x8 S9
          refine z_iload_n (pc := 86) 2 dX0_even_86 rfl rfl ?_
          refine z_iload (pc := 87) dX0_even_87 rfl ?_
          refine z_pure (st0 := [.int x4]) 97 ((if x8 = 0 then 0 else 1)) ?_ (fun hJ => ?_)
          · refine z_iadd (pc := 97) dX0_even_97 ?_
            refine z_letI (fun w11 => ?_)
            refine z_istore_n (pc := 98) 2 dX0_even_98 rfl (Nat.le_of_ble_eq_true rfl) rfl ?_
            refine z_iinc (pc := 99) (w := x5 + 1) dX0_even_99 rfl (by rw [show Int32.ofInt 1 = 1 from by decide]) (Nat.le_of_ble_eq_true rfl) rfl ?_
            refine z_goto (pc := 102) 16 dX0_even_102 rfl ?_
            exact z_mask [true, false, true, true, false, false] (hrec3 _ _ _) rfl
          · refine z_ifd_eq (pc := 89) 96 dX0_even_89 rfl (fun c12 => ?_) (fun c12 => ?_)
            · refine z_iconst (pc := 96) (v := 0) dX0_even_96 (by decide) ?_
              exact z_leaf hJ (by simp only [if_pos c12])
            · refine z_iconst (pc := 92) (v := 1) dX0_even_92 (by decide) ?_
              refine z_goto (pc := 93) 97 dX0_even_93 rfl ?_
              exact z_leaf hJ (by simp only [if_neg c12])
        · refine z_loopK (fun j : Int32 → Int32 → zSt → Option (Int32 × zSt) => ∀ (x14 : Int32) (x15 : Int32) (S16 : zSt), Zm X mX0_even zJI G (0, 0) res S16 30 [some (.ref (G.1 0)), none, some (.int x4), some (.int x5), some (.int x14), some (.int x15)] [] (j x14 x15 S16)) ?_ ?_ zfuel _ _ _
          · intro x14 x15 S16; exact z_none
          · intro rec13 hrec13 x14 x15 S16
            unfold LB_X0_even_1
            refine z_iload (pc := 30) dX0_even_30 rfl ?_
            refine z_aload_n (pc := 32) 0 dX0_even_32 rfl rfl ?_
            refine gf_X0_C_10_0 hG (pc := 33) dX0_even_33 ?_
            refine gf_X0_C_158_1 hG (pc := 36) dX0_even_36 ?_
            refine z_icmp_ge (pc := 39) 86 dX0_even_39 rfl ?_ ?_
            · exact z_mask [true, false, true, true, true, false] (hk7 _ _) rfl
            · refine z_iload (pc := 42) dX0_even_42 rfl ?_
              refine z_join (fun j : Int32 → zSt → Option (Int32 × zSt) => ∀ (v18 : Int32) (S19 : zSt), Zm X mX0_even zJI G (0, 0) res S19 78 [some (.ref (G.1 0)), none, some (.int x4), some (.int x5), none, some (.int x15)] [.int v18] (j v18 S19)) ?_ (fun j17 hj17 => ?_)
              · intro v18 S19
                refine z_istore (pc := 78) dX0_even_78 (Nat.le_of_ble_eq_true rfl) rfl ?_
                refine z_iinc (pc := 80) (w := x15 + 1) dX0_even_80 rfl (by rw [show Int32.ofInt 1 = 1 from by decide]) (Nat.le_of_ble_eq_true rfl) rfl ?_
                refine z_goto (pc := 83) 30 dX0_even_83 rfl ?_
                exact hrec13 _ _ _
              · refine z_join (fun j : zSt → Option (Int32 × zSt) => ∀  (S21 : zSt), Zm X mX0_even zJI G (0, 0) res S21 77 [some (.ref (G.1 0)), none, some (.int x4), some (.int x5), none, some (.int x15)] [] (j S21)) ?_ (fun j20 hj20 => ?_)
                · intro S21
                  refine z_iconst (pc := 77) (v := 0) dX0_even_77 (by decide) ?_
                  exact hj17 _ _
                · refine z_if_eq (pc := 44) 77 dX0_even_44 rfl ?_ ?_
                  · exact z_mask [true, false, true, true, false, true] (hj20 _) rfl
                  · refine z_aload_n (pc := 47) 0 dX0_even_47 rfl rfl ?_
                    refine z_aload_n (pc := 48) 0 dX0_even_48 rfl rfl ?_
                    refine gf_X0_C_62_0 hG (pc := 49) dX0_even_49 ?_
                    refine z_iload_n (pc := 52) 3 dX0_even_52 rfl rfl ?_
                    refine z_chk (fun h22 => ?_)
                    refine z_iaload (pc := 53) 20 1400 (zGC_s20 hG) h22 dX0_even_53 ?_
                    refine z_iload (pc := 54) dX0_even_54 rfl ?_
                    refine z_callVi (pc := 56) _ _ 0 0 (ct_X0_stepsBy hG _ _) mv_X0_stepsBy q979 rfl (zGC_s0 hG) rfl (Nat.le_of_ble_eq_true rfl) (Nat.le_of_ble_eq_true rfl) rfl rfl (Nat.le_of_ble_eq_true rfl) dX0_even_56 (fun r24 S23 => ?_)
                    refine z_aload_n (pc := 59) 0 dX0_even_59 rfl rfl ?_
                    refine z_aload_n (pc := 60) 0 dX0_even_60 rfl rfl ?_
                    refine gf_X0_C_62_0 hG (pc := 61) dX0_even_61 ?_
                    refine z_iload_n (pc := 64) 3 dX0_even_64 rfl rfl ?_
                    refine z_chk (fun h25 => ?_)
                    refine z_iaload (pc := 65) 20 1400 (zGC_s20 hG) h25 dX0_even_65 ?_
                    refine z_iconst (pc := 66) (v := 0) dX0_even_66 (by decide) ?_
                    refine z_callVi (pc := 67) _ _ 0 0 (ct_X0_stepsBy hG _ _) mv_X0_stepsBy q979 rfl (zGC_s0 hG) rfl (Nat.le_of_ble_eq_true rfl) (Nat.le_of_ble_eq_true rfl) rfl rfl (Nat.le_of_ble_eq_true rfl) dX0_even_67 (fun r27 S26 => ?_)
                    refine z_icmp_ne (pc := 70) 77 dX0_even_70 rfl ?_ ?_
                    · exact z_mask [true, false, true, true, false, true] (hj20 _) rfl
                    · refine z_iconst (pc := 73) (v := 1) dX0_even_73 (by decide) ?_
                      refine z_goto (pc := 74) 78 dX0_even_74 rfl ?_
                      exact z_mask [true, false, true, true, false, true] (hj17 _ _) rfl
  · refine z_iload_n (pc := 10) 1 dX0_even_10 rfl rfl ?_
    exact z_iret rfl dX0_even_11 rfl
abbrev mX0_swaps : zMr := ("HiddenCube", cX0_swaps, 4, none, 1, 0, 0, none)
def F_X0_swaps (a1 : Int32) (a2 : Int32) (S : zSt) : Option (Unit × zSt) :=
chk a1 5 (zlet (S.1 23 (a1).toNatClampNeg : Int32) (fun w2 : Int32 =>
chk a2 5 (chk a1 5 (zlet (sI S 23 (a1).toNatClampNeg (S.1 23 (a2).toNatClampNeg) : zSt) (fun S5 : zSt =>
chk a2 5 (zlet (sI S5 23 (a2).toNatClampNeg w2 : zSt) (fun S7 : zSt =>
some ((), S7))))))))
theorem mv_X0_swaps : ZV mX0_swaps yX0_swaps 2 := ⟨q1009, qs51, q150, q1010, rfl, by decide, by decide, by decide +kernel⟩
theorem ct_X0_swaps {G : zGw} (hG : zGC G) (a1 : Int32) (a2 : Int32) : Zc mX0_swaps yX0_swaps zJV G [.ref (G.1 0), .int a1, .int a2] (F_X0_swaps a1 a2) := by
  refine Zc_of [some (.ref (G.1 0)), some (.int a1), some (.int a2), none] (by decide) rfl rfl (Nat.le_of_ble_eq_true rfl) rfl (fun X S res => ?_)
  unfold F_X0_swaps
  refine z_aload_n (pc := 0) 0 dX0_swaps_0 rfl rfl ?_
  refine gf_X0_C_71_0 hG (pc := 1) dX0_swaps_1 ?_
  refine z_iload_n (pc := 4) 1 dX0_swaps_4 rfl rfl ?_
  refine z_chk (fun h1 => ?_)
  refine z_iaload (pc := 5) 23 5 (zGC_s23 hG) h1 dX0_swaps_5 ?_
  refine z_letI (fun w2 => ?_)
  refine z_istore_n (pc := 6) 3 dX0_swaps_6 rfl (Nat.le_of_ble_eq_true rfl) rfl ?_
  refine z_aload_n (pc := 7) 0 dX0_swaps_7 rfl rfl ?_
  refine gf_X0_C_71_0 hG (pc := 8) dX0_swaps_8 ?_
  refine z_iload_n (pc := 11) 1 dX0_swaps_11 rfl rfl ?_
  refine z_aload_n (pc := 12) 0 dX0_swaps_12 rfl rfl ?_
  refine gf_X0_C_71_0 hG (pc := 13) dX0_swaps_13 ?_
  refine z_iload_n (pc := 16) 2 dX0_swaps_16 rfl rfl ?_
  refine z_chk (fun h3 => ?_)
  refine z_iaload (pc := 17) 23 5 (zGC_s23 hG) h3 dX0_swaps_17 ?_
  refine z_chk (fun h4 => ?_)
  refine z_iastore (pc := 18) 23 5 (zGC_s23 hG) h4 dX0_swaps_18 ?_
  refine z_letS (fun S5 => ?_)
  refine z_aload_n (pc := 19) 0 dX0_swaps_19 rfl rfl ?_
  refine gf_X0_C_71_0 hG (pc := 20) dX0_swaps_20 ?_
  refine z_iload_n (pc := 23) 2 dX0_swaps_23 rfl rfl ?_
  refine z_iload_n (pc := 24) 3 dX0_swaps_24 rfl rfl ?_
  refine z_chk (fun h6 => ?_)
  refine z_iastore (pc := 25) 23 5 (zGC_s23 hG) h6 dX0_swaps_25 ?_
  refine z_letS (fun S7 => ?_)
  exact z_vret rfl dX0_swaps_26 rfl
abbrev mX0_nextPerm : zMr := ("HiddenCube", cX0_nextPerm, 5, (some .boolean), 2, 0, 0, none)
def LB_X0_nextPerm_1 (rec7 : Int32 → Int32 → zSt → Option (Int32 × zSt)) (x8 : Int32) (x9 : Int32) (S10 : zSt) : Option (Int32 × zSt) :=
if x9 ≤ x8 then (some (1, S10)) else (zbind (F_X0_swaps x8 x9 S10) (fun _ S11 =>
rec7 (x8 + 1) (x9 + (-1)) S11))
def LB_X0_nextPerm_2 (S : zSt) (x2 : Int32) (k3 : Int32 → Option (Int32 × zSt)) (rec12 : Int32 → Option (Int32 × zSt)) (x13 : Int32) : Option (Int32 × zSt) :=
chk x13 5 (chk x2 5 (if (S.1 23 (x2).toNatClampNeg) ≤ (S.1 23 (x13).toNatClampNeg) then (k3 x13) else (rec12 (x13 + (-1)))))
def LB_X0_nextPerm_3 (S : zSt) (k1 : Int32 → Option (Int32 × zSt)) (rec16 : Int32 → Option (Int32 × zSt)) (x17 : Int32) : Option (Int32 × zSt) :=
if x17 < 0 then (k1 x17) else (chk x17 5 (chk (x17 + 1) 5 (if (S.1 23 (x17).toNatClampNeg) ≤ (S.1 23 (x17 + 1).toNatClampNeg) then (k1 x17) else (rec16 (x17 + (-1))))))
def F_X0_nextPerm  (S : zSt) : Option (Int32 × zSt) :=
joinK (fun (x2 : Int32) => if 0 ≤ x2 then (joinK (fun (x4 : Int32) => zbind (F_X0_swaps x2 x4 S) (fun _ S5 =>
zlet ((S5.1 1 0) - 1 : Int32) (fun w6 : Int32 =>
loopK (fun _ _ _ => none) (LB_X0_nextPerm_1) zfuel (x2 + 1) w6 S5))) (fun k3 : Int32 → Option (Int32 × zSt) =>
loopK (fun _ => none) (LB_X0_nextPerm_2 S x2 k3) zfuel ((S.1 1 0) - 1))) else (some (0, S))) (fun k1 : Int32 → Option (Int32 × zSt) =>
loopK (fun _ => none) (LB_X0_nextPerm_3 S k1) zfuel ((S.1 1 0) - 2))
theorem mv_X0_nextPerm : ZV mX0_nextPerm yX0_nextPerm 0 := ⟨q1005, qs50, q150, q1006, rfl, by decide, by decide, by decide +kernel⟩
theorem ct_X0_nextPerm {G : zGw} (hG : zGC G)  : Zc mX0_nextPerm yX0_nextPerm zJI G [.ref (G.1 0)] (F_X0_nextPerm) := by
  refine Zc_of [some (.ref (G.1 0)), none, none, none, none] (by decide) rfl rfl (Nat.le_of_ble_eq_true rfl) rfl (fun X S res => ?_)
  unfold F_X0_nextPerm
  refine z_aload_n (pc := 0) 0 dX0_nextPerm_0 rfl rfl ?_
  refine gf_X0_C_10_0 hG (pc := 1) dX0_nextPerm_1 ?_
  refine gf_X0_C_158_1 hG (pc := 4) dX0_nextPerm_4 ?_
  refine z_iconst (pc := 7) (v := 2) dX0_nextPerm_7 (by decide) ?_
  refine z_isub (pc := 8) dX0_nextPerm_8 ?_
  refine z_istore_n (pc := 9) 1 dX0_nextPerm_9 rfl (Nat.le_of_ble_eq_true rfl) rfl ?_
  refine z_join (fun j : Int32 → Option (Int32 × zSt) => ∀ (x2 : Int32), Zm X mX0_nextPerm zJI G (0, 0) res S 37 [some (.ref (G.1 0)), some (.int x2), none, none, none] [] (j x2)) ?_ (fun k1 hk1 => ?_)
  · intro x2
    refine z_iload_n (pc := 37) 1 dX0_nextPerm_37 rfl rfl ?_
    refine z_if_ge (pc := 38) 43 dX0_nextPerm_38 rfl ?_ ?_
    · refine z_aload_n (pc := 43) 0 dX0_nextPerm_43 rfl rfl ?_
      refine gf_X0_C_10_0 hG (pc := 44) dX0_nextPerm_44 ?_
      refine gf_X0_C_158_1 hG (pc := 47) dX0_nextPerm_47 ?_
      refine z_iconst (pc := 50) (v := 1) dX0_nextPerm_50 (by decide) ?_
      refine z_isub (pc := 51) dX0_nextPerm_51 ?_
      refine z_istore_n (pc := 52) 2 dX0_nextPerm_52 rfl (Nat.le_of_ble_eq_true rfl) rfl ?_
      refine z_join (fun j : Int32 → Option (Int32 × zSt) => ∀ (x4 : Int32), Zm X mX0_nextPerm zJI G (0, 0) res S 74 [some (.ref (G.1 0)), some (.int x2), some (.int x4), none, none] [] (j x4)) ?_ (fun k3 hk3 => ?_)
      · intro x4
        refine z_aload_n (pc := 74) 0 dX0_nextPerm_74 rfl rfl ?_
        refine z_iload_n (pc := 75) 1 dX0_nextPerm_75 rfl rfl ?_
        refine z_iload_n (pc := 76) 2 dX0_nextPerm_76 rfl rfl ?_
        refine z_callVv (pc := 77) _ _ 0 0 (ct_X0_swaps hG _ _) mv_X0_swaps q1007 rfl (zGC_s0 hG) rfl (Nat.le_of_ble_eq_true rfl) (Nat.le_of_ble_eq_true rfl) rfl rfl (Nat.le_of_ble_eq_true rfl) dX0_nextPerm_77 (fun _ S5 => ?_)
        refine z_iload_n (pc := 80) 1 dX0_nextPerm_80 rfl rfl ?_
        refine z_iconst (pc := 81) (v := 1) dX0_nextPerm_81 (by decide) ?_
        refine z_iadd (pc := 82) dX0_nextPerm_82 ?_
        refine z_istore_n (pc := 83) 3 dX0_nextPerm_83 rfl (Nat.le_of_ble_eq_true rfl) rfl ?_
        refine z_aload_n (pc := 84) 0 dX0_nextPerm_84 rfl rfl ?_
        refine gf_X0_C_10_0 hG (pc := 85) dX0_nextPerm_85 ?_
        refine gf_X0_C_158_1 hG (pc := 88) dX0_nextPerm_88 ?_
        refine z_iconst (pc := 91) (v := 1) dX0_nextPerm_91 (by decide) ?_
        refine z_isub (pc := 92) dX0_nextPerm_92 ?_
        refine z_letI (fun w6 => ?_)
        refine z_istore (pc := 93) dX0_nextPerm_93 (Nat.le_of_ble_eq_true rfl) rfl ?_
        refine z_maskk [true, false, false, true, true] ?_
        refine z_loopK (fun j : Int32 → Int32 → zSt → Option (Int32 × zSt) => ∀ (x8 : Int32) (x9 : Int32) (S10 : zSt), Zm X mX0_nextPerm zJI G (0, 0) res S10 95 [some (.ref (G.1 0)), none, none, some (.int x8), some (.int x9)] [] (j x8 x9 S10)) ?_ ?_ zfuel _ _ _
        · intro x8 x9 S10; exact z_none
        · intro rec7 hrec7 x8 x9 S10
          unfold LB_X0_nextPerm_1
          refine z_iload_n (pc := 95) 3 dX0_nextPerm_95 rfl rfl ?_
          refine z_iload (pc := 96) dX0_nextPerm_96 rfl ?_
          refine z_icmp_ge (pc := 98) 117 dX0_nextPerm_98 rfl ?_ ?_
          · refine z_iconst (pc := 117) (v := 1) dX0_nextPerm_117 (by decide) ?_
            exact z_zret1 rfl dX0_nextPerm_118 rfl
          · refine z_aload_n (pc := 101) 0 dX0_nextPerm_101 rfl rfl ?_
            refine z_iload_n (pc := 102) 3 dX0_nextPerm_102 rfl rfl ?_
            refine z_iload (pc := 103) dX0_nextPerm_103 rfl ?_
            refine z_callVv (pc := 105) _ _ 0 0 (ct_X0_swaps hG _ _) mv_X0_swaps q1007 rfl (zGC_s0 hG) rfl (Nat.le_of_ble_eq_true rfl) (Nat.le_of_ble_eq_true rfl) rfl rfl (Nat.le_of_ble_eq_true rfl) dX0_nextPerm_105 (fun _ S11 => ?_)
            refine z_iinc (pc := 108) (w := x8 + 1) dX0_nextPerm_108 rfl (by rw [show Int32.ofInt 1 = 1 from by decide]) (Nat.le_of_ble_eq_true rfl) rfl ?_
            refine z_iinc (pc := 111) (w := x9 + (-1)) dX0_nextPerm_111 rfl (by rw [show Int32.ofInt (-1) = (-1) from by decide]) (Nat.le_of_ble_eq_true rfl) rfl ?_
            refine z_goto (pc := 114) 95 dX0_nextPerm_114 rfl ?_
            exact hrec7 _ _ _
      · refine z_loopK (fun j : Int32 → Option (Int32 × zSt) => ∀ (x13 : Int32), Zm X mX0_nextPerm zJI G (0, 0) res S 53 [some (.ref (G.1 0)), some (.int x2), some (.int x13), none, none] [] (j x13)) ?_ ?_ zfuel _
        · intro x13; exact z_none
        · intro rec12 hrec12 x13
          unfold LB_X0_nextPerm_2
          refine z_aload_n (pc := 53) 0 dX0_nextPerm_53 rfl rfl ?_
          refine gf_X0_C_71_0 hG (pc := 54) dX0_nextPerm_54 ?_
          refine z_iload_n (pc := 57) 2 dX0_nextPerm_57 rfl rfl ?_
          refine z_chk (fun h14 => ?_)
          refine z_iaload (pc := 58) 23 5 (zGC_s23 hG) h14 dX0_nextPerm_58 ?_
          refine z_aload_n (pc := 59) 0 dX0_nextPerm_59 rfl rfl ?_
          refine gf_X0_C_71_0 hG (pc := 60) dX0_nextPerm_60 ?_
          refine z_iload_n (pc := 63) 1 dX0_nextPerm_63 rfl rfl ?_
          refine z_chk (fun h15 => ?_)
          refine z_iaload (pc := 64) 23 5 (zGC_s23 hG) h15 dX0_nextPerm_64 ?_
          refine z_icmp_ge (pc := 65) 74 dX0_nextPerm_65 rfl ?_ ?_
          · exact hk3 _
          · refine z_iinc (pc := 68) (w := x13 + (-1)) dX0_nextPerm_68 rfl (by rw [show Int32.ofInt (-1) = (-1) from by decide]) (Nat.le_of_ble_eq_true rfl) rfl ?_
            refine z_goto (pc := 71) 53 dX0_nextPerm_71 rfl ?_
            exact hrec12 _
    · refine z_iconst (pc := 41) (v := 0) dX0_nextPerm_41 (by decide) ?_
      exact z_zret0 rfl dX0_nextPerm_42 rfl
  · refine z_loopK (fun j : Int32 → Option (Int32 × zSt) => ∀ (x17 : Int32), Zm X mX0_nextPerm zJI G (0, 0) res S 10 [some (.ref (G.1 0)), some (.int x17), none, none, none] [] (j x17)) ?_ ?_ zfuel _
    · intro x17; exact z_none
    · intro rec16 hrec16 x17
      unfold LB_X0_nextPerm_3
      refine z_iload_n (pc := 10) 1 dX0_nextPerm_10 rfl rfl ?_
      refine z_if_lt (pc := 11) 37 dX0_nextPerm_11 rfl ?_ ?_
      · exact hk1 _
      · refine z_aload_n (pc := 14) 0 dX0_nextPerm_14 rfl rfl ?_
        refine gf_X0_C_71_0 hG (pc := 15) dX0_nextPerm_15 ?_
        refine z_iload_n (pc := 18) 1 dX0_nextPerm_18 rfl rfl ?_
        refine z_chk (fun h18 => ?_)
        refine z_iaload (pc := 19) 23 5 (zGC_s23 hG) h18 dX0_nextPerm_19 ?_
        refine z_aload_n (pc := 20) 0 dX0_nextPerm_20 rfl rfl ?_
        refine gf_X0_C_71_0 hG (pc := 21) dX0_nextPerm_21 ?_
        refine z_iload_n (pc := 24) 1 dX0_nextPerm_24 rfl rfl ?_
        refine z_iconst (pc := 25) (v := 1) dX0_nextPerm_25 (by decide) ?_
        refine z_iadd (pc := 26) dX0_nextPerm_26 ?_
        refine z_chk (fun h19 => ?_)
        refine z_iaload (pc := 27) 23 5 (zGC_s23 hG) h19 dX0_nextPerm_27 ?_
        refine z_icmp_le (pc := 28) 37 dX0_nextPerm_28 rfl ?_ ?_
        · exact hk1 _
        · refine z_iinc (pc := 31) (w := x17 + (-1)) dX0_nextPerm_31 rfl (by rw [show Int32.ofInt (-1) = (-1) from by decide]) (Nat.le_of_ble_eq_true rfl) rfl ?_
          refine z_goto (pc := 34) 10 dX0_nextPerm_34 rfl ?_
          exact hrec16 _
abbrev mX0_turned : zMr := ("HiddenCube", cX0_turned, 5, (some .int), 1, 0, 0, none)
def LB_X0_turned_1 (a1 : Int32) (a2 : Int32) (S : zSt) (rec3 : Int32 → Int32 → Option (Int32 × zSt)) (x4 : Int32) (x5 : Int32) : Option (Int32 × zSt) :=
if (S.1 1 0) ≤ x5 then (some (x4, S)) else (chk ((5 * a1) + x5) 19200 (zlet (x4 ^^^ (((a2 >>> (x5 &&& 31)) &&& 1) <<< ((S.1 21 ((5 * a1) + x5).toNatClampNeg) &&& 31)) : Int32) (fun w7 : Int32 =>
rec3 w7 (x5 + 1))))
def F_X0_turned (a1 : Int32) (a2 : Int32) (S : zSt) : Option (Int32 × zSt) :=
chk a1 3840 (zlet (S.1 22 (a1).toNatClampNeg : Int32) (fun w2 : Int32 =>
loopK (fun _ _ => none) (LB_X0_turned_1 a1 a2 S) zfuel w2 0))
theorem mv_X0_turned : ZV mX0_turned yX0_turned 2 := ⟨q1001, qs49, q150, q1002, rfl, by decide, by decide, by decide +kernel⟩
theorem ct_X0_turned {G : zGw} (hG : zGC G) (a1 : Int32) (a2 : Int32) : Zc mX0_turned yX0_turned zJI G [.ref (G.1 0), .int a1, .int a2] (F_X0_turned a1 a2) := by
  refine Zc_of [some (.ref (G.1 0)), some (.int a1), some (.int a2), none, none] (by decide) rfl rfl (Nat.le_of_ble_eq_true rfl) rfl (fun X S res => ?_)
  unfold F_X0_turned
  refine z_aload_n (pc := 0) 0 dX0_turned_0 rfl rfl ?_
  refine gf_X0_C_68_0 hG (pc := 1) dX0_turned_1 ?_
  refine z_iload_n (pc := 4) 1 dX0_turned_4 rfl rfl ?_
  refine z_chk (fun h1 => ?_)
  refine z_iaload (pc := 5) 22 3840 (zGC_s22 hG) h1 dX0_turned_5 ?_
  refine z_letI (fun w2 => ?_)
  refine z_istore_n (pc := 6) 3 dX0_turned_6 rfl (Nat.le_of_ble_eq_true rfl) rfl ?_
  refine z_iconst (pc := 7) (v := 0) dX0_turned_7 (by decide) ?_
  refine z_istore (pc := 8) dX0_turned_8 (Nat.le_of_ble_eq_true rfl) rfl ?_
  refine z_loopK (fun j : Int32 → Int32 → Option (Int32 × zSt) => ∀ (x4 : Int32) (x5 : Int32), Zm X mX0_turned zJI G (0, 0) res S 10 [some (.ref (G.1 0)), some (.int a1), some (.int a2), some (.int x4), some (.int x5)] [] (j x4 x5)) ?_ ?_ zfuel _ _
  · intro x4 x5; exact z_none
  · intro rec3 hrec3 x4 x5
    unfold LB_X0_turned_1
    refine z_iload (pc := 10) dX0_turned_10 rfl ?_
    refine z_aload_n (pc := 12) 0 dX0_turned_12 rfl rfl ?_
    refine gf_X0_C_10_0 hG (pc := 13) dX0_turned_13 ?_
    refine gf_X0_C_158_1 hG (pc := 16) dX0_turned_16 ?_
    refine z_icmp_ge (pc := 19) 49 dX0_turned_19 rfl ?_ ?_
    · refine z_iload_n (pc := 49) 3 dX0_turned_49 rfl rfl ?_
      exact z_iret rfl dX0_turned_50 rfl
    · refine z_iload_n (pc := 22) 3 dX0_turned_22 rfl rfl ?_
      refine z_iload_n (pc := 23) 2 dX0_turned_23 rfl rfl ?_
      refine z_iload (pc := 24) dX0_turned_24 rfl ?_
      refine z_ishr (pc := 26) dX0_turned_26 ?_
      refine z_iconst (pc := 27) (v := 1) dX0_turned_27 (by decide) ?_
      refine z_iand (pc := 28) dX0_turned_28 ?_
      refine z_aload_n (pc := 29) 0 dX0_turned_29 rfl rfl ?_
      refine gf_X0_C_65_0 hG (pc := 30) dX0_turned_30 ?_
      refine z_iconst (pc := 33) (v := 5) dX0_turned_33 (by decide) ?_
      refine z_iload_n (pc := 34) 1 dX0_turned_34 rfl rfl ?_
      refine z_imul (pc := 35) dX0_turned_35 ?_
      refine z_iload (pc := 36) dX0_turned_36 rfl ?_
      refine z_iadd (pc := 38) dX0_turned_38 ?_
      refine z_chk (fun h6 => ?_)
      refine z_iaload (pc := 39) 21 19200 (zGC_s21 hG) h6 dX0_turned_39 ?_
      refine z_ishl (pc := 40) dX0_turned_40 ?_
      refine z_ixor (pc := 41) dX0_turned_41 ?_
      refine z_letI (fun w7 => ?_)
      refine z_istore_n (pc := 42) 3 dX0_turned_42 rfl (Nat.le_of_ble_eq_true rfl) rfl ?_
      refine z_iinc (pc := 43) (w := x5 + 1) dX0_turned_43 rfl (by rw [show Int32.ofInt 1 = 1 from by decide]) (Nat.le_of_ble_eq_true rfl) rfl ?_
      refine z_goto (pc := 46) 10 dX0_turned_46 rfl ?_
      exact hrec3 _ _
abbrev mX0_isTurning : zMr := ("HiddenCube", cX0_isTurning, 5, (some .boolean), 3, 0, 0, none)
def LB_X0_isTurning_1 (a1 : Int32) (x2 : Int32) (rec1 : Int32 → zSt → Option (Int32 × zSt)) (r7 : Int32) (rec8 : Int32 → zSt → Option (Int32 × zSt)) (x9 : Int32) (S10 : zSt) : Option (Int32 × zSt) :=
if (S10.1 1 0) ≤ x9 then (rec1 (x2 + 1) S10) else (zbind (F_X1_isOpen 1 x2 x9 S10) (fun r12 S11 =>
chk ((5 * a1) + x9) 19200 (zbind (F_X1_isOpen 1 r7 (S11.1 21 ((5 * a1) + x9).toNatClampNeg) S11) (fun r15 S14 =>
if r12 = r15 then (rec8 (x9 + 1) S14) else (some (0, S14))))))
def LB_X0_isTurning_2 (a1 : Int32) (rec1 : Int32 → zSt → Option (Int32 × zSt)) (x2 : Int32) (S3 : zSt) : Option (Int32 × zSt) :=
zbind (F_X1_squares 1 S3) (fun r5 S4 =>
if r5 ≤ x2 then (some (1, S4)) else (zbind (F_X0_turned a1 x2 S4) (fun r7 S6 =>
loopK (fun _ _ => none) (LB_X0_isTurning_1 a1 x2 rec1 r7) zfuel 0 S6)))
def F_X0_isTurning (a1 : Int32) (S : zSt) : Option (Int32 × zSt) :=
loopK (fun _ _ => none) (LB_X0_isTurning_2 a1) zfuel 0 S
theorem mv_X0_isTurning : ZV mX0_isTurning yX0_isTurning 1 := ⟨q997, qs48, q150, q998, rfl, by decide, by decide, by decide +kernel⟩
theorem ct_X0_isTurning {G : zGw} (hG : zGC G) (a1 : Int32) : Zc mX0_isTurning yX0_isTurning zJI G [.ref (G.1 0), .int a1] (F_X0_isTurning a1) := by
  refine Zc_of [some (.ref (G.1 0)), some (.int a1), none, none, none] (by decide) rfl rfl (Nat.le_of_ble_eq_true rfl) rfl (fun X S res => ?_)
  unfold F_X0_isTurning
  refine z_iconst (pc := 0) (v := 0) dX0_isTurning_0 (by decide) ?_
  refine z_istore_n (pc := 1) 2 dX0_isTurning_1 rfl (Nat.le_of_ble_eq_true rfl) rfl ?_
  refine z_loopK (fun j : Int32 → zSt → Option (Int32 × zSt) => ∀ (x2 : Int32) (S3 : zSt), Zm X mX0_isTurning zJI G (0, 0) res S3 2 [some (.ref (G.1 0)), some (.int a1), some (.int x2), none, none] [] (j x2 S3)) ?_ ?_ zfuel _ _
  · intro x2 S3; exact z_none
  · intro rec1 hrec1 x2 S3
    unfold LB_X0_isTurning_2
    refine z_iload_n (pc := 2) 2 dX0_isTurning_2 rfl rfl ?_
    refine z_aload_n (pc := 3) 0 dX0_isTurning_3 rfl rfl ?_
    refine gf_X0_C_10_0 hG (pc := 4) dX0_isTurning_4 ?_
    refine z_callVi (pc := 7) _ _ 1 1 (ct_X1_squares (zGC_T hG)) mv_X1_squares q727 rfl (zGC_s1 hG) rfl (Nat.le_of_ble_eq_true rfl) (Nat.le_of_ble_eq_true rfl) rfl rfl (Nat.le_of_ble_eq_true rfl) dX0_isTurning_7 (fun r5 S4 => ?_)
    refine z_icmp_ge (pc := 10) 81 dX0_isTurning_10 rfl ?_ ?_
    · refine z_iconst (pc := 81) (v := 1) dX0_isTurning_81 (by decide) ?_
      exact z_zret1 rfl dX0_isTurning_82 rfl
    · refine z_aload_n (pc := 13) 0 dX0_isTurning_13 rfl rfl ?_
      refine z_iload_n (pc := 14) 1 dX0_isTurning_14 rfl rfl ?_
      refine z_iload_n (pc := 15) 2 dX0_isTurning_15 rfl rfl ?_
      refine z_callVi (pc := 16) _ _ 0 0 (ct_X0_turned hG _ _) mv_X0_turned q999 rfl (zGC_s0 hG) rfl (Nat.le_of_ble_eq_true rfl) (Nat.le_of_ble_eq_true rfl) rfl rfl (Nat.le_of_ble_eq_true rfl) dX0_isTurning_16 (fun r7 S6 => ?_)
      refine z_istore_n (pc := 19) 3 dX0_isTurning_19 rfl (Nat.le_of_ble_eq_true rfl) rfl ?_
      refine z_iconst (pc := 20) (v := 0) dX0_isTurning_20 (by decide) ?_
      refine z_istore (pc := 21) dX0_isTurning_21 (Nat.le_of_ble_eq_true rfl) rfl ?_
      refine z_loopK (fun j : Int32 → zSt → Option (Int32 × zSt) => ∀ (x9 : Int32) (S10 : zSt), Zm X mX0_isTurning zJI G (0, 0) res S10 23 [some (.ref (G.1 0)), some (.int a1), some (.int x2), some (.int r7), some (.int x9)] [] (j x9 S10)) ?_ ?_ zfuel _ _
      · intro x9 S10; exact z_none
      · intro rec8 hrec8 x9 S10
        unfold LB_X0_isTurning_1
        refine z_iload (pc := 23) dX0_isTurning_23 rfl ?_
        refine z_aload_n (pc := 25) 0 dX0_isTurning_25 rfl rfl ?_
        refine gf_X0_C_10_0 hG (pc := 26) dX0_isTurning_26 ?_
        refine gf_X0_C_158_1 hG (pc := 29) dX0_isTurning_29 ?_
        refine z_icmp_ge (pc := 32) 75 dX0_isTurning_32 rfl ?_ ?_
        · refine z_iinc (pc := 75) (w := x2 + 1) dX0_isTurning_75 rfl (by rw [show Int32.ofInt 1 = 1 from by decide]) (Nat.le_of_ble_eq_true rfl) rfl ?_
          refine z_goto (pc := 78) 2 dX0_isTurning_78 rfl ?_
          exact z_mask [true, true, true, false, false] (hrec1 _ _) rfl
        · refine z_aload_n (pc := 35) 0 dX0_isTurning_35 rfl rfl ?_
          refine gf_X0_C_10_0 hG (pc := 36) dX0_isTurning_36 ?_
          refine z_iload_n (pc := 39) 2 dX0_isTurning_39 rfl rfl ?_
          refine z_iload (pc := 40) dX0_isTurning_40 rfl ?_
          refine z_callVi (pc := 42) _ _ 1 1 (ct_X1_isOpen (zGC_T hG) _ _) mv_X1_isOpen q728 rfl (zGC_s1 hG) rfl (Nat.le_of_ble_eq_true rfl) (Nat.le_of_ble_eq_true rfl) rfl rfl (Nat.le_of_ble_eq_true rfl) dX0_isTurning_42 (fun r12 S11 => ?_)
          refine z_aload_n (pc := 45) 0 dX0_isTurning_45 rfl rfl ?_
          refine gf_X0_C_10_0 hG (pc := 46) dX0_isTurning_46 ?_
          refine z_iload_n (pc := 49) 3 dX0_isTurning_49 rfl rfl ?_
          refine z_aload_n (pc := 50) 0 dX0_isTurning_50 rfl rfl ?_
          refine gf_X0_C_65_0 hG (pc := 51) dX0_isTurning_51 ?_
          refine z_iconst (pc := 54) (v := 5) dX0_isTurning_54 (by decide) ?_
          refine z_iload_n (pc := 55) 1 dX0_isTurning_55 rfl rfl ?_
          refine z_imul (pc := 56) dX0_isTurning_56 ?_
          refine z_iload (pc := 57) dX0_isTurning_57 rfl ?_
          refine z_iadd (pc := 59) dX0_isTurning_59 ?_
          refine z_chk (fun h13 => ?_)
          refine z_iaload (pc := 60) 21 19200 (zGC_s21 hG) h13 dX0_isTurning_60 ?_
          refine z_callVi (pc := 61) _ _ 1 1 (ct_X1_isOpen (zGC_T hG) _ _) mv_X1_isOpen q728 rfl (zGC_s1 hG) rfl (Nat.le_of_ble_eq_true rfl) (Nat.le_of_ble_eq_true rfl) rfl rfl (Nat.le_of_ble_eq_true rfl) dX0_isTurning_61 (fun r15 S14 => ?_)
          refine z_icmp_eq (pc := 64) 69 dX0_isTurning_64 rfl ?_ ?_
          · refine z_iinc (pc := 69) (w := x9 + 1) dX0_isTurning_69 rfl (by rw [show Int32.ofInt 1 = 1 from by decide]) (Nat.le_of_ble_eq_true rfl) rfl ?_
            refine z_goto (pc := 72) 23 dX0_isTurning_72 rfl ?_
            exact hrec8 _ _
          · refine z_iconst (pc := 67) (v := 0) dX0_isTurning_67 (by decide) ?_
            exact z_zret0 rfl dX0_isTurning_68 rfl
abbrev mX0_findsTurnings : zMr := ("HiddenCube", cX0_findsTurnings, 2, none, 5, 0, 0, none)
def LB_X0_findsTurnings_1 (k6 : zSt → Option (Unit × zSt)) (rec10 : Int32 → zSt → Option (Unit × zSt)) (x11 : Int32) (S12 : zSt) : Option (Unit × zSt) :=
zbind (F_X1_squares 1 S12) (fun r14 S13 =>
if r14 ≤ x11 then (k6 S13) else (acopy 5 19200 0 (5 * (S13.1 0 20)) (S13.1 1 0) (zlet (cpI S13 23 (0 : Int32).toNatClampNeg 21 (5 * (S13.1 0 20)).toNatClampNeg (S13.1 1 0).toNatClampNeg) (fun S15 : zSt =>
chk (S15.1 0 20) 3840 (zlet (sI S15 22 (S15.1 0 20).toNatClampNeg x11 : zSt) (fun S17 : zSt =>
zbind (F_X0_isTurning (S17.1 0 20) S17) (fun r19 S18 =>
zlet (sI S18 0 20 ((S17.1 0 20) + (if r19 = 0 then 0 else 1)) : zSt) (fun S21 : zSt =>
rec10 (x11 + 1) S21))))))))
def LB_X0_findsTurnings_2 (rec4 : zSt → Option (Unit × zSt))  (S5 : zSt) : Option (Unit × zSt) :=
joinK (fun  (S7 : zSt) => zbind (F_X0_nextPerm S7) (fun r9 S8 =>
if r9 = 0 then (some ((), S8)) else (rec4 S8))) (fun k6 : zSt → Option (Unit × zSt) =>
loopK (fun _ _ => none) (LB_X0_findsTurnings_1 k6) zfuel 0 S5)
def LB_X0_findsTurnings_3 (k2 : zSt → Option (Unit × zSt)) (rec23 : Int32 → zSt → Option (Unit × zSt)) (x24 : Int32) (S25 : zSt) : Option (Unit × zSt) :=
if (S25.1 1 0) ≤ x24 then (k2 S25) else (chk x24 5 (zlet (sI S25 23 (x24).toNatClampNeg x24 : zSt) (fun S27 : zSt =>
rec23 (x24 + 1) S27)))
def F_X0_findsTurnings  (S : zSt) : Option (Unit × zSt) :=
zlet (sI S 0 20 0 : zSt) (fun S1 : zSt =>
joinK (fun  (S3 : zSt) => loopK (fun _ => none) (LB_X0_findsTurnings_2) zfuel S3) (fun k2 : zSt → Option (Unit × zSt) =>
loopK (fun _ _ => none) (LB_X0_findsTurnings_3 k2) zfuel 0 S1))
theorem mv_X0_findsTurnings : ZV mX0_findsTurnings yX0_findsTurnings 0 := ⟨q993, qs47, q150, q994, rfl, by decide, by decide, by decide +kernel⟩
theorem ct_X0_findsTurnings {G : zGw} (hG : zGC G)  : Zc mX0_findsTurnings yX0_findsTurnings zJV G [.ref (G.1 0)] (F_X0_findsTurnings) := by
  refine Zc_of [some (.ref (G.1 0)), none] (by decide) rfl rfl (Nat.le_of_ble_eq_true rfl) rfl (fun X S res => ?_)
  unfold F_X0_findsTurnings
  refine z_aload_n (pc := 0) 0 dX0_findsTurnings_0 rfl rfl ?_
  refine z_iconst (pc := 1) (v := 0) dX0_findsTurnings_1 (by decide) ?_
  refine pf_X0_C_340_0 hG (pc := 2) dX0_findsTurnings_2 ?_
  refine z_letS (fun S1 => ?_)
  refine z_iconst (pc := 5) (v := 0) dX0_findsTurnings_5 (by decide) ?_
  refine z_istore_n (pc := 6) 1 dX0_findsTurnings_6 rfl (Nat.le_of_ble_eq_true rfl) rfl ?_
  refine z_join (fun j : zSt → Option (Unit × zSt) => ∀  (S3 : zSt), Zm X mX0_findsTurnings zJV G (0, 0) res S3 31 [some (.ref (G.1 0)), none] [] (j S3)) ?_ (fun k2 hk2 => ?_)
  · intro S3
    refine z_loopK (fun j : zSt → Option (Unit × zSt) => ∀  (S5 : zSt), Zm X mX0_findsTurnings zJV G (0, 0) res S5 31 [some (.ref (G.1 0)), none] [] (j S5)) ?_ ?_ zfuel _
    · intro S5; exact z_none
    · intro rec4 hrec4 S5
      unfold LB_X0_findsTurnings_2
      refine z_iconst (pc := 31) (v := 0) dX0_findsTurnings_31 (by decide) ?_
      refine z_istore_n (pc := 32) 1 dX0_findsTurnings_32 rfl (Nat.le_of_ble_eq_true rfl) rfl ?_
      refine z_join (fun j : zSt → Option (Unit × zSt) => ∀  (S7 : zSt), Zm X mX0_findsTurnings zJV G (0, 0) res S7 110 [some (.ref (G.1 0)), none] [] (j S7)) ?_ (fun k6 hk6 => ?_)
      · intro S7
        refine z_aload_n (pc := 110) 0 dX0_findsTurnings_110 rfl rfl ?_
        refine z_callVi (pc := 111) _ _ 0 0 (ct_X0_nextPerm hG) mv_X0_nextPerm q1003 rfl (zGC_s0 hG) rfl (Nat.le_of_ble_eq_true rfl) (Nat.le_of_ble_eq_true rfl) rfl rfl (Nat.le_of_ble_eq_true rfl) dX0_findsTurnings_111 (fun r9 S8 => ?_)
        refine z_if_ne (pc := 114) 31 dX0_findsTurnings_114 rfl ?_ ?_
        · exact hrec4 _
        · exact z_vret rfl dX0_findsTurnings_117 rfl
      · refine z_loopK (fun j : Int32 → zSt → Option (Unit × zSt) => ∀ (x11 : Int32) (S12 : zSt), Zm X mX0_findsTurnings zJV G (0, 0) res S12 33 [some (.ref (G.1 0)), some (.int x11)] [] (j x11 S12)) ?_ ?_ zfuel _ _
        · intro x11 S12; exact z_none
        · intro rec10 hrec10 x11 S12
          unfold LB_X0_findsTurnings_1
          refine z_iload_n (pc := 33) 1 dX0_findsTurnings_33 rfl rfl ?_
          refine z_aload_n (pc := 34) 0 dX0_findsTurnings_34 rfl rfl ?_
          refine gf_X0_C_10_0 hG (pc := 35) dX0_findsTurnings_35 ?_
          refine z_callVi (pc := 38) _ _ 1 1 (ct_X1_squares (zGC_T hG)) mv_X1_squares q727 rfl (zGC_s1 hG) rfl (Nat.le_of_ble_eq_true rfl) (Nat.le_of_ble_eq_true rfl) rfl rfl (Nat.le_of_ble_eq_true rfl) dX0_findsTurnings_38 (fun r14 S13 => ?_)
          refine z_icmp_ge (pc := 41) 110 dX0_findsTurnings_41 rfl ?_ ?_
          · exact z_mask [true, false] (hk6 _) rfl
          · refine z_aload_n (pc := 44) 0 dX0_findsTurnings_44 rfl rfl ?_
            refine gf_X0_C_71_0 hG (pc := 45) dX0_findsTurnings_45 ?_
            refine z_iconst (pc := 48) (v := 0) dX0_findsTurnings_48 (by decide) ?_
            refine z_aload_n (pc := 49) 0 dX0_findsTurnings_49 rfl rfl ?_
            refine gf_X0_C_65_0 hG (pc := 50) dX0_findsTurnings_50 ?_
            refine z_iconst (pc := 53) (v := 5) dX0_findsTurnings_53 (by decide) ?_
            refine z_aload_n (pc := 54) 0 dX0_findsTurnings_54 rfl rfl ?_
            refine gf_X0_C_340_0 hG (pc := 55) dX0_findsTurnings_55 ?_
            refine z_imul (pc := 58) dX0_findsTurnings_58 ?_
            refine z_aload_n (pc := 59) 0 dX0_findsTurnings_59 rfl rfl ?_
            refine gf_X0_C_10_0 hG (pc := 60) dX0_findsTurnings_60 ?_
            refine gf_X0_C_158_1 hG (pc := 63) dX0_findsTurnings_63 ?_
            refine z_acopyI (pc := 66) 23 21 5 19200 (zGC_s23 hG) (zGC_s21 hG) (by decide) q960 (Nat.le_of_ble_eq_true rfl) (Nat.le_of_ble_eq_true rfl) dX0_findsTurnings_66 ?_
            refine z_letS (fun S15 => ?_)
            refine z_aload_n (pc := 69) 0 dX0_findsTurnings_69 rfl rfl ?_
            refine gf_X0_C_68_0 hG (pc := 70) dX0_findsTurnings_70 ?_
            refine z_aload_n (pc := 73) 0 dX0_findsTurnings_73 rfl rfl ?_
            refine gf_X0_C_340_0 hG (pc := 74) dX0_findsTurnings_74 ?_
            refine z_iload_n (pc := 77) 1 dX0_findsTurnings_77 rfl rfl ?_
            refine z_chk (fun h16 => ?_)
            refine z_iastore (pc := 78) 22 3840 (zGC_s22 hG) h16 dX0_findsTurnings_78 ?_
            refine z_letS (fun S17 => ?_)
            refine z_aload_n (pc := 79) 0 dX0_findsTurnings_79 rfl rfl ?_
            refine z_dup (pc := 80) dX0_findsTurnings_80 rfl ?_
            refine gf_X0_C_340_0 hG (pc := 81) dX0_findsTurnings_81 ?_
            refine z_aload_n (pc := 84) 0 dX0_findsTurnings_84 rfl rfl ?_
            refine z_aload_n (pc := 85) 0 dX0_findsTurnings_85 rfl rfl ?_
            refine gf_X0_C_340_0 hG (pc := 86) dX0_findsTurnings_86 ?_
            refine z_callVi (pc := 89) _ _ 0 0 (ct_X0_isTurning hG _) mv_X0_isTurning q995 rfl (zGC_s0 hG) rfl (Nat.le_of_ble_eq_true rfl) (Nat.le_of_ble_eq_true rfl) rfl rfl (Nat.le_of_ble_eq_true rfl) dX0_findsTurnings_89 (fun r19 S18 => ?_)
            refine z_pure (st0 := [.int (S17.1 0 20), .ref (G.1 0)]) 100 ((if r19 = 0 then 0 else 1)) ?_ (fun hJ => ?_)
            · refine z_iadd (pc := 100) dX0_findsTurnings_100 ?_
              refine pf_X0_C_340_0 hG (pc := 101) dX0_findsTurnings_101 ?_
              refine z_letS (fun S21 => ?_)
              refine z_iinc (pc := 104) (w := x11 + 1) dX0_findsTurnings_104 rfl (by rw [show Int32.ofInt 1 = 1 from by decide]) (Nat.le_of_ble_eq_true rfl) rfl ?_
              refine z_goto (pc := 107) 33 dX0_findsTurnings_107 rfl ?_
              exact hrec10 _ _
            · refine z_ifd_eq (pc := 92) 99 dX0_findsTurnings_92 rfl (fun c22 => ?_) (fun c22 => ?_)
              · refine z_iconst (pc := 99) (v := 0) dX0_findsTurnings_99 (by decide) ?_
                exact z_leaf hJ (by simp only [if_pos c22])
              · refine z_iconst (pc := 95) (v := 1) dX0_findsTurnings_95 (by decide) ?_
                refine z_goto (pc := 96) 100 dX0_findsTurnings_96 rfl ?_
                exact z_leaf hJ (by simp only [if_neg c22])
  · refine z_loopK (fun j : Int32 → zSt → Option (Unit × zSt) => ∀ (x24 : Int32) (S25 : zSt), Zm X mX0_findsTurnings zJV G (0, 0) res S25 7 [some (.ref (G.1 0)), some (.int x24)] [] (j x24 S25)) ?_ ?_ zfuel _ _
    · intro x24 S25; exact z_none
    · intro rec23 hrec23 x24 S25
      unfold LB_X0_findsTurnings_3
      refine z_iload_n (pc := 7) 1 dX0_findsTurnings_7 rfl rfl ?_
      refine z_aload_n (pc := 8) 0 dX0_findsTurnings_8 rfl rfl ?_
      refine gf_X0_C_10_0 hG (pc := 9) dX0_findsTurnings_9 ?_
      refine gf_X0_C_158_1 hG (pc := 12) dX0_findsTurnings_12 ?_
      refine z_icmp_ge (pc := 15) 31 dX0_findsTurnings_15 rfl ?_ ?_
      · exact z_mask [true, false] (hk2 _) rfl
      · refine z_aload_n (pc := 18) 0 dX0_findsTurnings_18 rfl rfl ?_
        refine gf_X0_C_71_0 hG (pc := 19) dX0_findsTurnings_19 ?_
        refine z_iload_n (pc := 22) 1 dX0_findsTurnings_22 rfl rfl ?_
        refine z_iload_n (pc := 23) 1 dX0_findsTurnings_23 rfl rfl ?_
        refine z_chk (fun h26 => ?_)
        refine z_iastore (pc := 24) 23 5 (zGC_s23 hG) h26 dX0_findsTurnings_24 ?_
        refine z_letS (fun S27 => ?_)
        refine z_iinc (pc := 25) (w := x24 + 1) dX0_findsTurnings_25 rfl (by rw [show Int32.ofInt 1 = 1 from by decide]) (Nat.le_of_ble_eq_true rfl) rfl ?_
        refine z_goto (pc := 28) 7 dX0_findsTurnings_28 rfl ?_
        exact hrec23 _ _
abbrev mX0_turnings : zMr := ("HiddenCube", cX0_turnings, 1, (some .int), 6, 0, 0, none)
def F_X0_turnings  (S : zSt) : Option (Int32 × zSt) :=
zbind (F_X0_isTown S) (fun r2 S1 =>
if r2 = 0 then (some ((-2), S1)) else (zbind (F_X0_findsTurnings S1) (fun _ S3 =>
some (S3.1 0 20, S3))))
theorem mv_X0_turnings : ZV mX0_turnings yX0_turnings 0 := ⟨q988, q989, q150, q990, rfl, by decide, by decide, by decide +kernel⟩
theorem ct_X0_turnings {G : zGw} (hG : zGC G)  : Zc mX0_turnings yX0_turnings zJI G [.ref (G.1 0)] (F_X0_turnings) := by
  refine Zc_of [some (.ref (G.1 0))] (by decide) rfl rfl (Nat.le_of_ble_eq_true rfl) rfl (fun X S res => ?_)
  unfold F_X0_turnings
  refine z_aload_n (pc := 0) 0 dX0_turnings_0 rfl rfl ?_
  refine z_callVi (pc := 1) _ _ 0 0 (ct_X0_isTown hG) mv_X0_isTown q827 rfl (zGC_s0 hG) rfl (Nat.le_of_ble_eq_true rfl) (Nat.le_of_ble_eq_true rfl) rfl rfl (Nat.le_of_ble_eq_true rfl) dX0_turnings_1 (fun r2 S1 => ?_)
  refine z_if_ne (pc := 4) 10 dX0_turnings_4 rfl ?_ ?_
  · refine z_aload_n (pc := 10) 0 dX0_turnings_10 rfl rfl ?_
    refine z_callVv (pc := 11) _ _ 0 0 (ct_X0_findsTurnings hG) mv_X0_findsTurnings q991 rfl (zGC_s0 hG) rfl (Nat.le_of_ble_eq_true rfl) (Nat.le_of_ble_eq_true rfl) rfl rfl (Nat.le_of_ble_eq_true rfl) dX0_turnings_11 (fun _ S3 => ?_)
    refine z_aload_n (pc := 14) 0 dX0_turnings_14 rfl rfl ?_
    refine gf_X0_C_340_0 hG (pc := 15) dX0_turnings_15 ?_
    exact z_iret rfl dX0_turnings_18 rfl
  · refine z_bipush (pc := 7) (v := (-2)) dX0_turnings_7 (by decide) ?_
    exact z_iret rfl dX0_turnings_9 rfl
abbrev mJ0_min : zMr := ("java/lang/Math", cJ0_min, 2, (some .int), 1, 0, 0, none)
def F_J0_min (a1 : Int32) (a2 : Int32) (S : zSt) : Option (Int32 × zSt) :=
if a2 < a1 then (some (a2, S)) else (some (a1, S))
theorem mv_J0_min : ZS mJ0_min yJ0_min 2 := ⟨q460, q159, q461, by decide, by decide, by decide +kernel⟩
theorem ct_J0_min {G : zGw} (a1 : Int32) (a2 : Int32) : Zc mJ0_min yJ0_min zJI G [.int a1, .int a2] (F_J0_min a1 a2) := by
  refine Zc_ofF [some (.int a1), some (.int a2)] (by decide +kernel) rfl rfl (Nat.le_of_ble_eq_true rfl) rfl (fun X S res => ?_)
  unfold F_J0_min
  refine z_iload_n (pc := 0) 0 dJ0_min_0 rfl rfl ?_
  refine z_iload_n (pc := 1) 1 dJ0_min_1 rfl rfl ?_
  refine z_icmp_gt (pc := 2) 9 dJ0_min_2 rfl ?_ ?_
  · refine z_iload_n (pc := 9) 1 dJ0_min_9 rfl rfl ?_
    exact z_iret rfl dJ0_min_10 rfl
  · refine z_iload_n (pc := 5) 0 dJ0_min_5 rfl rfl ?_
    refine z_goto (pc := 6) 10 dJ0_min_6 rfl ?_
    exact z_iret rfl dJ0_min_10 rfl
abbrev mX0_orbit : zMr := ("HiddenCube", cX0_orbit, 4, (some .int), 6, 0, 0, none)
def LB_X0_orbit_1 (a1 : Int32) (rec4 : Int32 → Int32 → zSt → Option (Int32 × zSt)) (x5 : Int32) (x6 : Int32) (S7 : zSt) : Option (Int32 × zSt) :=
if (S7.1 0 20) ≤ x6 then (some (x5, S7)) else (zbind (F_X0_turned x6 a1 S7) (fun r9 S8 =>
zbind (F_J0_min x5 r9 S8) (fun r11 S10 =>
rec4 r11 (x6 + 1) S10)))
def F_X0_orbit (a1 : Int32) (S : zSt) : Option (Int32 × zSt) :=
zbind (F_X0_isSquare ((a1).toInt64) S) (fun r2 S1 =>
if r2 = 0 then (some ((-2), S1)) else (zbind (F_X0_findsTurnings S1) (fun _ S3 =>
loopK (fun _ _ _ => none) (LB_X0_orbit_1 a1) zfuel a1 0 S3)))
theorem mv_X0_orbit : ZV mX0_orbit yX0_orbit 1 := ⟨q1012, q1013, q150, q1014, rfl, by decide, by decide, by decide +kernel⟩
theorem ct_X0_orbit {G : zGw} (hG : zGC G) (a1 : Int32) : Zc mX0_orbit yX0_orbit zJI G [.ref (G.1 0), .int a1] (F_X0_orbit a1) := by
  refine Zc_of [some (.ref (G.1 0)), some (.int a1), none, none] (by decide) rfl rfl (Nat.le_of_ble_eq_true rfl) rfl (fun X S res => ?_)
  unfold F_X0_orbit
  refine z_aload_n (pc := 0) 0 dX0_orbit_0 rfl rfl ?_
  refine z_iload_n (pc := 1) 1 dX0_orbit_1 rfl rfl ?_
  refine z_i2l (pc := 2) dX0_orbit_2 ?_
  refine z_callVi (pc := 3) _ _ 0 0 (ct_X0_isSquare hG _) mv_X0_isSquare q723 rfl (zGC_s0 hG) rfl (Nat.le_of_ble_eq_true rfl) (Nat.le_of_ble_eq_true rfl) rfl rfl (Nat.le_of_ble_eq_true rfl) dX0_orbit_3 (fun r2 S1 => ?_)
  refine z_if_ne (pc := 6) 12 dX0_orbit_6 rfl ?_ ?_
  · refine z_aload_n (pc := 12) 0 dX0_orbit_12 rfl rfl ?_
    refine z_callVv (pc := 13) _ _ 0 0 (ct_X0_findsTurnings hG) mv_X0_findsTurnings q991 rfl (zGC_s0 hG) rfl (Nat.le_of_ble_eq_true rfl) (Nat.le_of_ble_eq_true rfl) rfl rfl (Nat.le_of_ble_eq_true rfl) dX0_orbit_13 (fun _ S3 => ?_)
    refine z_iload_n (pc := 16) 1 dX0_orbit_16 rfl rfl ?_
    refine z_istore_n (pc := 17) 2 dX0_orbit_17 rfl (Nat.le_of_ble_eq_true rfl) rfl ?_
    refine z_iconst (pc := 18) (v := 0) dX0_orbit_18 (by decide) ?_
    refine z_istore_n (pc := 19) 3 dX0_orbit_19 rfl (Nat.le_of_ble_eq_true rfl) rfl ?_
    refine z_loopK (fun j : Int32 → Int32 → zSt → Option (Int32 × zSt) => ∀ (x5 : Int32) (x6 : Int32) (S7 : zSt), Zm X mX0_orbit zJI G (0, 0) res S7 20 [some (.ref (G.1 0)), some (.int a1), some (.int x5), some (.int x6)] [] (j x5 x6 S7)) ?_ ?_ zfuel _ _ _
    · intro x5 x6 S7; exact z_none
    · intro rec4 hrec4 x5 x6 S7
      unfold LB_X0_orbit_1
      refine z_iload_n (pc := 20) 3 dX0_orbit_20 rfl rfl ?_
      refine z_aload_n (pc := 21) 0 dX0_orbit_21 rfl rfl ?_
      refine gf_X0_C_340_0 hG (pc := 22) dX0_orbit_22 ?_
      refine z_icmp_ge (pc := 25) 45 dX0_orbit_25 rfl ?_ ?_
      · refine z_iload_n (pc := 45) 2 dX0_orbit_45 rfl rfl ?_
        exact z_iret rfl dX0_orbit_46 rfl
      · refine z_iload_n (pc := 28) 2 dX0_orbit_28 rfl rfl ?_
        refine z_aload_n (pc := 29) 0 dX0_orbit_29 rfl rfl ?_
        refine z_iload_n (pc := 30) 3 dX0_orbit_30 rfl rfl ?_
        refine z_iload_n (pc := 31) 1 dX0_orbit_31 rfl rfl ?_
        refine z_callVi (pc := 32) _ _ 0 0 (ct_X0_turned hG _ _) mv_X0_turned q999 rfl (zGC_s0 hG) rfl (Nat.le_of_ble_eq_true rfl) (Nat.le_of_ble_eq_true rfl) rfl rfl (Nat.le_of_ble_eq_true rfl) dX0_orbit_32 (fun r9 S8 => ?_)
        refine z_callSi (pc := 35) _ _ (ct_J0_min  _ _) mv_J0_min q1015 rfl (Nat.le_of_ble_eq_true rfl) (Nat.le_of_ble_eq_true rfl) rfl rfl (Nat.le_of_ble_eq_true rfl) dX0_orbit_35 (fun r11 S10 => ?_)
        refine z_istore_n (pc := 38) 2 dX0_orbit_38 rfl (Nat.le_of_ble_eq_true rfl) rfl ?_
        refine z_iinc (pc := 39) (w := x6 + 1) dX0_orbit_39 rfl (by rw [show Int32.ofInt 1 = 1 from by decide]) (Nat.le_of_ble_eq_true rfl) rfl ?_
        refine z_goto (pc := 42) 20 dX0_orbit_42 rfl ?_
        exact hrec4 _ _ _
  · refine z_bipush (pc := 9) (v := (-2)) dX0_orbit_9 (by decide) ?_
    exact z_iret rfl dX0_orbit_11 rfl
abbrev mX0_still : zMr := ("HiddenCube", cX0_still, 4, (some .int), 6, 0, 0, none)
def LB_X0_still_1 (a1 : Int32) (rec4 : Int32 → Int32 → zSt → Option (Int32 × zSt)) (x5 : Int32) (x6 : Int32) (S7 : zSt) : Option (Int32 × zSt) :=
if (S7.1 0 20) ≤ x6 then (some (x5, S7)) else (zbind (F_X0_turned x6 a1 S7) (fun r9 S8 =>
zlet (x5 + (if r9 = a1 then 1 else 0) : Int32) (fun w11 : Int32 =>
rec4 w11 (x6 + 1) S8)))
def F_X0_still (a1 : Int32) (S : zSt) : Option (Int32 × zSt) :=
zbind (F_X0_isSquare ((a1).toInt64) S) (fun r2 S1 =>
if r2 = 0 then (some ((-2), S1)) else (zbind (F_X0_findsTurnings S1) (fun _ S3 =>
loopK (fun _ _ _ => none) (LB_X0_still_1 a1) zfuel 0 0 S3)))
theorem mv_X0_still : ZV mX0_still yX0_still 1 := ⟨q1017, q1018, q150, q1019, rfl, by decide, by decide, by decide +kernel⟩
theorem ct_X0_still {G : zGw} (hG : zGC G) (a1 : Int32) : Zc mX0_still yX0_still zJI G [.ref (G.1 0), .int a1] (F_X0_still a1) := by
  refine Zc_of [some (.ref (G.1 0)), some (.int a1), none, none] (by decide) rfl rfl (Nat.le_of_ble_eq_true rfl) rfl (fun X S res => ?_)
  unfold F_X0_still
  refine z_aload_n (pc := 0) 0 dX0_still_0 rfl rfl ?_
  refine z_iload_n (pc := 1) 1 dX0_still_1 rfl rfl ?_
  refine z_i2l (pc := 2) dX0_still_2 ?_
  refine z_callVi (pc := 3) _ _ 0 0 (ct_X0_isSquare hG _) mv_X0_isSquare q723 rfl (zGC_s0 hG) rfl (Nat.le_of_ble_eq_true rfl) (Nat.le_of_ble_eq_true rfl) rfl rfl (Nat.le_of_ble_eq_true rfl) dX0_still_3 (fun r2 S1 => ?_)
  refine z_if_ne (pc := 6) 12 dX0_still_6 rfl ?_ ?_
  · refine z_aload_n (pc := 12) 0 dX0_still_12 rfl rfl ?_
    refine z_callVv (pc := 13) _ _ 0 0 (ct_X0_findsTurnings hG) mv_X0_findsTurnings q991 rfl (zGC_s0 hG) rfl (Nat.le_of_ble_eq_true rfl) (Nat.le_of_ble_eq_true rfl) rfl rfl (Nat.le_of_ble_eq_true rfl) dX0_still_13 (fun _ S3 => ?_)
    refine z_iconst (pc := 16) (v := 0) dX0_still_16 (by decide) ?_
    refine z_istore_n (pc := 17) 2 dX0_still_17 rfl (Nat.le_of_ble_eq_true rfl) rfl ?_
    refine z_iconst (pc := 18) (v := 0) dX0_still_18 (by decide) ?_
    refine z_istore_n (pc := 19) 3 dX0_still_19 rfl (Nat.le_of_ble_eq_true rfl) rfl ?_
    refine z_loopK (fun j : Int32 → Int32 → zSt → Option (Int32 × zSt) => ∀ (x5 : Int32) (x6 : Int32) (S7 : zSt), Zm X mX0_still zJI G (0, 0) res S7 20 [some (.ref (G.1 0)), some (.int a1), some (.int x5), some (.int x6)] [] (j x5 x6 S7)) ?_ ?_ zfuel _ _ _
    · intro x5 x6 S7; exact z_none
    · intro rec4 hrec4 x5 x6 S7
      unfold LB_X0_still_1
      refine z_iload_n (pc := 20) 3 dX0_still_20 rfl rfl ?_
      refine z_aload_n (pc := 21) 0 dX0_still_21 rfl rfl ?_
      refine gf_X0_C_340_0 hG (pc := 22) dX0_still_22 ?_
      refine z_icmp_ge (pc := 25) 52 dX0_still_25 rfl ?_ ?_
      · refine z_iload_n (pc := 52) 2 dX0_still_52 rfl rfl ?_
        exact z_iret rfl dX0_still_53 rfl
      · refine z_iload_n (pc := 28) 2 dX0_still_28 rfl rfl ?_
        refine z_aload_n (pc := 29) 0 dX0_still_29 rfl rfl ?_
        refine z_iload_n (pc := 30) 3 dX0_still_30 rfl rfl ?_
        refine z_iload_n (pc := 31) 1 dX0_still_31 rfl rfl ?_
        refine z_callVi (pc := 32) _ _ 0 0 (ct_X0_turned hG _ _) mv_X0_turned q999 rfl (zGC_s0 hG) rfl (Nat.le_of_ble_eq_true rfl) (Nat.le_of_ble_eq_true rfl) rfl rfl (Nat.le_of_ble_eq_true rfl) dX0_still_32 (fun r9 S8 => ?_)
        refine z_iload_n (pc := 35) 1 dX0_still_35 rfl rfl ?_
        refine z_pure (st0 := [.int x5]) 44 ((if r9 = a1 then 1 else 0)) ?_ (fun hJ => ?_)
        · refine z_iadd (pc := 44) dX0_still_44 ?_
          refine z_letI (fun w11 => ?_)
          refine z_istore_n (pc := 45) 2 dX0_still_45 rfl (Nat.le_of_ble_eq_true rfl) rfl ?_
          refine z_iinc (pc := 46) (w := x6 + 1) dX0_still_46 rfl (by rw [show Int32.ofInt 1 = 1 from by decide]) (Nat.le_of_ble_eq_true rfl) rfl ?_
          refine z_goto (pc := 49) 20 dX0_still_49 rfl ?_
          exact hrec4 _ _ _
        · refine z_icmpd_ne (pc := 36) 43 dX0_still_36 rfl (fun c12 => ?_) (fun c12 => ?_)
          · refine z_iconst (pc := 43) (v := 0) dX0_still_43 (by decide) ?_
            exact z_leaf hJ (by simp only [if_neg c12])
          · refine z_iconst (pc := 39) (v := 1) dX0_still_39 (by decide) ?_
            refine z_goto (pc := 40) 44 dX0_still_40 rfl ?_
            exact z_leaf hJ (by simp only [if_pos c12])
  · refine z_bipush (pc := 9) (v := (-2)) dX0_still_9 (by decide) ?_
    exact z_iret rfl dX0_still_11 rfl
abbrev mX0_rowsOf : zMr := ("HiddenCube", cX0_rowsOf, 6, (some .int), 2, 0, 0, none)
def LB_X0_rowsOf_1 (a1 : Int32) (x3 : Int32) (x4 : Int32) (rec1 : Int32 → Int32 → Int32 → zSt → Option (Int32 × zSt)) (rec10 : Int32 → Int32 → zSt → Option (Int32 × zSt)) (x11 : Int32) (x12 : Int32) (S13 : zSt) : Option (Int32 × zSt) :=
zbind (F_X0_has x11 x12 S13) (fun r15 S14 =>
if r15 = 0 then (zlet (x11 ||| ((1 : Int32) <<< (x12 &&& 31)) : Int32) (fun w16 : Int32 =>
zbind (F_X0_turned a1 x12 S14) (fun r18 S17 =>
rec10 w16 r18 S17))) else (rec1 x11 (x3 + 1) (x4 + 1) S14))
def LB_X0_rowsOf_2 (a1 : Int32) (rec1 : Int32 → Int32 → Int32 → zSt → Option (Int32 × zSt)) (x2 : Int32) (x3 : Int32) (x4 : Int32) (S5 : zSt) : Option (Int32 × zSt) :=
zbind (F_X1_squares 1 S5) (fun r7 S6 =>
if r7 ≤ x4 then (some (x3, S6)) else (zbind (F_X0_has x2 x4 S6) (fun r9 S8 =>
if r9 = 0 then (loopK (fun _ _ _ => none) (LB_X0_rowsOf_1 a1 x3 x4 rec1) zfuel x2 x4 S8) else (rec1 x2 x3 (x4 + 1) S8))))
def F_X0_rowsOf (a1 : Int32) (S : zSt) : Option (Int32 × zSt) :=
loopK (fun _ _ _ _ => none) (LB_X0_rowsOf_2 a1) zfuel 0 0 0 S
theorem mv_X0_rowsOf : ZV mX0_rowsOf yX0_rowsOf 1 := ⟨q1028, qs52, q150, q1029, rfl, by decide, by decide, by decide +kernel⟩
theorem ct_X0_rowsOf {G : zGw} (hG : zGC G) (a1 : Int32) : Zc mX0_rowsOf yX0_rowsOf zJI G [.ref (G.1 0), .int a1] (F_X0_rowsOf a1) := by
  refine Zc_of [some (.ref (G.1 0)), some (.int a1), none, none, none, none] (by decide) rfl rfl (Nat.le_of_ble_eq_true rfl) rfl (fun X S res => ?_)
  unfold F_X0_rowsOf
  refine z_iconst (pc := 0) (v := 0) dX0_rowsOf_0 (by decide) ?_
  refine z_istore_n (pc := 1) 2 dX0_rowsOf_1 rfl (Nat.le_of_ble_eq_true rfl) rfl ?_
  refine z_iconst (pc := 2) (v := 0) dX0_rowsOf_2 (by decide) ?_
  refine z_istore_n (pc := 3) 3 dX0_rowsOf_3 rfl (Nat.le_of_ble_eq_true rfl) rfl ?_
  refine z_iconst (pc := 4) (v := 0) dX0_rowsOf_4 (by decide) ?_
  refine z_istore (pc := 5) dX0_rowsOf_5 (Nat.le_of_ble_eq_true rfl) rfl ?_
  refine z_loopK (fun j : Int32 → Int32 → Int32 → zSt → Option (Int32 × zSt) => ∀ (x2 : Int32) (x3 : Int32) (x4 : Int32) (S5 : zSt), Zm X mX0_rowsOf zJI G (0, 0) res S5 7 [some (.ref (G.1 0)), some (.int a1), some (.int x2), some (.int x3), some (.int x4), none] [] (j x2 x3 x4 S5)) ?_ ?_ zfuel _ _ _ _
  · intro x2 x3 x4 S5; exact z_none
  · intro rec1 hrec1 x2 x3 x4 S5
    unfold LB_X0_rowsOf_2
    refine z_iload (pc := 7) dX0_rowsOf_7 rfl ?_
    refine z_aload_n (pc := 9) 0 dX0_rowsOf_9 rfl rfl ?_
    refine gf_X0_C_10_0 hG (pc := 10) dX0_rowsOf_10 ?_
    refine z_callVi (pc := 13) _ _ 1 1 (ct_X1_squares (zGC_T hG)) mv_X1_squares q727 rfl (zGC_s1 hG) rfl (Nat.le_of_ble_eq_true rfl) (Nat.le_of_ble_eq_true rfl) rfl rfl (Nat.le_of_ble_eq_true rfl) dX0_rowsOf_13 (fun r7 S6 => ?_)
    refine z_icmp_ge (pc := 16) 72 dX0_rowsOf_16 rfl ?_ ?_
    · refine z_iload_n (pc := 72) 3 dX0_rowsOf_72 rfl rfl ?_
      exact z_iret rfl dX0_rowsOf_73 rfl
    · refine z_iload_n (pc := 19) 2 dX0_rowsOf_19 rfl rfl ?_
      refine z_iload (pc := 20) dX0_rowsOf_20 rfl ?_
      refine z_callSi (pc := 22) _ _ (ct_X0_has  _ _) mv_X0_has q767 rfl (Nat.le_of_ble_eq_true rfl) (Nat.le_of_ble_eq_true rfl) rfl rfl (Nat.le_of_ble_eq_true rfl) dX0_rowsOf_22 (fun r9 S8 => ?_)
      refine z_if_eq (pc := 25) 31 dX0_rowsOf_25 rfl ?_ ?_
      · refine z_iinc (pc := 31) (w := x3 + 1) dX0_rowsOf_31 rfl (by rw [show Int32.ofInt 1 = 1 from by decide]) (Nat.le_of_ble_eq_true rfl) rfl ?_
        refine z_iload (pc := 34) dX0_rowsOf_34 rfl ?_
        refine z_istore (pc := 36) dX0_rowsOf_36 (Nat.le_of_ble_eq_true rfl) rfl ?_
        refine z_loopK (fun j : Int32 → Int32 → zSt → Option (Int32 × zSt) => ∀ (x11 : Int32) (x12 : Int32) (S13 : zSt), Zm X mX0_rowsOf zJI G (0, 0) res S13 38 [some (.ref (G.1 0)), some (.int a1), some (.int x11), some (.int (x3 + 1)), some (.int x4), some (.int x12)] [] (j x11 x12 S13)) ?_ ?_ zfuel _ _ _
        · intro x11 x12 S13; exact z_none
        · intro rec10 hrec10 x11 x12 S13
          unfold LB_X0_rowsOf_1
          refine z_iload_n (pc := 38) 2 dX0_rowsOf_38 rfl rfl ?_
          refine z_iload (pc := 39) dX0_rowsOf_39 rfl ?_
          refine z_callSi (pc := 41) _ _ (ct_X0_has  _ _) mv_X0_has q767 rfl (Nat.le_of_ble_eq_true rfl) (Nat.le_of_ble_eq_true rfl) rfl rfl (Nat.le_of_ble_eq_true rfl) dX0_rowsOf_41 (fun r15 S14 => ?_)
          refine z_if_ne (pc := 44) 66 dX0_rowsOf_44 rfl ?_ ?_
          · refine z_iinc (pc := 66) (w := x4 + 1) dX0_rowsOf_66 rfl (by rw [show Int32.ofInt 1 = 1 from by decide]) (Nat.le_of_ble_eq_true rfl) rfl ?_
            refine z_goto (pc := 69) 7 dX0_rowsOf_69 rfl ?_
            exact z_mask [true, true, true, true, true, false] (hrec1 _ _ _ _) rfl
          · refine z_iload_n (pc := 47) 2 dX0_rowsOf_47 rfl rfl ?_
            refine z_iconst (pc := 48) (v := 1) dX0_rowsOf_48 (by decide) ?_
            refine z_iload (pc := 49) dX0_rowsOf_49 rfl ?_
            refine z_ishl (pc := 51) dX0_rowsOf_51 ?_
            refine z_ior (pc := 52) dX0_rowsOf_52 ?_
            refine z_letI (fun w16 => ?_)
            refine z_istore_n (pc := 53) 2 dX0_rowsOf_53 rfl (Nat.le_of_ble_eq_true rfl) rfl ?_
            refine z_aload_n (pc := 54) 0 dX0_rowsOf_54 rfl rfl ?_
            refine z_iload_n (pc := 55) 1 dX0_rowsOf_55 rfl rfl ?_
            refine z_iload (pc := 56) dX0_rowsOf_56 rfl ?_
            refine z_callVi (pc := 58) _ _ 0 0 (ct_X0_turned hG _ _) mv_X0_turned q999 rfl (zGC_s0 hG) rfl (Nat.le_of_ble_eq_true rfl) (Nat.le_of_ble_eq_true rfl) rfl rfl (Nat.le_of_ble_eq_true rfl) dX0_rowsOf_58 (fun r18 S17 => ?_)
            refine z_istore (pc := 61) dX0_rowsOf_61 (Nat.le_of_ble_eq_true rfl) rfl ?_
            refine z_goto (pc := 63) 38 dX0_rowsOf_63 rfl ?_
            exact hrec10 _ _ _
      · refine z_goto (pc := 28) 66 dX0_rowsOf_28 rfl ?_
        refine z_iinc (pc := 66) (w := x4 + 1) dX0_rowsOf_66 rfl (by rw [show Int32.ofInt 1 = 1 from by decide]) (Nat.le_of_ble_eq_true rfl) rfl ?_
        refine z_goto (pc := 69) 7 dX0_rowsOf_69 rfl ?_
        exact hrec1 _ _ _ _
abbrev mX0_colours : zMr := ("HiddenCube", cX0_colours, 8, (some .long), 6, 0, 0, none)
def LB_X0_colours_1 (a1 : Int32) (k15 : Int64 → Option (Int64 × zSt)) (rec17 : Int64 → Int32 → Option (Int64 × zSt)) (x18 : Int64) (x19 : Int32) : Option (Int64 × zSt) :=
if x19 ≤ 0 then (k15 x18) else (zlet (x18 * ((a1).toInt64) : Int64) (fun w20 : Int64 =>
rec17 w20 (x19 + (-1))))
def LB_X0_colours_2 (a1 : Int32) (k6 : Int64 → zSt → Option (Int64 × zSt)) (rec9 : Int64 → Int32 → zSt → Option (Int64 × zSt)) (x10 : Int64) (x11 : Int32) (S12 : zSt) : Option (Int64 × zSt) :=
if (S12.1 0 20) ≤ x11 then (k6 x10 S12) else (zbind (F_X0_rowsOf x11 S12) (fun r14 S13 =>
joinK (fun (x16 : Int64) => rec9 (x10 + x16) (x11 + 1) S13) (fun k15 : Int64 → Option (Int64 × zSt) =>
loopK (fun _ _ => none) (LB_X0_colours_1 a1 k15) zfuel 1 r14)))
def F_X0_colours (a1 : Int32) (S : zSt) : Option (Int64 × zSt) :=
zbind (F_X0_isTown S) (fun r2 S1 =>
if r2 = 0 then (some ((-2), S1)) else (zbind (F_X0_isIn ((a1).toInt64) 1 3 S1) (fun r4 S3 =>
if r4 = 0 then (some ((-2), S3)) else (zbind (F_X0_findsTurnings S3) (fun _ S5 =>
joinK (fun (x7 : Int64) (S8 : zSt) => nzL ((S8.1 0 20).toInt64) (some (x7 / ((S8.1 0 20).toInt64), S8))) (fun k6 : Int64 → zSt → Option (Int64 × zSt) =>
loopK (fun _ _ _ => none) (LB_X0_colours_2 a1 k6) zfuel 0 0 S5))))))
theorem mv_X0_colours : ZV mX0_colours yX0_colours 1 := ⟨q1021, q1022, q150, q1023, rfl, by decide, by decide, by decide +kernel⟩
theorem ct_X0_colours {G : zGw} (hG : zGC G) (a1 : Int32) : Zc mX0_colours yX0_colours zJL G [.ref (G.1 0), .int a1] (F_X0_colours a1) := by
  refine Zc_of [some (.ref (G.1 0)), some (.int a1), none, none, none, none, none, none] (by decide) rfl rfl (Nat.le_of_ble_eq_true rfl) rfl (fun X S res => ?_)
  unfold F_X0_colours
  refine z_aload_n (pc := 0) 0 dX0_colours_0 rfl rfl ?_
  refine z_callVi (pc := 1) _ _ 0 0 (ct_X0_isTown hG) mv_X0_isTown q827 rfl (zGC_s0 hG) rfl (Nat.le_of_ble_eq_true rfl) (Nat.le_of_ble_eq_true rfl) rfl rfl (Nat.le_of_ble_eq_true rfl) dX0_colours_1 (fun r2 S1 => ?_)
  refine z_if_eq (pc := 4) 19 dX0_colours_4 rfl ?_ ?_
  · refine z_ldc2 (pc := 19) (v := (-2)) dX0_colours_19 q1025 ?_
    exact z_lret rfl dX0_colours_22 rfl
  · refine z_iload_n (pc := 7) 1 dX0_colours_7 rfl rfl ?_
    refine z_i2l (pc := 8) dX0_colours_8 ?_
    refine z_lconst (pc := 9) (v := 1) dX0_colours_9 (by decide) ?_
    refine z_ldc2 (pc := 10) (v := 3) dX0_colours_10 q1024 ?_
    refine z_callSi (pc := 13) _ _ (ct_X0_isIn  _ _ _) mv_X0_isIn q429 rfl (Nat.le_of_ble_eq_true rfl) (Nat.le_of_ble_eq_true rfl) rfl rfl (Nat.le_of_ble_eq_true rfl) dX0_colours_13 (fun r4 S3 => ?_)
    refine z_if_ne (pc := 16) 23 dX0_colours_16 rfl ?_ ?_
    · refine z_aload_n (pc := 23) 0 dX0_colours_23 rfl rfl ?_
      refine z_callVv (pc := 24) _ _ 0 0 (ct_X0_findsTurnings hG) mv_X0_findsTurnings q991 rfl (zGC_s0 hG) rfl (Nat.le_of_ble_eq_true rfl) (Nat.le_of_ble_eq_true rfl) rfl rfl (Nat.le_of_ble_eq_true rfl) dX0_colours_24 (fun _ S5 => ?_)
      refine z_lconst (pc := 27) (v := 0) dX0_colours_27 (by decide) ?_
      refine z_lstore_n (pc := 28) 2 dX0_colours_28 rfl (Nat.le_of_ble_eq_true rfl) rfl ?_
      refine z_iconst (pc := 29) (v := 0) dX0_colours_29 (by decide) ?_
      refine z_istore (pc := 30) dX0_colours_30 (Nat.le_of_ble_eq_true rfl) rfl ?_
      refine z_join (fun j : Int64 → zSt → Option (Int64 × zSt) => ∀ (x7 : Int64) (S8 : zSt), Zm X mX0_colours zJL G (0, 0) res S8 81 [some (.ref (G.1 0)), none, some (.long x7), none, none, none, none, none] [] (j x7 S8)) ?_ (fun k6 hk6 => ?_)
      · intro x7 S8
        refine z_lload_n (pc := 81) 2 dX0_colours_81 rfl rfl ?_
        refine z_aload_n (pc := 82) 0 dX0_colours_82 rfl rfl ?_
        refine gf_X0_C_340_0 hG (pc := 83) dX0_colours_83 ?_
        refine z_i2l (pc := 86) dX0_colours_86 ?_
        refine z_ldiv (pc := 87) dX0_colours_87 ?_
        exact z_lret rfl dX0_colours_88 rfl
      · refine z_loopK (fun j : Int64 → Int32 → zSt → Option (Int64 × zSt) => ∀ (x10 : Int64) (x11 : Int32) (S12 : zSt), Zm X mX0_colours zJL G (0, 0) res S12 32 [some (.ref (G.1 0)), some (.int a1), some (.long x10), none, some (.int x11), none, none, none] [] (j x10 x11 S12)) ?_ ?_ zfuel _ _ _
        · intro x10 x11 S12; exact z_none
        · intro rec9 hrec9 x10 x11 S12
          unfold LB_X0_colours_2
          refine z_iload (pc := 32) dX0_colours_32 rfl ?_
          refine z_aload_n (pc := 34) 0 dX0_colours_34 rfl rfl ?_
          refine gf_X0_C_340_0 hG (pc := 35) dX0_colours_35 ?_
          refine z_icmp_ge (pc := 38) 81 dX0_colours_38 rfl ?_ ?_
          · exact z_mask [true, false, true, false, false, false, false, false] (hk6 _ _) rfl
          · refine z_lconst (pc := 41) (v := 1) dX0_colours_41 (by decide) ?_
            refine z_lstore (pc := 42) dX0_colours_42 (Nat.le_of_ble_eq_true rfl) rfl ?_
            refine z_aload_n (pc := 44) 0 dX0_colours_44 rfl rfl ?_
            refine z_iload (pc := 45) dX0_colours_45 rfl ?_
            refine z_callVi (pc := 47) _ _ 0 0 (ct_X0_rowsOf hG _) mv_X0_rowsOf q1026 rfl (zGC_s0 hG) rfl (Nat.le_of_ble_eq_true rfl) (Nat.le_of_ble_eq_true rfl) rfl rfl (Nat.le_of_ble_eq_true rfl) dX0_colours_47 (fun r14 S13 => ?_)
            refine z_istore (pc := 50) dX0_colours_50 (Nat.le_of_ble_eq_true rfl) rfl ?_
            refine z_join (fun j : Int64 → Option (Int64 × zSt) => ∀ (x16 : Int64), Zm X mX0_colours zJL G (0, 0) res S13 70 [some (.ref (G.1 0)), some (.int a1), some (.long x10), none, some (.int x11), some (.long x16), none, none] [] (j x16)) ?_ (fun k15 hk15 => ?_)
            · intro x16
              refine z_lload_n (pc := 70) 2 dX0_colours_70 rfl rfl ?_
              refine z_lload (pc := 71) dX0_colours_71 rfl ?_
              refine z_ladd (pc := 73) dX0_colours_73 ?_
              refine z_lstore_n (pc := 74) 2 dX0_colours_74 rfl (Nat.le_of_ble_eq_true rfl) rfl ?_
              refine z_iinc (pc := 75) (w := x11 + 1) dX0_colours_75 rfl (by rw [show Int32.ofInt 1 = 1 from by decide]) (Nat.le_of_ble_eq_true rfl) rfl ?_
              refine z_goto (pc := 78) 32 dX0_colours_78 rfl ?_
              exact z_mask [true, true, true, false, true, false, false, false] (hrec9 _ _ _) rfl
            · refine z_loopK (fun j : Int64 → Int32 → Option (Int64 × zSt) => ∀ (x18 : Int64) (x19 : Int32), Zm X mX0_colours zJL G (0, 0) res S13 52 [some (.ref (G.1 0)), some (.int a1), some (.long x10), none, some (.int x11), some (.long x18), none, some (.int x19)] [] (j x18 x19)) ?_ ?_ zfuel _ _
              · intro x18 x19; exact z_none
              · intro rec17 hrec17 x18 x19
                unfold LB_X0_colours_1
                refine z_iload (pc := 52) dX0_colours_52 rfl ?_
                refine z_if_le (pc := 54) 70 dX0_colours_54 rfl ?_ ?_
                · exact z_mask [true, true, true, false, true, true, false, false] (hk15 _) rfl
                · refine z_lload (pc := 57) dX0_colours_57 rfl ?_
                  refine z_iload_n (pc := 59) 1 dX0_colours_59 rfl rfl ?_
                  refine z_i2l (pc := 60) dX0_colours_60 ?_
                  refine z_lmul (pc := 61) dX0_colours_61 ?_
                  refine z_letL (fun w20 => ?_)
                  refine z_lstore (pc := 62) dX0_colours_62 (Nat.le_of_ble_eq_true rfl) rfl ?_
                  refine z_iinc (pc := 64) (w := x19 + (-1)) dX0_colours_64 rfl (by rw [show Int32.ofInt (-1) = (-1) from by decide]) (Nat.le_of_ble_eq_true rfl) rfl ?_
                  refine z_goto (pc := 67) 52 dX0_colours_67 rfl ?_
                  exact hrec17 _ _
    · refine z_ldc2 (pc := 19) (v := (-2)) dX0_colours_19 q1025 ?_
      exact z_lret rfl dX0_colours_22 rfl
abbrev mX0_laysStreets : zMr := ("HiddenCube", cX0_laysStreets, 5, none, 3, 0, 0, none)
def LB_X0_laysStreets_1 (a1 : Int32) (x2 : Int32) (rec1 : Int32 → zSt → Option (Unit × zSt)) (rec6 : Int32 → zSt → Option (Unit × zSt)) (x7 : Int32) (S8 : zSt) : Option (Unit × zSt) :=
if (S8.1 1 0) ≤ x7 then (rec1 (x2 + 1) S8) else (chk ((5 * a1) + x7) 19200 (zlet (S8.1 21 ((5 * a1) + x7).toNatClampNeg : Int32) (fun w10 : Int32 =>
zbind (F_X0_has x2 x7 S8) (fun r12 S11 =>
if r12 = 0 then (zbind (F_X0_streetOf x2 x7 S11) (fun r14 S13 =>
zbind (F_X0_turned a1 x2 S13) (fun r16 S15 =>
zbind (F_X0_streetOf (r16 &&& (((1 : Int32) <<< (w10 &&& 31)) ^^^ (-1))) w10 S15) (fun r18 S17 =>
chk r14 32 (zlet (sI S17 24 (r14).toNatClampNeg r18 : zSt) (fun S20 : zSt =>
rec6 (x7 + 1) S20)))))) else (rec6 (x7 + 1) S11)))))
def LB_X0_laysStreets_2 (a1 : Int32) (rec1 : Int32 → zSt → Option (Unit × zSt)) (x2 : Int32) (S3 : zSt) : Option (Unit × zSt) :=
zbind (F_X1_squares 1 S3) (fun r5 S4 =>
if r5 ≤ x2 then (some ((), S4)) else (loopK (fun _ _ => none) (LB_X0_laysStreets_1 a1 x2 rec1) zfuel 0 S4))
def F_X0_laysStreets (a1 : Int32) (S : zSt) : Option (Unit × zSt) :=
loopK (fun _ _ => none) (LB_X0_laysStreets_2 a1) zfuel 0 S
theorem mv_X0_laysStreets : ZV mX0_laysStreets yX0_laysStreets 1 := ⟨q1036, qs53, q150, q1037, rfl, by decide, by decide, by decide +kernel⟩
theorem ct_X0_laysStreets {G : zGw} (hG : zGC G) (a1 : Int32) : Zc mX0_laysStreets yX0_laysStreets zJV G [.ref (G.1 0), .int a1] (F_X0_laysStreets a1) := by
  refine Zc_of [some (.ref (G.1 0)), some (.int a1), none, none, none] (by decide) rfl rfl (Nat.le_of_ble_eq_true rfl) rfl (fun X S res => ?_)
  unfold F_X0_laysStreets
  refine z_iconst (pc := 0) (v := 0) dX0_laysStreets_0 (by decide) ?_
  refine z_istore_n (pc := 1) 2 dX0_laysStreets_1 rfl (Nat.le_of_ble_eq_true rfl) rfl ?_
  refine z_loopK (fun j : Int32 → zSt → Option (Unit × zSt) => ∀ (x2 : Int32) (S3 : zSt), Zm X mX0_laysStreets zJV G (0, 0) res S3 2 [some (.ref (G.1 0)), some (.int a1), some (.int x2), none, none] [] (j x2 S3)) ?_ ?_ zfuel _ _
  · intro x2 S3; exact z_none
  · intro rec1 hrec1 x2 S3
    unfold LB_X0_laysStreets_2
    refine z_iload_n (pc := 2) 2 dX0_laysStreets_2 rfl rfl ?_
    refine z_aload_n (pc := 3) 0 dX0_laysStreets_3 rfl rfl ?_
    refine gf_X0_C_10_0 hG (pc := 4) dX0_laysStreets_4 ?_
    refine z_callVi (pc := 7) _ _ 1 1 (ct_X1_squares (zGC_T hG)) mv_X1_squares q727 rfl (zGC_s1 hG) rfl (Nat.le_of_ble_eq_true rfl) (Nat.le_of_ble_eq_true rfl) rfl rfl (Nat.le_of_ble_eq_true rfl) dX0_laysStreets_7 (fun r5 S4 => ?_)
    refine z_icmp_ge (pc := 10) 88 dX0_laysStreets_10 rfl ?_ ?_
    · exact z_vret rfl dX0_laysStreets_88 rfl
    · refine z_iconst (pc := 13) (v := 0) dX0_laysStreets_13 (by decide) ?_
      refine z_istore_n (pc := 14) 3 dX0_laysStreets_14 rfl (Nat.le_of_ble_eq_true rfl) rfl ?_
      refine z_loopK (fun j : Int32 → zSt → Option (Unit × zSt) => ∀ (x7 : Int32) (S8 : zSt), Zm X mX0_laysStreets zJV G (0, 0) res S8 15 [some (.ref (G.1 0)), some (.int a1), some (.int x2), some (.int x7), none] [] (j x7 S8)) ?_ ?_ zfuel _ _
      · intro x7 S8; exact z_none
      · intro rec6 hrec6 x7 S8
        unfold LB_X0_laysStreets_1
        refine z_iload_n (pc := 15) 3 dX0_laysStreets_15 rfl rfl ?_
        refine z_aload_n (pc := 16) 0 dX0_laysStreets_16 rfl rfl ?_
        refine gf_X0_C_10_0 hG (pc := 17) dX0_laysStreets_17 ?_
        refine gf_X0_C_158_1 hG (pc := 20) dX0_laysStreets_20 ?_
        refine z_icmp_ge (pc := 23) 82 dX0_laysStreets_23 rfl ?_ ?_
        · refine z_iinc (pc := 82) (w := x2 + 1) dX0_laysStreets_82 rfl (by rw [show Int32.ofInt 1 = 1 from by decide]) (Nat.le_of_ble_eq_true rfl) rfl ?_
          refine z_goto (pc := 85) 2 dX0_laysStreets_85 rfl ?_
          exact z_mask [true, true, true, false, false] (hrec1 _ _) rfl
        · refine z_aload_n (pc := 26) 0 dX0_laysStreets_26 rfl rfl ?_
          refine gf_X0_C_65_0 hG (pc := 27) dX0_laysStreets_27 ?_
          refine z_iconst (pc := 30) (v := 5) dX0_laysStreets_30 (by decide) ?_
          refine z_iload_n (pc := 31) 1 dX0_laysStreets_31 rfl rfl ?_
          refine z_imul (pc := 32) dX0_laysStreets_32 ?_
          refine z_iload_n (pc := 33) 3 dX0_laysStreets_33 rfl rfl ?_
          refine z_iadd (pc := 34) dX0_laysStreets_34 ?_
          refine z_chk (fun h9 => ?_)
          refine z_iaload (pc := 35) 21 19200 (zGC_s21 hG) h9 dX0_laysStreets_35 ?_
          refine z_letI (fun w10 => ?_)
          refine z_istore (pc := 36) dX0_laysStreets_36 (Nat.le_of_ble_eq_true rfl) rfl ?_
          refine z_iload_n (pc := 38) 2 dX0_laysStreets_38 rfl rfl ?_
          refine z_iload_n (pc := 39) 3 dX0_laysStreets_39 rfl rfl ?_
          refine z_callSi (pc := 40) _ _ (ct_X0_has  _ _) mv_X0_has q767 rfl (Nat.le_of_ble_eq_true rfl) (Nat.le_of_ble_eq_true rfl) rfl rfl (Nat.le_of_ble_eq_true rfl) dX0_laysStreets_40 (fun r12 S11 => ?_)
          refine z_if_ne (pc := 43) 76 dX0_laysStreets_43 rfl ?_ ?_
          · refine z_iinc (pc := 76) (w := x7 + 1) dX0_laysStreets_76 rfl (by rw [show Int32.ofInt 1 = 1 from by decide]) (Nat.le_of_ble_eq_true rfl) rfl ?_
            refine z_goto (pc := 79) 15 dX0_laysStreets_79 rfl ?_
            exact z_mask [true, true, true, true, false] (hrec6 _ _) rfl
          · refine z_aload_n (pc := 46) 0 dX0_laysStreets_46 rfl rfl ?_
            refine gf_X0_C_74_0 hG (pc := 47) dX0_laysStreets_47 ?_
            refine z_aload_n (pc := 50) 0 dX0_laysStreets_50 rfl rfl ?_
            refine z_iload_n (pc := 51) 2 dX0_laysStreets_51 rfl rfl ?_
            refine z_iload_n (pc := 52) 3 dX0_laysStreets_52 rfl rfl ?_
            refine z_callVi (pc := 53) _ _ 0 0 (ct_X0_streetOf hG _ _) mv_X0_streetOf q967 rfl (zGC_s0 hG) rfl (Nat.le_of_ble_eq_true rfl) (Nat.le_of_ble_eq_true rfl) rfl rfl (Nat.le_of_ble_eq_true rfl) dX0_laysStreets_53 (fun r14 S13 => ?_)
            refine z_aload_n (pc := 56) 0 dX0_laysStreets_56 rfl rfl ?_
            refine z_aload_n (pc := 57) 0 dX0_laysStreets_57 rfl rfl ?_
            refine z_iload_n (pc := 58) 1 dX0_laysStreets_58 rfl rfl ?_
            refine z_iload_n (pc := 59) 2 dX0_laysStreets_59 rfl rfl ?_
            refine z_callVi (pc := 60) _ _ 0 0 (ct_X0_turned hG _ _) mv_X0_turned q999 rfl (zGC_s0 hG) rfl (Nat.le_of_ble_eq_true rfl) (Nat.le_of_ble_eq_true rfl) rfl rfl (Nat.le_of_ble_eq_true rfl) dX0_laysStreets_60 (fun r16 S15 => ?_)
            refine z_iconst (pc := 63) (v := 1) dX0_laysStreets_63 (by decide) ?_
            refine z_iload (pc := 64) dX0_laysStreets_64 rfl ?_
            refine z_ishl (pc := 66) dX0_laysStreets_66 ?_
            refine z_iconst (pc := 67) (v := (-1)) dX0_laysStreets_67 (by decide) ?_
            refine z_ixor (pc := 68) dX0_laysStreets_68 ?_
            refine z_iand (pc := 69) dX0_laysStreets_69 ?_
            refine z_iload (pc := 70) dX0_laysStreets_70 rfl ?_
            refine z_callVi (pc := 72) _ _ 0 0 (ct_X0_streetOf hG _ _) mv_X0_streetOf q967 rfl (zGC_s0 hG) rfl (Nat.le_of_ble_eq_true rfl) (Nat.le_of_ble_eq_true rfl) rfl rfl (Nat.le_of_ble_eq_true rfl) dX0_laysStreets_72 (fun r18 S17 => ?_)
            refine z_chk (fun h19 => ?_)
            refine z_iastore (pc := 75) 24 32 (zGC_s24 hG) h19 dX0_laysStreets_75 ?_
            refine z_letS (fun S20 => ?_)
            refine z_iinc (pc := 76) (w := x7 + 1) dX0_laysStreets_76 rfl (by rw [show Int32.ofInt 1 = 1 from by decide]) (Nat.le_of_ble_eq_true rfl) rfl ?_
            refine z_goto (pc := 79) 15 dX0_laysStreets_79 rfl ?_
            exact z_mask [true, true, true, true, false] (hrec6 _ _) rfl
abbrev mX0_streetsTurned : zMr := ("HiddenCube", cX0_streetsTurned, 4, (some .int), 2, 0, 0, none)
def LB_X0_streetsTurned_1 (rec1 : Int32 → Int32 → zSt → Option (Int32 × zSt)) (x2 : Int32) (x3 : Int32) (S4 : zSt) : Option (Int32 × zSt) :=
if x3 = 0 then (some (x2, S4)) else (zbind (F_J7_numberOfTrailingZeros x3 S4) (fun r6 S5 =>
chk r6 32 (zlet (x2 ||| ((1 : Int32) <<< ((S5.1 24 (r6).toNatClampNeg) &&& 31)) : Int32) (fun w8 : Int32 =>
zlet (x3 &&& (x3 - 1) : Int32) (fun w9 : Int32 =>
rec1 w8 w9 S5)))))
def F_X0_streetsTurned (a1 : Int32) (S : zSt) : Option (Int32 × zSt) :=
loopK (fun _ _ _ => none) (LB_X0_streetsTurned_1) zfuel 0 a1 S
theorem mv_X0_streetsTurned : ZV mX0_streetsTurned yX0_streetsTurned 1 := ⟨q1040, qs54, q150, q1041, rfl, by decide, by decide, by decide +kernel⟩
theorem ct_X0_streetsTurned {G : zGw} (hG : zGC G) (a1 : Int32) : Zc mX0_streetsTurned yX0_streetsTurned zJI G [.ref (G.1 0), .int a1] (F_X0_streetsTurned a1) := by
  refine Zc_of [some (.ref (G.1 0)), some (.int a1), none, none] (by decide) rfl rfl (Nat.le_of_ble_eq_true rfl) rfl (fun X S res => ?_)
  unfold F_X0_streetsTurned
  refine z_iconst (pc := 0) (v := 0) dX0_streetsTurned_0 (by decide) ?_
  refine z_istore_n (pc := 1) 2 dX0_streetsTurned_1 rfl (Nat.le_of_ble_eq_true rfl) rfl ?_
  refine z_iload_n (pc := 2) 1 dX0_streetsTurned_2 rfl rfl ?_
  refine z_istore_n (pc := 3) 3 dX0_streetsTurned_3 rfl (Nat.le_of_ble_eq_true rfl) rfl ?_
  refine z_maskk [true, false, true, true] ?_
  refine z_loopK (fun j : Int32 → Int32 → zSt → Option (Int32 × zSt) => ∀ (x2 : Int32) (x3 : Int32) (S4 : zSt), Zm X mX0_streetsTurned zJI G (0, 0) res S4 4 [some (.ref (G.1 0)), none, some (.int x2), some (.int x3)] [] (j x2 x3 S4)) ?_ ?_ zfuel _ _ _
  · intro x2 x3 S4; exact z_none
  · intro rec1 hrec1 x2 x3 S4
    unfold LB_X0_streetsTurned_1
    refine z_iload_n (pc := 4) 3 dX0_streetsTurned_4 rfl rfl ?_
    refine z_if_eq (pc := 5) 31 dX0_streetsTurned_5 rfl ?_ ?_
    · refine z_iload_n (pc := 31) 2 dX0_streetsTurned_31 rfl rfl ?_
      exact z_iret rfl dX0_streetsTurned_32 rfl
    · refine z_iload_n (pc := 8) 2 dX0_streetsTurned_8 rfl rfl ?_
      refine z_iconst (pc := 9) (v := 1) dX0_streetsTurned_9 (by decide) ?_
      refine z_aload_n (pc := 10) 0 dX0_streetsTurned_10 rfl rfl ?_
      refine gf_X0_C_74_0 hG (pc := 11) dX0_streetsTurned_11 ?_
      refine z_iload_n (pc := 14) 3 dX0_streetsTurned_14 rfl rfl ?_
      refine z_callSi (pc := 15) _ _ (ct_J7_numberOfTrailingZeros  _) mv_J7_numberOfTrailingZeros q815 rfl (Nat.le_of_ble_eq_true rfl) (Nat.le_of_ble_eq_true rfl) rfl rfl (Nat.le_of_ble_eq_true rfl) dX0_streetsTurned_15 (fun r6 S5 => ?_)
      refine z_chk (fun h7 => ?_)
      refine z_iaload (pc := 18) 24 32 (zGC_s24 hG) h7 dX0_streetsTurned_18 ?_
      refine z_ishl (pc := 19) dX0_streetsTurned_19 ?_
      refine z_ior (pc := 20) dX0_streetsTurned_20 ?_
      refine z_letI (fun w8 => ?_)
      refine z_istore_n (pc := 21) 2 dX0_streetsTurned_21 rfl (Nat.le_of_ble_eq_true rfl) rfl ?_
      refine z_iload_n (pc := 22) 3 dX0_streetsTurned_22 rfl rfl ?_
      refine z_iload_n (pc := 23) 3 dX0_streetsTurned_23 rfl rfl ?_
      refine z_iconst (pc := 24) (v := 1) dX0_streetsTurned_24 (by decide) ?_
      refine z_isub (pc := 25) dX0_streetsTurned_25 ?_
      refine z_iand (pc := 26) dX0_streetsTurned_26 ?_
      refine z_letI (fun w9 => ?_)
      refine z_istore_n (pc := 27) 3 dX0_streetsTurned_27 rfl (Nat.le_of_ble_eq_true rfl) rfl ?_
      refine z_goto (pc := 28) 4 dX0_streetsTurned_28 rfl ?_
      exact hrec1 _ _ _
abbrev mX0_unlike : zMr := ("HiddenCube", cX0_unlike, 4, (some .int), 9, 0, 0, none)
def LB_X0_unlike_1 (S6 : zSt) (rec7 : Int32 → Int32 → Option (Int32 × zSt)) (x8 : Int32) (x9 : Int32) : Option (Int32 × zSt) :=
if (S6.1 0 16) ≤ x9 then (some (x8, S6)) else (chk x9 1400 (chk x9 1400 (zlet (x8 + (if (S6.1 25 (x9).toNatClampNeg) = (S6.1 20 (x9).toNatClampNeg) then 1 else 0) : Int32) (fun w13 : Int32 =>
rec7 w13 (x9 + 1)))))
def LB_X0_unlike_2 (x16 : Int32) (rec15 : Int32 → zSt → Option (Int32 × zSt)) (rec19 : Int32 → zSt → Option (Int32 × zSt)) (x20 : Int32) (S21 : zSt) : Option (Int32 × zSt) :=
if (S21.1 0 16) ≤ x20 then (rec15 (x16 + 1) S21) else (chk x20 1400 (chk x20 1400 (zbind (F_X0_streetsTurned (S21.1 20 (x20).toNatClampNeg) S21) (fun r25 S24 =>
zbind (F_J0_min (S21.1 25 (x20).toNatClampNeg) r25 S24) (fun r27 S26 =>
chk x20 1400 (zlet (sI S26 25 (x20).toNatClampNeg r27 : zSt) (fun S29 : zSt =>
rec19 (x20 + 1) S29)))))))
def LB_X0_unlike_3 (k5 : zSt → Option (Int32 × zSt)) (rec15 : Int32 → zSt → Option (Int32 × zSt)) (x16 : Int32) (S17 : zSt) : Option (Int32 × zSt) :=
if (S17.1 0 20) ≤ x16 then (k5 S17) else (zbind (F_X0_laysStreets x16 S17) (fun _ S18 =>
loopK (fun _ _ => none) (LB_X0_unlike_2 x16 rec15) zfuel 0 S18))
def F_X0_unlike  (S : zSt) : Option (Int32 × zSt) :=
zbind (F_X0_asksRounds 1 S) (fun r2 S1 =>
if 0 ≤ r2 then (zbind (F_X0_findsTurnings S1) (fun _ S3 =>
acopy 1400 1400 0 0 (S3.1 0 16) (zlet (cpI S3 20 (0 : Int32).toNatClampNeg 25 (0 : Int32).toNatClampNeg (S3.1 0 16).toNatClampNeg) (fun S4 : zSt =>
joinK (fun  (S6 : zSt) => loopK (fun _ _ => none) (LB_X0_unlike_1 S6) zfuel 0 0) (fun k5 : zSt → Option (Int32 × zSt) =>
loopK (fun _ _ => none) (LB_X0_unlike_3 k5) zfuel 0 S4))))) else (some (r2, S1)))
theorem mv_X0_unlike : ZV mX0_unlike yX0_unlike 0 := ⟨q1031, q1032, q150, q1033, rfl, by decide, by decide, by decide +kernel⟩
theorem ct_X0_unlike {G : zGw} (hG : zGC G)  : Zc mX0_unlike yX0_unlike zJI G [.ref (G.1 0)] (F_X0_unlike) := by
  refine Zc_of [some (.ref (G.1 0)), none, none, none] (by decide) rfl rfl (Nat.le_of_ble_eq_true rfl) rfl (fun X S res => ?_)
  unfold F_X0_unlike
  refine z_aload_n (pc := 0) 0 dX0_unlike_0 rfl rfl ?_
  refine z_iconst (pc := 1) (v := 1) dX0_unlike_1 (by decide) ?_
  refine z_callVi (pc := 2) _ _ 0 0 (ct_X0_asksRounds hG _) mv_X0_asksRounds q948 rfl (zGC_s0 hG) rfl (Nat.le_of_ble_eq_true rfl) (Nat.le_of_ble_eq_true rfl) rfl rfl (Nat.le_of_ble_eq_true rfl) dX0_unlike_2 (fun r2 S1 => ?_)
  refine z_istore_n (pc := 5) 1 dX0_unlike_5 rfl (Nat.le_of_ble_eq_true rfl) rfl ?_
  refine z_iload_n (pc := 6) 1 dX0_unlike_6 rfl rfl ?_
  refine z_if_ge (pc := 7) 12 dX0_unlike_7 rfl ?_ ?_
  · refine z_aload_n (pc := 12) 0 dX0_unlike_12 rfl rfl ?_
    refine z_callVv (pc := 13) _ _ 0 0 (ct_X0_findsTurnings hG) mv_X0_findsTurnings q991 rfl (zGC_s0 hG) rfl (Nat.le_of_ble_eq_true rfl) (Nat.le_of_ble_eq_true rfl) rfl rfl (Nat.le_of_ble_eq_true rfl) dX0_unlike_13 (fun _ S3 => ?_)
    refine z_aload_n (pc := 16) 0 dX0_unlike_16 rfl rfl ?_
    refine gf_X0_C_62_0 hG (pc := 17) dX0_unlike_17 ?_
    refine z_iconst (pc := 20) (v := 0) dX0_unlike_20 (by decide) ?_
    refine z_aload_n (pc := 21) 0 dX0_unlike_21 rfl rfl ?_
    refine gf_X0_C_77_0 hG (pc := 22) dX0_unlike_22 ?_
    refine z_iconst (pc := 25) (v := 0) dX0_unlike_25 (by decide) ?_
    refine z_aload_n (pc := 26) 0 dX0_unlike_26 rfl rfl ?_
    refine gf_X0_C_309_0 hG (pc := 27) dX0_unlike_27 ?_
    refine z_acopyI (pc := 30) 20 25 1400 1400 (zGC_s20 hG) (zGC_s25 hG) (by decide) q960 (Nat.le_of_ble_eq_true rfl) (Nat.le_of_ble_eq_true rfl) dX0_unlike_30 ?_
    refine z_letS (fun S4 => ?_)
    refine z_iconst (pc := 33) (v := 0) dX0_unlike_33 (by decide) ?_
    refine z_istore_n (pc := 34) 2 dX0_unlike_34 rfl (Nat.le_of_ble_eq_true rfl) rfl ?_
    refine z_join (fun j : zSt → Option (Int32 × zSt) => ∀  (S6 : zSt), Zm X mX0_unlike zJI G (0, 0) res S6 95 [some (.ref (G.1 0)), none, none, none] [] (j S6)) ?_ (fun k5 hk5 => ?_)
    · intro S6
      refine z_iconst (pc := 95) (v := 0) dX0_unlike_95 (by decide) ?_
      refine z_istore_n (pc := 96) 2 dX0_unlike_96 rfl (Nat.le_of_ble_eq_true rfl) rfl ?_
      refine z_iconst (pc := 97) (v := 0) dX0_unlike_97 (by decide) ?_
      refine z_istore_n (pc := 98) 3 dX0_unlike_98 rfl (Nat.le_of_ble_eq_true rfl) rfl ?_
      refine z_loopK (fun j : Int32 → Int32 → Option (Int32 × zSt) => ∀ (x8 : Int32) (x9 : Int32), Zm X mX0_unlike zJI G (0, 0) res S6 99 [some (.ref (G.1 0)), none, some (.int x8), some (.int x9)] [] (j x8 x9)) ?_ ?_ zfuel _ _
      · intro x8 x9; exact z_none
      · intro rec7 hrec7 x8 x9
        unfold LB_X0_unlike_1
        refine z_iload_n (pc := 99) 3 dX0_unlike_99 rfl rfl ?_
        refine z_aload_n (pc := 100) 0 dX0_unlike_100 rfl rfl ?_
        refine gf_X0_C_309_0 hG (pc := 101) dX0_unlike_101 ?_
        refine z_icmp_ge (pc := 104) 136 dX0_unlike_104 rfl ?_ ?_
        · refine z_iload_n (pc := 136) 2 dX0_unlike_136 rfl rfl ?_
          exact z_iret rfl dX0_unlike_137 rfl
        · refine z_iload_n (pc := 107) 2 dX0_unlike_107 rfl rfl ?_
          refine z_aload_n (pc := 108) 0 dX0_unlike_108 rfl rfl ?_
          refine gf_X0_C_77_0 hG (pc := 109) dX0_unlike_109 ?_
          refine z_iload_n (pc := 112) 3 dX0_unlike_112 rfl rfl ?_
          refine z_chk (fun h10 => ?_)
          refine z_iaload (pc := 113) 25 1400 (zGC_s25 hG) h10 dX0_unlike_113 ?_
          refine z_aload_n (pc := 114) 0 dX0_unlike_114 rfl rfl ?_
          refine gf_X0_C_62_0 hG (pc := 115) dX0_unlike_115 ?_
          refine z_iload_n (pc := 118) 3 dX0_unlike_118 rfl rfl ?_
          refine z_chk (fun h11 => ?_)
          refine z_iaload (pc := 119) 20 1400 (zGC_s20 hG) h11 dX0_unlike_119 ?_
          refine z_pure (st0 := [.int x8]) 128 ((if (S6.1 25 (x9).toNatClampNeg) = (S6.1 20 (x9).toNatClampNeg) then 1 else 0)) ?_ (fun hJ => ?_)
          · refine z_iadd (pc := 128) dX0_unlike_128 ?_
            refine z_letI (fun w13 => ?_)
            refine z_istore_n (pc := 129) 2 dX0_unlike_129 rfl (Nat.le_of_ble_eq_true rfl) rfl ?_
            refine z_iinc (pc := 130) (w := x9 + 1) dX0_unlike_130 rfl (by rw [show Int32.ofInt 1 = 1 from by decide]) (Nat.le_of_ble_eq_true rfl) rfl ?_
            refine z_goto (pc := 133) 99 dX0_unlike_133 rfl ?_
            exact hrec7 _ _
          · refine z_icmpd_ne (pc := 120) 127 dX0_unlike_120 rfl (fun c14 => ?_) (fun c14 => ?_)
            · refine z_iconst (pc := 127) (v := 0) dX0_unlike_127 (by decide) ?_
              exact z_leaf hJ (by simp only [if_neg c14])
            · refine z_iconst (pc := 123) (v := 1) dX0_unlike_123 (by decide) ?_
              refine z_goto (pc := 124) 128 dX0_unlike_124 rfl ?_
              exact z_leaf hJ (by simp only [if_pos c14])
    · refine z_maskk [true, false, true, false] ?_
      refine z_loopK (fun j : Int32 → zSt → Option (Int32 × zSt) => ∀ (x16 : Int32) (S17 : zSt), Zm X mX0_unlike zJI G (0, 0) res S17 35 [some (.ref (G.1 0)), none, some (.int x16), none] [] (j x16 S17)) ?_ ?_ zfuel _ _
      · intro x16 S17; exact z_none
      · intro rec15 hrec15 x16 S17
        unfold LB_X0_unlike_3
        refine z_iload_n (pc := 35) 2 dX0_unlike_35 rfl rfl ?_
        refine z_aload_n (pc := 36) 0 dX0_unlike_36 rfl rfl ?_
        refine gf_X0_C_340_0 hG (pc := 37) dX0_unlike_37 ?_
        refine z_icmp_ge (pc := 40) 95 dX0_unlike_40 rfl ?_ ?_
        · exact z_mask [true, false, false, false] (hk5 _) rfl
        · refine z_aload_n (pc := 43) 0 dX0_unlike_43 rfl rfl ?_
          refine z_iload_n (pc := 44) 2 dX0_unlike_44 rfl rfl ?_
          refine z_callVv (pc := 45) _ _ 0 0 (ct_X0_laysStreets hG _) mv_X0_laysStreets q1034 rfl (zGC_s0 hG) rfl (Nat.le_of_ble_eq_true rfl) (Nat.le_of_ble_eq_true rfl) rfl rfl (Nat.le_of_ble_eq_true rfl) dX0_unlike_45 (fun _ S18 => ?_)
          refine z_iconst (pc := 48) (v := 0) dX0_unlike_48 (by decide) ?_
          refine z_istore_n (pc := 49) 3 dX0_unlike_49 rfl (Nat.le_of_ble_eq_true rfl) rfl ?_
          refine z_loopK (fun j : Int32 → zSt → Option (Int32 × zSt) => ∀ (x20 : Int32) (S21 : zSt), Zm X mX0_unlike zJI G (0, 0) res S21 50 [some (.ref (G.1 0)), none, some (.int x16), some (.int x20)] [] (j x20 S21)) ?_ ?_ zfuel _ _
          · intro x20 S21; exact z_none
          · intro rec19 hrec19 x20 S21
            unfold LB_X0_unlike_2
            refine z_iload_n (pc := 50) 3 dX0_unlike_50 rfl rfl ?_
            refine z_aload_n (pc := 51) 0 dX0_unlike_51 rfl rfl ?_
            refine gf_X0_C_309_0 hG (pc := 52) dX0_unlike_52 ?_
            refine z_icmp_ge (pc := 55) 89 dX0_unlike_55 rfl ?_ ?_
            · refine z_iinc (pc := 89) (w := x16 + 1) dX0_unlike_89 rfl (by rw [show Int32.ofInt 1 = 1 from by decide]) (Nat.le_of_ble_eq_true rfl) rfl ?_
              refine z_goto (pc := 92) 35 dX0_unlike_92 rfl ?_
              exact z_mask [true, false, true, false] (hrec15 _ _) rfl
            · refine z_aload_n (pc := 58) 0 dX0_unlike_58 rfl rfl ?_
              refine gf_X0_C_77_0 hG (pc := 59) dX0_unlike_59 ?_
              refine z_iload_n (pc := 62) 3 dX0_unlike_62 rfl rfl ?_
              refine z_aload_n (pc := 63) 0 dX0_unlike_63 rfl rfl ?_
              refine gf_X0_C_77_0 hG (pc := 64) dX0_unlike_64 ?_
              refine z_iload_n (pc := 67) 3 dX0_unlike_67 rfl rfl ?_
              refine z_chk (fun h22 => ?_)
              refine z_iaload (pc := 68) 25 1400 (zGC_s25 hG) h22 dX0_unlike_68 ?_
              refine z_aload_n (pc := 69) 0 dX0_unlike_69 rfl rfl ?_
              refine z_aload_n (pc := 70) 0 dX0_unlike_70 rfl rfl ?_
              refine gf_X0_C_62_0 hG (pc := 71) dX0_unlike_71 ?_
              refine z_iload_n (pc := 74) 3 dX0_unlike_74 rfl rfl ?_
              refine z_chk (fun h23 => ?_)
              refine z_iaload (pc := 75) 20 1400 (zGC_s20 hG) h23 dX0_unlike_75 ?_
              refine z_callVi (pc := 76) _ _ 0 0 (ct_X0_streetsTurned hG _) mv_X0_streetsTurned q1038 rfl (zGC_s0 hG) rfl (Nat.le_of_ble_eq_true rfl) (Nat.le_of_ble_eq_true rfl) rfl rfl (Nat.le_of_ble_eq_true rfl) dX0_unlike_76 (fun r25 S24 => ?_)
              refine z_callSi (pc := 79) _ _ (ct_J0_min  _ _) mv_J0_min q1015 rfl (Nat.le_of_ble_eq_true rfl) (Nat.le_of_ble_eq_true rfl) rfl rfl (Nat.le_of_ble_eq_true rfl) dX0_unlike_79 (fun r27 S26 => ?_)
              refine z_chk (fun h28 => ?_)
              refine z_iastore (pc := 82) 25 1400 (zGC_s25 hG) h28 dX0_unlike_82 ?_
              refine z_letS (fun S29 => ?_)
              refine z_iinc (pc := 83) (w := x20 + 1) dX0_unlike_83 rfl (by rw [show Int32.ofInt 1 = 1 from by decide]) (Nat.le_of_ble_eq_true rfl) rfl ?_
              refine z_goto (pc := 86) 50 dX0_unlike_86 rfl ?_
              exact hrec19 _ _
  · refine z_iload_n (pc := 10) 1 dX0_unlike_10 rfl rfl ?_
    exact z_iret rfl dX0_unlike_11 rfl
abbrev mX0_all : zMr := ("HiddenCube", cX0_all, 1, (some .int), 2, 0, 0, none)
def F_X0_all  (S : zSt) : Option (Int32 × zSt) :=
if (S.1 1 0) = 5 then (some ((-1), S)) else (zbind (F_X1_squares 1 S) (fun r2 S1 =>
some (((1 : Int32) <<< (r2 &&& 31)) - 1, S1)))
theorem mv_X0_all : ZV mX0_all yX0_all 0 := ⟨q1052, qs56, q150, q1053, rfl, by decide, by decide, by decide +kernel⟩
theorem ct_X0_all {G : zGw} (hG : zGC G)  : Zc mX0_all yX0_all zJI G [.ref (G.1 0)] (F_X0_all) := by
  refine Zc_of [some (.ref (G.1 0))] (by decide) rfl rfl (Nat.le_of_ble_eq_true rfl) rfl (fun X S res => ?_)
  unfold F_X0_all
  refine z_aload_n (pc := 0) 0 dX0_all_0 rfl rfl ?_
  refine gf_X0_C_10_0 hG (pc := 1) dX0_all_1 ?_
  refine gf_X0_C_158_1 hG (pc := 4) dX0_all_4 ?_
  refine z_iconst (pc := 7) (v := 5) dX0_all_7 (by decide) ?_
  refine z_icmp_ne (pc := 8) 15 dX0_all_8 rfl ?_ ?_
  · refine z_iconst (pc := 15) (v := 1) dX0_all_15 (by decide) ?_
    refine z_aload_n (pc := 16) 0 dX0_all_16 rfl rfl ?_
    refine gf_X0_C_10_0 hG (pc := 17) dX0_all_17 ?_
    refine z_callVi (pc := 20) _ _ 1 1 (ct_X1_squares (zGC_T hG)) mv_X1_squares q727 rfl (zGC_s1 hG) rfl (Nat.le_of_ble_eq_true rfl) (Nat.le_of_ble_eq_true rfl) rfl rfl (Nat.le_of_ble_eq_true rfl) dX0_all_20 (fun r2 S1 => ?_)
    refine z_ishl (pc := 23) dX0_all_23 ?_
    refine z_iconst (pc := 24) (v := 1) dX0_all_24 (by decide) ?_
    refine z_isub (pc := 25) dX0_all_25 ?_
    exact z_iret rfl dX0_all_26 rfl
  · refine z_iconst (pc := 11) (v := (-1)) dX0_all_11 (by decide) ?_
    refine z_goto (pc := 12) 26 dX0_all_12 rfl ?_
    exact z_iret rfl dX0_all_26 rfl
abbrev mX0_watchedBy : zMr := ("HiddenCube", cX0_watchedBy, 4, (some .int), 3, 0, 0, none)
def LB_X0_watchedBy_1 (a1 : Int32) (rec2 : Int32 → Int32 → zSt → Option (Int32 × zSt)) (x3 : Int32) (x4 : Int32) (S5 : zSt) : Option (Int32 × zSt) :=
if (S5.1 1 0) ≤ x4 then (some (x3, S5)) else (zbind (F_X1_isOpen 1 a1 x4 S5) (fun r7 S6 =>
if r7 = 0 then (rec2 x3 (x4 + 1) S6) else (zlet (x3 ||| ((1 : Int32) <<< ((a1 ^^^ ((1 : Int32) <<< (x4 &&& 31))) &&& 31)) : Int32) (fun w8 : Int32 =>
rec2 w8 (x4 + 1) S6))))
def F_X0_watchedBy (a1 : Int32) (S : zSt) : Option (Int32 × zSt) :=
zlet ((1 : Int32) <<< (a1 &&& 31) : Int32) (fun w1 : Int32 =>
loopK (fun _ _ _ => none) (LB_X0_watchedBy_1 a1) zfuel w1 0 S)
theorem mv_X0_watchedBy : ZV mX0_watchedBy yX0_watchedBy 1 := ⟨q1048, qs55, q150, q1049, rfl, by decide, by decide, by decide +kernel⟩
theorem ct_X0_watchedBy {G : zGw} (hG : zGC G) (a1 : Int32) : Zc mX0_watchedBy yX0_watchedBy zJI G [.ref (G.1 0), .int a1] (F_X0_watchedBy a1) := by
  refine Zc_of [some (.ref (G.1 0)), some (.int a1), none, none] (by decide) rfl rfl (Nat.le_of_ble_eq_true rfl) rfl (fun X S res => ?_)
  unfold F_X0_watchedBy
  refine z_iconst (pc := 0) (v := 1) dX0_watchedBy_0 (by decide) ?_
  refine z_iload_n (pc := 1) 1 dX0_watchedBy_1 rfl rfl ?_
  refine z_ishl (pc := 2) dX0_watchedBy_2 ?_
  refine z_letI (fun w1 => ?_)
  refine z_istore_n (pc := 3) 2 dX0_watchedBy_3 rfl (Nat.le_of_ble_eq_true rfl) rfl ?_
  refine z_iconst (pc := 4) (v := 0) dX0_watchedBy_4 (by decide) ?_
  refine z_istore_n (pc := 5) 3 dX0_watchedBy_5 rfl (Nat.le_of_ble_eq_true rfl) rfl ?_
  refine z_loopK (fun j : Int32 → Int32 → zSt → Option (Int32 × zSt) => ∀ (x3 : Int32) (x4 : Int32) (S5 : zSt), Zm X mX0_watchedBy zJI G (0, 0) res S5 6 [some (.ref (G.1 0)), some (.int a1), some (.int x3), some (.int x4)] [] (j x3 x4 S5)) ?_ ?_ zfuel _ _ _
  · intro x3 x4 S5; exact z_none
  · intro rec2 hrec2 x3 x4 S5
    unfold LB_X0_watchedBy_1
    refine z_iload_n (pc := 6) 3 dX0_watchedBy_6 rfl rfl ?_
    refine z_aload_n (pc := 7) 0 dX0_watchedBy_7 rfl rfl ?_
    refine gf_X0_C_10_0 hG (pc := 8) dX0_watchedBy_8 ?_
    refine gf_X0_C_158_1 hG (pc := 11) dX0_watchedBy_11 ?_
    refine z_icmp_ge (pc := 14) 45 dX0_watchedBy_14 rfl ?_ ?_
    · refine z_iload_n (pc := 45) 2 dX0_watchedBy_45 rfl rfl ?_
      exact z_iret rfl dX0_watchedBy_46 rfl
    · refine z_aload_n (pc := 17) 0 dX0_watchedBy_17 rfl rfl ?_
      refine gf_X0_C_10_0 hG (pc := 18) dX0_watchedBy_18 ?_
      refine z_iload_n (pc := 21) 1 dX0_watchedBy_21 rfl rfl ?_
      refine z_iload_n (pc := 22) 3 dX0_watchedBy_22 rfl rfl ?_
      refine z_callVi (pc := 23) _ _ 1 1 (ct_X1_isOpen (zGC_T hG) _ _) mv_X1_isOpen q728 rfl (zGC_s1 hG) rfl (Nat.le_of_ble_eq_true rfl) (Nat.le_of_ble_eq_true rfl) rfl rfl (Nat.le_of_ble_eq_true rfl) dX0_watchedBy_23 (fun r7 S6 => ?_)
      refine z_if_eq (pc := 26) 39 dX0_watchedBy_26 rfl ?_ ?_
      · refine z_iinc (pc := 39) (w := x4 + 1) dX0_watchedBy_39 rfl (by rw [show Int32.ofInt 1 = 1 from by decide]) (Nat.le_of_ble_eq_true rfl) rfl ?_
        refine z_goto (pc := 42) 6 dX0_watchedBy_42 rfl ?_
        exact hrec2 _ _ _
      · refine z_iload_n (pc := 29) 2 dX0_watchedBy_29 rfl rfl ?_
        refine z_iconst (pc := 30) (v := 1) dX0_watchedBy_30 (by decide) ?_
        refine z_iload_n (pc := 31) 1 dX0_watchedBy_31 rfl rfl ?_
        refine z_iconst (pc := 32) (v := 1) dX0_watchedBy_32 (by decide) ?_
        refine z_iload_n (pc := 33) 3 dX0_watchedBy_33 rfl rfl ?_
        refine z_ishl (pc := 34) dX0_watchedBy_34 ?_
        refine z_ixor (pc := 35) dX0_watchedBy_35 ?_
        refine z_ishl (pc := 36) dX0_watchedBy_36 ?_
        refine z_ior (pc := 37) dX0_watchedBy_37 ?_
        refine z_letI (fun w8 => ?_)
        refine z_istore_n (pc := 38) 2 dX0_watchedBy_38 rfl (Nat.le_of_ble_eq_true rfl) rfl ?_
        refine z_iinc (pc := 39) (w := x4 + 1) dX0_watchedBy_39 rfl (by rw [show Int32.ofInt 1 = 1 from by decide]) (Nat.le_of_ble_eq_true rfl) rfl ?_
        refine z_goto (pc := 42) 6 dX0_watchedBy_42 rfl ?_
        exact hrec2 _ _ _
abbrev mX0_bare : zMr := ("HiddenCube", cX0_bare, 3, (some .int), 4, 0, 0, none)
def LB_X0_bare_1 (k3 : Int32 → zSt → Option (Int32 × zSt)) (rec10 : Int32 → Int32 → zSt → Option (Int32 × zSt)) (x11 : Int32) (x12 : Int32) (S13 : zSt) : Option (Int32 × zSt) :=
zbind (F_X1_squares 1 S13) (fun r15 S14 =>
if r15 ≤ x12 then (k3 x11 S14) else (zbind (F_X0_has (S14.1 1 10) x12 S14) (fun r17 S16 =>
joinK (fun (v19 : Int32) (S20 : zSt) => rec10 (x11 ||| v19) (x12 + 1) S20) (fun j18 : Int32 → zSt → Option (Int32 × zSt) =>
if r17 = 0 then (j18 0 S16) else (zbind (F_X0_watchedBy x12 S16) (fun r22 S21 =>
j18 r22 S21))))))
def F_X0_bare  (S : zSt) : Option (Int32 × zSt) :=
zbind (F_X0_isTown S) (fun r2 S1 =>
if r2 = 0 then (some ((-2), S1)) else (joinK (fun (x4 : Int32) (S5 : zSt) => zbind (F_X0_all S5) (fun r7 S6 =>
zbind (F_J7_bitCount (r7 &&& (x4 ^^^ (-1))) S6) (fun r9 S8 =>
some (r9, S8)))) (fun k3 : Int32 → zSt → Option (Int32 × zSt) =>
loopK (fun _ _ _ => none) (LB_X0_bare_1 k3) zfuel 0 0 S1)))
theorem mv_X0_bare : ZV mX0_bare yX0_bare 0 := ⟨q1043, q1044, q150, q1045, rfl, by decide, by decide, by decide +kernel⟩
theorem ct_X0_bare {G : zGw} (hG : zGC G)  : Zc mX0_bare yX0_bare zJI G [.ref (G.1 0)] (F_X0_bare) := by
  refine Zc_of [some (.ref (G.1 0)), none, none] (by decide) rfl rfl (Nat.le_of_ble_eq_true rfl) rfl (fun X S res => ?_)
  unfold F_X0_bare
  refine z_aload_n (pc := 0) 0 dX0_bare_0 rfl rfl ?_
  refine z_callVi (pc := 1) _ _ 0 0 (ct_X0_isTown hG) mv_X0_isTown q827 rfl (zGC_s0 hG) rfl (Nat.le_of_ble_eq_true rfl) (Nat.le_of_ble_eq_true rfl) rfl rfl (Nat.le_of_ble_eq_true rfl) dX0_bare_1 (fun r2 S1 => ?_)
  refine z_if_ne (pc := 4) 10 dX0_bare_4 rfl ?_ ?_
  · refine z_iconst (pc := 10) (v := 0) dX0_bare_10 (by decide) ?_
    refine z_istore_n (pc := 11) 1 dX0_bare_11 rfl (Nat.le_of_ble_eq_true rfl) rfl ?_
    refine z_iconst (pc := 12) (v := 0) dX0_bare_12 (by decide) ?_
    refine z_istore_n (pc := 13) 2 dX0_bare_13 rfl (Nat.le_of_ble_eq_true rfl) rfl ?_
    refine z_join (fun j : Int32 → zSt → Option (Int32 × zSt) => ∀ (x4 : Int32) (S5 : zSt), Zm X mX0_bare zJI G (0, 0) res S5 57 [some (.ref (G.1 0)), some (.int x4), none] [] (j x4 S5)) ?_ (fun k3 hk3 => ?_)
    · intro x4 S5
      refine z_aload_n (pc := 57) 0 dX0_bare_57 rfl rfl ?_
      refine z_callVi (pc := 58) _ _ 0 0 (ct_X0_all hG) mv_X0_all q1050 rfl (zGC_s0 hG) rfl (Nat.le_of_ble_eq_true rfl) (Nat.le_of_ble_eq_true rfl) rfl rfl (Nat.le_of_ble_eq_true rfl) dX0_bare_58 (fun r7 S6 => ?_)
      refine z_iload_n (pc := 61) 1 dX0_bare_61 rfl rfl ?_
      refine z_iconst (pc := 62) (v := (-1)) dX0_bare_62 (by decide) ?_
      refine z_ixor (pc := 63) dX0_bare_63 ?_
      refine z_iand (pc := 64) dX0_bare_64 ?_
      refine z_callSi (pc := 65) _ _ (ct_J7_bitCount  _) mv_J7_bitCount q749 rfl (Nat.le_of_ble_eq_true rfl) (Nat.le_of_ble_eq_true rfl) rfl rfl (Nat.le_of_ble_eq_true rfl) dX0_bare_65 (fun r9 S8 => ?_)
      exact z_iret rfl dX0_bare_68 rfl
    · refine z_loopK (fun j : Int32 → Int32 → zSt → Option (Int32 × zSt) => ∀ (x11 : Int32) (x12 : Int32) (S13 : zSt), Zm X mX0_bare zJI G (0, 0) res S13 14 [some (.ref (G.1 0)), some (.int x11), some (.int x12)] [] (j x11 x12 S13)) ?_ ?_ zfuel _ _ _
      · intro x11 x12 S13; exact z_none
      · intro rec10 hrec10 x11 x12 S13
        unfold LB_X0_bare_1
        refine z_iload_n (pc := 14) 2 dX0_bare_14 rfl rfl ?_
        refine z_aload_n (pc := 15) 0 dX0_bare_15 rfl rfl ?_
        refine gf_X0_C_10_0 hG (pc := 16) dX0_bare_16 ?_
        refine z_callVi (pc := 19) _ _ 1 1 (ct_X1_squares (zGC_T hG)) mv_X1_squares q727 rfl (zGC_s1 hG) rfl (Nat.le_of_ble_eq_true rfl) (Nat.le_of_ble_eq_true rfl) rfl rfl (Nat.le_of_ble_eq_true rfl) dX0_bare_19 (fun r15 S14 => ?_)
        refine z_icmp_ge (pc := 22) 57 dX0_bare_22 rfl ?_ ?_
        · exact z_mask [true, true, false] (hk3 _ _) rfl
        · refine z_iload_n (pc := 25) 1 dX0_bare_25 rfl rfl ?_
          refine z_aload_n (pc := 26) 0 dX0_bare_26 rfl rfl ?_
          refine gf_X0_C_10_0 hG (pc := 27) dX0_bare_27 ?_
          refine gf_X0_C_368_1 hG (pc := 30) dX0_bare_30 ?_
          refine z_iload_n (pc := 33) 2 dX0_bare_33 rfl rfl ?_
          refine z_callSi (pc := 34) _ _ (ct_X0_has  _ _) mv_X0_has q767 rfl (Nat.le_of_ble_eq_true rfl) (Nat.le_of_ble_eq_true rfl) rfl rfl (Nat.le_of_ble_eq_true rfl) dX0_bare_34 (fun r17 S16 => ?_)
          refine z_join (fun j : Int32 → zSt → Option (Int32 × zSt) => ∀ (v19 : Int32) (S20 : zSt), Zm X mX0_bare zJI G (0, 0) res S20 49 [some (.ref (G.1 0)), none, some (.int x12)] [.int v19, .int x11] (j v19 S20)) ?_ (fun j18 hj18 => ?_)
          · intro v19 S20
            refine z_ior (pc := 49) dX0_bare_49 ?_
            refine z_istore_n (pc := 50) 1 dX0_bare_50 rfl (Nat.le_of_ble_eq_true rfl) rfl ?_
            refine z_iinc (pc := 51) (w := x12 + 1) dX0_bare_51 rfl (by rw [show Int32.ofInt 1 = 1 from by decide]) (Nat.le_of_ble_eq_true rfl) rfl ?_
            refine z_goto (pc := 54) 14 dX0_bare_54 rfl ?_
            exact hrec10 _ _ _
          · refine z_if_eq (pc := 37) 48 dX0_bare_37 rfl ?_ ?_
            · refine z_iconst (pc := 48) (v := 0) dX0_bare_48 (by decide) ?_
              exact z_mask [true, false, true] (hj18 _ _) rfl
            · refine z_aload_n (pc := 40) 0 dX0_bare_40 rfl rfl ?_
              refine z_iload_n (pc := 41) 2 dX0_bare_41 rfl rfl ?_
              refine z_callVi (pc := 42) _ _ 0 0 (ct_X0_watchedBy hG _) mv_X0_watchedBy q1046 rfl (zGC_s0 hG) rfl (Nat.le_of_ble_eq_true rfl) (Nat.le_of_ble_eq_true rfl) rfl rfl (Nat.le_of_ble_eq_true rfl) dX0_bare_42 (fun r22 S21 => ?_)
              refine z_goto (pc := 45) 49 dX0_bare_45 rfl ?_
              exact z_mask [true, false, true] (hj18 _ _) rfl
  · refine z_bipush (pc := 7) (v := (-2)) dX0_bare_7 (by decide) ?_
    exact z_iret rfl dX0_bare_9 rfl
abbrev mX0_warden : zMr := ("HiddenCube", cX0_warden, 4, (some .int), 3, 0, 0, none)
def F_X0_warden (a1 : Int32) (a2 : Int32) (S : zSt) : Option (Int32 × zSt) :=
zbind (F_X0_isSquare ((a1).toInt64) S) (fun r2 S1 =>
if r2 = 0 then (some ((-2), S1)) else (zbind (F_X0_isOneOf a2 2 S1) (fun r4 S3 =>
if r4 = 0 then (some ((-2), S3)) else (zbind (F_X0_has (S3.1 1 10) a1 S3) (fun r6 S5 =>
zlet ((if r6 = 0 then 0 else 1) : Int32) (fun w8 : Int32 =>
zlet (sI S5 1 10 (((S5.1 1 10) &&& (((1 : Int32) <<< (a1 &&& 31)) ^^^ (-1))) ||| (a2 <<< (a1 &&& 31))) : zSt) (fun S9 : zSt =>
some (w8, S9))))))))
theorem mv_X0_warden : ZV mX0_warden yX0_warden 2 := ⟨q1055, q1056, q150, q1057, rfl, by decide, by decide, by decide +kernel⟩
theorem ct_X0_warden {G : zGw} (hG : zGC G) (a1 : Int32) (a2 : Int32) : Zc mX0_warden yX0_warden zJI G [.ref (G.1 0), .int a1, .int a2] (F_X0_warden a1 a2) := by
  refine Zc_of [some (.ref (G.1 0)), some (.int a1), some (.int a2), none] (by decide) rfl rfl (Nat.le_of_ble_eq_true rfl) rfl (fun X S res => ?_)
  unfold F_X0_warden
  refine z_aload_n (pc := 0) 0 dX0_warden_0 rfl rfl ?_
  refine z_iload_n (pc := 1) 1 dX0_warden_1 rfl rfl ?_
  refine z_i2l (pc := 2) dX0_warden_2 ?_
  refine z_callVi (pc := 3) _ _ 0 0 (ct_X0_isSquare hG _) mv_X0_isSquare q723 rfl (zGC_s0 hG) rfl (Nat.le_of_ble_eq_true rfl) (Nat.le_of_ble_eq_true rfl) rfl rfl (Nat.le_of_ble_eq_true rfl) dX0_warden_3 (fun r2 S1 => ?_)
  refine z_if_eq (pc := 6) 17 dX0_warden_6 rfl ?_ ?_
  · refine z_bipush (pc := 17) (v := (-2)) dX0_warden_17 (by decide) ?_
    exact z_iret rfl dX0_warden_19 rfl
  · refine z_iload_n (pc := 9) 2 dX0_warden_9 rfl rfl ?_
    refine z_iconst (pc := 10) (v := 2) dX0_warden_10 (by decide) ?_
    refine z_callSi (pc := 11) _ _ (ct_X0_isOneOf  _ _) mv_X0_isOneOf q737 rfl (Nat.le_of_ble_eq_true rfl) (Nat.le_of_ble_eq_true rfl) rfl rfl (Nat.le_of_ble_eq_true rfl) dX0_warden_11 (fun r4 S3 => ?_)
    refine z_if_ne (pc := 14) 20 dX0_warden_14 rfl ?_ ?_
    · refine z_aload_n (pc := 20) 0 dX0_warden_20 rfl rfl ?_
      refine gf_X0_C_10_0 hG (pc := 21) dX0_warden_21 ?_
      refine gf_X0_C_368_1 hG (pc := 24) dX0_warden_24 ?_
      refine z_iload_n (pc := 27) 1 dX0_warden_27 rfl rfl ?_
      refine z_callSi (pc := 28) _ _ (ct_X0_has  _ _) mv_X0_has q767 rfl (Nat.le_of_ble_eq_true rfl) (Nat.le_of_ble_eq_true rfl) rfl rfl (Nat.le_of_ble_eq_true rfl) dX0_warden_28 (fun r6 S5 => ?_)
      refine z_pure (st0 := []) 39 ((if r6 = 0 then 0 else 1)) ?_ (fun hJ => ?_)
      · refine z_letI (fun w8 => ?_)
        refine z_istore_n (pc := 39) 3 dX0_warden_39 rfl (Nat.le_of_ble_eq_true rfl) rfl ?_
        refine z_aload_n (pc := 40) 0 dX0_warden_40 rfl rfl ?_
        refine gf_X0_C_10_0 hG (pc := 41) dX0_warden_41 ?_
        refine z_aload_n (pc := 44) 0 dX0_warden_44 rfl rfl ?_
        refine gf_X0_C_10_0 hG (pc := 45) dX0_warden_45 ?_
        refine gf_X0_C_368_1 hG (pc := 48) dX0_warden_48 ?_
        refine z_iconst (pc := 51) (v := 1) dX0_warden_51 (by decide) ?_
        refine z_iload_n (pc := 52) 1 dX0_warden_52 rfl rfl ?_
        refine z_ishl (pc := 53) dX0_warden_53 ?_
        refine z_iconst (pc := 54) (v := (-1)) dX0_warden_54 (by decide) ?_
        refine z_ixor (pc := 55) dX0_warden_55 ?_
        refine z_iand (pc := 56) dX0_warden_56 ?_
        refine z_iload_n (pc := 57) 2 dX0_warden_57 rfl rfl ?_
        refine z_iload_n (pc := 58) 1 dX0_warden_58 rfl rfl ?_
        refine z_ishl (pc := 59) dX0_warden_59 ?_
        refine z_ior (pc := 60) dX0_warden_60 ?_
        refine pf_X0_C_368_1 hG (pc := 61) dX0_warden_61 ?_
        refine z_letS (fun S9 => ?_)
        refine z_iload_n (pc := 64) 3 dX0_warden_64 rfl rfl ?_
        exact z_iret rfl dX0_warden_65 rfl
      · refine z_ifd_eq (pc := 31) 38 dX0_warden_31 rfl (fun c10 => ?_) (fun c10 => ?_)
        · refine z_iconst (pc := 38) (v := 0) dX0_warden_38 (by decide) ?_
          exact z_leaf hJ (by simp only [if_pos c10])
        · refine z_iconst (pc := 34) (v := 1) dX0_warden_34 (by decide) ?_
          refine z_goto (pc := 35) 39 dX0_warden_35 rfl ?_
          exact z_leaf hJ (by simp only [if_neg c10])
    · refine z_bipush (pc := 17) (v := (-2)) dX0_warden_17 (by decide) ?_
      exact z_iret rfl dX0_warden_19 rfl
abbrev mX0_sets : zMr := ("HiddenCube", cX0_sets, 1, (some .int), 2, 0, 0, none)
def F_X0_sets  (S : zSt) : Option (Int32 × zSt) :=
zbind (F_X1_squares 1 S) (fun r2 S1 =>
some ((1 : Int32) <<< (r2 &&& 31), S1))
theorem mv_X0_sets : ZV mX0_sets yX0_sets 0 := ⟨q1072, qs59, q150, q1073, rfl, by decide, by decide, by decide +kernel⟩
theorem ct_X0_sets {G : zGw} (hG : zGC G)  : Zc mX0_sets yX0_sets zJI G [.ref (G.1 0)] (F_X0_sets) := by
  refine Zc_of [some (.ref (G.1 0))] (by decide) rfl rfl (Nat.le_of_ble_eq_true rfl) rfl (fun X S res => ?_)
  unfold F_X0_sets
  refine z_iconst (pc := 0) (v := 1) dX0_sets_0 (by decide) ?_
  refine z_aload_n (pc := 1) 0 dX0_sets_1 rfl rfl ?_
  refine gf_X0_C_10_0 hG (pc := 2) dX0_sets_2 ?_
  refine z_callVi (pc := 5) _ _ 1 1 (ct_X1_squares (zGC_T hG)) mv_X1_squares q727 rfl (zGC_s1 hG) rfl (Nat.le_of_ble_eq_true rfl) (Nat.le_of_ble_eq_true rfl) rfl rfl (Nat.le_of_ble_eq_true rfl) dX0_sets_5 (fun r2 S1 => ?_)
  refine z_ishl (pc := 8) dX0_sets_8 ?_
  exact z_iret rfl dX0_sets_9 rfl
abbrev mX0_fillsWatched : zMr := ("HiddenCube", cX0_fillsWatched, 2, none, 4, 0, 0, none)
def LB_X0_fillsWatched_1 (rec3 : Int32 → zSt → Option (Unit × zSt)) (x4 : Int32) (S5 : zSt) : Option (Unit × zSt) :=
zbind (F_X0_sets S5) (fun r7 S6 =>
if r7 ≤ x4 then (some ((), S6)) else (zlet (x4 &&& (x4 - 1) : Int32) (fun w8 : Int32 =>
chk w8 65536 (zbind (F_J7_numberOfTrailingZeros x4 S6) (fun r11 S10 =>
zbind (F_X0_watchedBy r11 S10) (fun r13 S12 =>
chk x4 65536 (zlet (sI S12 26 (x4).toNatClampNeg ((S6.1 26 (w8).toNatClampNeg) ||| r13) : zSt) (fun S15 : zSt =>
rec3 (x4 + 1) S15))))))))
def F_X0_fillsWatched  (S : zSt) : Option (Unit × zSt) :=
chk 0 65536 (zlet (sI S 26 (0 : Int32).toNatClampNeg 0 : zSt) (fun S2 : zSt =>
loopK (fun _ _ => none) (LB_X0_fillsWatched_1) zfuel 1 S2))
theorem mv_X0_fillsWatched : ZV mX0_fillsWatched yX0_fillsWatched 0 := ⟨q1068, qs58, q150, q1069, rfl, by decide, by decide, by decide +kernel⟩
theorem ct_X0_fillsWatched {G : zGw} (hG : zGC G)  : Zc mX0_fillsWatched yX0_fillsWatched zJV G [.ref (G.1 0)] (F_X0_fillsWatched) := by
  refine Zc_of [some (.ref (G.1 0)), none] (by decide) rfl rfl (Nat.le_of_ble_eq_true rfl) rfl (fun X S res => ?_)
  unfold F_X0_fillsWatched
  refine z_aload_n (pc := 0) 0 dX0_fillsWatched_0 rfl rfl ?_
  refine gf_X0_C_81_0 hG (pc := 1) dX0_fillsWatched_1 ?_
  refine z_iconst (pc := 4) (v := 0) dX0_fillsWatched_4 (by decide) ?_
  refine z_iconst (pc := 5) (v := 0) dX0_fillsWatched_5 (by decide) ?_
  refine z_chk (fun h1 => ?_)
  refine z_iastore (pc := 6) 26 65536 (zGC_s26 hG) h1 dX0_fillsWatched_6 ?_
  refine z_letS (fun S2 => ?_)
  refine z_iconst (pc := 7) (v := 1) dX0_fillsWatched_7 (by decide) ?_
  refine z_istore_n (pc := 8) 1 dX0_fillsWatched_8 rfl (Nat.le_of_ble_eq_true rfl) rfl ?_
  refine z_loopK (fun j : Int32 → zSt → Option (Unit × zSt) => ∀ (x4 : Int32) (S5 : zSt), Zm X mX0_fillsWatched zJV G (0, 0) res S5 9 [some (.ref (G.1 0)), some (.int x4)] [] (j x4 S5)) ?_ ?_ zfuel _ _
  · intro x4 S5; exact z_none
  · intro rec3 hrec3 x4 S5
    unfold LB_X0_fillsWatched_1
    refine z_iload_n (pc := 9) 1 dX0_fillsWatched_9 rfl rfl ?_
    refine z_aload_n (pc := 10) 0 dX0_fillsWatched_10 rfl rfl ?_
    refine z_callVi (pc := 11) _ _ 0 0 (ct_X0_sets hG) mv_X0_sets q1070 rfl (zGC_s0 hG) rfl (Nat.le_of_ble_eq_true rfl) (Nat.le_of_ble_eq_true rfl) rfl rfl (Nat.le_of_ble_eq_true rfl) dX0_fillsWatched_11 (fun r7 S6 => ?_)
    refine z_icmp_ge (pc := 14) 48 dX0_fillsWatched_14 rfl ?_ ?_
    · exact z_vret rfl dX0_fillsWatched_48 rfl
    · refine z_aload_n (pc := 17) 0 dX0_fillsWatched_17 rfl rfl ?_
      refine gf_X0_C_81_0 hG (pc := 18) dX0_fillsWatched_18 ?_
      refine z_iload_n (pc := 21) 1 dX0_fillsWatched_21 rfl rfl ?_
      refine z_aload_n (pc := 22) 0 dX0_fillsWatched_22 rfl rfl ?_
      refine gf_X0_C_81_0 hG (pc := 23) dX0_fillsWatched_23 ?_
      refine z_iload_n (pc := 26) 1 dX0_fillsWatched_26 rfl rfl ?_
      refine z_iload_n (pc := 27) 1 dX0_fillsWatched_27 rfl rfl ?_
      refine z_iconst (pc := 28) (v := 1) dX0_fillsWatched_28 (by decide) ?_
      refine z_isub (pc := 29) dX0_fillsWatched_29 ?_
      refine z_iand (pc := 30) dX0_fillsWatched_30 ?_
      refine z_letI (fun w8 => ?_)
      refine z_chk (fun h9 => ?_)
      refine z_iaload (pc := 31) 26 65536 (zGC_s26 hG) h9 dX0_fillsWatched_31 ?_
      refine z_aload_n (pc := 32) 0 dX0_fillsWatched_32 rfl rfl ?_
      refine z_iload_n (pc := 33) 1 dX0_fillsWatched_33 rfl rfl ?_
      refine z_callSi (pc := 34) _ _ (ct_J7_numberOfTrailingZeros  _) mv_J7_numberOfTrailingZeros q815 rfl (Nat.le_of_ble_eq_true rfl) (Nat.le_of_ble_eq_true rfl) rfl rfl (Nat.le_of_ble_eq_true rfl) dX0_fillsWatched_34 (fun r11 S10 => ?_)
      refine z_callVi (pc := 37) _ _ 0 0 (ct_X0_watchedBy hG _) mv_X0_watchedBy q1046 rfl (zGC_s0 hG) rfl (Nat.le_of_ble_eq_true rfl) (Nat.le_of_ble_eq_true rfl) rfl rfl (Nat.le_of_ble_eq_true rfl) dX0_fillsWatched_37 (fun r13 S12 => ?_)
      refine z_ior (pc := 40) dX0_fillsWatched_40 ?_
      refine z_chk (fun h14 => ?_)
      refine z_iastore (pc := 41) 26 65536 (zGC_s26 hG) h14 dX0_fillsWatched_41 ?_
      refine z_letS (fun S15 => ?_)
      refine z_iinc (pc := 42) (w := x4 + 1) dX0_fillsWatched_42 rfl (by rw [show Int32.ofInt 1 = 1 from by decide]) (Nat.le_of_ble_eq_true rfl) rfl ?_
      refine z_goto (pc := 45) 9 dX0_fillsWatched_45 rfl ?_
      exact hrec3 _ _
abbrev mX0_asksWardens : zMr := ("HiddenCube", cX0_asksWardens, 2, (some .int), 5, 0, 0, none)
def F_X0_asksWardens (a1 : Int32) (S : zSt) : Option (Int32 × zSt) :=
zbind (F_X0_isTown S) (fun r2 S1 =>
if r2 = 0 then (some ((-2), S1)) else (if a1 = 0 then (some ((-2), S1)) else (if (S1.1 1 0) = 5 then (some ((-9), S1)) else (zbind (F_X0_fillsWatched S1) (fun _ S3 =>
some (0, S3))))))
theorem mv_X0_asksWardens : ZV mX0_asksWardens yX0_asksWardens 1 := ⟨q1064, qs57, q150, q1065, rfl, by decide, by decide, by decide +kernel⟩
theorem ct_X0_asksWardens {G : zGw} (hG : zGC G) (a1 : Int32) : Zc mX0_asksWardens yX0_asksWardens zJI G [.ref (G.1 0), .int a1] (F_X0_asksWardens a1) := by
  refine Zc_of [some (.ref (G.1 0)), some (.int a1)] (by decide) rfl rfl (Nat.le_of_ble_eq_true rfl) rfl (fun X S res => ?_)
  unfold F_X0_asksWardens
  refine z_aload_n (pc := 0) 0 dX0_asksWardens_0 rfl rfl ?_
  refine z_callVi (pc := 1) _ _ 0 0 (ct_X0_isTown hG) mv_X0_isTown q827 rfl (zGC_s0 hG) rfl (Nat.le_of_ble_eq_true rfl) (Nat.le_of_ble_eq_true rfl) rfl rfl (Nat.le_of_ble_eq_true rfl) dX0_asksWardens_1 (fun r2 S1 => ?_)
  refine z_if_eq (pc := 4) 11 dX0_asksWardens_4 rfl ?_ ?_
  · refine z_bipush (pc := 11) (v := (-2)) dX0_asksWardens_11 (by decide) ?_
    exact z_iret rfl dX0_asksWardens_13 rfl
  · refine z_iload_n (pc := 7) 1 dX0_asksWardens_7 rfl rfl ?_
    refine z_if_ne (pc := 8) 14 dX0_asksWardens_8 rfl ?_ ?_
    · refine z_aload_n (pc := 14) 0 dX0_asksWardens_14 rfl rfl ?_
      refine gf_X0_C_10_0 hG (pc := 15) dX0_asksWardens_15 ?_
      refine gf_X0_C_158_1 hG (pc := 18) dX0_asksWardens_18 ?_
      refine z_iconst (pc := 21) (v := 5) dX0_asksWardens_21 (by decide) ?_
      refine z_icmp_ne (pc := 22) 28 dX0_asksWardens_22 rfl ?_ ?_
      · refine z_aload_n (pc := 28) 0 dX0_asksWardens_28 rfl rfl ?_
        refine z_callVv (pc := 29) _ _ 0 0 (ct_X0_fillsWatched hG) mv_X0_fillsWatched q1066 rfl (zGC_s0 hG) rfl (Nat.le_of_ble_eq_true rfl) (Nat.le_of_ble_eq_true rfl) rfl rfl (Nat.le_of_ble_eq_true rfl) dX0_asksWardens_29 (fun _ S3 => ?_)
        refine z_iconst (pc := 32) (v := 0) dX0_asksWardens_32 (by decide) ?_
        exact z_iret rfl dX0_asksWardens_33 rfl
      · refine z_bipush (pc := 25) (v := (-9)) dX0_asksWardens_25 (by decide) ?_
        exact z_iret rfl dX0_asksWardens_27 rfl
    · refine z_bipush (pc := 11) (v := (-2)) dX0_asksWardens_11 (by decide) ?_
      exact z_iret rfl dX0_asksWardens_13 rfl
