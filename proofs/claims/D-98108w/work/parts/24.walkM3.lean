/-! WALKS (written by gen/mkparts.py) -/
set_option maxRecDepth 100000
abbrev mX5_laysSquares : zMr := ("HiddenCubeModel", cX5_laysSquares, 5, none, 3, 0, 0, none)
def LB_X5_laysSquares_1 (x4 : Int32) (rec3 : Int32 → zSt → Option (Unit × zSt)) (rec12 : Int32 → zSt → Option (Unit × zSt)) (x13 : Int32) (S14 : zSt) : Option (Unit × zSt) :=
chk 0 15 (if (S14.1 18 (0 : Int32).toNatClampNeg) ≤ x13 then (rec3 (x4 + 1) S14) else (zbind (F_X5_isOpen x4 x13 S14) (fun r17 S16 =>
if r17 = 0 then (rec12 (x13 + 1) S16) else (zlet ((64 * (x4 + 32)) + (x4 ^^^ ((1 : Int32) <<< (x13 &&& 31))) : Int32) (fun w18 : Int32 =>
chk w18 4096 (zlet (sI S16 29 (w18).toNatClampNeg 1 : zSt) (fun S20 : zSt =>
rec12 (x13 + 1) S20)))))))
def LB_X5_laysSquares_2 (a1 : Int32) (a2 : Int32) (rec3 : Int32 → zSt → Option (Unit × zSt)) (x4 : Int32) (S5 : zSt) : Option (Unit × zSt) :=
zbind (F_X5_squares S5) (fun r7 S6 =>
if r7 ≤ x4 then (some ((), S6)) else (zlet (((64 * x4) + x4) + 32 : Int32) (fun w9 : Int32 =>
chk w9 4096 (zlet (sI S6 29 (w9).toNatClampNeg (if x4 = a1 then 5 else (if x4 = a2 then 5 else 1)) : zSt) (fun S11 : zSt =>
loopK (fun _ _ => none) (LB_X5_laysSquares_1 x4 rec3) zfuel 0 S11)))))
def LB_X5_laysSquares_3 (k1 : zSt → Option (Unit × zSt)) (rec23 : Int32 → zSt → Option (Unit × zSt)) (x24 : Int32) (S25 : zSt) : Option (Unit × zSt) :=
if 4096 ≤ x24 then (k1 S25) else (chk x24 4096 (zlet (sI S25 29 (x24).toNatClampNeg 0 : zSt) (fun S27 : zSt =>
rec23 (x24 + 1) S27)))
def F_X5_laysSquares (a1 : Int32) (a2 : Int32) (S : zSt) : Option (Unit × zSt) :=
joinK (fun  (S2 : zSt) => loopK (fun _ _ => none) (LB_X5_laysSquares_2 a1 a2) zfuel 0 S2) (fun k1 : zSt → Option (Unit × zSt) =>
loopK (fun _ _ => none) (LB_X5_laysSquares_3 k1) zfuel 0 S)
theorem mv_X5_laysSquares : ZV mX5_laysSquares yX5_laysSquares 2 := ⟨q1833, qs113, q155, q1834, rfl, by decide, by decide, by decide +kernel⟩
theorem ct_X5_laysSquares {G : zGw} (hG : zGM G) (a1 : Int32) (a2 : Int32) : Zc mX5_laysSquares yX5_laysSquares zJV G [.ref (G.1 0), .int a1, .int a2] (F_X5_laysSquares a1 a2) := by
  refine Zc_of [some (.ref (G.1 0)), some (.int a1), some (.int a2), none, none] (by decide) rfl rfl (Nat.le_of_ble_eq_true rfl) rfl (fun X S res => ?_)
  unfold F_X5_laysSquares
  refine z_iconst (pc := 0) (v := 0) dX5_laysSquares_0 (by decide) ?_
  refine z_istore_n (pc := 1) 3 dX5_laysSquares_1 rfl (Nat.le_of_ble_eq_true rfl) rfl ?_
  refine z_join (fun j : zSt → Option (Unit × zSt) => ∀  (S2 : zSt), Zm X mX5_laysSquares zJV G (0, 0) res S2 22 [some (.ref (G.1 0)), some (.int a1), some (.int a2), none, none] [] (j S2)) ?_ (fun k1 hk1 => ?_)
  · intro S2
    refine z_iconst (pc := 22) (v := 0) dX5_laysSquares_22 (by decide) ?_
    refine z_istore_n (pc := 23) 3 dX5_laysSquares_23 rfl (Nat.le_of_ble_eq_true rfl) rfl ?_
    refine z_loopK (fun j : Int32 → zSt → Option (Unit × zSt) => ∀ (x4 : Int32) (S5 : zSt), Zm X mX5_laysSquares zJV G (0, 0) res S5 24 [some (.ref (G.1 0)), some (.int a1), some (.int a2), some (.int x4), none] [] (j x4 S5)) ?_ ?_ zfuel _ _
    · intro x4 S5; exact z_none
    · intro rec3 hrec3 x4 S5
      unfold LB_X5_laysSquares_2
      refine z_iload_n (pc := 24) 3 dX5_laysSquares_24 rfl rfl ?_
      refine z_aload_n (pc := 25) 0 dX5_laysSquares_25 rfl rfl ?_
      refine z_callVi (pc := 26) _ _ 0 5 (ct_X5_squares hG) mv_X5_squares q1725 rfl (zGM_s0 hG) rfl (Nat.le_of_ble_eq_true rfl) (Nat.le_of_ble_eq_true rfl) rfl rfl (Nat.le_of_ble_eq_true rfl) dX5_laysSquares_26 (fun r7 S6 => ?_)
      refine z_icmp_ge (pc := 29) 117 dX5_laysSquares_29 rfl ?_ ?_
      · exact z_vret rfl dX5_laysSquares_117 rfl
      · refine z_aload_n (pc := 32) 0 dX5_laysSquares_32 rfl rfl ?_
        refine gf_X5_M_68_0 hG (pc := 33) dX5_laysSquares_33 ?_
        refine z_bipush (pc := 36) (v := 64) dX5_laysSquares_36 (by decide) ?_
        refine z_iload_n (pc := 38) 3 dX5_laysSquares_38 rfl rfl ?_
        refine z_imul (pc := 39) dX5_laysSquares_39 ?_
        refine z_iload_n (pc := 40) 3 dX5_laysSquares_40 rfl rfl ?_
        refine z_iadd (pc := 41) dX5_laysSquares_41 ?_
        refine z_bipush (pc := 42) (v := 32) dX5_laysSquares_42 (by decide) ?_
        refine z_iadd (pc := 44) dX5_laysSquares_44 ?_
        refine z_iload_n (pc := 45) 3 dX5_laysSquares_45 rfl rfl ?_
        refine z_iload_n (pc := 46) 1 dX5_laysSquares_46 rfl rfl ?_
        refine z_pure (st0 := [.int (((64 * x4) + x4) + 32), .ref (G.1 29)]) 60 ((if x4 = a1 then 5 else (if x4 = a2 then 5 else 1))) ?_ (fun hJ => ?_)
        · refine z_letI2 (fun w9 => ?_)
          refine z_chk (fun h10 => ?_)
          refine z_iastore (pc := 60) 29 4096 (zGM_s29 hG) h10 dX5_laysSquares_60 ?_
          refine z_letS (fun S11 => ?_)
          refine z_iconst (pc := 61) (v := 0) dX5_laysSquares_61 (by decide) ?_
          refine z_istore (pc := 62) dX5_laysSquares_62 (Nat.le_of_ble_eq_true rfl) rfl ?_
          refine z_loopK (fun j : Int32 → zSt → Option (Unit × zSt) => ∀ (x13 : Int32) (S14 : zSt), Zm X mX5_laysSquares zJV G (0, 0) res S14 64 [some (.ref (G.1 0)), some (.int a1), some (.int a2), some (.int x4), some (.int x13)] [] (j x13 S14)) ?_ ?_ zfuel _ _
          · intro x13 S14; exact z_none
          · intro rec12 hrec12 x13 S14
            unfold LB_X5_laysSquares_1
            refine z_iload (pc := 64) dX5_laysSquares_64 rfl ?_
            refine z_aload_n (pc := 66) 0 dX5_laysSquares_66 rfl rfl ?_
            refine gf_X5_M_34_0 hG (pc := 67) dX5_laysSquares_67 ?_
            refine z_iconst (pc := 70) (v := 0) dX5_laysSquares_70 (by decide) ?_
            refine z_chk (fun h15 => ?_)
            refine z_iaload (pc := 71) 18 15 (zGM_s18 hG) h15 dX5_laysSquares_71 ?_
            refine z_icmp_ge (pc := 72) 111 dX5_laysSquares_72 rfl ?_ ?_
            · refine z_iinc (pc := 111) (w := x4 + 1) dX5_laysSquares_111 rfl (by rw [show Int32.ofInt 1 = 1 from by decide]) (Nat.le_of_ble_eq_true rfl) rfl ?_
              refine z_goto (pc := 114) 24 dX5_laysSquares_114 rfl ?_
              exact z_mask [true, true, true, true, false] (hrec3 _ _) rfl
            · refine z_aload_n (pc := 75) 0 dX5_laysSquares_75 rfl rfl ?_
              refine z_iload_n (pc := 76) 3 dX5_laysSquares_76 rfl rfl ?_
              refine z_iload (pc := 77) dX5_laysSquares_77 rfl ?_
              refine z_callVi (pc := 79) _ _ 0 5 (ct_X5_isOpen hG _ _) mv_X5_isOpen q1733 rfl (zGM_s0 hG) rfl (Nat.le_of_ble_eq_true rfl) (Nat.le_of_ble_eq_true rfl) rfl rfl (Nat.le_of_ble_eq_true rfl) dX5_laysSquares_79 (fun r17 S16 => ?_)
              refine z_if_eq (pc := 82) 105 dX5_laysSquares_82 rfl ?_ ?_
              · refine z_iinc (pc := 105) (w := x13 + 1) dX5_laysSquares_105 rfl (by rw [show Int32.ofInt 1 = 1 from by decide]) (Nat.le_of_ble_eq_true rfl) rfl ?_
                refine z_goto (pc := 108) 64 dX5_laysSquares_108 rfl ?_
                exact hrec12 _ _
              · refine z_aload_n (pc := 85) 0 dX5_laysSquares_85 rfl rfl ?_
                refine gf_X5_M_68_0 hG (pc := 86) dX5_laysSquares_86 ?_
                refine z_bipush (pc := 89) (v := 64) dX5_laysSquares_89 (by decide) ?_
                refine z_iload_n (pc := 91) 3 dX5_laysSquares_91 rfl rfl ?_
                refine z_bipush (pc := 92) (v := 32) dX5_laysSquares_92 (by decide) ?_
                refine z_iadd (pc := 94) dX5_laysSquares_94 ?_
                refine z_imul (pc := 95) dX5_laysSquares_95 ?_
                refine z_iload_n (pc := 96) 3 dX5_laysSquares_96 rfl rfl ?_
                refine z_iconst (pc := 97) (v := 1) dX5_laysSquares_97 (by decide) ?_
                refine z_iload (pc := 98) dX5_laysSquares_98 rfl ?_
                refine z_ishl (pc := 100) dX5_laysSquares_100 ?_
                refine z_ixor (pc := 101) dX5_laysSquares_101 ?_
                refine z_iadd (pc := 102) dX5_laysSquares_102 ?_
                refine z_iconst (pc := 103) (v := 1) dX5_laysSquares_103 (by decide) ?_
                refine z_letI2 (fun w18 => ?_)
                refine z_chk (fun h19 => ?_)
                refine z_iastore (pc := 104) 29 4096 (zGM_s29 hG) h19 dX5_laysSquares_104 ?_
                refine z_letS (fun S20 => ?_)
                refine z_iinc (pc := 105) (w := x13 + 1) dX5_laysSquares_105 rfl (by rw [show Int32.ofInt 1 = 1 from by decide]) (Nat.le_of_ble_eq_true rfl) rfl ?_
                refine z_goto (pc := 108) 64 dX5_laysSquares_108 rfl ?_
                exact hrec12 _ _
        · refine z_icmpd_eq (pc := 47) 55 dX5_laysSquares_47 rfl (fun c21 => ?_) (fun c21 => ?_)
          · refine z_iconst (pc := 55) (v := 5) dX5_laysSquares_55 (by decide) ?_
            refine z_goto (pc := 56) 60 dX5_laysSquares_56 rfl ?_
            exact z_leaf hJ (by simp only [if_pos c21])
          · refine z_iload_n (pc := 50) 3 dX5_laysSquares_50 rfl rfl ?_
            refine z_iload_n (pc := 51) 2 dX5_laysSquares_51 rfl rfl ?_
            refine z_icmpd_ne (pc := 52) 59 dX5_laysSquares_52 rfl (fun c22 => ?_) (fun c22 => ?_)
            · refine z_iconst (pc := 59) (v := 1) dX5_laysSquares_59 (by decide) ?_
              exact z_leaf hJ (by simp only [if_neg c21, if_neg c22])
            · refine z_iconst (pc := 55) (v := 5) dX5_laysSquares_55 (by decide) ?_
              refine z_goto (pc := 56) 60 dX5_laysSquares_56 rfl ?_
              exact z_leaf hJ (by simp only [if_neg c21, if_pos c22])
  · refine z_loopK (fun j : Int32 → zSt → Option (Unit × zSt) => ∀ (x24 : Int32) (S25 : zSt), Zm X mX5_laysSquares zJV G (0, 0) res S25 2 [some (.ref (G.1 0)), some (.int a1), some (.int a2), some (.int x24), none] [] (j x24 S25)) ?_ ?_ zfuel _ _
    · intro x24 S25; exact z_none
    · intro rec23 hrec23 x24 S25
      unfold LB_X5_laysSquares_3
      refine z_iload_n (pc := 2) 3 dX5_laysSquares_2 rfl rfl ?_
      refine z_sipush (pc := 3) (v := 4096) dX5_laysSquares_3 (by decide) ?_
      refine z_icmp_ge (pc := 6) 22 dX5_laysSquares_6 rfl ?_ ?_
      · exact z_mask [true, true, true, false, false] (hk1 _) rfl
      · refine z_aload_n (pc := 9) 0 dX5_laysSquares_9 rfl rfl ?_
        refine gf_X5_M_68_0 hG (pc := 10) dX5_laysSquares_10 ?_
        refine z_iload_n (pc := 13) 3 dX5_laysSquares_13 rfl rfl ?_
        refine z_iconst (pc := 14) (v := 0) dX5_laysSquares_14 (by decide) ?_
        refine z_chk (fun h26 => ?_)
        refine z_iastore (pc := 15) 29 4096 (zGM_s29 hG) h26 dX5_laysSquares_15 ?_
        refine z_letS (fun S27 => ?_)
        refine z_iinc (pc := 16) (w := x24 + 1) dX5_laysSquares_16 rfl (by rw [show Int32.ofInt 1 = 1 from by decide]) (Nat.le_of_ble_eq_true rfl) rfl ?_
        refine z_goto (pc := 19) 2 dX5_laysSquares_19 rfl ?_
        exact hrec23 _ _
abbrev mX5_throughSquares : zMr := ("HiddenCubeModel", cX5_throughSquares, 3, (some .int), 4, 0, 0, none)
def F_X5_throughSquares (a1 : Int32) (a2 : Int32) (S : zSt) : Option (Int32 × zSt) :=
zbind (F_X5_laysSquares a1 a2 S) (fun _ S1 =>
zbind (F_X5_flows a1 (a2 + 32) S1) (fun r3 S2 =>
some (r3, S2)))
theorem mv_X5_throughSquares : ZV mX5_throughSquares yX5_throughSquares 2 := ⟨q1829, qs112, q155, q1830, rfl, by decide, by decide, by decide +kernel⟩
theorem ct_X5_throughSquares {G : zGw} (hG : zGM G) (a1 : Int32) (a2 : Int32) : Zc mX5_throughSquares yX5_throughSquares zJI G [.ref (G.1 0), .int a1, .int a2] (F_X5_throughSquares a1 a2) := by
  refine Zc_of [some (.ref (G.1 0)), some (.int a1), some (.int a2)] (by decide) rfl rfl (Nat.le_of_ble_eq_true rfl) rfl (fun X S res => ?_)
  unfold F_X5_throughSquares
  refine z_aload_n (pc := 0) 0 dX5_throughSquares_0 rfl rfl ?_
  refine z_iload_n (pc := 1) 1 dX5_throughSquares_1 rfl rfl ?_
  refine z_iload_n (pc := 2) 2 dX5_throughSquares_2 rfl rfl ?_
  refine z_callVv (pc := 3) _ _ 0 5 (ct_X5_laysSquares hG _ _) mv_X5_laysSquares q1831 rfl (zGM_s0 hG) rfl (Nat.le_of_ble_eq_true rfl) (Nat.le_of_ble_eq_true rfl) rfl rfl (Nat.le_of_ble_eq_true rfl) dX5_throughSquares_3 (fun _ S1 => ?_)
  refine z_aload_n (pc := 6) 0 dX5_throughSquares_6 rfl rfl ?_
  refine z_iload_n (pc := 7) 1 dX5_throughSquares_7 rfl rfl ?_
  refine z_iload_n (pc := 8) 2 dX5_throughSquares_8 rfl rfl ?_
  refine z_bipush (pc := 9) (v := 32) dX5_throughSquares_9 (by decide) ?_
  refine z_iadd (pc := 11) dX5_throughSquares_11 ?_
  refine z_callVi (pc := 12) _ _ 0 5 (ct_X5_flows hG _ _) mv_X5_flows q1835 rfl (zGM_s0 hG) rfl (Nat.le_of_ble_eq_true rfl) (Nat.le_of_ble_eq_true rfl) rfl rfl (Nat.le_of_ble_eq_true rfl) dX5_throughSquares_12 (fun r3 S2 => ?_)
  exact z_iret rfl dX5_throughSquares_15 rfl
abbrev mX5_apartWays : zMr := ("HiddenCubeModel", cX5_apartWays, 4, (some .int), 5, 0, 0, none)
def F_X5_apartWays (a1 : Int32) (a2 : Int32) (a3 : Int32) (S : zSt) : Option (Int32 × zSt) :=
zlet (sI S 0 0 0 : zSt) (fun S1 : zSt =>
zbind (F_X5_areTwo a1 a2 S1) (fun r3 S2 =>
if r3 = 0 then (some ((-2), S2)) else (zbind (F_X5_in ((a3).toInt64) 0 1 S2) (fun r5 S4 =>
if r5 = 0 then (some ((-2), S4)) else (if a3 = 1 then (zbind (F_X5_throughSquares a1 a2 S4) (fun r10 S9 =>
some (r10, S9))) else (zbind (F_X5_laysStreets S4) (fun _ S6 =>
zbind (F_X5_flows a1 a2 S6) (fun r8 S7 =>
some (r8, S7)))))))))
theorem mv_X5_apartWays : ZV mX5_apartWays yX5_apartWays 3 := ⟨q1820, q1821, q155, q1822, rfl, by decide, by decide, by decide +kernel⟩
theorem ct_X5_apartWays {G : zGw} (hG : zGM G) (a1 : Int32) (a2 : Int32) (a3 : Int32) : Zc mX5_apartWays yX5_apartWays zJI G [.ref (G.1 0), .int a1, .int a2, .int a3] (F_X5_apartWays a1 a2 a3) := by
  refine Zc_of [some (.ref (G.1 0)), some (.int a1), some (.int a2), some (.int a3)] (by decide) rfl rfl (Nat.le_of_ble_eq_true rfl) rfl (fun X S res => ?_)
  unfold F_X5_apartWays
  refine z_aload_n (pc := 0) 0 dX5_apartWays_0 rfl rfl ?_
  refine z_iconst (pc := 1) (v := 0) dX5_apartWays_1 (by decide) ?_
  refine pf_X5_M_131_0 hG (pc := 2) dX5_apartWays_2 ?_
  refine z_letS (fun S1 => ?_)
  refine z_aload_n (pc := 5) 0 dX5_apartWays_5 rfl rfl ?_
  refine z_iload_n (pc := 6) 1 dX5_apartWays_6 rfl rfl ?_
  refine z_iload_n (pc := 7) 2 dX5_apartWays_7 rfl rfl ?_
  refine z_callVi (pc := 8) _ _ 0 5 (ct_X5_areTwo hG _ _) mv_X5_areTwo q1823 rfl (zGM_s0 hG) rfl (Nat.le_of_ble_eq_true rfl) (Nat.le_of_ble_eq_true rfl) rfl rfl (Nat.le_of_ble_eq_true rfl) dX5_apartWays_8 (fun r3 S2 => ?_)
  refine z_if_eq (pc := 11) 24 dX5_apartWays_11 rfl ?_ ?_
  · refine z_bipush (pc := 24) (v := (-2)) dX5_apartWays_24 (by decide) ?_
    exact z_iret rfl dX5_apartWays_26 rfl
  · refine z_iload_n (pc := 14) 3 dX5_apartWays_14 rfl rfl ?_
    refine z_i2l (pc := 15) dX5_apartWays_15 ?_
    refine z_lconst (pc := 16) (v := 0) dX5_apartWays_16 (by decide) ?_
    refine z_lconst (pc := 17) (v := 1) dX5_apartWays_17 (by decide) ?_
    refine z_callSi (pc := 18) _ _ (ct_X5_in  _ _ _) mv_X5_in q1578 rfl (Nat.le_of_ble_eq_true rfl) (Nat.le_of_ble_eq_true rfl) rfl rfl (Nat.le_of_ble_eq_true rfl) dX5_apartWays_18 (fun r5 S4 => ?_)
    refine z_if_ne (pc := 21) 27 dX5_apartWays_21 rfl ?_ ?_
    · refine z_iload_n (pc := 27) 3 dX5_apartWays_27 rfl rfl ?_
      refine z_iconst (pc := 28) (v := 1) dX5_apartWays_28 (by decide) ?_
      refine z_icmp_ne (pc := 29) 39 dX5_apartWays_29 rfl ?_ ?_
      · refine z_aload_n (pc := 39) 0 dX5_apartWays_39 rfl rfl ?_
        refine z_callVv (pc := 40) _ _ 0 5 (ct_X5_laysStreets hG) mv_X5_laysStreets q1843 rfl (zGM_s0 hG) rfl (Nat.le_of_ble_eq_true rfl) (Nat.le_of_ble_eq_true rfl) rfl rfl (Nat.le_of_ble_eq_true rfl) dX5_apartWays_40 (fun _ S6 => ?_)
        refine z_aload_n (pc := 43) 0 dX5_apartWays_43 rfl rfl ?_
        refine z_iload_n (pc := 44) 1 dX5_apartWays_44 rfl rfl ?_
        refine z_iload_n (pc := 45) 2 dX5_apartWays_45 rfl rfl ?_
        refine z_callVi (pc := 46) _ _ 0 5 (ct_X5_flows hG _ _) mv_X5_flows q1835 rfl (zGM_s0 hG) rfl (Nat.le_of_ble_eq_true rfl) (Nat.le_of_ble_eq_true rfl) rfl rfl (Nat.le_of_ble_eq_true rfl) dX5_apartWays_46 (fun r8 S7 => ?_)
        exact z_iret rfl dX5_apartWays_49 rfl
      · refine z_aload_n (pc := 32) 0 dX5_apartWays_32 rfl rfl ?_
        refine z_iload_n (pc := 33) 1 dX5_apartWays_33 rfl rfl ?_
        refine z_iload_n (pc := 34) 2 dX5_apartWays_34 rfl rfl ?_
        refine z_callVi (pc := 35) _ _ 0 5 (ct_X5_throughSquares hG _ _) mv_X5_throughSquares q1827 rfl (zGM_s0 hG) rfl (Nat.le_of_ble_eq_true rfl) (Nat.le_of_ble_eq_true rfl) rfl rfl (Nat.le_of_ble_eq_true rfl) dX5_apartWays_35 (fun r10 S9 => ?_)
        exact z_iret rfl dX5_apartWays_38 rfl
    · refine z_bipush (pc := 24) (v := (-2)) dX5_apartWays_24 (by decide) ?_
      exact z_iret rfl dX5_apartWays_26 rfl
abbrev mX5_side : zMr := ("HiddenCubeModel", cX5_side, 5, (some .int), 5, 0, 0, none)
def LB_X5_side_1 (rec7 : Int32 → Int32 → zSt → Option (Int32 × zSt)) (x8 : Int32) (x9 : Int32) (S10 : zSt) : Option (Int32 × zSt) :=
zbind (F_X5_squares S10) (fun r12 S11 =>
if r12 ≤ x9 then (some (x8, S11)) else (chk x9 64 (zlet (x8 ||| (if (S11.1 30 (x9).toNatClampNeg) = (-1) then 0 else (1 : Int32) <<< (x9 &&& 31)) : Int32) (fun w15 : Int32 =>
rec7 w15 (x9 + 1) S11))))
def F_X5_side (a1 : Int32) (a2 : Int32) (S : zSt) : Option (Int32 × zSt) :=
zlet (sI S 0 0 0 : zSt) (fun S1 : zSt =>
zbind (F_X5_areTwo a1 a2 S1) (fun r3 S2 =>
if r3 = 0 then (some ((-2), S2)) else (zbind (F_X5_laysStreets S2) (fun _ S4 =>
zbind (F_X5_flows a1 a2 S4) (fun r6 S5 =>
loopK (fun _ _ _ => none) (LB_X5_side_1) zfuel 0 0 S5)))))
theorem mv_X5_side : ZV mX5_side yX5_side 2 := ⟨q1848, q1849, q155, q1850, rfl, by decide, by decide, by decide +kernel⟩
theorem ct_X5_side {G : zGw} (hG : zGM G) (a1 : Int32) (a2 : Int32) : Zc mX5_side yX5_side zJI G [.ref (G.1 0), .int a1, .int a2] (F_X5_side a1 a2) := by
  refine Zc_of [some (.ref (G.1 0)), some (.int a1), some (.int a2), none, none] (by decide) rfl rfl (Nat.le_of_ble_eq_true rfl) rfl (fun X S res => ?_)
  unfold F_X5_side
  refine z_aload_n (pc := 0) 0 dX5_side_0 rfl rfl ?_
  refine z_iconst (pc := 1) (v := 0) dX5_side_1 (by decide) ?_
  refine pf_X5_M_131_0 hG (pc := 2) dX5_side_2 ?_
  refine z_letS (fun S1 => ?_)
  refine z_aload_n (pc := 5) 0 dX5_side_5 rfl rfl ?_
  refine z_iload_n (pc := 6) 1 dX5_side_6 rfl rfl ?_
  refine z_iload_n (pc := 7) 2 dX5_side_7 rfl rfl ?_
  refine z_callVi (pc := 8) _ _ 0 5 (ct_X5_areTwo hG _ _) mv_X5_areTwo q1823 rfl (zGM_s0 hG) rfl (Nat.le_of_ble_eq_true rfl) (Nat.le_of_ble_eq_true rfl) rfl rfl (Nat.le_of_ble_eq_true rfl) dX5_side_8 (fun r3 S2 => ?_)
  refine z_if_ne (pc := 11) 17 dX5_side_11 rfl ?_ ?_
  · refine z_aload_n (pc := 17) 0 dX5_side_17 rfl rfl ?_
    refine z_callVv (pc := 18) _ _ 0 5 (ct_X5_laysStreets hG) mv_X5_laysStreets q1843 rfl (zGM_s0 hG) rfl (Nat.le_of_ble_eq_true rfl) (Nat.le_of_ble_eq_true rfl) rfl rfl (Nat.le_of_ble_eq_true rfl) dX5_side_18 (fun _ S4 => ?_)
    refine z_aload_n (pc := 21) 0 dX5_side_21 rfl rfl ?_
    refine z_iload_n (pc := 22) 1 dX5_side_22 rfl rfl ?_
    refine z_iload_n (pc := 23) 2 dX5_side_23 rfl rfl ?_
    refine z_callVi (pc := 24) _ _ 0 5 (ct_X5_flows hG _ _) mv_X5_flows q1835 rfl (zGM_s0 hG) rfl (Nat.le_of_ble_eq_true rfl) (Nat.le_of_ble_eq_true rfl) rfl rfl (Nat.le_of_ble_eq_true rfl) dX5_side_24 (fun r6 S5 => ?_)
    refine z_pop (pc := 27) dX5_side_27 rfl ?_
    refine z_iconst (pc := 28) (v := 0) dX5_side_28 (by decide) ?_
    refine z_istore_n (pc := 29) 3 dX5_side_29 rfl (Nat.le_of_ble_eq_true rfl) rfl ?_
    refine z_iconst (pc := 30) (v := 0) dX5_side_30 (by decide) ?_
    refine z_istore (pc := 31) dX5_side_31 (Nat.le_of_ble_eq_true rfl) rfl ?_
    refine z_maskk [true, false, false, true, true] ?_
    refine z_loopK (fun j : Int32 → Int32 → zSt → Option (Int32 × zSt) => ∀ (x8 : Int32) (x9 : Int32) (S10 : zSt), Zm X mX5_side zJI G (0, 0) res S10 33 [some (.ref (G.1 0)), none, none, some (.int x8), some (.int x9)] [] (j x8 x9 S10)) ?_ ?_ zfuel _ _ _
    · intro x8 x9 S10; exact z_none
    · intro rec7 hrec7 x8 x9 S10
      unfold LB_X5_side_1
      refine z_iload (pc := 33) dX5_side_33 rfl ?_
      refine z_aload_n (pc := 35) 0 dX5_side_35 rfl rfl ?_
      refine z_callVi (pc := 36) _ _ 0 5 (ct_X5_squares hG) mv_X5_squares q1725 rfl (zGM_s0 hG) rfl (Nat.le_of_ble_eq_true rfl) (Nat.le_of_ble_eq_true rfl) rfl rfl (Nat.le_of_ble_eq_true rfl) dX5_side_36 (fun r12 S11 => ?_)
      refine z_icmp_ge (pc := 39) 70 dX5_side_39 rfl ?_ ?_
      · refine z_iload_n (pc := 70) 3 dX5_side_70 rfl rfl ?_
        exact z_iret rfl dX5_side_71 rfl
      · refine z_iload_n (pc := 42) 3 dX5_side_42 rfl rfl ?_
        refine z_aload_n (pc := 43) 0 dX5_side_43 rfl rfl ?_
        refine gf_X5_M_71_0 hG (pc := 44) dX5_side_44 ?_
        refine z_iload (pc := 47) dX5_side_47 rfl ?_
        refine z_chk (fun h13 => ?_)
        refine z_iaload (pc := 49) 30 64 (zGM_s30 hG) h13 dX5_side_49 ?_
        refine z_iconst (pc := 50) (v := (-1)) dX5_side_50 (by decide) ?_
        refine z_pure (st0 := [.int x8]) 62 ((if (S11.1 30 (x9).toNatClampNeg) = (-1) then 0 else (1 : Int32) <<< (x9 &&& 31))) ?_ (fun hJ => ?_)
        · refine z_ior (pc := 62) dX5_side_62 ?_
          refine z_letI (fun w15 => ?_)
          refine z_istore_n (pc := 63) 3 dX5_side_63 rfl (Nat.le_of_ble_eq_true rfl) rfl ?_
          refine z_iinc (pc := 64) (w := x9 + 1) dX5_side_64 rfl (by rw [show Int32.ofInt 1 = 1 from by decide]) (Nat.le_of_ble_eq_true rfl) rfl ?_
          refine z_goto (pc := 67) 33 dX5_side_67 rfl ?_
          exact hrec7 _ _ _
        · refine z_icmpd_eq (pc := 51) 61 dX5_side_51 rfl (fun c16 => ?_) (fun c16 => ?_)
          · refine z_iconst (pc := 61) (v := 0) dX5_side_61 (by decide) ?_
            exact z_leaf hJ (by simp only [if_pos c16])
          · refine z_iconst (pc := 54) (v := 1) dX5_side_54 (by decide) ?_
            refine z_iload (pc := 55) dX5_side_55 rfl ?_
            refine z_ishl (pc := 57) dX5_side_57 ?_
            refine z_goto (pc := 58) 62 dX5_side_58 rfl ?_
            exact z_leaf hJ (by simp only [if_neg c16])
  · refine z_bipush (pc := 14) (v := (-2)) dX5_side_14 (by decide) ?_
    exact z_iret rfl dX5_side_16 rfl
abbrev mX5_laysParts : zMr := ("HiddenCubeModel", cX5_laysParts, 4, (some .int), 4, 0, 0, none)
def LB_X5_laysParts_1 (x4 : Int32) (x5 : Int32) (rec3 : Int32 → Int32 → zSt → Option (Int32 × zSt)) (rec11 : Int32 → zSt → Option (Int32 × zSt)) (x12 : Int32) (S13 : zSt) : Option (Int32 × zSt) :=
zbind (F_X5_squares S13) (fun r15 S14 =>
if r15 ≤ x12 then (rec3 (x4 + 1) (x5 + 1) S14) else (chk x12 32 (joinK (fun (v18 : Int32) => chk x12 32 (zlet (sI S14 32 (x12).toNatClampNeg v18 : zSt) (fun S20 : zSt =>
rec11 (x12 + 1) S20))) (fun j17 : Int32 → Option (Int32 × zSt) =>
if (S14.1 27 (x12).toNatClampNeg) = 1000000 then (chk x12 32 (j17 (S14.1 32 (x12).toNatClampNeg))) else (j17 x5)))))
def LB_X5_laysParts_2 (rec3 : Int32 → Int32 → zSt → Option (Int32 × zSt)) (x4 : Int32) (x5 : Int32) (S6 : zSt) : Option (Int32 × zSt) :=
zbind (F_X5_squares S6) (fun r8 S7 =>
if r8 ≤ x5 then (some (x4, S7)) else (chk x5 32 (if (S7.1 32 (x5).toNatClampNeg) = (-1) then (zbind (F_X5_laysFar x5 S7) (fun _ S10 =>
loopK (fun _ _ => none) (LB_X5_laysParts_1 x4 x5 rec3) zfuel 0 S10)) else (rec3 x4 (x5 + 1) S7))))
def LB_X5_laysParts_3 (k1 : zSt → Option (Int32 × zSt)) (rec22 : Int32 → zSt → Option (Int32 × zSt)) (x23 : Int32) (S24 : zSt) : Option (Int32 × zSt) :=
zbind (F_X5_squares S24) (fun r26 S25 =>
if r26 ≤ x23 then (k1 S25) else (chk x23 32 (zlet (sI S25 32 (x23).toNatClampNeg (-1) : zSt) (fun S28 : zSt =>
rec22 (x23 + 1) S28))))
def F_X5_laysParts  (S : zSt) : Option (Int32 × zSt) :=
joinK (fun  (S2 : zSt) => loopK (fun _ _ _ => none) (LB_X5_laysParts_2) zfuel 0 0 S2) (fun k1 : zSt → Option (Int32 × zSt) =>
loopK (fun _ _ => none) (LB_X5_laysParts_3 k1) zfuel 0 S)
theorem mv_X5_laysParts : ZV mX5_laysParts yX5_laysParts 0 := ⟨q1857, qs117, q155, q1858, rfl, by decide, by decide, by decide +kernel⟩
theorem ct_X5_laysParts {G : zGw} (hG : zGM G)  : Zc mX5_laysParts yX5_laysParts zJI G [.ref (G.1 0)] (F_X5_laysParts) := by
  refine Zc_of [some (.ref (G.1 0)), none, none, none] (by decide) rfl rfl (Nat.le_of_ble_eq_true rfl) rfl (fun X S res => ?_)
  unfold F_X5_laysParts
  refine z_iconst (pc := 0) (v := 0) dX5_laysParts_0 (by decide) ?_
  refine z_istore_n (pc := 1) 1 dX5_laysParts_1 rfl (Nat.le_of_ble_eq_true rfl) rfl ?_
  refine z_iconst (pc := 2) (v := 0) dX5_laysParts_2 (by decide) ?_
  refine z_istore_n (pc := 3) 2 dX5_laysParts_3 rfl (Nat.le_of_ble_eq_true rfl) rfl ?_
  refine z_join (fun j : zSt → Option (Int32 × zSt) => ∀  (S2 : zSt), Zm X mX5_laysParts zJI G (0, 0) res S2 25 [some (.ref (G.1 0)), some (.int 0), none, none] [] (j S2)) ?_ (fun k1 hk1 => ?_)
  · intro S2
    refine z_iconst (pc := 25) (v := 0) dX5_laysParts_25 (by decide) ?_
    refine z_istore_n (pc := 26) 2 dX5_laysParts_26 rfl (Nat.le_of_ble_eq_true rfl) rfl ?_
    refine z_loopK (fun j : Int32 → Int32 → zSt → Option (Int32 × zSt) => ∀ (x4 : Int32) (x5 : Int32) (S6 : zSt), Zm X mX5_laysParts zJI G (0, 0) res S6 27 [some (.ref (G.1 0)), some (.int x4), some (.int x5), none] [] (j x4 x5 S6)) ?_ ?_ zfuel _ _ _
    · intro x4 x5 S6; exact z_none
    · intro rec3 hrec3 x4 x5 S6
      unfold LB_X5_laysParts_2
      refine z_iload_n (pc := 27) 2 dX5_laysParts_27 rfl rfl ?_
      refine z_aload_n (pc := 28) 0 dX5_laysParts_28 rfl rfl ?_
      refine z_callVi (pc := 29) _ _ 0 5 (ct_X5_squares hG) mv_X5_squares q1725 rfl (zGM_s0 hG) rfl (Nat.le_of_ble_eq_true rfl) (Nat.le_of_ble_eq_true rfl) rfl rfl (Nat.le_of_ble_eq_true rfl) dX5_laysParts_29 (fun r8 S7 => ?_)
      refine z_icmp_ge (pc := 32) 105 dX5_laysParts_32 rfl ?_ ?_
      · refine z_iload_n (pc := 105) 1 dX5_laysParts_105 rfl rfl ?_
        exact z_iret rfl dX5_laysParts_106 rfl
      · refine z_aload_n (pc := 35) 0 dX5_laysParts_35 rfl rfl ?_
        refine gf_X5_M_77_0 hG (pc := 36) dX5_laysParts_36 ?_
        refine z_iload_n (pc := 39) 2 dX5_laysParts_39 rfl rfl ?_
        refine z_chk (fun h9 => ?_)
        refine z_iaload (pc := 40) 32 32 (zGM_s32 hG) h9 dX5_laysParts_40 ?_
        refine z_iconst (pc := 41) (v := (-1)) dX5_laysParts_41 (by decide) ?_
        refine z_icmp_eq (pc := 42) 48 dX5_laysParts_42 rfl ?_ ?_
        · refine z_iinc (pc := 48) (w := x4 + 1) dX5_laysParts_48 rfl (by rw [show Int32.ofInt 1 = 1 from by decide]) (Nat.le_of_ble_eq_true rfl) rfl ?_
          refine z_aload_n (pc := 51) 0 dX5_laysParts_51 rfl rfl ?_
          refine z_iload_n (pc := 52) 2 dX5_laysParts_52 rfl rfl ?_
          refine z_callVv (pc := 53) _ _ 0 5 (ct_X5_laysFar hG _) mv_X5_laysFar q1779 rfl (zGM_s0 hG) rfl (Nat.le_of_ble_eq_true rfl) (Nat.le_of_ble_eq_true rfl) rfl rfl (Nat.le_of_ble_eq_true rfl) dX5_laysParts_53 (fun _ S10 => ?_)
          refine z_iconst (pc := 56) (v := 0) dX5_laysParts_56 (by decide) ?_
          refine z_istore_n (pc := 57) 3 dX5_laysParts_57 rfl (Nat.le_of_ble_eq_true rfl) rfl ?_
          refine z_loopK (fun j : Int32 → zSt → Option (Int32 × zSt) => ∀ (x12 : Int32) (S13 : zSt), Zm X mX5_laysParts zJI G (0, 0) res S13 58 [some (.ref (G.1 0)), some (.int (x4 + 1)), some (.int x5), some (.int x12)] [] (j x12 S13)) ?_ ?_ zfuel _ _
          · intro x12 S13; exact z_none
          · intro rec11 hrec11 x12 S13
            unfold LB_X5_laysParts_1
            refine z_iload_n (pc := 58) 3 dX5_laysParts_58 rfl rfl ?_
            refine z_aload_n (pc := 59) 0 dX5_laysParts_59 rfl rfl ?_
            refine z_callVi (pc := 60) _ _ 0 5 (ct_X5_squares hG) mv_X5_squares q1725 rfl (zGM_s0 hG) rfl (Nat.le_of_ble_eq_true rfl) (Nat.le_of_ble_eq_true rfl) rfl rfl (Nat.le_of_ble_eq_true rfl) dX5_laysParts_60 (fun r15 S14 => ?_)
            refine z_icmp_ge (pc := 63) 99 dX5_laysParts_63 rfl ?_ ?_
            · refine z_iinc (pc := 99) (w := x5 + 1) dX5_laysParts_99 rfl (by rw [show Int32.ofInt 1 = 1 from by decide]) (Nat.le_of_ble_eq_true rfl) rfl ?_
              refine z_goto (pc := 102) 27 dX5_laysParts_102 rfl ?_
              exact z_mask [true, true, true, false] (hrec3 _ _ _) rfl
            · refine z_aload_n (pc := 66) 0 dX5_laysParts_66 rfl rfl ?_
              refine gf_X5_M_77_0 hG (pc := 67) dX5_laysParts_67 ?_
              refine z_iload_n (pc := 70) 3 dX5_laysParts_70 rfl rfl ?_
              refine z_aload_n (pc := 71) 0 dX5_laysParts_71 rfl rfl ?_
              refine gf_X5_M_62_0 hG (pc := 72) dX5_laysParts_72 ?_
              refine z_iload_n (pc := 75) 3 dX5_laysParts_75 rfl rfl ?_
              refine z_chk (fun h16 => ?_)
              refine z_iaload (pc := 76) 27 32 (zGM_s27 hG) h16 dX5_laysParts_76 ?_
              refine z_ldc (pc := 77) (v := 1000000) dX5_laysParts_77 q1632 ?_
              refine z_join (fun j : Int32 → Option (Int32 × zSt) => ∀ (v18 : Int32), Zm X mX5_laysParts zJI G (0, 0) res S14 92 [some (.ref (G.1 0)), some (.int (x4 + 1)), some (.int x5), some (.int x12)] [.int v18, .int x12, .ref (G.1 32)] (j v18)) ?_ (fun j17 hj17 => ?_)
              · intro v18
                refine z_chk (fun h19 => ?_)
                refine z_iastore (pc := 92) 32 32 (zGM_s32 hG) h19 dX5_laysParts_92 ?_
                refine z_letS (fun S20 => ?_)
                refine z_iinc (pc := 93) (w := x12 + 1) dX5_laysParts_93 rfl (by rw [show Int32.ofInt 1 = 1 from by decide]) (Nat.le_of_ble_eq_true rfl) rfl ?_
                refine z_goto (pc := 96) 58 dX5_laysParts_96 rfl ?_
                exact hrec11 _ _
              · refine z_icmp_ne (pc := 79) 91 dX5_laysParts_79 rfl ?_ ?_
                · refine z_iload_n (pc := 91) 2 dX5_laysParts_91 rfl rfl ?_
                  exact hj17 _
                · refine z_aload_n (pc := 82) 0 dX5_laysParts_82 rfl rfl ?_
                  refine gf_X5_M_77_0 hG (pc := 83) dX5_laysParts_83 ?_
                  refine z_iload_n (pc := 86) 3 dX5_laysParts_86 rfl rfl ?_
                  refine z_chk (fun h21 => ?_)
                  refine z_iaload (pc := 87) 32 32 (zGM_s32 hG) h21 dX5_laysParts_87 ?_
                  refine z_goto (pc := 88) 92 dX5_laysParts_88 rfl ?_
                  exact hj17 _
        · refine z_goto (pc := 45) 99 dX5_laysParts_45 rfl ?_
          refine z_iinc (pc := 99) (w := x5 + 1) dX5_laysParts_99 rfl (by rw [show Int32.ofInt 1 = 1 from by decide]) (Nat.le_of_ble_eq_true rfl) rfl ?_
          refine z_goto (pc := 102) 27 dX5_laysParts_102 rfl ?_
          exact hrec3 _ _ _
  · refine z_loopK (fun j : Int32 → zSt → Option (Int32 × zSt) => ∀ (x23 : Int32) (S24 : zSt), Zm X mX5_laysParts zJI G (0, 0) res S24 4 [some (.ref (G.1 0)), some (.int 0), some (.int x23), none] [] (j x23 S24)) ?_ ?_ zfuel _ _
    · intro x23 S24; exact z_none
    · intro rec22 hrec22 x23 S24
      unfold LB_X5_laysParts_3
      refine z_iload_n (pc := 4) 2 dX5_laysParts_4 rfl rfl ?_
      refine z_aload_n (pc := 5) 0 dX5_laysParts_5 rfl rfl ?_
      refine z_callVi (pc := 6) _ _ 0 5 (ct_X5_squares hG) mv_X5_squares q1725 rfl (zGM_s0 hG) rfl (Nat.le_of_ble_eq_true rfl) (Nat.le_of_ble_eq_true rfl) rfl rfl (Nat.le_of_ble_eq_true rfl) dX5_laysParts_6 (fun r26 S25 => ?_)
      refine z_icmp_ge (pc := 9) 25 dX5_laysParts_9 rfl ?_ ?_
      · exact z_mask [true, true, false, false] (hk1 _) rfl
      · refine z_aload_n (pc := 12) 0 dX5_laysParts_12 rfl rfl ?_
        refine gf_X5_M_77_0 hG (pc := 13) dX5_laysParts_13 ?_
        refine z_iload_n (pc := 16) 2 dX5_laysParts_16 rfl rfl ?_
        refine z_iconst (pc := 17) (v := (-1)) dX5_laysParts_17 (by decide) ?_
        refine z_chk (fun h27 => ?_)
        refine z_iastore (pc := 18) 32 32 (zGM_s32 hG) h27 dX5_laysParts_18 ?_
        refine z_letS (fun S28 => ?_)
        refine z_iinc (pc := 19) (w := x23 + 1) dX5_laysParts_19 rfl (by rw [show Int32.ofInt 1 = 1 from by decide]) (Nat.le_of_ble_eq_true rfl) rfl ?_
        refine z_goto (pc := 22) 4 dX5_laysParts_22 rfl ?_
        exact hrec22 _ _
abbrev mX5_parts : zMr := ("HiddenCubeModel", cX5_parts, 1, (some .int), 5, 0, 0, none)
def F_X5_parts  (S : zSt) : Option (Int32 × zSt) :=
zlet (sI S 0 0 0 : zSt) (fun S1 : zSt =>
zbind (F_X5_isTown S1) (fun r3 S2 =>
if r3 = 0 then (some ((-2), S2)) else (zbind (F_X5_laysParts S2) (fun r5 S4 =>
some (r5, S4)))))
theorem mv_X5_parts : ZV mX5_parts yX5_parts 0 := ⟨q1852, q1853, q155, q1854, rfl, by decide, by decide, by decide +kernel⟩
theorem ct_X5_parts {G : zGw} (hG : zGM G)  : Zc mX5_parts yX5_parts zJI G [.ref (G.1 0)] (F_X5_parts) := by
  refine Zc_of [some (.ref (G.1 0))] (by decide) rfl rfl (Nat.le_of_ble_eq_true rfl) rfl (fun X S res => ?_)
  unfold F_X5_parts
  refine z_aload_n (pc := 0) 0 dX5_parts_0 rfl rfl ?_
  refine z_iconst (pc := 1) (v := 0) dX5_parts_1 (by decide) ?_
  refine pf_X5_M_131_0 hG (pc := 2) dX5_parts_2 ?_
  refine z_letS (fun S1 => ?_)
  refine z_aload_n (pc := 5) 0 dX5_parts_5 rfl rfl ?_
  refine z_callVi (pc := 6) _ _ 0 5 (ct_X5_isTown hG) mv_X5_isTown q1729 rfl (zGM_s0 hG) rfl (Nat.le_of_ble_eq_true rfl) (Nat.le_of_ble_eq_true rfl) rfl rfl (Nat.le_of_ble_eq_true rfl) dX5_parts_6 (fun r3 S2 => ?_)
  refine z_if_eq (pc := 9) 19 dX5_parts_9 rfl ?_ ?_
  · refine z_bipush (pc := 19) (v := (-2)) dX5_parts_19 (by decide) ?_
    exact z_iret rfl dX5_parts_21 rfl
  · refine z_aload_n (pc := 12) 0 dX5_parts_12 rfl rfl ?_
    refine z_callVi (pc := 13) _ _ 0 5 (ct_X5_laysParts hG) mv_X5_laysParts q1855 rfl (zGM_s0 hG) rfl (Nat.le_of_ble_eq_true rfl) (Nat.le_of_ble_eq_true rfl) rfl rfl (Nat.le_of_ble_eq_true rfl) dX5_parts_13 (fun r5 S4 => ?_)
    refine z_goto (pc := 16) 21 dX5_parts_16 rfl ?_
    exact z_iret rfl dX5_parts_21 rfl
abbrev mX5_part : zMr := ("HiddenCubeModel", cX5_part, 2, (some .int), 5, 0, 0, none)
def F_X5_part (a1 : Int32) (S : zSt) : Option (Int32 × zSt) :=
zlet (sI S 0 0 0 : zSt) (fun S1 : zSt =>
zbind (F_X5_isSquare ((a1).toInt64) S1) (fun r3 S2 =>
if r3 = 0 then (some ((-2), S2)) else (zbind (F_X5_laysParts S2) (fun r5 S4 =>
chk a1 32 (some (S4.1 32 (a1).toNatClampNeg, S4))))))
theorem mv_X5_part : ZV mX5_part yX5_part 1 := ⟨q1860, q1861, q155, q1862, rfl, by decide, by decide, by decide +kernel⟩
theorem ct_X5_part {G : zGw} (hG : zGM G) (a1 : Int32) : Zc mX5_part yX5_part zJI G [.ref (G.1 0), .int a1] (F_X5_part a1) := by
  refine Zc_of [some (.ref (G.1 0)), some (.int a1)] (by decide) rfl rfl (Nat.le_of_ble_eq_true rfl) rfl (fun X S res => ?_)
  unfold F_X5_part
  refine z_aload_n (pc := 0) 0 dX5_part_0 rfl rfl ?_
  refine z_iconst (pc := 1) (v := 0) dX5_part_1 (by decide) ?_
  refine pf_X5_M_131_0 hG (pc := 2) dX5_part_2 ?_
  refine z_letS (fun S1 => ?_)
  refine z_aload_n (pc := 5) 0 dX5_part_5 rfl rfl ?_
  refine z_iload_n (pc := 6) 1 dX5_part_6 rfl rfl ?_
  refine z_i2l (pc := 7) dX5_part_7 ?_
  refine z_callVi (pc := 8) _ _ 0 5 (ct_X5_isSquare hG _) mv_X5_isSquare q1721 rfl (zGM_s0 hG) rfl (Nat.le_of_ble_eq_true rfl) (Nat.le_of_ble_eq_true rfl) rfl rfl (Nat.le_of_ble_eq_true rfl) dX5_part_8 (fun r3 S2 => ?_)
  refine z_if_ne (pc := 11) 17 dX5_part_11 rfl ?_ ?_
  · refine z_aload_n (pc := 17) 0 dX5_part_17 rfl rfl ?_
    refine z_callVi (pc := 18) _ _ 0 5 (ct_X5_laysParts hG) mv_X5_laysParts q1855 rfl (zGM_s0 hG) rfl (Nat.le_of_ble_eq_true rfl) (Nat.le_of_ble_eq_true rfl) rfl rfl (Nat.le_of_ble_eq_true rfl) dX5_part_18 (fun r5 S4 => ?_)
    refine z_pop (pc := 21) dX5_part_21 rfl ?_
    refine z_aload_n (pc := 22) 0 dX5_part_22 rfl rfl ?_
    refine gf_X5_M_77_0 hG (pc := 23) dX5_part_23 ?_
    refine z_iload_n (pc := 26) 1 dX5_part_26 rfl rfl ?_
    refine z_chk (fun h6 => ?_)
    refine z_iaload (pc := 27) 32 32 (zGM_s32 hG) h6 dX5_part_27 ?_
    exact z_iret rfl dX5_part_28 rfl
  · refine z_bipush (pc := 14) (v := (-2)) dX5_part_14 (by decide) ?_
    exact z_iret rfl dX5_part_16 rfl
abbrev mX5_isBridge : zMr := ("HiddenCubeModel", cX5_isBridge, 3, (some .boolean), 4, 0, 0, none)
def F_X5_isBridge (a1 : Int32) (a2 : Int32) (S : zSt) : Option (Int32 × zSt) :=
zbind (F_X5_isOpen a1 a2 S) (fun r2 S1 =>
if r2 = 0 then (some (0, S1)) else (zbind (F_X5_sets a1 a2 1 S1) (fun _ S3 =>
zbind (F_X5_laysFar a1 S3) (fun _ S4 =>
zbind (F_X5_sets a1 a2 0 S4) (fun _ S5 =>
zlet (a1 ^^^ ((1 : Int32) <<< (a2 &&& 31)) : Int32) (fun w6 : Int32 =>
chk w6 32 (if (S5.1 27 (w6).toNatClampNeg) = 1000000 then (some (1, S5)) else (some (0, S5)))))))))
theorem mv_X5_isBridge : ZV mX5_isBridge yX5_isBridge 2 := ⟨q1869, qs118, q155, q1870, rfl, by decide, by decide, by decide +kernel⟩
theorem ct_X5_isBridge {G : zGw} (hG : zGM G) (a1 : Int32) (a2 : Int32) : Zc mX5_isBridge yX5_isBridge zJI G [.ref (G.1 0), .int a1, .int a2] (F_X5_isBridge a1 a2) := by
  refine Zc_of [some (.ref (G.1 0)), some (.int a1), some (.int a2)] (by decide) rfl rfl (Nat.le_of_ble_eq_true rfl) rfl (fun X S res => ?_)
  unfold F_X5_isBridge
  refine z_aload_n (pc := 0) 0 dX5_isBridge_0 rfl rfl ?_
  refine z_iload_n (pc := 1) 1 dX5_isBridge_1 rfl rfl ?_
  refine z_iload_n (pc := 2) 2 dX5_isBridge_2 rfl rfl ?_
  refine z_callVi (pc := 3) _ _ 0 5 (ct_X5_isOpen hG _ _) mv_X5_isOpen q1733 rfl (zGM_s0 hG) rfl (Nat.le_of_ble_eq_true rfl) (Nat.le_of_ble_eq_true rfl) rfl rfl (Nat.le_of_ble_eq_true rfl) dX5_isBridge_3 (fun r2 S1 => ?_)
  refine z_if_ne (pc := 6) 11 dX5_isBridge_6 rfl ?_ ?_
  · refine z_aload_n (pc := 11) 0 dX5_isBridge_11 rfl rfl ?_
    refine z_iload_n (pc := 12) 1 dX5_isBridge_12 rfl rfl ?_
    refine z_iload_n (pc := 13) 2 dX5_isBridge_13 rfl rfl ?_
    refine z_iconst (pc := 14) (v := 1) dX5_isBridge_14 (by decide) ?_
    refine z_callVv (pc := 15) _ _ 0 5 (ct_X5_sets hG _ _ _) mv_X5_sets q1748 rfl (zGM_s0 hG) rfl (Nat.le_of_ble_eq_true rfl) (Nat.le_of_ble_eq_true rfl) rfl rfl (Nat.le_of_ble_eq_true rfl) dX5_isBridge_15 (fun _ S3 => ?_)
    refine z_aload_n (pc := 18) 0 dX5_isBridge_18 rfl rfl ?_
    refine z_iload_n (pc := 19) 1 dX5_isBridge_19 rfl rfl ?_
    refine z_callVv (pc := 20) _ _ 0 5 (ct_X5_laysFar hG _) mv_X5_laysFar q1779 rfl (zGM_s0 hG) rfl (Nat.le_of_ble_eq_true rfl) (Nat.le_of_ble_eq_true rfl) rfl rfl (Nat.le_of_ble_eq_true rfl) dX5_isBridge_20 (fun _ S4 => ?_)
    refine z_aload_n (pc := 23) 0 dX5_isBridge_23 rfl rfl ?_
    refine z_iload_n (pc := 24) 1 dX5_isBridge_24 rfl rfl ?_
    refine z_iload_n (pc := 25) 2 dX5_isBridge_25 rfl rfl ?_
    refine z_iconst (pc := 26) (v := 0) dX5_isBridge_26 (by decide) ?_
    refine z_callVv (pc := 27) _ _ 0 5 (ct_X5_sets hG _ _ _) mv_X5_sets q1748 rfl (zGM_s0 hG) rfl (Nat.le_of_ble_eq_true rfl) (Nat.le_of_ble_eq_true rfl) rfl rfl (Nat.le_of_ble_eq_true rfl) dX5_isBridge_27 (fun _ S5 => ?_)
    refine z_aload_n (pc := 30) 0 dX5_isBridge_30 rfl rfl ?_
    refine gf_X5_M_62_0 hG (pc := 31) dX5_isBridge_31 ?_
    refine z_iload_n (pc := 34) 1 dX5_isBridge_34 rfl rfl ?_
    refine z_iconst (pc := 35) (v := 1) dX5_isBridge_35 (by decide) ?_
    refine z_iload_n (pc := 36) 2 dX5_isBridge_36 rfl rfl ?_
    refine z_ishl (pc := 37) dX5_isBridge_37 ?_
    refine z_ixor (pc := 38) dX5_isBridge_38 ?_
    refine z_letI (fun w6 => ?_)
    refine z_chk (fun h7 => ?_)
    refine z_iaload (pc := 39) 27 32 (zGM_s27 hG) h7 dX5_isBridge_39 ?_
    refine z_ldc (pc := 40) (v := 1000000) dX5_isBridge_40 q1632 ?_
    refine z_icmp_ne (pc := 42) 49 dX5_isBridge_42 rfl ?_ ?_
    · refine z_iconst (pc := 49) (v := 0) dX5_isBridge_49 (by decide) ?_
      exact z_zret0 rfl dX5_isBridge_50 rfl
    · refine z_iconst (pc := 45) (v := 1) dX5_isBridge_45 (by decide) ?_
      refine z_goto (pc := 46) 50 dX5_isBridge_46 rfl ?_
      exact z_zret1 rfl dX5_isBridge_50 rfl
  · refine z_iconst (pc := 9) (v := 0) dX5_isBridge_9 (by decide) ?_
    exact z_zret0 rfl dX5_isBridge_10 rfl
abbrev mX5_bridges : zMr := ("HiddenCubeModel", cX5_bridges, 4, (some .int), 5, 0, 0, none)
def LB_X5_bridges_1 (x6 : Int32) (rec4 : Int32 → Int32 → zSt → Option (Int32 × zSt)) (rec10 : Int32 → Int32 → zSt → Option (Int32 × zSt)) (x11 : Int32) (x12 : Int32) (S13 : zSt) : Option (Int32 × zSt) :=
chk 0 15 (if (S13.1 18 (0 : Int32).toNatClampNeg) ≤ x12 then (rec4 x11 (x6 + 1) S13) else (zbind (F_X5_isBit x6 x12 S13) (fun r16 S15 =>
joinK (fun (v18 : Int32) (S19 : zSt) => rec10 (x11 + v18) (x12 + 1) S19) (fun j17 : Int32 → zSt → Option (Int32 × zSt) =>
joinK (fun  (S21 : zSt) => j17 0 S21) (fun j20 : zSt → Option (Int32 × zSt) =>
if r16 = 0 then (zbind (F_X5_isBridge x6 x12 S15) (fun r23 S22 =>
if r23 = 0 then (j20 S22) else (j17 1 S22))) else (j20 S15))))))
def LB_X5_bridges_2 (rec4 : Int32 → Int32 → zSt → Option (Int32 × zSt)) (x5 : Int32) (x6 : Int32) (S7 : zSt) : Option (Int32 × zSt) :=
zbind (F_X5_squares S7) (fun r9 S8 =>
if r9 ≤ x6 then (some (x5, S8)) else (loopK (fun _ _ _ => none) (LB_X5_bridges_1 x6 rec4) zfuel x5 0 S8))
def F_X5_bridges  (S : zSt) : Option (Int32 × zSt) :=
zlet (sI S 0 0 0 : zSt) (fun S1 : zSt =>
zbind (F_X5_isTown S1) (fun r3 S2 =>
if r3 = 0 then (some ((-2), S2)) else (loopK (fun _ _ _ => none) (LB_X5_bridges_2) zfuel 0 0 S2)))
theorem mv_X5_bridges : ZV mX5_bridges yX5_bridges 0 := ⟨q1864, q1865, q155, q1866, rfl, by decide, by decide, by decide +kernel⟩
theorem ct_X5_bridges {G : zGw} (hG : zGM G)  : Zc mX5_bridges yX5_bridges zJI G [.ref (G.1 0)] (F_X5_bridges) := by
  refine Zc_of [some (.ref (G.1 0)), none, none, none] (by decide) rfl rfl (Nat.le_of_ble_eq_true rfl) rfl (fun X S res => ?_)
  unfold F_X5_bridges
  refine z_aload_n (pc := 0) 0 dX5_bridges_0 rfl rfl ?_
  refine z_iconst (pc := 1) (v := 0) dX5_bridges_1 (by decide) ?_
  refine pf_X5_M_131_0 hG (pc := 2) dX5_bridges_2 ?_
  refine z_letS (fun S1 => ?_)
  refine z_aload_n (pc := 5) 0 dX5_bridges_5 rfl rfl ?_
  refine z_callVi (pc := 6) _ _ 0 5 (ct_X5_isTown hG) mv_X5_isTown q1729 rfl (zGM_s0 hG) rfl (Nat.le_of_ble_eq_true rfl) (Nat.le_of_ble_eq_true rfl) rfl rfl (Nat.le_of_ble_eq_true rfl) dX5_bridges_6 (fun r3 S2 => ?_)
  refine z_if_ne (pc := 9) 15 dX5_bridges_9 rfl ?_ ?_
  · refine z_iconst (pc := 15) (v := 0) dX5_bridges_15 (by decide) ?_
    refine z_istore_n (pc := 16) 1 dX5_bridges_16 rfl (Nat.le_of_ble_eq_true rfl) rfl ?_
    refine z_iconst (pc := 17) (v := 0) dX5_bridges_17 (by decide) ?_
    refine z_istore_n (pc := 18) 2 dX5_bridges_18 rfl (Nat.le_of_ble_eq_true rfl) rfl ?_
    refine z_loopK (fun j : Int32 → Int32 → zSt → Option (Int32 × zSt) => ∀ (x5 : Int32) (x6 : Int32) (S7 : zSt), Zm X mX5_bridges zJI G (0, 0) res S7 19 [some (.ref (G.1 0)), some (.int x5), some (.int x6), none] [] (j x5 x6 S7)) ?_ ?_ zfuel _ _ _
    · intro x5 x6 S7; exact z_none
    · intro rec4 hrec4 x5 x6 S7
      unfold LB_X5_bridges_2
      refine z_iload_n (pc := 19) 2 dX5_bridges_19 rfl rfl ?_
      refine z_aload_n (pc := 20) 0 dX5_bridges_20 rfl rfl ?_
      refine z_callVi (pc := 21) _ _ 0 5 (ct_X5_squares hG) mv_X5_squares q1725 rfl (zGM_s0 hG) rfl (Nat.le_of_ble_eq_true rfl) (Nat.le_of_ble_eq_true rfl) rfl rfl (Nat.le_of_ble_eq_true rfl) dX5_bridges_21 (fun r9 S8 => ?_)
      refine z_icmp_ge (pc := 24) 76 dX5_bridges_24 rfl ?_ ?_
      · refine z_iload_n (pc := 76) 1 dX5_bridges_76 rfl rfl ?_
        exact z_iret rfl dX5_bridges_77 rfl
      · refine z_iconst (pc := 27) (v := 0) dX5_bridges_27 (by decide) ?_
        refine z_istore_n (pc := 28) 3 dX5_bridges_28 rfl (Nat.le_of_ble_eq_true rfl) rfl ?_
        refine z_loopK (fun j : Int32 → Int32 → zSt → Option (Int32 × zSt) => ∀ (x11 : Int32) (x12 : Int32) (S13 : zSt), Zm X mX5_bridges zJI G (0, 0) res S13 29 [some (.ref (G.1 0)), some (.int x11), some (.int x6), some (.int x12)] [] (j x11 x12 S13)) ?_ ?_ zfuel _ _ _
        · intro x11 x12 S13; exact z_none
        · intro rec10 hrec10 x11 x12 S13
          unfold LB_X5_bridges_1
          refine z_iload_n (pc := 29) 3 dX5_bridges_29 rfl rfl ?_
          refine z_aload_n (pc := 30) 0 dX5_bridges_30 rfl rfl ?_
          refine gf_X5_M_34_0 hG (pc := 31) dX5_bridges_31 ?_
          refine z_iconst (pc := 34) (v := 0) dX5_bridges_34 (by decide) ?_
          refine z_chk (fun h14 => ?_)
          refine z_iaload (pc := 35) 18 15 (zGM_s18 hG) h14 dX5_bridges_35 ?_
          refine z_icmp_ge (pc := 36) 70 dX5_bridges_36 rfl ?_ ?_
          · refine z_iinc (pc := 70) (w := x6 + 1) dX5_bridges_70 rfl (by rw [show Int32.ofInt 1 = 1 from by decide]) (Nat.le_of_ble_eq_true rfl) rfl ?_
            refine z_goto (pc := 73) 19 dX5_bridges_73 rfl ?_
            exact z_mask [true, true, true, false] (hrec4 _ _ _) rfl
          · refine z_iload_n (pc := 39) 1 dX5_bridges_39 rfl rfl ?_
            refine z_iload_n (pc := 40) 2 dX5_bridges_40 rfl rfl ?_
            refine z_iload_n (pc := 41) 3 dX5_bridges_41 rfl rfl ?_
            refine z_callSi (pc := 42) _ _ (ct_X5_isBit  _ _) mv_X5_isBit q1737 rfl (Nat.le_of_ble_eq_true rfl) (Nat.le_of_ble_eq_true rfl) rfl rfl (Nat.le_of_ble_eq_true rfl) dX5_bridges_42 (fun r16 S15 => ?_)
            refine z_join (fun j : Int32 → zSt → Option (Int32 × zSt) => ∀ (v18 : Int32) (S19 : zSt), Zm X mX5_bridges zJI G (0, 0) res S19 62 [some (.ref (G.1 0)), none, some (.int x6), some (.int x12)] [.int v18, .int x11] (j v18 S19)) ?_ (fun j17 hj17 => ?_)
            · intro v18 S19
              refine z_iadd (pc := 62) dX5_bridges_62 ?_
              refine z_istore_n (pc := 63) 1 dX5_bridges_63 rfl (Nat.le_of_ble_eq_true rfl) rfl ?_
              refine z_iinc (pc := 64) (w := x12 + 1) dX5_bridges_64 rfl (by rw [show Int32.ofInt 1 = 1 from by decide]) (Nat.le_of_ble_eq_true rfl) rfl ?_
              refine z_goto (pc := 67) 29 dX5_bridges_67 rfl ?_
              exact hrec10 _ _ _
            · refine z_join (fun j : zSt → Option (Int32 × zSt) => ∀  (S21 : zSt), Zm X mX5_bridges zJI G (0, 0) res S21 61 [some (.ref (G.1 0)), none, some (.int x6), some (.int x12)] [.int x11] (j S21)) ?_ (fun j20 hj20 => ?_)
              · intro S21
                refine z_iconst (pc := 61) (v := 0) dX5_bridges_61 (by decide) ?_
                exact hj17 _ _
              · refine z_if_ne (pc := 45) 61 dX5_bridges_45 rfl ?_ ?_
                · exact z_mask [true, false, true, true] (hj20 _) rfl
                · refine z_aload_n (pc := 48) 0 dX5_bridges_48 rfl rfl ?_
                  refine z_iload_n (pc := 49) 2 dX5_bridges_49 rfl rfl ?_
                  refine z_iload_n (pc := 50) 3 dX5_bridges_50 rfl rfl ?_
                  refine z_callVi (pc := 51) _ _ 0 5 (ct_X5_isBridge hG _ _) mv_X5_isBridge q1867 rfl (zGM_s0 hG) rfl (Nat.le_of_ble_eq_true rfl) (Nat.le_of_ble_eq_true rfl) rfl rfl (Nat.le_of_ble_eq_true rfl) dX5_bridges_51 (fun r23 S22 => ?_)
                  refine z_if_eq (pc := 54) 61 dX5_bridges_54 rfl ?_ ?_
                  · exact z_mask [true, false, true, true] (hj20 _) rfl
                  · refine z_iconst (pc := 57) (v := 1) dX5_bridges_57 (by decide) ?_
                    refine z_goto (pc := 58) 62 dX5_bridges_58 rfl ?_
                    exact z_mask [true, false, true, true] (hj17 _ _) rfl
  · refine z_bipush (pc := 12) (v := (-2)) dX5_bridges_12 (by decide) ?_
    exact z_iret rfl dX5_bridges_14 rfl
abbrev mX5_bridge : zMr := ("HiddenCubeModel", cX5_bridge, 3, (some .int), 5, 0, 0, none)
def F_X5_bridge (a1 : Int32) (a2 : Int32) (S : zSt) : Option (Int32 × zSt) :=
zlet (sI S 0 0 0 : zSt) (fun S1 : zSt =>
zbind (F_X5_isSquare ((a1).toInt64) S1) (fun r3 S2 =>
if r3 = 0 then (some ((-2), S2)) else (zbind (F_X5_isName a2 S2) (fun r5 S4 =>
if r5 = 0 then (some ((-2), S4)) else (zbind (F_X5_isBridge a1 a2 S4) (fun r7 S6 =>
if r7 = 0 then (some (0, S6)) else (some (1, S6))))))))
theorem mv_X5_bridge : ZV mX5_bridge yX5_bridge 2 := ⟨q1872, q1873, q155, q1874, rfl, by decide, by decide, by decide +kernel⟩
theorem ct_X5_bridge {G : zGw} (hG : zGM G) (a1 : Int32) (a2 : Int32) : Zc mX5_bridge yX5_bridge zJI G [.ref (G.1 0), .int a1, .int a2] (F_X5_bridge a1 a2) := by
  refine Zc_of [some (.ref (G.1 0)), some (.int a1), some (.int a2)] (by decide) rfl rfl (Nat.le_of_ble_eq_true rfl) rfl (fun X S res => ?_)
  unfold F_X5_bridge
  refine z_aload_n (pc := 0) 0 dX5_bridge_0 rfl rfl ?_
  refine z_iconst (pc := 1) (v := 0) dX5_bridge_1 (by decide) ?_
  refine pf_X5_M_131_0 hG (pc := 2) dX5_bridge_2 ?_
  refine z_letS (fun S1 => ?_)
  refine z_aload_n (pc := 5) 0 dX5_bridge_5 rfl rfl ?_
  refine z_iload_n (pc := 6) 1 dX5_bridge_6 rfl rfl ?_
  refine z_i2l (pc := 7) dX5_bridge_7 ?_
  refine z_callVi (pc := 8) _ _ 0 5 (ct_X5_isSquare hG _) mv_X5_isSquare q1721 rfl (zGM_s0 hG) rfl (Nat.le_of_ble_eq_true rfl) (Nat.le_of_ble_eq_true rfl) rfl rfl (Nat.le_of_ble_eq_true rfl) dX5_bridge_8 (fun r3 S2 => ?_)
  refine z_if_eq (pc := 11) 39 dX5_bridge_11 rfl ?_ ?_
  · refine z_bipush (pc := 39) (v := (-2)) dX5_bridge_39 (by decide) ?_
    exact z_iret rfl dX5_bridge_41 rfl
  · refine z_aload_n (pc := 14) 0 dX5_bridge_14 rfl rfl ?_
    refine z_iload_n (pc := 15) 2 dX5_bridge_15 rfl rfl ?_
    refine z_callVi (pc := 16) _ _ 0 5 (ct_X5_isName hG _) mv_X5_isName q1713 rfl (zGM_s0 hG) rfl (Nat.le_of_ble_eq_true rfl) (Nat.le_of_ble_eq_true rfl) rfl rfl (Nat.le_of_ble_eq_true rfl) dX5_bridge_16 (fun r5 S4 => ?_)
    refine z_if_eq (pc := 19) 39 dX5_bridge_19 rfl ?_ ?_
    · refine z_bipush (pc := 39) (v := (-2)) dX5_bridge_39 (by decide) ?_
      exact z_iret rfl dX5_bridge_41 rfl
    · refine z_aload_n (pc := 22) 0 dX5_bridge_22 rfl rfl ?_
      refine z_iload_n (pc := 23) 1 dX5_bridge_23 rfl rfl ?_
      refine z_iload_n (pc := 24) 2 dX5_bridge_24 rfl rfl ?_
      refine z_callVi (pc := 25) _ _ 0 5 (ct_X5_isBridge hG _ _) mv_X5_isBridge q1867 rfl (zGM_s0 hG) rfl (Nat.le_of_ble_eq_true rfl) (Nat.le_of_ble_eq_true rfl) rfl rfl (Nat.le_of_ble_eq_true rfl) dX5_bridge_25 (fun r7 S6 => ?_)
      refine z_if_eq (pc := 28) 35 dX5_bridge_28 rfl ?_ ?_
      · refine z_iconst (pc := 35) (v := 0) dX5_bridge_35 (by decide) ?_
        refine z_goto (pc := 36) 41 dX5_bridge_36 rfl ?_
        exact z_iret rfl dX5_bridge_41 rfl
      · refine z_iconst (pc := 31) (v := 1) dX5_bridge_31 (by decide) ?_
        refine z_goto (pc := 32) 41 dX5_bridge_32 rfl ?_
        exact z_iret rfl dX5_bridge_41 rfl
abbrev mX5_joins : zMr := ("HiddenCubeModel", cX5_joins, 1, (some .int), 5, 0, 0, none)
def F_X5_joins  (S : zSt) : Option (Int32 × zSt) :=
zlet (sI S 0 0 0 : zSt) (fun S1 : zSt =>
zbind (F_X5_isTown S1) (fun r3 S2 =>
if r3 = 0 then (some ((-2), S2)) else (zbind (F_X5_laysParts S2) (fun r5 S4 =>
some (r5 - 1, S4)))))
theorem mv_X5_joins : ZV mX5_joins yX5_joins 0 := ⟨q1876, q1877, q155, q1878, rfl, by decide, by decide, by decide +kernel⟩
theorem ct_X5_joins {G : zGw} (hG : zGM G)  : Zc mX5_joins yX5_joins zJI G [.ref (G.1 0)] (F_X5_joins) := by
  refine Zc_of [some (.ref (G.1 0))] (by decide) rfl rfl (Nat.le_of_ble_eq_true rfl) rfl (fun X S res => ?_)
  unfold F_X5_joins
  refine z_aload_n (pc := 0) 0 dX5_joins_0 rfl rfl ?_
  refine z_iconst (pc := 1) (v := 0) dX5_joins_1 (by decide) ?_
  refine pf_X5_M_131_0 hG (pc := 2) dX5_joins_2 ?_
  refine z_letS (fun S1 => ?_)
  refine z_aload_n (pc := 5) 0 dX5_joins_5 rfl rfl ?_
  refine z_callVi (pc := 6) _ _ 0 5 (ct_X5_isTown hG) mv_X5_isTown q1729 rfl (zGM_s0 hG) rfl (Nat.le_of_ble_eq_true rfl) (Nat.le_of_ble_eq_true rfl) rfl rfl (Nat.le_of_ble_eq_true rfl) dX5_joins_6 (fun r3 S2 => ?_)
  refine z_if_eq (pc := 9) 21 dX5_joins_9 rfl ?_ ?_
  · refine z_bipush (pc := 21) (v := (-2)) dX5_joins_21 (by decide) ?_
    exact z_iret rfl dX5_joins_23 rfl
  · refine z_aload_n (pc := 12) 0 dX5_joins_12 rfl rfl ?_
    refine z_callVi (pc := 13) _ _ 0 5 (ct_X5_laysParts hG) mv_X5_laysParts q1855 rfl (zGM_s0 hG) rfl (Nat.le_of_ble_eq_true rfl) (Nat.le_of_ble_eq_true rfl) rfl rfl (Nat.le_of_ble_eq_true rfl) dX5_joins_13 (fun r5 S4 => ?_)
    refine z_iconst (pc := 16) (v := 1) dX5_joins_16 (by decide) ?_
    refine z_isub (pc := 17) dX5_joins_17 ?_
    refine z_goto (pc := 18) 23 dX5_joins_18 rfl ?_
    exact z_iret rfl dX5_joins_23 rfl
abbrev mX5_isWall : zMr := ("HiddenCubeModel", cX5_isWall, 4, (some .boolean), 3, 0, 0, none)
def LB_X5_isWall_1 (a1 : Int32) (a2 : Int32) (rec1 : Int32 → zSt → Option (Int32 × zSt)) (x2 : Int32) (S3 : zSt) : Option (Int32 × zSt) :=
zbind (F_X5_squares S3) (fun r5 S4 =>
if r5 ≤ x2 then (some (1, S4)) else (if ((x2 ^^^ a1) &&& (a2 ^^^ (-1))) = 0 then (chk x2 160 (if ((S4.1 22 (x2).toNatClampNeg) &&& a2) = 0 then (rec1 (x2 + 1) S4) else (some (0, S4)))) else (rec1 (x2 + 1) S4)))
def F_X5_isWall (a1 : Int32) (a2 : Int32) (S : zSt) : Option (Int32 × zSt) :=
loopK (fun _ _ => none) (LB_X5_isWall_1 a1 a2) zfuel 0 S
theorem mv_X5_isWall : ZV mX5_isWall yX5_isWall 2 := ⟨q1889, qs120, q155, q1890, rfl, by decide, by decide, by decide +kernel⟩
theorem ct_X5_isWall {G : zGw} (hG : zGM G) (a1 : Int32) (a2 : Int32) : Zc mX5_isWall yX5_isWall zJI G [.ref (G.1 0), .int a1, .int a2] (F_X5_isWall a1 a2) := by
  refine Zc_of [some (.ref (G.1 0)), some (.int a1), some (.int a2), none] (by decide) rfl rfl (Nat.le_of_ble_eq_true rfl) rfl (fun X S res => ?_)
  unfold F_X5_isWall
  refine z_iconst (pc := 0) (v := 0) dX5_isWall_0 (by decide) ?_
  refine z_istore_n (pc := 1) 3 dX5_isWall_1 rfl (Nat.le_of_ble_eq_true rfl) rfl ?_
  refine z_loopK (fun j : Int32 → zSt → Option (Int32 × zSt) => ∀ (x2 : Int32) (S3 : zSt), Zm X mX5_isWall zJI G (0, 0) res S3 2 [some (.ref (G.1 0)), some (.int a1), some (.int a2), some (.int x2)] [] (j x2 S3)) ?_ ?_ zfuel _ _
  · intro x2 S3; exact z_none
  · intro rec1 hrec1 x2 S3
    unfold LB_X5_isWall_1
    refine z_iload_n (pc := 2) 3 dX5_isWall_2 rfl rfl ?_
    refine z_aload_n (pc := 3) 0 dX5_isWall_3 rfl rfl ?_
    refine z_callVi (pc := 4) _ _ 0 5 (ct_X5_squares hG) mv_X5_squares q1725 rfl (zGM_s0 hG) rfl (Nat.le_of_ble_eq_true rfl) (Nat.le_of_ble_eq_true rfl) rfl rfl (Nat.le_of_ble_eq_true rfl) dX5_isWall_4 (fun r5 S4 => ?_)
    refine z_icmp_ge (pc := 7) 39 dX5_isWall_7 rfl ?_ ?_
    · refine z_iconst (pc := 39) (v := 1) dX5_isWall_39 (by decide) ?_
      exact z_zret1 rfl dX5_isWall_40 rfl
    · refine z_iload_n (pc := 10) 3 dX5_isWall_10 rfl rfl ?_
      refine z_iload_n (pc := 11) 1 dX5_isWall_11 rfl rfl ?_
      refine z_ixor (pc := 12) dX5_isWall_12 ?_
      refine z_iload_n (pc := 13) 2 dX5_isWall_13 rfl rfl ?_
      refine z_iconst (pc := 14) (v := (-1)) dX5_isWall_14 (by decide) ?_
      refine z_ixor (pc := 15) dX5_isWall_15 ?_
      refine z_iand (pc := 16) dX5_isWall_16 ?_
      refine z_if_ne (pc := 17) 33 dX5_isWall_17 rfl ?_ ?_
      · refine z_iinc (pc := 33) (w := x2 + 1) dX5_isWall_33 rfl (by rw [show Int32.ofInt 1 = 1 from by decide]) (Nat.le_of_ble_eq_true rfl) rfl ?_
        refine z_goto (pc := 36) 2 dX5_isWall_36 rfl ?_
        exact hrec1 _ _
      · refine z_aload_n (pc := 20) 0 dX5_isWall_20 rfl rfl ?_
        refine gf_X5_M_46_0 hG (pc := 21) dX5_isWall_21 ?_
        refine z_iload_n (pc := 24) 3 dX5_isWall_24 rfl rfl ?_
        refine z_chk (fun h6 => ?_)
        refine z_iaload (pc := 25) 22 160 (zGM_s22 hG) h6 dX5_isWall_25 ?_
        refine z_iload_n (pc := 26) 2 dX5_isWall_26 rfl rfl ?_
        refine z_iand (pc := 27) dX5_isWall_27 ?_
        refine z_if_eq (pc := 28) 33 dX5_isWall_28 rfl ?_ ?_
        · refine z_iinc (pc := 33) (w := x2 + 1) dX5_isWall_33 rfl (by rw [show Int32.ofInt 1 = 1 from by decide]) (Nat.le_of_ble_eq_true rfl) rfl ?_
          refine z_goto (pc := 36) 2 dX5_isWall_36 rfl ?_
          exact hrec1 _ _
        · refine z_iconst (pc := 31) (v := 0) dX5_isWall_31 (by decide) ?_
          exact z_zret0 rfl dX5_isWall_32 rfl
abbrev mX5_wallsOf : zMr := ("HiddenCubeModel", cX5_wallsOf, 5, (some .int), 4, 0, 0, none)
def LB_X5_wallsOf_1 (x3 : Int32) (rec1 : Int32 → Int32 → zSt → Option (Int32 × zSt)) (rec8 : Int32 → Int32 → zSt → Option (Int32 × zSt)) (x9 : Int32) (x10 : Int32) (S11 : zSt) : Option (Int32 × zSt) :=
zbind (F_X5_squares S11) (fun r13 S12 =>
if r13 ≤ x10 then (rec1 x9 (x3 + 1) S12) else (joinK (fun (v15 : Int32) (S16 : zSt) => rec8 (x9 + v15) (x10 + 1) S16) (fun j14 : Int32 → zSt → Option (Int32 × zSt) =>
joinK (fun  (S18 : zSt) => j14 0 S18) (fun j17 : zSt → Option (Int32 × zSt) =>
if (x10 &&& x3) = 0 then (zbind (F_X5_isWall x10 x3 S12) (fun r20 S19 =>
if r20 = 0 then (j17 S19) else (j14 1 S19))) else (j17 S12)))))
def LB_X5_wallsOf_2 (a1 : Int32) (rec1 : Int32 → Int32 → zSt → Option (Int32 × zSt)) (x2 : Int32) (x3 : Int32) (S4 : zSt) : Option (Int32 × zSt) :=
chk 0 15 (if ((1 : Int32) <<< ((S4.1 18 (0 : Int32).toNatClampNeg) &&& 31)) ≤ x3 then (some (x2, S4)) else (zbind (F_X5_bits x3 S4) (fun r7 S6 =>
if r7 = a1 then (loopK (fun _ _ _ => none) (LB_X5_wallsOf_1 x3 rec1) zfuel x2 0 S6) else (rec1 x2 (x3 + 1) S6))))
def F_X5_wallsOf (a1 : Int32) (S : zSt) : Option (Int32 × zSt) :=
loopK (fun _ _ _ => none) (LB_X5_wallsOf_2 a1) zfuel 0 0 S
theorem mv_X5_wallsOf : ZV mX5_wallsOf yX5_wallsOf 1 := ⟨q1885, qs119, q155, q1886, rfl, by decide, by decide, by decide +kernel⟩
theorem ct_X5_wallsOf {G : zGw} (hG : zGM G) (a1 : Int32) : Zc mX5_wallsOf yX5_wallsOf zJI G [.ref (G.1 0), .int a1] (F_X5_wallsOf a1) := by
  refine Zc_of [some (.ref (G.1 0)), some (.int a1), none, none, none] (by decide) rfl rfl (Nat.le_of_ble_eq_true rfl) rfl (fun X S res => ?_)
  unfold F_X5_wallsOf
  refine z_iconst (pc := 0) (v := 0) dX5_wallsOf_0 (by decide) ?_
  refine z_istore_n (pc := 1) 2 dX5_wallsOf_1 rfl (Nat.le_of_ble_eq_true rfl) rfl ?_
  refine z_iconst (pc := 2) (v := 0) dX5_wallsOf_2 (by decide) ?_
  refine z_istore_n (pc := 3) 3 dX5_wallsOf_3 rfl (Nat.le_of_ble_eq_true rfl) rfl ?_
  refine z_loopK (fun j : Int32 → Int32 → zSt → Option (Int32 × zSt) => ∀ (x2 : Int32) (x3 : Int32) (S4 : zSt), Zm X mX5_wallsOf zJI G (0, 0) res S4 4 [some (.ref (G.1 0)), some (.int a1), some (.int x2), some (.int x3), none] [] (j x2 x3 S4)) ?_ ?_ zfuel _ _ _
  · intro x2 x3 S4; exact z_none
  · intro rec1 hrec1 x2 x3 S4
    unfold LB_X5_wallsOf_2
    refine z_iload_n (pc := 4) 3 dX5_wallsOf_4 rfl rfl ?_
    refine z_iconst (pc := 5) (v := 1) dX5_wallsOf_5 (by decide) ?_
    refine z_aload_n (pc := 6) 0 dX5_wallsOf_6 rfl rfl ?_
    refine gf_X5_M_34_0 hG (pc := 7) dX5_wallsOf_7 ?_
    refine z_iconst (pc := 10) (v := 0) dX5_wallsOf_10 (by decide) ?_
    refine z_chk (fun h5 => ?_)
    refine z_iaload (pc := 11) 18 15 (zGM_s18 hG) h5 dX5_wallsOf_11 ?_
    refine z_ishl (pc := 12) dX5_wallsOf_12 ?_
    refine z_icmp_ge (pc := 13) 76 dX5_wallsOf_13 rfl ?_ ?_
    · refine z_iload_n (pc := 76) 2 dX5_wallsOf_76 rfl rfl ?_
      exact z_iret rfl dX5_wallsOf_77 rfl
    · refine z_iload_n (pc := 16) 3 dX5_wallsOf_16 rfl rfl ?_
      refine z_callSi (pc := 17) _ _ (ct_X5_bits  _) mv_X5_bits q1756 rfl (Nat.le_of_ble_eq_true rfl) (Nat.le_of_ble_eq_true rfl) rfl rfl (Nat.le_of_ble_eq_true rfl) dX5_wallsOf_17 (fun r7 S6 => ?_)
      refine z_iload_n (pc := 20) 1 dX5_wallsOf_20 rfl rfl ?_
      refine z_icmp_eq (pc := 21) 27 dX5_wallsOf_21 rfl ?_ ?_
      · refine z_iconst (pc := 27) (v := 0) dX5_wallsOf_27 (by decide) ?_
        refine z_istore (pc := 28) dX5_wallsOf_28 (Nat.le_of_ble_eq_true rfl) rfl ?_
        refine z_loopK (fun j : Int32 → Int32 → zSt → Option (Int32 × zSt) => ∀ (x9 : Int32) (x10 : Int32) (S11 : zSt), Zm X mX5_wallsOf zJI G (0, 0) res S11 30 [some (.ref (G.1 0)), some (.int a1), some (.int x9), some (.int x3), some (.int x10)] [] (j x9 x10 S11)) ?_ ?_ zfuel _ _ _
        · intro x9 x10 S11; exact z_none
        · intro rec8 hrec8 x9 x10 S11
          unfold LB_X5_wallsOf_1
          refine z_iload (pc := 30) dX5_wallsOf_30 rfl ?_
          refine z_aload_n (pc := 32) 0 dX5_wallsOf_32 rfl rfl ?_
          refine z_callVi (pc := 33) _ _ 0 5 (ct_X5_squares hG) mv_X5_squares q1725 rfl (zGM_s0 hG) rfl (Nat.le_of_ble_eq_true rfl) (Nat.le_of_ble_eq_true rfl) rfl rfl (Nat.le_of_ble_eq_true rfl) dX5_wallsOf_33 (fun r13 S12 => ?_)
          refine z_icmp_ge (pc := 36) 70 dX5_wallsOf_36 rfl ?_ ?_
          · refine z_iinc (pc := 70) (w := x3 + 1) dX5_wallsOf_70 rfl (by rw [show Int32.ofInt 1 = 1 from by decide]) (Nat.le_of_ble_eq_true rfl) rfl ?_
            refine z_goto (pc := 73) 4 dX5_wallsOf_73 rfl ?_
            exact z_mask [true, true, true, true, false] (hrec1 _ _ _) rfl
          · refine z_iload_n (pc := 39) 2 dX5_wallsOf_39 rfl rfl ?_
            refine z_iload (pc := 40) dX5_wallsOf_40 rfl ?_
            refine z_iload_n (pc := 42) 3 dX5_wallsOf_42 rfl rfl ?_
            refine z_iand (pc := 43) dX5_wallsOf_43 ?_
            refine z_join (fun j : Int32 → zSt → Option (Int32 × zSt) => ∀ (v15 : Int32) (S16 : zSt), Zm X mX5_wallsOf zJI G (0, 0) res S16 62 [some (.ref (G.1 0)), some (.int a1), none, some (.int x3), some (.int x10)] [.int v15, .int x9] (j v15 S16)) ?_ (fun j14 hj14 => ?_)
            · intro v15 S16
              refine z_iadd (pc := 62) dX5_wallsOf_62 ?_
              refine z_istore_n (pc := 63) 2 dX5_wallsOf_63 rfl (Nat.le_of_ble_eq_true rfl) rfl ?_
              refine z_iinc (pc := 64) (w := x10 + 1) dX5_wallsOf_64 rfl (by rw [show Int32.ofInt 1 = 1 from by decide]) (Nat.le_of_ble_eq_true rfl) rfl ?_
              refine z_goto (pc := 67) 30 dX5_wallsOf_67 rfl ?_
              exact hrec8 _ _ _
            · refine z_join (fun j : zSt → Option (Int32 × zSt) => ∀  (S18 : zSt), Zm X mX5_wallsOf zJI G (0, 0) res S18 61 [some (.ref (G.1 0)), some (.int a1), none, some (.int x3), some (.int x10)] [.int x9] (j S18)) ?_ (fun j17 hj17 => ?_)
              · intro S18
                refine z_iconst (pc := 61) (v := 0) dX5_wallsOf_61 (by decide) ?_
                exact hj14 _ _
              · refine z_if_ne (pc := 44) 61 dX5_wallsOf_44 rfl ?_ ?_
                · exact z_mask [true, true, false, true, true] (hj17 _) rfl
                · refine z_aload_n (pc := 47) 0 dX5_wallsOf_47 rfl rfl ?_
                  refine z_iload (pc := 48) dX5_wallsOf_48 rfl ?_
                  refine z_iload_n (pc := 50) 3 dX5_wallsOf_50 rfl rfl ?_
                  refine z_callVi (pc := 51) _ _ 0 5 (ct_X5_isWall hG _ _) mv_X5_isWall q1887 rfl (zGM_s0 hG) rfl (Nat.le_of_ble_eq_true rfl) (Nat.le_of_ble_eq_true rfl) rfl rfl (Nat.le_of_ble_eq_true rfl) dX5_wallsOf_51 (fun r20 S19 => ?_)
                  refine z_if_eq (pc := 54) 61 dX5_wallsOf_54 rfl ?_ ?_
                  · exact z_mask [true, true, false, true, true] (hj17 _) rfl
                  · refine z_iconst (pc := 57) (v := 1) dX5_wallsOf_57 (by decide) ?_
                    refine z_goto (pc := 58) 62 dX5_wallsOf_58 rfl ?_
                    exact z_mask [true, true, false, true, true] (hj14 _ _) rfl
      · refine z_goto (pc := 24) 70 dX5_wallsOf_24 rfl ?_
        refine z_iinc (pc := 70) (w := x3 + 1) dX5_wallsOf_70 rfl (by rw [show Int32.ofInt 1 = 1 from by decide]) (Nat.le_of_ble_eq_true rfl) rfl ?_
        refine z_goto (pc := 73) 4 dX5_wallsOf_73 rfl ?_
        exact hrec1 _ _ _
abbrev mX5_fours : zMr := ("HiddenCubeModel", cX5_fours, 1, (some .int), 5, 0, 0, none)
def F_X5_fours  (S : zSt) : Option (Int32 × zSt) :=
zlet (sI S 0 0 0 : zSt) (fun S1 : zSt =>
zbind (F_X5_isTown S1) (fun r3 S2 =>
if r3 = 0 then (some ((-2), S2)) else (zbind (F_X5_wallsOf 2 S2) (fun r5 S4 =>
some (r5, S4)))))
theorem mv_X5_fours : ZV mX5_fours yX5_fours 0 := ⟨q1880, q1881, q155, q1882, rfl, by decide, by decide, by decide +kernel⟩
theorem ct_X5_fours {G : zGw} (hG : zGM G)  : Zc mX5_fours yX5_fours zJI G [.ref (G.1 0)] (F_X5_fours) := by
  refine Zc_of [some (.ref (G.1 0))] (by decide) rfl rfl (Nat.le_of_ble_eq_true rfl) rfl (fun X S res => ?_)
  unfold F_X5_fours
  refine z_aload_n (pc := 0) 0 dX5_fours_0 rfl rfl ?_
  refine z_iconst (pc := 1) (v := 0) dX5_fours_1 (by decide) ?_
  refine pf_X5_M_131_0 hG (pc := 2) dX5_fours_2 ?_
  refine z_letS (fun S1 => ?_)
  refine z_aload_n (pc := 5) 0 dX5_fours_5 rfl rfl ?_
  refine z_callVi (pc := 6) _ _ 0 5 (ct_X5_isTown hG) mv_X5_isTown q1729 rfl (zGM_s0 hG) rfl (Nat.le_of_ble_eq_true rfl) (Nat.le_of_ble_eq_true rfl) rfl rfl (Nat.le_of_ble_eq_true rfl) dX5_fours_6 (fun r3 S2 => ?_)
  refine z_if_eq (pc := 9) 20 dX5_fours_9 rfl ?_ ?_
  · refine z_bipush (pc := 20) (v := (-2)) dX5_fours_20 (by decide) ?_
    exact z_iret rfl dX5_fours_22 rfl
  · refine z_aload_n (pc := 12) 0 dX5_fours_12 rfl rfl ?_
    refine z_iconst (pc := 13) (v := 2) dX5_fours_13 (by decide) ?_
    refine z_callVi (pc := 14) _ _ 0 5 (ct_X5_wallsOf hG _) mv_X5_wallsOf q1883 rfl (zGM_s0 hG) rfl (Nat.le_of_ble_eq_true rfl) (Nat.le_of_ble_eq_true rfl) rfl rfl (Nat.le_of_ble_eq_true rfl) dX5_fours_14 (fun r5 S4 => ?_)
    refine z_goto (pc := 17) 22 dX5_fours_17 rfl ?_
    exact z_iret rfl dX5_fours_22 rfl
abbrev mX5_walls : zMr := ("HiddenCubeModel", cX5_walls, 2, (some .int), 5, 0, 0, none)
def F_X5_walls (a1 : Int32) (S : zSt) : Option (Int32 × zSt) :=
zlet (sI S 0 0 0 : zSt) (fun S1 : zSt =>
zbind (F_X5_isTown S1) (fun r3 S2 =>
if r3 = 0 then (some ((-2), S2)) else (zbind (F_X5_in ((a1).toInt64) 0 5 S2) (fun r5 S4 =>
if r5 = 0 then (some ((-2), S4)) else (zbind (F_X5_wallsOf a1 S4) (fun r7 S6 =>
some (r7, S6)))))))
theorem mv_X5_walls : ZV mX5_walls yX5_walls 1 := ⟨q1892, q1893, q155, q1894, rfl, by decide, by decide, by decide +kernel⟩
theorem ct_X5_walls {G : zGw} (hG : zGM G) (a1 : Int32) : Zc mX5_walls yX5_walls zJI G [.ref (G.1 0), .int a1] (F_X5_walls a1) := by
  refine Zc_of [some (.ref (G.1 0)), some (.int a1)] (by decide) rfl rfl (Nat.le_of_ble_eq_true rfl) rfl (fun X S res => ?_)
  unfold F_X5_walls
  refine z_aload_n (pc := 0) 0 dX5_walls_0 rfl rfl ?_
  refine z_iconst (pc := 1) (v := 0) dX5_walls_1 (by decide) ?_
  refine pf_X5_M_131_0 hG (pc := 2) dX5_walls_2 ?_
  refine z_letS (fun S1 => ?_)
  refine z_aload_n (pc := 5) 0 dX5_walls_5 rfl rfl ?_
  refine z_callVi (pc := 6) _ _ 0 5 (ct_X5_isTown hG) mv_X5_isTown q1729 rfl (zGM_s0 hG) rfl (Nat.le_of_ble_eq_true rfl) (Nat.le_of_ble_eq_true rfl) rfl rfl (Nat.le_of_ble_eq_true rfl) dX5_walls_6 (fun r3 S2 => ?_)
  refine z_if_eq (pc := 9) 32 dX5_walls_9 rfl ?_ ?_
  · refine z_bipush (pc := 32) (v := (-2)) dX5_walls_32 (by decide) ?_
    exact z_iret rfl dX5_walls_34 rfl
  · refine z_iload_n (pc := 12) 1 dX5_walls_12 rfl rfl ?_
    refine z_i2l (pc := 13) dX5_walls_13 ?_
    refine z_lconst (pc := 14) (v := 0) dX5_walls_14 (by decide) ?_
    refine z_ldc2 (pc := 15) (v := 5) dX5_walls_15 q1895 ?_
    refine z_callSi (pc := 18) _ _ (ct_X5_in  _ _ _) mv_X5_in q1578 rfl (Nat.le_of_ble_eq_true rfl) (Nat.le_of_ble_eq_true rfl) rfl rfl (Nat.le_of_ble_eq_true rfl) dX5_walls_18 (fun r5 S4 => ?_)
    refine z_if_eq (pc := 21) 32 dX5_walls_21 rfl ?_ ?_
    · refine z_bipush (pc := 32) (v := (-2)) dX5_walls_32 (by decide) ?_
      exact z_iret rfl dX5_walls_34 rfl
    · refine z_aload_n (pc := 24) 0 dX5_walls_24 rfl rfl ?_
      refine z_iload_n (pc := 25) 1 dX5_walls_25 rfl rfl ?_
      refine z_callVi (pc := 26) _ _ 0 5 (ct_X5_wallsOf hG _) mv_X5_wallsOf q1883 rfl (zGM_s0 hG) rfl (Nat.le_of_ble_eq_true rfl) (Nat.le_of_ble_eq_true rfl) rfl rfl (Nat.le_of_ble_eq_true rfl) dX5_walls_26 (fun r7 S6 => ?_)
      refine z_goto (pc := 29) 34 dX5_walls_29 rfl ?_
      exact z_iret rfl dX5_walls_34 rfl
abbrev mX5_wall : zMr := ("HiddenCubeModel", cX5_wall, 3, (some .int), 4, 0, 0, none)
def F_X5_wall (a1 : Int32) (a2 : Int32) (S : zSt) : Option (Int32 × zSt) :=
zlet (sI S 0 0 0 : zSt) (fun S1 : zSt =>
zbind (F_X5_isSquare ((a1).toInt64) S1) (fun r3 S2 =>
if r3 = 0 then (some ((-2), S2)) else (chk 0 15 (zbind (F_X5_in ((a2).toInt64) 0 ((((1 : Int32) <<< ((S2.1 18 (0 : Int32).toNatClampNeg) &&& 31)) - 1).toInt64) S2) (fun r6 S5 =>
if r6 = 0 then (some ((-2), S5)) else (zbind (F_X5_isWall a1 a2 S5) (fun r8 S7 =>
if r8 = 0 then (some (0, S7)) else (some (1, S7)))))))))
theorem mv_X5_wall : ZV mX5_wall yX5_wall 2 := ⟨q1897, q1898, q155, q1899, rfl, by decide, by decide, by decide +kernel⟩
theorem ct_X5_wall {G : zGw} (hG : zGM G) (a1 : Int32) (a2 : Int32) : Zc mX5_wall yX5_wall zJI G [.ref (G.1 0), .int a1, .int a2] (F_X5_wall a1 a2) := by
  refine Zc_of [some (.ref (G.1 0)), some (.int a1), some (.int a2)] (by decide) rfl rfl (Nat.le_of_ble_eq_true rfl) rfl (fun X S res => ?_)
  unfold F_X5_wall
  refine z_aload_n (pc := 0) 0 dX5_wall_0 rfl rfl ?_
  refine z_iconst (pc := 1) (v := 0) dX5_wall_1 (by decide) ?_
  refine pf_X5_M_131_0 hG (pc := 2) dX5_wall_2 ?_
  refine z_letS (fun S1 => ?_)
  refine z_aload_n (pc := 5) 0 dX5_wall_5 rfl rfl ?_
  refine z_iload_n (pc := 6) 1 dX5_wall_6 rfl rfl ?_
  refine z_i2l (pc := 7) dX5_wall_7 ?_
  refine z_callVi (pc := 8) _ _ 0 5 (ct_X5_isSquare hG _) mv_X5_isSquare q1721 rfl (zGM_s0 hG) rfl (Nat.le_of_ble_eq_true rfl) (Nat.le_of_ble_eq_true rfl) rfl rfl (Nat.le_of_ble_eq_true rfl) dX5_wall_8 (fun r3 S2 => ?_)
  refine z_if_eq (pc := 11) 51 dX5_wall_11 rfl ?_ ?_
  · refine z_bipush (pc := 51) (v := (-2)) dX5_wall_51 (by decide) ?_
    exact z_iret rfl dX5_wall_53 rfl
  · refine z_iload_n (pc := 14) 2 dX5_wall_14 rfl rfl ?_
    refine z_i2l (pc := 15) dX5_wall_15 ?_
    refine z_lconst (pc := 16) (v := 0) dX5_wall_16 (by decide) ?_
    refine z_iconst (pc := 17) (v := 1) dX5_wall_17 (by decide) ?_
    refine z_aload_n (pc := 18) 0 dX5_wall_18 rfl rfl ?_
    refine gf_X5_M_34_0 hG (pc := 19) dX5_wall_19 ?_
    refine z_iconst (pc := 22) (v := 0) dX5_wall_22 (by decide) ?_
    refine z_chk (fun h4 => ?_)
    refine z_iaload (pc := 23) 18 15 (zGM_s18 hG) h4 dX5_wall_23 ?_
    refine z_ishl (pc := 24) dX5_wall_24 ?_
    refine z_iconst (pc := 25) (v := 1) dX5_wall_25 (by decide) ?_
    refine z_isub (pc := 26) dX5_wall_26 ?_
    refine z_i2l (pc := 27) dX5_wall_27 ?_
    refine z_callSi (pc := 28) _ _ (ct_X5_in  _ _ _) mv_X5_in q1578 rfl (Nat.le_of_ble_eq_true rfl) (Nat.le_of_ble_eq_true rfl) rfl rfl (Nat.le_of_ble_eq_true rfl) dX5_wall_28 (fun r6 S5 => ?_)
    refine z_if_eq (pc := 31) 51 dX5_wall_31 rfl ?_ ?_
    · refine z_bipush (pc := 51) (v := (-2)) dX5_wall_51 (by decide) ?_
      exact z_iret rfl dX5_wall_53 rfl
    · refine z_aload_n (pc := 34) 0 dX5_wall_34 rfl rfl ?_
      refine z_iload_n (pc := 35) 1 dX5_wall_35 rfl rfl ?_
      refine z_iload_n (pc := 36) 2 dX5_wall_36 rfl rfl ?_
      refine z_callVi (pc := 37) _ _ 0 5 (ct_X5_isWall hG _ _) mv_X5_isWall q1887 rfl (zGM_s0 hG) rfl (Nat.le_of_ble_eq_true rfl) (Nat.le_of_ble_eq_true rfl) rfl rfl (Nat.le_of_ble_eq_true rfl) dX5_wall_37 (fun r8 S7 => ?_)
      refine z_if_eq (pc := 40) 47 dX5_wall_40 rfl ?_ ?_
      · refine z_iconst (pc := 47) (v := 0) dX5_wall_47 (by decide) ?_
        refine z_goto (pc := 48) 53 dX5_wall_48 rfl ?_
        exact z_iret rfl dX5_wall_53 rfl
      · refine z_iconst (pc := 43) (v := 1) dX5_wall_43 (by decide) ?_
        refine z_goto (pc := 44) 53 dX5_wall_44 rfl ?_
        exact z_iret rfl dX5_wall_53 rfl
abbrev mX5_turnedBy : zMr := ("HiddenCubeModel", cX5_turnedBy, 5, (some .int), 2, 0, 0, none)
def LB_X5_turnedBy_1 (a1 : Int32) (a2 : Int32) (k1 : Int32 → zSt → Option (Int32 × zSt)) (rec5 : Int32 → Int32 → zSt → Option (Int32 × zSt)) (x6 : Int32) (x7 : Int32) (S8 : zSt) : Option (Int32 × zSt) :=
chk 0 15 (if (S8.1 18 (0 : Int32).toNatClampNeg) ≤ x7 then (k1 x6 S8) else (zbind (F_X5_isBit a2 x7 S8) (fun r11 S10 =>
joinK (fun (v13 : Int32) => rec5 (x6 ||| v13) (x7 + 1) S10) (fun j12 : Int32 → Option (Int32 × zSt) =>
if r11 = 0 then (j12 0) else (chk ((5 * a1) + x7) 19200 (j12 ((1 : Int32) <<< ((S10.1 33 ((5 * a1) + x7).toNatClampNeg) &&& 31))))))))
def F_X5_turnedBy (a1 : Int32) (a2 : Int32) (S : zSt) : Option (Int32 × zSt) :=
joinK (fun (x2 : Int32) (S3 : zSt) => chk a1 3840 (some (x2 ^^^ (S3.1 34 (a1).toNatClampNeg), S3))) (fun k1 : Int32 → zSt → Option (Int32 × zSt) =>
loopK (fun _ _ _ => none) (LB_X5_turnedBy_1 a1 a2 k1) zfuel 0 0 S)
theorem mv_X5_turnedBy : ZV mX5_turnedBy yX5_turnedBy 2 := ⟨q1918, qs124, q155, q1919, rfl, by decide, by decide, by decide +kernel⟩
theorem ct_X5_turnedBy {G : zGw} (hG : zGM G) (a1 : Int32) (a2 : Int32) : Zc mX5_turnedBy yX5_turnedBy zJI G [.ref (G.1 0), .int a1, .int a2] (F_X5_turnedBy a1 a2) := by
  refine Zc_of [some (.ref (G.1 0)), some (.int a1), some (.int a2), none, none] (by decide) rfl rfl (Nat.le_of_ble_eq_true rfl) rfl (fun X S res => ?_)
  unfold F_X5_turnedBy
  refine z_iconst (pc := 0) (v := 0) dX5_turnedBy_0 (by decide) ?_
  refine z_istore_n (pc := 1) 3 dX5_turnedBy_1 rfl (Nat.le_of_ble_eq_true rfl) rfl ?_
  refine z_iconst (pc := 2) (v := 0) dX5_turnedBy_2 (by decide) ?_
  refine z_istore (pc := 3) dX5_turnedBy_3 (Nat.le_of_ble_eq_true rfl) rfl ?_
  refine z_join (fun j : Int32 → zSt → Option (Int32 × zSt) => ∀ (x2 : Int32) (S3 : zSt), Zm X mX5_turnedBy zJI G (0, 0) res S3 51 [some (.ref (G.1 0)), some (.int a1), none, some (.int x2), none] [] (j x2 S3)) ?_ (fun k1 hk1 => ?_)
  · intro x2 S3
    refine z_iload_n (pc := 51) 3 dX5_turnedBy_51 rfl rfl ?_
    refine z_aload_n (pc := 52) 0 dX5_turnedBy_52 rfl rfl ?_
    refine gf_X5_M_83_0 hG (pc := 53) dX5_turnedBy_53 ?_
    refine z_iload_n (pc := 56) 1 dX5_turnedBy_56 rfl rfl ?_
    refine z_chk (fun h4 => ?_)
    refine z_iaload (pc := 57) 34 3840 (zGM_s34 hG) h4 dX5_turnedBy_57 ?_
    refine z_ixor (pc := 58) dX5_turnedBy_58 ?_
    exact z_iret rfl dX5_turnedBy_59 rfl
  · refine z_loopK (fun j : Int32 → Int32 → zSt → Option (Int32 × zSt) => ∀ (x6 : Int32) (x7 : Int32) (S8 : zSt), Zm X mX5_turnedBy zJI G (0, 0) res S8 5 [some (.ref (G.1 0)), some (.int a1), some (.int a2), some (.int x6), some (.int x7)] [] (j x6 x7 S8)) ?_ ?_ zfuel _ _ _
    · intro x6 x7 S8; exact z_none
    · intro rec5 hrec5 x6 x7 S8
      unfold LB_X5_turnedBy_1
      refine z_iload (pc := 5) dX5_turnedBy_5 rfl ?_
      refine z_aload_n (pc := 7) 0 dX5_turnedBy_7 rfl rfl ?_
      refine gf_X5_M_34_0 hG (pc := 8) dX5_turnedBy_8 ?_
      refine z_iconst (pc := 11) (v := 0) dX5_turnedBy_11 (by decide) ?_
      refine z_chk (fun h9 => ?_)
      refine z_iaload (pc := 12) 18 15 (zGM_s18 hG) h9 dX5_turnedBy_12 ?_
      refine z_icmp_ge (pc := 13) 51 dX5_turnedBy_13 rfl ?_ ?_
      · exact z_mask [true, true, false, true, false] (hk1 _ _) rfl
      · refine z_iload_n (pc := 16) 3 dX5_turnedBy_16 rfl rfl ?_
        refine z_iload_n (pc := 17) 2 dX5_turnedBy_17 rfl rfl ?_
        refine z_iload (pc := 18) dX5_turnedBy_18 rfl ?_
        refine z_callSi (pc := 20) _ _ (ct_X5_isBit  _ _) mv_X5_isBit q1737 rfl (Nat.le_of_ble_eq_true rfl) (Nat.le_of_ble_eq_true rfl) rfl rfl (Nat.le_of_ble_eq_true rfl) dX5_turnedBy_20 (fun r11 S10 => ?_)
        refine z_join (fun j : Int32 → Option (Int32 × zSt) => ∀ (v13 : Int32), Zm X mX5_turnedBy zJI G (0, 0) res S10 43 [some (.ref (G.1 0)), some (.int a1), some (.int a2), none, some (.int x7)] [.int v13, .int x6] (j v13)) ?_ (fun j12 hj12 => ?_)
        · intro v13
          refine z_ior (pc := 43) dX5_turnedBy_43 ?_
          refine z_istore_n (pc := 44) 3 dX5_turnedBy_44 rfl (Nat.le_of_ble_eq_true rfl) rfl ?_
          refine z_iinc (pc := 45) (w := x7 + 1) dX5_turnedBy_45 rfl (by rw [show Int32.ofInt 1 = 1 from by decide]) (Nat.le_of_ble_eq_true rfl) rfl ?_
          refine z_goto (pc := 48) 5 dX5_turnedBy_48 rfl ?_
          exact hrec5 _ _ _
        · refine z_if_eq (pc := 23) 42 dX5_turnedBy_23 rfl ?_ ?_
          · refine z_iconst (pc := 42) (v := 0) dX5_turnedBy_42 (by decide) ?_
            exact z_mask [true, true, true, false, true] (hj12 _) rfl
          · refine z_iconst (pc := 26) (v := 1) dX5_turnedBy_26 (by decide) ?_
            refine z_aload_n (pc := 27) 0 dX5_turnedBy_27 rfl rfl ?_
            refine gf_X5_M_80_0 hG (pc := 28) dX5_turnedBy_28 ?_
            refine z_iconst (pc := 31) (v := 5) dX5_turnedBy_31 (by decide) ?_
            refine z_iload_n (pc := 32) 1 dX5_turnedBy_32 rfl rfl ?_
            refine z_imul (pc := 33) dX5_turnedBy_33 ?_
            refine z_iload (pc := 34) dX5_turnedBy_34 rfl ?_
            refine z_iadd (pc := 36) dX5_turnedBy_36 ?_
            refine z_chk (fun h14 => ?_)
            refine z_iaload (pc := 37) 33 19200 (zGM_s33 hG) h14 dX5_turnedBy_37 ?_
            refine z_ishl (pc := 38) dX5_turnedBy_38 ?_
            refine z_goto (pc := 39) 43 dX5_turnedBy_39 rfl ?_
            exact z_mask [true, true, true, false, true] (hj12 _) rfl
abbrev mX5_keepsStreets : zMr := ("HiddenCubeModel", cX5_keepsStreets, 5, (some .boolean), 3, 0, 0, none)
def LB_X5_keepsStreets_1 (a1 : Int32) (x2 : Int32) (rec1 : Int32 → zSt → Option (Int32 × zSt)) (r7 : Int32) (rec8 : Int32 → zSt → Option (Int32 × zSt)) (x9 : Int32) (S10 : zSt) : Option (Int32 × zSt) :=
chk 0 15 (if (S10.1 18 (0 : Int32).toNatClampNeg) ≤ x9 then (rec1 (x2 + 1) S10) else (zbind (F_X5_isOpen x2 x9 S10) (fun r13 S12 =>
chk ((5 * a1) + x9) 19200 (zbind (F_X5_isOpen r7 (S12.1 33 ((5 * a1) + x9).toNatClampNeg) S12) (fun r16 S15 =>
if r13 = r16 then (rec8 (x9 + 1) S15) else (some (0, S15)))))))
def LB_X5_keepsStreets_2 (a1 : Int32) (rec1 : Int32 → zSt → Option (Int32 × zSt)) (x2 : Int32) (S3 : zSt) : Option (Int32 × zSt) :=
zbind (F_X5_squares S3) (fun r5 S4 =>
if r5 ≤ x2 then (some (1, S4)) else (zbind (F_X5_turnedBy a1 x2 S4) (fun r7 S6 =>
loopK (fun _ _ => none) (LB_X5_keepsStreets_1 a1 x2 rec1 r7) zfuel 0 S6)))
def F_X5_keepsStreets (a1 : Int32) (S : zSt) : Option (Int32 × zSt) :=
loopK (fun _ _ => none) (LB_X5_keepsStreets_2 a1) zfuel 0 S
theorem mv_X5_keepsStreets : ZV mX5_keepsStreets yX5_keepsStreets 1 := ⟨q1914, qs123, q155, q1915, rfl, by decide, by decide, by decide +kernel⟩
theorem ct_X5_keepsStreets {G : zGw} (hG : zGM G) (a1 : Int32) : Zc mX5_keepsStreets yX5_keepsStreets zJI G [.ref (G.1 0), .int a1] (F_X5_keepsStreets a1) := by
  refine Zc_of [some (.ref (G.1 0)), some (.int a1), none, none, none] (by decide) rfl rfl (Nat.le_of_ble_eq_true rfl) rfl (fun X S res => ?_)
  unfold F_X5_keepsStreets
  refine z_iconst (pc := 0) (v := 0) dX5_keepsStreets_0 (by decide) ?_
  refine z_istore_n (pc := 1) 2 dX5_keepsStreets_1 rfl (Nat.le_of_ble_eq_true rfl) rfl ?_
  refine z_loopK (fun j : Int32 → zSt → Option (Int32 × zSt) => ∀ (x2 : Int32) (S3 : zSt), Zm X mX5_keepsStreets zJI G (0, 0) res S3 2 [some (.ref (G.1 0)), some (.int a1), some (.int x2), none, none] [] (j x2 S3)) ?_ ?_ zfuel _ _
  · intro x2 S3; exact z_none
  · intro rec1 hrec1 x2 S3
    unfold LB_X5_keepsStreets_2
    refine z_iload_n (pc := 2) 2 dX5_keepsStreets_2 rfl rfl ?_
    refine z_aload_n (pc := 3) 0 dX5_keepsStreets_3 rfl rfl ?_
    refine z_callVi (pc := 4) _ _ 0 5 (ct_X5_squares hG) mv_X5_squares q1725 rfl (zGM_s0 hG) rfl (Nat.le_of_ble_eq_true rfl) (Nat.le_of_ble_eq_true rfl) rfl rfl (Nat.le_of_ble_eq_true rfl) dX5_keepsStreets_4 (fun r5 S4 => ?_)
    refine z_icmp_ge (pc := 7) 71 dX5_keepsStreets_7 rfl ?_ ?_
    · refine z_iconst (pc := 71) (v := 1) dX5_keepsStreets_71 (by decide) ?_
      exact z_zret1 rfl dX5_keepsStreets_72 rfl
    · refine z_aload_n (pc := 10) 0 dX5_keepsStreets_10 rfl rfl ?_
      refine z_iload_n (pc := 11) 1 dX5_keepsStreets_11 rfl rfl ?_
      refine z_iload_n (pc := 12) 2 dX5_keepsStreets_12 rfl rfl ?_
      refine z_callVi (pc := 13) _ _ 0 5 (ct_X5_turnedBy hG _ _) mv_X5_turnedBy q1916 rfl (zGM_s0 hG) rfl (Nat.le_of_ble_eq_true rfl) (Nat.le_of_ble_eq_true rfl) rfl rfl (Nat.le_of_ble_eq_true rfl) dX5_keepsStreets_13 (fun r7 S6 => ?_)
      refine z_istore_n (pc := 16) 3 dX5_keepsStreets_16 rfl (Nat.le_of_ble_eq_true rfl) rfl ?_
      refine z_iconst (pc := 17) (v := 0) dX5_keepsStreets_17 (by decide) ?_
      refine z_istore (pc := 18) dX5_keepsStreets_18 (Nat.le_of_ble_eq_true rfl) rfl ?_
      refine z_loopK (fun j : Int32 → zSt → Option (Int32 × zSt) => ∀ (x9 : Int32) (S10 : zSt), Zm X mX5_keepsStreets zJI G (0, 0) res S10 20 [some (.ref (G.1 0)), some (.int a1), some (.int x2), some (.int r7), some (.int x9)] [] (j x9 S10)) ?_ ?_ zfuel _ _
      · intro x9 S10; exact z_none
      · intro rec8 hrec8 x9 S10
        unfold LB_X5_keepsStreets_1
        refine z_iload (pc := 20) dX5_keepsStreets_20 rfl ?_
        refine z_aload_n (pc := 22) 0 dX5_keepsStreets_22 rfl rfl ?_
        refine gf_X5_M_34_0 hG (pc := 23) dX5_keepsStreets_23 ?_
        refine z_iconst (pc := 26) (v := 0) dX5_keepsStreets_26 (by decide) ?_
        refine z_chk (fun h11 => ?_)
        refine z_iaload (pc := 27) 18 15 (zGM_s18 hG) h11 dX5_keepsStreets_27 ?_
        refine z_icmp_ge (pc := 28) 65 dX5_keepsStreets_28 rfl ?_ ?_
        · refine z_iinc (pc := 65) (w := x2 + 1) dX5_keepsStreets_65 rfl (by rw [show Int32.ofInt 1 = 1 from by decide]) (Nat.le_of_ble_eq_true rfl) rfl ?_
          refine z_goto (pc := 68) 2 dX5_keepsStreets_68 rfl ?_
          exact z_mask [true, true, true, false, false] (hrec1 _ _) rfl
        · refine z_aload_n (pc := 31) 0 dX5_keepsStreets_31 rfl rfl ?_
          refine z_iload_n (pc := 32) 2 dX5_keepsStreets_32 rfl rfl ?_
          refine z_iload (pc := 33) dX5_keepsStreets_33 rfl ?_
          refine z_callVi (pc := 35) _ _ 0 5 (ct_X5_isOpen hG _ _) mv_X5_isOpen q1733 rfl (zGM_s0 hG) rfl (Nat.le_of_ble_eq_true rfl) (Nat.le_of_ble_eq_true rfl) rfl rfl (Nat.le_of_ble_eq_true rfl) dX5_keepsStreets_35 (fun r13 S12 => ?_)
          refine z_aload_n (pc := 38) 0 dX5_keepsStreets_38 rfl rfl ?_
          refine z_iload_n (pc := 39) 3 dX5_keepsStreets_39 rfl rfl ?_
          refine z_aload_n (pc := 40) 0 dX5_keepsStreets_40 rfl rfl ?_
          refine gf_X5_M_80_0 hG (pc := 41) dX5_keepsStreets_41 ?_
          refine z_iconst (pc := 44) (v := 5) dX5_keepsStreets_44 (by decide) ?_
          refine z_iload_n (pc := 45) 1 dX5_keepsStreets_45 rfl rfl ?_
          refine z_imul (pc := 46) dX5_keepsStreets_46 ?_
          refine z_iload (pc := 47) dX5_keepsStreets_47 rfl ?_
          refine z_iadd (pc := 49) dX5_keepsStreets_49 ?_
          refine z_chk (fun h14 => ?_)
          refine z_iaload (pc := 50) 33 19200 (zGM_s33 hG) h14 dX5_keepsStreets_50 ?_
          refine z_callVi (pc := 51) _ _ 0 5 (ct_X5_isOpen hG _ _) mv_X5_isOpen q1733 rfl (zGM_s0 hG) rfl (Nat.le_of_ble_eq_true rfl) (Nat.le_of_ble_eq_true rfl) rfl rfl (Nat.le_of_ble_eq_true rfl) dX5_keepsStreets_51 (fun r16 S15 => ?_)
          refine z_icmp_eq (pc := 54) 59 dX5_keepsStreets_54 rfl ?_ ?_
          · refine z_iinc (pc := 59) (w := x9 + 1) dX5_keepsStreets_59 rfl (by rw [show Int32.ofInt 1 = 1 from by decide]) (Nat.le_of_ble_eq_true rfl) rfl ?_
            refine z_goto (pc := 62) 20 dX5_keepsStreets_62 rfl ?_
            exact hrec8 _ _
          · refine z_iconst (pc := 57) (v := 0) dX5_keepsStreets_57 (by decide) ?_
            exact z_zret0 rfl dX5_keepsStreets_58 rfl
abbrev mX5_orders (nrec : Nat) : zMr := ("HiddenCubeModel", cX5_orders, 5, none, 4 + nrec, 0, 0, none)
def LB_X5_orders_1 (k7 : zSt → Option (Unit × zSt)) (rec14 : Int32 → zSt → Option (Unit × zSt)) (x15 : Int32) (S16 : zSt) : Option (Unit × zSt) :=
chk 0 15 (if (S16.1 18 (0 : Int32).toNatClampNeg) ≤ x15 then (k7 S16) else (chk x15 5 (zlet ((5 * (S16.1 0 34)) + x15 : Int32) (fun w19 : Int32 =>
chk w19 19200 (zlet (sI S16 33 (w19).toNatClampNeg (S16.1 36 (x15).toNatClampNeg) : zSt) (fun S21 : zSt =>
rec14 (x15 + 1) S21))))))
def LB_X5_orders_2 (rec2 : Int32 → zSt → Option (Unit × zSt)) (x3 : Int32) (S4 : zSt) : Option (Unit × zSt) :=
zbind (F_X5_squares S4) (fun r6 S5 =>
if r6 ≤ x3 then (some ((), S5)) else (joinK (fun  (S8 : zSt) => chk (S8.1 0 34) 3840 (zlet (sI S8 34 (S8.1 0 34).toNatClampNeg x3 : zSt) (fun S10 : zSt =>
zbind (F_X5_keepsStreets (S10.1 0 34) S10) (fun r12 S11 =>
if r12 = 0 then (rec2 (x3 + 1) S11) else (zlet (sI S11 0 34 ((S11.1 0 34) + 1) : zSt) (fun S13 : zSt =>
rec2 (x3 + 1) S13)))))) (fun k7 : zSt → Option (Unit × zSt) =>
loopK (fun _ _ => none) (LB_X5_orders_1 k7) zfuel 0 S5)))
def LB_X5_orders_3 (a1 : Int32) (a2 : Int32) (self : Int32 → Int32 → zSt → Option (Unit × zSt)) (rec22 : Int32 → zSt → Option (Unit × zSt)) (x23 : Int32) (S24 : zSt) : Option (Unit × zSt) :=
chk 0 15 (if (S24.1 18 (0 : Int32).toNatClampNeg) ≤ x23 then (some ((), S24)) else (zbind (F_X5_isBit a2 x23 S24) (fun r27 S26 =>
if r27 = 0 then (chk a1 5 (zlet (sI S26 36 (a1).toNatClampNeg x23 : zSt) (fun S29 : zSt =>
zbind (self (a1 + 1) (a2 ||| ((1 : Int32) <<< (x23 &&& 31))) S29) (fun _ S30 =>
rec22 (x23 + 1) S30)))) else (rec22 (x23 + 1) S26))))
def FB_X5_orders (self : Int32 → Int32 → zSt → Option (Unit × zSt)) (a1 : Int32) (a2 : Int32) (S : zSt) : Option (Unit × zSt) :=
chk 0 15 (if (S.1 18 (0 : Int32).toNatClampNeg) ≤ a1 then (loopK (fun _ _ => none) (LB_X5_orders_2) zfuel 0 S) else (loopK (fun _ _ => none) (LB_X5_orders_3 a1 a2 self) zfuel 0 S))
def F_X5_orders : Nat → Int32 → Int32 → zSt → Option (Unit × zSt)
  | 0 => fun _ _ _ => none
  | nrec + 1 => FB_X5_orders (F_X5_orders nrec)
theorem mv_X5_orders (nrec : Nat) : ZV (mX5_orders nrec) yX5_orders 2 := ⟨q1910, qs122, q155, q1911, rfl, by decide, by decide, by decide +kernel⟩
theorem ct_X5_orders {G : zGw} (hG : zGM G) : ∀ (nrec : Nat) (a1 : Int32) (a2 : Int32), Zc (mX5_orders nrec) yX5_orders zJV G [.ref (G.1 0), .int a1, .int a2] (F_X5_orders nrec a1 a2) := by
  intro nrec
  induction nrec with
  | zero =>
    intro a1 a2 l S res sz hfl hF
    cases hF
  | succ nrec ih =>
    intro a1 a2
    show Zc (mX5_orders (nrec + 1)) yX5_orders zJV G [.ref (G.1 0), .int a1, .int a2] (FB_X5_orders (F_X5_orders nrec) a1 a2)
    refine Zc_of [some (.ref (G.1 0)), some (.int a1), some (.int a2), none, none] (by decide) rfl rfl (Nat.le_of_ble_eq_true rfl) rfl (fun X S res => ?_)
    unfold FB_X5_orders
    refine z_iload_n (pc := 0) 1 dX5_orders_0 rfl rfl ?_
    refine z_aload_n (pc := 1) 0 dX5_orders_1 rfl rfl ?_
    refine gf_X5_M_34_0 hG (pc := 2) dX5_orders_2 ?_
    refine z_iconst (pc := 5) (v := 0) dX5_orders_5 (by decide) ?_
    refine z_chk (fun h1 => ?_)
    refine z_iaload (pc := 6) 18 15 (zGM_s18 hG) h1 dX5_orders_6 ?_
    refine z_icmp_ge (pc := 7) 59 dX5_orders_7 rfl ?_ ?_
    · refine z_iconst (pc := 59) (v := 0) dX5_orders_59 (by decide) ?_
      refine z_istore_n (pc := 60) 3 dX5_orders_60 rfl (Nat.le_of_ble_eq_true rfl) rfl ?_
      refine z_maskk [true, false, false, true, false] ?_
      refine z_loopK (fun j : Int32 → zSt → Option (Unit × zSt) => ∀ (x3 : Int32) (S4 : zSt), Zm X (mX5_orders (nrec + 1)) zJV G (0, 0) res S4 61 [some (.ref (G.1 0)), none, none, some (.int x3), none] [] (j x3 S4)) ?_ ?_ zfuel _ _
      · intro x3 S4; exact z_none
      · intro rec2 hrec2 x3 S4
        unfold LB_X5_orders_2
        refine z_iload_n (pc := 61) 3 dX5_orders_61 rfl rfl ?_
        refine z_aload_n (pc := 62) 0 dX5_orders_62 rfl rfl ?_
        refine z_callVi (pc := 63) _ _ 0 5 (ct_X5_squares hG) mv_X5_squares q1725 rfl (zGM_s0 hG) rfl (Nat.le_trans (m := 4) (Nat.le_of_ble_eq_true rfl) (Nat.le_add_right _ _)) (Nat.le_of_ble_eq_true rfl) rfl rfl (Nat.le_of_ble_eq_true rfl) dX5_orders_63 (fun r6 S5 => ?_)
        refine z_icmp_ge (pc := 66) 147 dX5_orders_66 rfl ?_ ?_
        · exact z_vret rfl dX5_orders_147 rfl
        · refine z_iconst (pc := 69) (v := 0) dX5_orders_69 (by decide) ?_
          refine z_istore (pc := 70) dX5_orders_70 (Nat.le_of_ble_eq_true rfl) rfl ?_
          refine z_join (fun j : zSt → Option (Unit × zSt) => ∀  (S8 : zSt), Zm X (mX5_orders (nrec + 1)) zJV G (0, 0) res S8 110 [some (.ref (G.1 0)), none, none, some (.int x3), none] [] (j S8)) ?_ (fun k7 hk7 => ?_)
          · intro S8
            refine z_aload_n (pc := 110) 0 dX5_orders_110 rfl rfl ?_
            refine gf_X5_M_83_0 hG (pc := 111) dX5_orders_111 ?_
            refine z_aload_n (pc := 114) 0 dX5_orders_114 rfl rfl ?_
            refine gf_X5_M_353_0 hG (pc := 115) dX5_orders_115 ?_
            refine z_iload_n (pc := 118) 3 dX5_orders_118 rfl rfl ?_
            refine z_chk (fun h9 => ?_)
            refine z_iastore (pc := 119) 34 3840 (zGM_s34 hG) h9 dX5_orders_119 ?_
            refine z_letS (fun S10 => ?_)
            refine z_aload_n (pc := 120) 0 dX5_orders_120 rfl rfl ?_
            refine z_aload_n (pc := 121) 0 dX5_orders_121 rfl rfl ?_
            refine gf_X5_M_353_0 hG (pc := 122) dX5_orders_122 ?_
            refine z_callVi (pc := 125) _ _ 0 5 (ct_X5_keepsStreets hG _) mv_X5_keepsStreets q1912 rfl (zGM_s0 hG) rfl (Nat.le_trans (m := 4) (Nat.le_of_ble_eq_true rfl) (Nat.le_add_right _ _)) (Nat.le_of_ble_eq_true rfl) rfl rfl (Nat.le_of_ble_eq_true rfl) dX5_orders_125 (fun r12 S11 => ?_)
            refine z_if_eq (pc := 128) 141 dX5_orders_128 rfl ?_ ?_
            · refine z_iinc (pc := 141) (w := x3 + 1) dX5_orders_141 rfl (by rw [show Int32.ofInt 1 = 1 from by decide]) (Nat.le_of_ble_eq_true rfl) rfl ?_
              refine z_goto (pc := 144) 61 dX5_orders_144 rfl ?_
              exact hrec2 _ _
            · refine z_aload_n (pc := 131) 0 dX5_orders_131 rfl rfl ?_
              refine z_dup (pc := 132) dX5_orders_132 rfl ?_
              refine gf_X5_M_353_0 hG (pc := 133) dX5_orders_133 ?_
              refine z_iconst (pc := 136) (v := 1) dX5_orders_136 (by decide) ?_
              refine z_iadd (pc := 137) dX5_orders_137 ?_
              refine pf_X5_M_353_0 hG (pc := 138) dX5_orders_138 ?_
              refine z_letS (fun S13 => ?_)
              refine z_iinc (pc := 141) (w := x3 + 1) dX5_orders_141 rfl (by rw [show Int32.ofInt 1 = 1 from by decide]) (Nat.le_of_ble_eq_true rfl) rfl ?_
              refine z_goto (pc := 144) 61 dX5_orders_144 rfl ?_
              exact hrec2 _ _
          · refine z_loopK (fun j : Int32 → zSt → Option (Unit × zSt) => ∀ (x15 : Int32) (S16 : zSt), Zm X (mX5_orders (nrec + 1)) zJV G (0, 0) res S16 72 [some (.ref (G.1 0)), none, none, some (.int x3), some (.int x15)] [] (j x15 S16)) ?_ ?_ zfuel _ _
            · intro x15 S16; exact z_none
            · intro rec14 hrec14 x15 S16
              unfold LB_X5_orders_1
              refine z_iload (pc := 72) dX5_orders_72 rfl ?_
              refine z_aload_n (pc := 74) 0 dX5_orders_74 rfl rfl ?_
              refine gf_X5_M_34_0 hG (pc := 75) dX5_orders_75 ?_
              refine z_iconst (pc := 78) (v := 0) dX5_orders_78 (by decide) ?_
              refine z_chk (fun h17 => ?_)
              refine z_iaload (pc := 79) 18 15 (zGM_s18 hG) h17 dX5_orders_79 ?_
              refine z_icmp_ge (pc := 80) 110 dX5_orders_80 rfl ?_ ?_
              · exact z_mask [true, false, false, true, false] (hk7 _) rfl
              · refine z_aload_n (pc := 83) 0 dX5_orders_83 rfl rfl ?_
                refine gf_X5_M_80_0 hG (pc := 84) dX5_orders_84 ?_
                refine z_iconst (pc := 87) (v := 5) dX5_orders_87 (by decide) ?_
                refine z_aload_n (pc := 88) 0 dX5_orders_88 rfl rfl ?_
                refine gf_X5_M_353_0 hG (pc := 89) dX5_orders_89 ?_
                refine z_imul (pc := 92) dX5_orders_92 ?_
                refine z_iload (pc := 93) dX5_orders_93 rfl ?_
                refine z_iadd (pc := 95) dX5_orders_95 ?_
                refine z_aload_n (pc := 96) 0 dX5_orders_96 rfl rfl ?_
                refine gf_X5_M_86_0 hG (pc := 97) dX5_orders_97 ?_
                refine z_iload (pc := 100) dX5_orders_100 rfl ?_
                refine z_chk (fun h18 => ?_)
                refine z_iaload (pc := 102) 36 5 (zGM_s36 hG) h18 dX5_orders_102 ?_
                refine z_letI2 (fun w19 => ?_)
                refine z_chk (fun h20 => ?_)
                refine z_iastore (pc := 103) 33 19200 (zGM_s33 hG) h20 dX5_orders_103 ?_
                refine z_letS (fun S21 => ?_)
                refine z_iinc (pc := 104) (w := x15 + 1) dX5_orders_104 rfl (by rw [show Int32.ofInt 1 = 1 from by decide]) (Nat.le_of_ble_eq_true rfl) rfl ?_
                refine z_goto (pc := 107) 72 dX5_orders_107 rfl ?_
                exact hrec14 _ _
    · refine z_iconst (pc := 10) (v := 0) dX5_orders_10 (by decide) ?_
      refine z_istore_n (pc := 11) 3 dX5_orders_11 rfl (Nat.le_of_ble_eq_true rfl) rfl ?_
      refine z_loopK (fun j : Int32 → zSt → Option (Unit × zSt) => ∀ (x23 : Int32) (S24 : zSt), Zm X (mX5_orders (nrec + 1)) zJV G (0, 0) res S24 12 [some (.ref (G.1 0)), some (.int a1), some (.int a2), some (.int x23), none] [] (j x23 S24)) ?_ ?_ zfuel _ _
      · intro x23 S24; exact z_none
      · intro rec22 hrec22 x23 S24
        unfold LB_X5_orders_3
        refine z_iload_n (pc := 12) 3 dX5_orders_12 rfl rfl ?_
        refine z_aload_n (pc := 13) 0 dX5_orders_13 rfl rfl ?_
        refine gf_X5_M_34_0 hG (pc := 14) dX5_orders_14 ?_
        refine z_iconst (pc := 17) (v := 0) dX5_orders_17 (by decide) ?_
        refine z_chk (fun h25 => ?_)
        refine z_iaload (pc := 18) 18 15 (zGM_s18 hG) h25 dX5_orders_18 ?_
        refine z_icmp_ge (pc := 19) 58 dX5_orders_19 rfl ?_ ?_
        · exact z_vret rfl dX5_orders_58 rfl
        · refine z_iload_n (pc := 22) 2 dX5_orders_22 rfl rfl ?_
          refine z_iload_n (pc := 23) 3 dX5_orders_23 rfl rfl ?_
          refine z_callSi (pc := 24) _ _ (ct_X5_isBit  _ _) mv_X5_isBit q1737 rfl (Nat.le_trans (m := 4) (Nat.le_of_ble_eq_true rfl) (Nat.le_add_right _ _)) (Nat.le_of_ble_eq_true rfl) rfl rfl (Nat.le_of_ble_eq_true rfl) dX5_orders_24 (fun r27 S26 => ?_)
          refine z_if_eq (pc := 27) 33 dX5_orders_27 rfl ?_ ?_
          · refine z_aload_n (pc := 33) 0 dX5_orders_33 rfl rfl ?_
            refine gf_X5_M_86_0 hG (pc := 34) dX5_orders_34 ?_
            refine z_iload_n (pc := 37) 1 dX5_orders_37 rfl rfl ?_
            refine z_iload_n (pc := 38) 3 dX5_orders_38 rfl rfl ?_
            refine z_chk (fun h28 => ?_)
            refine z_iastore (pc := 39) 36 5 (zGM_s36 hG) h28 dX5_orders_39 ?_
            refine z_letS (fun S29 => ?_)
            refine z_aload_n (pc := 40) 0 dX5_orders_40 rfl rfl ?_
            refine z_iload_n (pc := 41) 1 dX5_orders_41 rfl rfl ?_
            refine z_iconst (pc := 42) (v := 1) dX5_orders_42 (by decide) ?_
            refine z_iadd (pc := 43) dX5_orders_43 ?_
            refine z_iload_n (pc := 44) 2 dX5_orders_44 rfl rfl ?_
            refine z_iconst (pc := 45) (v := 1) dX5_orders_45 (by decide) ?_
            refine z_iload_n (pc := 46) 3 dX5_orders_46 rfl rfl ?_
            refine z_ishl (pc := 47) dX5_orders_47 ?_
            refine z_ior (pc := 48) dX5_orders_48 ?_
            refine z_callVv (pc := 49) _ _ 0 5 (ih _ _) (mv_X5_orders _) q1908 rfl (zGM_s0 hG) rfl (Nat.le_refl _) (Nat.le_of_ble_eq_true rfl) rfl rfl (Nat.le_of_ble_eq_true rfl) dX5_orders_49 (fun _ S30 => ?_)
            refine z_iinc (pc := 52) (w := x23 + 1) dX5_orders_52 rfl (by rw [show Int32.ofInt 1 = 1 from by decide]) (Nat.le_of_ble_eq_true rfl) rfl ?_
            refine z_goto (pc := 55) 12 dX5_orders_55 rfl ?_
            exact hrec22 _ _
          · refine z_goto (pc := 30) 52 dX5_orders_30 rfl ?_
            refine z_iinc (pc := 52) (w := x23 + 1) dX5_orders_52 rfl (by rw [show Int32.ofInt 1 = 1 from by decide]) (Nat.le_of_ble_eq_true rfl) rfl ?_
            refine z_goto (pc := 55) 12 dX5_orders_55 rfl ?_
            exact hrec22 _ _
abbrev mX5_laysTurnings : zMr := ("HiddenCubeModel", cX5_laysTurnings, 1, none, 45, 0, 0, none)
def F_X5_laysTurnings  (S : zSt) : Option (Unit × zSt) :=
zlet (sI S 0 34 0 : zSt) (fun S1 : zSt =>
zbind (F_X5_orders 40 0 0 S1) (fun _ S2 =>
some ((), S2)))
theorem mv_X5_laysTurnings : ZV mX5_laysTurnings yX5_laysTurnings 0 := ⟨q1906, qs121, q155, q1907, rfl, by decide, by decide, by decide +kernel⟩
theorem ct_X5_laysTurnings {G : zGw} (hG : zGM G)  : Zc mX5_laysTurnings yX5_laysTurnings zJV G [.ref (G.1 0)] (F_X5_laysTurnings) := by
  refine Zc_of [some (.ref (G.1 0))] (by decide) rfl rfl (Nat.le_of_ble_eq_true rfl) rfl (fun X S res => ?_)
  unfold F_X5_laysTurnings
  refine z_aload_n (pc := 0) 0 dX5_laysTurnings_0 rfl rfl ?_
  refine z_iconst (pc := 1) (v := 0) dX5_laysTurnings_1 (by decide) ?_
  refine pf_X5_M_353_0 hG (pc := 2) dX5_laysTurnings_2 ?_
  refine z_letS (fun S1 => ?_)
  refine z_aload_n (pc := 5) 0 dX5_laysTurnings_5 rfl rfl ?_
  refine z_iconst (pc := 6) (v := 0) dX5_laysTurnings_6 (by decide) ?_
  refine z_iconst (pc := 7) (v := 0) dX5_laysTurnings_7 (by decide) ?_
  refine z_callVv (pc := 8) _ _ 0 5 (ct_X5_orders hG 40 _ _) (mv_X5_orders _) q1908 rfl (zGM_s0 hG) rfl (Nat.le_of_ble_eq_true rfl) (Nat.le_of_ble_eq_true rfl) rfl rfl (Nat.le_of_ble_eq_true rfl) dX5_laysTurnings_8 (fun _ S2 => ?_)
  exact z_vret rfl dX5_laysTurnings_11 rfl
abbrev mX5_turnings : zMr := ("HiddenCubeModel", cX5_turnings, 1, (some .int), 46, 0, 0, none)
def F_X5_turnings  (S : zSt) : Option (Int32 × zSt) :=
zlet (sI S 0 0 0 : zSt) (fun S1 : zSt =>
zbind (F_X5_isTown S1) (fun r3 S2 =>
if r3 = 0 then (some ((-2), S2)) else (zbind (F_X5_laysTurnings S2) (fun _ S4 =>
some (S4.1 0 34, S4)))))
theorem mv_X5_turnings : ZV mX5_turnings yX5_turnings 0 := ⟨q1901, q1902, q155, q1903, rfl, by decide, by decide, by decide +kernel⟩
theorem ct_X5_turnings {G : zGw} (hG : zGM G)  : Zc mX5_turnings yX5_turnings zJI G [.ref (G.1 0)] (F_X5_turnings) := by
  refine Zc_of [some (.ref (G.1 0))] (by decide) rfl rfl (Nat.le_of_ble_eq_true rfl) rfl (fun X S res => ?_)
  unfold F_X5_turnings
  refine z_aload_n (pc := 0) 0 dX5_turnings_0 rfl rfl ?_
  refine z_iconst (pc := 1) (v := 0) dX5_turnings_1 (by decide) ?_
  refine pf_X5_M_131_0 hG (pc := 2) dX5_turnings_2 ?_
  refine z_letS (fun S1 => ?_)
  refine z_aload_n (pc := 5) 0 dX5_turnings_5 rfl rfl ?_
  refine z_callVi (pc := 6) _ _ 0 5 (ct_X5_isTown hG) mv_X5_isTown q1729 rfl (zGM_s0 hG) rfl (Nat.le_of_ble_eq_true rfl) (Nat.le_of_ble_eq_true rfl) rfl rfl (Nat.le_of_ble_eq_true rfl) dX5_turnings_6 (fun r3 S2 => ?_)
  refine z_if_ne (pc := 9) 15 dX5_turnings_9 rfl ?_ ?_
  · refine z_aload_n (pc := 15) 0 dX5_turnings_15 rfl rfl ?_
    refine z_callVv (pc := 16) _ _ 0 5 (ct_X5_laysTurnings hG) mv_X5_laysTurnings q1904 rfl (zGM_s0 hG) rfl (Nat.le_of_ble_eq_true rfl) (Nat.le_of_ble_eq_true rfl) rfl rfl (Nat.le_of_ble_eq_true rfl) dX5_turnings_16 (fun _ S4 => ?_)
    refine z_aload_n (pc := 19) 0 dX5_turnings_19 rfl rfl ?_
    refine gf_X5_M_353_0 hG (pc := 20) dX5_turnings_20 ?_
    exact z_iret rfl dX5_turnings_23 rfl
  · refine z_bipush (pc := 12) (v := (-2)) dX5_turnings_12 (by decide) ?_
    exact z_iret rfl dX5_turnings_14 rfl
abbrev mX5_orbit : zMr := ("HiddenCubeModel", cX5_orbit, 4, (some .int), 46, 0, 0, none)
def LB_X5_orbit_1 (a1 : Int32) (rec5 : Int32 → Int32 → zSt → Option (Int32 × zSt)) (x6 : Int32) (x7 : Int32) (S8 : zSt) : Option (Int32 × zSt) :=
if (S8.1 0 34) ≤ x7 then (some (x6, S8)) else (zbind (F_X5_turnedBy x7 a1 S8) (fun r10 S9 =>
joinK (fun (v12 : Int32) (S13 : zSt) => rec5 v12 (x7 + 1) S13) (fun j11 : Int32 → zSt → Option (Int32 × zSt) =>
if x6 ≤ r10 then (j11 x6 S9) else (zbind (F_X5_turnedBy x7 a1 S9) (fun r15 S14 =>
j11 r15 S14)))))
def F_X5_orbit (a1 : Int32) (S : zSt) : Option (Int32 × zSt) :=
zlet (sI S 0 0 0 : zSt) (fun S1 : zSt =>
zbind (F_X5_isSquare ((a1).toInt64) S1) (fun r3 S2 =>
if r3 = 0 then (some ((-2), S2)) else (zbind (F_X5_laysTurnings S2) (fun _ S4 =>
loopK (fun _ _ _ => none) (LB_X5_orbit_1 a1) zfuel a1 0 S4))))
theorem mv_X5_orbit : ZV mX5_orbit yX5_orbit 1 := ⟨q1921, q1922, q155, q1923, rfl, by decide, by decide, by decide +kernel⟩
theorem ct_X5_orbit {G : zGw} (hG : zGM G) (a1 : Int32) : Zc mX5_orbit yX5_orbit zJI G [.ref (G.1 0), .int a1] (F_X5_orbit a1) := by
  refine Zc_of [some (.ref (G.1 0)), some (.int a1), none, none] (by decide) rfl rfl (Nat.le_of_ble_eq_true rfl) rfl (fun X S res => ?_)
  unfold F_X5_orbit
  refine z_aload_n (pc := 0) 0 dX5_orbit_0 rfl rfl ?_
  refine z_iconst (pc := 1) (v := 0) dX5_orbit_1 (by decide) ?_
  refine pf_X5_M_131_0 hG (pc := 2) dX5_orbit_2 ?_
  refine z_letS (fun S1 => ?_)
  refine z_aload_n (pc := 5) 0 dX5_orbit_5 rfl rfl ?_
  refine z_iload_n (pc := 6) 1 dX5_orbit_6 rfl rfl ?_
  refine z_i2l (pc := 7) dX5_orbit_7 ?_
  refine z_callVi (pc := 8) _ _ 0 5 (ct_X5_isSquare hG _) mv_X5_isSquare q1721 rfl (zGM_s0 hG) rfl (Nat.le_of_ble_eq_true rfl) (Nat.le_of_ble_eq_true rfl) rfl rfl (Nat.le_of_ble_eq_true rfl) dX5_orbit_8 (fun r3 S2 => ?_)
  refine z_if_ne (pc := 11) 17 dX5_orbit_11 rfl ?_ ?_
  · refine z_aload_n (pc := 17) 0 dX5_orbit_17 rfl rfl ?_
    refine z_callVv (pc := 18) _ _ 0 5 (ct_X5_laysTurnings hG) mv_X5_laysTurnings q1904 rfl (zGM_s0 hG) rfl (Nat.le_of_ble_eq_true rfl) (Nat.le_of_ble_eq_true rfl) rfl rfl (Nat.le_of_ble_eq_true rfl) dX5_orbit_18 (fun _ S4 => ?_)
    refine z_iload_n (pc := 21) 1 dX5_orbit_21 rfl rfl ?_
    refine z_istore_n (pc := 22) 2 dX5_orbit_22 rfl (Nat.le_of_ble_eq_true rfl) rfl ?_
    refine z_iconst (pc := 23) (v := 0) dX5_orbit_23 (by decide) ?_
    refine z_istore_n (pc := 24) 3 dX5_orbit_24 rfl (Nat.le_of_ble_eq_true rfl) rfl ?_
    refine z_loopK (fun j : Int32 → Int32 → zSt → Option (Int32 × zSt) => ∀ (x6 : Int32) (x7 : Int32) (S8 : zSt), Zm X mX5_orbit zJI G (0, 0) res S8 25 [some (.ref (G.1 0)), some (.int a1), some (.int x6), some (.int x7)] [] (j x6 x7 S8)) ?_ ?_ zfuel _ _ _
    · intro x6 x7 S8; exact z_none
    · intro rec5 hrec5 x6 x7 S8
      unfold LB_X5_orbit_1
      refine z_iload_n (pc := 25) 3 dX5_orbit_25 rfl rfl ?_
      refine z_aload_n (pc := 26) 0 dX5_orbit_26 rfl rfl ?_
      refine gf_X5_M_353_0 hG (pc := 27) dX5_orbit_27 ?_
      refine z_icmp_ge (pc := 30) 60 dX5_orbit_30 rfl ?_ ?_
      · refine z_iload_n (pc := 60) 2 dX5_orbit_60 rfl rfl ?_
        exact z_iret rfl dX5_orbit_61 rfl
      · refine z_aload_n (pc := 33) 0 dX5_orbit_33 rfl rfl ?_
        refine z_iload_n (pc := 34) 3 dX5_orbit_34 rfl rfl ?_
        refine z_iload_n (pc := 35) 1 dX5_orbit_35 rfl rfl ?_
        refine z_callVi (pc := 36) _ _ 0 5 (ct_X5_turnedBy hG _ _) mv_X5_turnedBy q1916 rfl (zGM_s0 hG) rfl (Nat.le_of_ble_eq_true rfl) (Nat.le_of_ble_eq_true rfl) rfl rfl (Nat.le_of_ble_eq_true rfl) dX5_orbit_36 (fun r10 S9 => ?_)
        refine z_iload_n (pc := 39) 2 dX5_orbit_39 rfl rfl ?_
        refine z_join (fun j : Int32 → zSt → Option (Int32 × zSt) => ∀ (v12 : Int32) (S13 : zSt), Zm X mX5_orbit zJI G (0, 0) res S13 53 [some (.ref (G.1 0)), some (.int a1), none, some (.int x7)] [.int v12] (j v12 S13)) ?_ (fun j11 hj11 => ?_)
        · intro v12 S13
          refine z_istore_n (pc := 53) 2 dX5_orbit_53 rfl (Nat.le_of_ble_eq_true rfl) rfl ?_
          refine z_iinc (pc := 54) (w := x7 + 1) dX5_orbit_54 rfl (by rw [show Int32.ofInt 1 = 1 from by decide]) (Nat.le_of_ble_eq_true rfl) rfl ?_
          refine z_goto (pc := 57) 25 dX5_orbit_57 rfl ?_
          exact hrec5 _ _ _
        · refine z_icmp_ge (pc := 40) 52 dX5_orbit_40 rfl ?_ ?_
          · refine z_iload_n (pc := 52) 2 dX5_orbit_52 rfl rfl ?_
            exact z_mask [true, true, false, true] (hj11 _ _) rfl
          · refine z_aload_n (pc := 43) 0 dX5_orbit_43 rfl rfl ?_
            refine z_iload_n (pc := 44) 3 dX5_orbit_44 rfl rfl ?_
            refine z_iload_n (pc := 45) 1 dX5_orbit_45 rfl rfl ?_
            refine z_callVi (pc := 46) _ _ 0 5 (ct_X5_turnedBy hG _ _) mv_X5_turnedBy q1916 rfl (zGM_s0 hG) rfl (Nat.le_of_ble_eq_true rfl) (Nat.le_of_ble_eq_true rfl) rfl rfl (Nat.le_of_ble_eq_true rfl) dX5_orbit_46 (fun r15 S14 => ?_)
            refine z_goto (pc := 49) 53 dX5_orbit_49 rfl ?_
            exact z_mask [true, true, false, true] (hj11 _ _) rfl
  · refine z_bipush (pc := 14) (v := (-2)) dX5_orbit_14 (by decide) ?_
    exact z_iret rfl dX5_orbit_16 rfl
abbrev mX5_still : zMr := ("HiddenCubeModel", cX5_still, 4, (some .int), 46, 0, 0, none)
def LB_X5_still_1 (a1 : Int32) (rec5 : Int32 → Int32 → zSt → Option (Int32 × zSt)) (x6 : Int32) (x7 : Int32) (S8 : zSt) : Option (Int32 × zSt) :=
if (S8.1 0 34) ≤ x7 then (some (x6, S8)) else (zbind (F_X5_turnedBy x7 a1 S8) (fun r10 S9 =>
zlet (x6 + (if r10 = a1 then 1 else 0) : Int32) (fun w12 : Int32 =>
rec5 w12 (x7 + 1) S9)))
def F_X5_still (a1 : Int32) (S : zSt) : Option (Int32 × zSt) :=
zlet (sI S 0 0 0 : zSt) (fun S1 : zSt =>
zbind (F_X5_isSquare ((a1).toInt64) S1) (fun r3 S2 =>
if r3 = 0 then (some ((-2), S2)) else (zbind (F_X5_laysTurnings S2) (fun _ S4 =>
loopK (fun _ _ _ => none) (LB_X5_still_1 a1) zfuel 0 0 S4))))
theorem mv_X5_still : ZV mX5_still yX5_still 1 := ⟨q1925, q1926, q155, q1927, rfl, by decide, by decide, by decide +kernel⟩
theorem ct_X5_still {G : zGw} (hG : zGM G) (a1 : Int32) : Zc mX5_still yX5_still zJI G [.ref (G.1 0), .int a1] (F_X5_still a1) := by
  refine Zc_of [some (.ref (G.1 0)), some (.int a1), none, none] (by decide) rfl rfl (Nat.le_of_ble_eq_true rfl) rfl (fun X S res => ?_)
  unfold F_X5_still
  refine z_aload_n (pc := 0) 0 dX5_still_0 rfl rfl ?_
  refine z_iconst (pc := 1) (v := 0) dX5_still_1 (by decide) ?_
  refine pf_X5_M_131_0 hG (pc := 2) dX5_still_2 ?_
  refine z_letS (fun S1 => ?_)
  refine z_aload_n (pc := 5) 0 dX5_still_5 rfl rfl ?_
  refine z_iload_n (pc := 6) 1 dX5_still_6 rfl rfl ?_
  refine z_i2l (pc := 7) dX5_still_7 ?_
  refine z_callVi (pc := 8) _ _ 0 5 (ct_X5_isSquare hG _) mv_X5_isSquare q1721 rfl (zGM_s0 hG) rfl (Nat.le_of_ble_eq_true rfl) (Nat.le_of_ble_eq_true rfl) rfl rfl (Nat.le_of_ble_eq_true rfl) dX5_still_8 (fun r3 S2 => ?_)
  refine z_if_ne (pc := 11) 17 dX5_still_11 rfl ?_ ?_
  · refine z_aload_n (pc := 17) 0 dX5_still_17 rfl rfl ?_
    refine z_callVv (pc := 18) _ _ 0 5 (ct_X5_laysTurnings hG) mv_X5_laysTurnings q1904 rfl (zGM_s0 hG) rfl (Nat.le_of_ble_eq_true rfl) (Nat.le_of_ble_eq_true rfl) rfl rfl (Nat.le_of_ble_eq_true rfl) dX5_still_18 (fun _ S4 => ?_)
    refine z_iconst (pc := 21) (v := 0) dX5_still_21 (by decide) ?_
    refine z_istore_n (pc := 22) 2 dX5_still_22 rfl (Nat.le_of_ble_eq_true rfl) rfl ?_
    refine z_iconst (pc := 23) (v := 0) dX5_still_23 (by decide) ?_
    refine z_istore_n (pc := 24) 3 dX5_still_24 rfl (Nat.le_of_ble_eq_true rfl) rfl ?_
    refine z_loopK (fun j : Int32 → Int32 → zSt → Option (Int32 × zSt) => ∀ (x6 : Int32) (x7 : Int32) (S8 : zSt), Zm X mX5_still zJI G (0, 0) res S8 25 [some (.ref (G.1 0)), some (.int a1), some (.int x6), some (.int x7)] [] (j x6 x7 S8)) ?_ ?_ zfuel _ _ _
    · intro x6 x7 S8; exact z_none
    · intro rec5 hrec5 x6 x7 S8
      unfold LB_X5_still_1
      refine z_iload_n (pc := 25) 3 dX5_still_25 rfl rfl ?_
      refine z_aload_n (pc := 26) 0 dX5_still_26 rfl rfl ?_
      refine gf_X5_M_353_0 hG (pc := 27) dX5_still_27 ?_
      refine z_icmp_ge (pc := 30) 57 dX5_still_30 rfl ?_ ?_
      · refine z_iload_n (pc := 57) 2 dX5_still_57 rfl rfl ?_
        exact z_iret rfl dX5_still_58 rfl
      · refine z_iload_n (pc := 33) 2 dX5_still_33 rfl rfl ?_
        refine z_aload_n (pc := 34) 0 dX5_still_34 rfl rfl ?_
        refine z_iload_n (pc := 35) 3 dX5_still_35 rfl rfl ?_
        refine z_iload_n (pc := 36) 1 dX5_still_36 rfl rfl ?_
        refine z_callVi (pc := 37) _ _ 0 5 (ct_X5_turnedBy hG _ _) mv_X5_turnedBy q1916 rfl (zGM_s0 hG) rfl (Nat.le_of_ble_eq_true rfl) (Nat.le_of_ble_eq_true rfl) rfl rfl (Nat.le_of_ble_eq_true rfl) dX5_still_37 (fun r10 S9 => ?_)
        refine z_iload_n (pc := 40) 1 dX5_still_40 rfl rfl ?_
        refine z_pure (st0 := [.int x6]) 49 ((if r10 = a1 then 1 else 0)) ?_ (fun hJ => ?_)
        · refine z_iadd (pc := 49) dX5_still_49 ?_
          refine z_letI (fun w12 => ?_)
          refine z_istore_n (pc := 50) 2 dX5_still_50 rfl (Nat.le_of_ble_eq_true rfl) rfl ?_
          refine z_iinc (pc := 51) (w := x7 + 1) dX5_still_51 rfl (by rw [show Int32.ofInt 1 = 1 from by decide]) (Nat.le_of_ble_eq_true rfl) rfl ?_
          refine z_goto (pc := 54) 25 dX5_still_54 rfl ?_
          exact hrec5 _ _ _
        · refine z_icmpd_ne (pc := 41) 48 dX5_still_41 rfl (fun c13 => ?_) (fun c13 => ?_)
          · refine z_iconst (pc := 48) (v := 0) dX5_still_48 (by decide) ?_
            exact z_leaf hJ (by simp only [if_neg c13])
          · refine z_iconst (pc := 44) (v := 1) dX5_still_44 (by decide) ?_
            refine z_goto (pc := 45) 49 dX5_still_45 rfl ?_
            exact z_leaf hJ (by simp only [if_pos c13])
  · refine z_bipush (pc := 14) (v := (-2)) dX5_still_14 (by decide) ?_
    exact z_iret rfl dX5_still_16 rfl
