/-! WALKS (written by gen/mkparts.py) -/
set_option maxRecDepth 100000
abbrev mX5_laysFar : zMr := ("HiddenCubeModel", cX5_laysFar, 5, none, 3, 0, 0, none)
def LB_X5_laysFar_1 (x4 : Int32) (x9 : Int32) (rec8 : Int32 → zSt → Option (Unit × zSt)) (rec14 : Int32 → zSt → Option (Unit × zSt)) (x15 : Int32) (S16 : zSt) : Option (Unit × zSt) :=
chk 0 15 (if (S16.1 18 (0 : Int32).toNatClampNeg) ≤ x15 then (rec8 (x9 + 1) S16) else (zbind (F_X5_isOpen x9 x15 S16) (fun r19 S18 =>
if r19 = 0 then (rec14 (x15 + 1) S18) else (zlet (x9 ^^^ ((1 : Int32) <<< (x15 &&& 31)) : Int32) (fun w20 : Int32 =>
chk w20 32 (if (S18.1 27 (w20).toNatClampNeg) = 1000000 then (zlet (x9 ^^^ ((1 : Int32) <<< (x15 &&& 31)) : Int32) (fun w22 : Int32 =>
chk w22 32 (zlet (sI S18 27 (w22).toNatClampNeg (x4 + 1) : zSt) (fun S24 : zSt =>
rec14 (x15 + 1) S24)))) else (rec14 (x15 + 1) S18)))))))
def LB_X5_laysFar_2 (x4 : Int32) (rec3 : Int32 → zSt → Option (Unit × zSt)) (rec8 : Int32 → zSt → Option (Unit × zSt)) (x9 : Int32) (S10 : zSt) : Option (Unit × zSt) :=
zbind (F_X5_squares S10) (fun r12 S11 =>
if r12 ≤ x9 then (rec3 (x4 + 1) S11) else (chk x9 32 (if (S11.1 27 (x9).toNatClampNeg) = x4 then (loopK (fun _ _ => none) (LB_X5_laysFar_1 x4 x9 rec8) zfuel 0 S11) else (rec8 (x9 + 1) S11))))
def LB_X5_laysFar_3 (rec3 : Int32 → zSt → Option (Unit × zSt)) (x4 : Int32) (S5 : zSt) : Option (Unit × zSt) :=
zbind (F_X5_squares S5) (fun r7 S6 =>
if r7 ≤ x4 then (some ((), S6)) else (loopK (fun _ _ => none) (LB_X5_laysFar_2 x4 rec3) zfuel 0 S6))
def LB_X5_laysFar_4 (a1 : Int32) (k1 : zSt → Option (Unit × zSt)) (rec25 : Int32 → zSt → Option (Unit × zSt)) (x26 : Int32) (S27 : zSt) : Option (Unit × zSt) :=
if 32 ≤ x26 then (k1 S27) else (chk x26 32 (zlet (sI S27 27 (x26).toNatClampNeg (if x26 = a1 then 0 else 1000000) : zSt) (fun S30 : zSt =>
rec25 (x26 + 1) S30)))
def F_X5_laysFar (a1 : Int32) (S : zSt) : Option (Unit × zSt) :=
joinK (fun  (S2 : zSt) => loopK (fun _ _ => none) (LB_X5_laysFar_3) zfuel 0 S2) (fun k1 : zSt → Option (Unit × zSt) =>
loopK (fun _ _ => none) (LB_X5_laysFar_4 a1 k1) zfuel 0 S)
theorem mv_X5_laysFar : ZV mX5_laysFar yX5_laysFar 1 := ⟨q1781, qs107, q155, q1782, rfl, by decide, by decide, by decide +kernel⟩
theorem ct_X5_laysFar {G : zGw} (hG : zGM G) (a1 : Int32) : Zc mX5_laysFar yX5_laysFar zJV G [.ref (G.1 0), .int a1] (F_X5_laysFar a1) := by
  refine Zc_of [some (.ref (G.1 0)), some (.int a1), none, none, none] (by decide) rfl rfl (Nat.le_of_ble_eq_true rfl) rfl (fun X S res => ?_)
  unfold F_X5_laysFar
  refine z_iconst (pc := 0) (v := 0) dX5_laysFar_0 (by decide) ?_
  refine z_istore_n (pc := 1) 2 dX5_laysFar_1 rfl (Nat.le_of_ble_eq_true rfl) rfl ?_
  refine z_join (fun j : zSt → Option (Unit × zSt) => ∀  (S2 : zSt), Zm X mX5_laysFar zJV G (0, 0) res S2 31 [some (.ref (G.1 0)), none, none, none, none] [] (j S2)) ?_ (fun k1 hk1 => ?_)
  · intro S2
    refine z_iconst (pc := 31) (v := 0) dX5_laysFar_31 (by decide) ?_
    refine z_istore_n (pc := 32) 2 dX5_laysFar_32 rfl (Nat.le_of_ble_eq_true rfl) rfl ?_
    refine z_loopK (fun j : Int32 → zSt → Option (Unit × zSt) => ∀ (x4 : Int32) (S5 : zSt), Zm X mX5_laysFar zJV G (0, 0) res S5 33 [some (.ref (G.1 0)), none, some (.int x4), none, none] [] (j x4 S5)) ?_ ?_ zfuel _ _
    · intro x4 S5; exact z_none
    · intro rec3 hrec3 x4 S5
      unfold LB_X5_laysFar_3
      refine z_iload_n (pc := 33) 2 dX5_laysFar_33 rfl rfl ?_
      refine z_aload_n (pc := 34) 0 dX5_laysFar_34 rfl rfl ?_
      refine z_callVi (pc := 35) _ _ 0 5 (ct_X5_squares hG) mv_X5_squares q1725 rfl (zGM_s0 hG) rfl (Nat.le_of_ble_eq_true rfl) (Nat.le_of_ble_eq_true rfl) rfl rfl (Nat.le_of_ble_eq_true rfl) dX5_laysFar_35 (fun r7 S6 => ?_)
      refine z_icmp_ge (pc := 38) 133 dX5_laysFar_38 rfl ?_ ?_
      · exact z_vret rfl dX5_laysFar_133 rfl
      · refine z_iconst (pc := 41) (v := 0) dX5_laysFar_41 (by decide) ?_
        refine z_istore_n (pc := 42) 3 dX5_laysFar_42 rfl (Nat.le_of_ble_eq_true rfl) rfl ?_
        refine z_loopK (fun j : Int32 → zSt → Option (Unit × zSt) => ∀ (x9 : Int32) (S10 : zSt), Zm X mX5_laysFar zJV G (0, 0) res S10 43 [some (.ref (G.1 0)), none, some (.int x4), some (.int x9), none] [] (j x9 S10)) ?_ ?_ zfuel _ _
        · intro x9 S10; exact z_none
        · intro rec8 hrec8 x9 S10
          unfold LB_X5_laysFar_2
          refine z_iload_n (pc := 43) 3 dX5_laysFar_43 rfl rfl ?_
          refine z_aload_n (pc := 44) 0 dX5_laysFar_44 rfl rfl ?_
          refine z_callVi (pc := 45) _ _ 0 5 (ct_X5_squares hG) mv_X5_squares q1725 rfl (zGM_s0 hG) rfl (Nat.le_of_ble_eq_true rfl) (Nat.le_of_ble_eq_true rfl) rfl rfl (Nat.le_of_ble_eq_true rfl) dX5_laysFar_45 (fun r12 S11 => ?_)
          refine z_icmp_ge (pc := 48) 127 dX5_laysFar_48 rfl ?_ ?_
          · refine z_iinc (pc := 127) (w := x4 + 1) dX5_laysFar_127 rfl (by rw [show Int32.ofInt 1 = 1 from by decide]) (Nat.le_of_ble_eq_true rfl) rfl ?_
            refine z_goto (pc := 130) 33 dX5_laysFar_130 rfl ?_
            exact z_mask [true, false, true, false, false] (hrec3 _ _) rfl
          · refine z_aload_n (pc := 51) 0 dX5_laysFar_51 rfl rfl ?_
            refine gf_X5_M_62_0 hG (pc := 52) dX5_laysFar_52 ?_
            refine z_iload_n (pc := 55) 3 dX5_laysFar_55 rfl rfl ?_
            refine z_chk (fun h13 => ?_)
            refine z_iaload (pc := 56) 27 32 (zGM_s27 hG) h13 dX5_laysFar_56 ?_
            refine z_iload_n (pc := 57) 2 dX5_laysFar_57 rfl rfl ?_
            refine z_icmp_ne (pc := 58) 121 dX5_laysFar_58 rfl ?_ ?_
            · refine z_iinc (pc := 121) (w := x9 + 1) dX5_laysFar_121 rfl (by rw [show Int32.ofInt 1 = 1 from by decide]) (Nat.le_of_ble_eq_true rfl) rfl ?_
              refine z_goto (pc := 124) 43 dX5_laysFar_124 rfl ?_
              exact hrec8 _ _
            · refine z_iconst (pc := 61) (v := 0) dX5_laysFar_61 (by decide) ?_
              refine z_istore (pc := 62) dX5_laysFar_62 (Nat.le_of_ble_eq_true rfl) rfl ?_
              refine z_loopK (fun j : Int32 → zSt → Option (Unit × zSt) => ∀ (x15 : Int32) (S16 : zSt), Zm X mX5_laysFar zJV G (0, 0) res S16 64 [some (.ref (G.1 0)), none, some (.int x4), some (.int x9), some (.int x15)] [] (j x15 S16)) ?_ ?_ zfuel _ _
              · intro x15 S16; exact z_none
              · intro rec14 hrec14 x15 S16
                unfold LB_X5_laysFar_1
                refine z_iload (pc := 64) dX5_laysFar_64 rfl ?_
                refine z_aload_n (pc := 66) 0 dX5_laysFar_66 rfl rfl ?_
                refine gf_X5_M_34_0 hG (pc := 67) dX5_laysFar_67 ?_
                refine z_iconst (pc := 70) (v := 0) dX5_laysFar_70 (by decide) ?_
                refine z_chk (fun h17 => ?_)
                refine z_iaload (pc := 71) 18 15 (zGM_s18 hG) h17 dX5_laysFar_71 ?_
                refine z_icmp_ge (pc := 72) 121 dX5_laysFar_72 rfl ?_ ?_
                · refine z_iinc (pc := 121) (w := x9 + 1) dX5_laysFar_121 rfl (by rw [show Int32.ofInt 1 = 1 from by decide]) (Nat.le_of_ble_eq_true rfl) rfl ?_
                  refine z_goto (pc := 124) 43 dX5_laysFar_124 rfl ?_
                  exact z_mask [true, false, true, true, false] (hrec8 _ _) rfl
                · refine z_aload_n (pc := 75) 0 dX5_laysFar_75 rfl rfl ?_
                  refine z_iload_n (pc := 76) 3 dX5_laysFar_76 rfl rfl ?_
                  refine z_iload (pc := 77) dX5_laysFar_77 rfl ?_
                  refine z_callVi (pc := 79) _ _ 0 5 (ct_X5_isOpen hG _ _) mv_X5_isOpen q1733 rfl (zGM_s0 hG) rfl (Nat.le_of_ble_eq_true rfl) (Nat.le_of_ble_eq_true rfl) rfl rfl (Nat.le_of_ble_eq_true rfl) dX5_laysFar_79 (fun r19 S18 => ?_)
                  refine z_if_eq (pc := 82) 115 dX5_laysFar_82 rfl ?_ ?_
                  · refine z_iinc (pc := 115) (w := x15 + 1) dX5_laysFar_115 rfl (by rw [show Int32.ofInt 1 = 1 from by decide]) (Nat.le_of_ble_eq_true rfl) rfl ?_
                    refine z_goto (pc := 118) 64 dX5_laysFar_118 rfl ?_
                    exact hrec14 _ _
                  · refine z_aload_n (pc := 85) 0 dX5_laysFar_85 rfl rfl ?_
                    refine gf_X5_M_62_0 hG (pc := 86) dX5_laysFar_86 ?_
                    refine z_iload_n (pc := 89) 3 dX5_laysFar_89 rfl rfl ?_
                    refine z_iconst (pc := 90) (v := 1) dX5_laysFar_90 (by decide) ?_
                    refine z_iload (pc := 91) dX5_laysFar_91 rfl ?_
                    refine z_ishl (pc := 93) dX5_laysFar_93 ?_
                    refine z_ixor (pc := 94) dX5_laysFar_94 ?_
                    refine z_letI (fun w20 => ?_)
                    refine z_chk (fun h21 => ?_)
                    refine z_iaload (pc := 95) 27 32 (zGM_s27 hG) h21 dX5_laysFar_95 ?_
                    refine z_ldc (pc := 96) (v := 1000000) dX5_laysFar_96 q1632 ?_
                    refine z_icmp_ne (pc := 98) 115 dX5_laysFar_98 rfl ?_ ?_
                    · refine z_iinc (pc := 115) (w := x15 + 1) dX5_laysFar_115 rfl (by rw [show Int32.ofInt 1 = 1 from by decide]) (Nat.le_of_ble_eq_true rfl) rfl ?_
                      refine z_goto (pc := 118) 64 dX5_laysFar_118 rfl ?_
                      exact hrec14 _ _
                    · refine z_aload_n (pc := 101) 0 dX5_laysFar_101 rfl rfl ?_
                      refine gf_X5_M_62_0 hG (pc := 102) dX5_laysFar_102 ?_
                      refine z_iload_n (pc := 105) 3 dX5_laysFar_105 rfl rfl ?_
                      refine z_iconst (pc := 106) (v := 1) dX5_laysFar_106 (by decide) ?_
                      refine z_iload (pc := 107) dX5_laysFar_107 rfl ?_
                      refine z_ishl (pc := 109) dX5_laysFar_109 ?_
                      refine z_ixor (pc := 110) dX5_laysFar_110 ?_
                      refine z_iload_n (pc := 111) 2 dX5_laysFar_111 rfl rfl ?_
                      refine z_iconst (pc := 112) (v := 1) dX5_laysFar_112 (by decide) ?_
                      refine z_iadd (pc := 113) dX5_laysFar_113 ?_
                      refine z_letI2 (fun w22 => ?_)
                      refine z_chk (fun h23 => ?_)
                      refine z_iastore (pc := 114) 27 32 (zGM_s27 hG) h23 dX5_laysFar_114 ?_
                      refine z_letS (fun S24 => ?_)
                      refine z_iinc (pc := 115) (w := x15 + 1) dX5_laysFar_115 rfl (by rw [show Int32.ofInt 1 = 1 from by decide]) (Nat.le_of_ble_eq_true rfl) rfl ?_
                      refine z_goto (pc := 118) 64 dX5_laysFar_118 rfl ?_
                      exact hrec14 _ _
  · refine z_loopK (fun j : Int32 → zSt → Option (Unit × zSt) => ∀ (x26 : Int32) (S27 : zSt), Zm X mX5_laysFar zJV G (0, 0) res S27 2 [some (.ref (G.1 0)), some (.int a1), some (.int x26), none, none] [] (j x26 S27)) ?_ ?_ zfuel _ _
    · intro x26 S27; exact z_none
    · intro rec25 hrec25 x26 S27
      unfold LB_X5_laysFar_4
      refine z_iload_n (pc := 2) 2 dX5_laysFar_2 rfl rfl ?_
      refine z_bipush (pc := 3) (v := 32) dX5_laysFar_3 (by decide) ?_
      refine z_icmp_ge (pc := 5) 31 dX5_laysFar_5 rfl ?_ ?_
      · exact z_mask [true, false, false, false, false] (hk1 _) rfl
      · refine z_aload_n (pc := 8) 0 dX5_laysFar_8 rfl rfl ?_
        refine gf_X5_M_62_0 hG (pc := 9) dX5_laysFar_9 ?_
        refine z_iload_n (pc := 12) 2 dX5_laysFar_12 rfl rfl ?_
        refine z_iload_n (pc := 13) 2 dX5_laysFar_13 rfl rfl ?_
        refine z_iload_n (pc := 14) 1 dX5_laysFar_14 rfl rfl ?_
        refine z_pure (st0 := [.int x26, .ref (G.1 27)]) 24 ((if x26 = a1 then 0 else 1000000)) ?_ (fun hJ => ?_)
        · refine z_chk (fun h29 => ?_)
          refine z_iastore (pc := 24) 27 32 (zGM_s27 hG) h29 dX5_laysFar_24 ?_
          refine z_letS (fun S30 => ?_)
          refine z_iinc (pc := 25) (w := x26 + 1) dX5_laysFar_25 rfl (by rw [show Int32.ofInt 1 = 1 from by decide]) (Nat.le_of_ble_eq_true rfl) rfl ?_
          refine z_goto (pc := 28) 2 dX5_laysFar_28 rfl ?_
          exact hrec25 _ _
        · refine z_icmpd_ne (pc := 15) 22 dX5_laysFar_15 rfl (fun c31 => ?_) (fun c31 => ?_)
          · refine z_ldc (pc := 22) (v := 1000000) dX5_laysFar_22 q1632 ?_
            exact z_leaf hJ (by simp only [if_neg c31])
          · refine z_iconst (pc := 18) (v := 0) dX5_laysFar_18 (by decide) ?_
            refine z_goto (pc := 19) 24 dX5_laysFar_19 rfl ?_
            exact z_leaf hJ (by simp only [if_pos c31])
abbrev mX5_far : zMr := ("HiddenCubeModel", cX5_far, 3, (some .int), 4, 0, 0, none)
def F_X5_far (a1 : Int32) (a2 : Int32) (S : zSt) : Option (Int32 × zSt) :=
zlet (sI S 0 0 0 : zSt) (fun S1 : zSt =>
zbind (F_X5_isSquare ((a1).toInt64) S1) (fun r3 S2 =>
if r3 = 0 then (some ((-2), S2)) else (zbind (F_X5_isSquare ((a2).toInt64) S2) (fun r5 S4 =>
if r5 = 0 then (some ((-2), S4)) else (zbind (F_X5_laysFar a2 S4) (fun _ S6 =>
chk a1 32 (if (S6.1 27 (a1).toNatClampNeg) = 1000000 then (some ((-1), S6)) else (chk a1 32 (some (S6.1 27 (a1).toNatClampNeg, S6))))))))))
theorem mv_X5_far : ZV mX5_far yX5_far 2 := ⟨q1776, q1777, q155, q1778, rfl, by decide, by decide, by decide +kernel⟩
theorem ct_X5_far {G : zGw} (hG : zGM G) (a1 : Int32) (a2 : Int32) : Zc mX5_far yX5_far zJI G [.ref (G.1 0), .int a1, .int a2] (F_X5_far a1 a2) := by
  refine Zc_of [some (.ref (G.1 0)), some (.int a1), some (.int a2)] (by decide) rfl rfl (Nat.le_of_ble_eq_true rfl) rfl (fun X S res => ?_)
  unfold F_X5_far
  refine z_aload_n (pc := 0) 0 dX5_far_0 rfl rfl ?_
  refine z_iconst (pc := 1) (v := 0) dX5_far_1 (by decide) ?_
  refine pf_X5_M_131_0 hG (pc := 2) dX5_far_2 ?_
  refine z_letS (fun S1 => ?_)
  refine z_aload_n (pc := 5) 0 dX5_far_5 rfl rfl ?_
  refine z_iload_n (pc := 6) 1 dX5_far_6 rfl rfl ?_
  refine z_i2l (pc := 7) dX5_far_7 ?_
  refine z_callVi (pc := 8) _ _ 0 5 (ct_X5_isSquare hG _) mv_X5_isSquare q1721 rfl (zGM_s0 hG) rfl (Nat.le_of_ble_eq_true rfl) (Nat.le_of_ble_eq_true rfl) rfl rfl (Nat.le_of_ble_eq_true rfl) dX5_far_8 (fun r3 S2 => ?_)
  refine z_if_eq (pc := 11) 23 dX5_far_11 rfl ?_ ?_
  · refine z_bipush (pc := 23) (v := (-2)) dX5_far_23 (by decide) ?_
    exact z_iret rfl dX5_far_25 rfl
  · refine z_aload_n (pc := 14) 0 dX5_far_14 rfl rfl ?_
    refine z_iload_n (pc := 15) 2 dX5_far_15 rfl rfl ?_
    refine z_i2l (pc := 16) dX5_far_16 ?_
    refine z_callVi (pc := 17) _ _ 0 5 (ct_X5_isSquare hG _) mv_X5_isSquare q1721 rfl (zGM_s0 hG) rfl (Nat.le_of_ble_eq_true rfl) (Nat.le_of_ble_eq_true rfl) rfl rfl (Nat.le_of_ble_eq_true rfl) dX5_far_17 (fun r5 S4 => ?_)
    refine z_if_ne (pc := 20) 26 dX5_far_20 rfl ?_ ?_
    · refine z_aload_n (pc := 26) 0 dX5_far_26 rfl rfl ?_
      refine z_iload_n (pc := 27) 2 dX5_far_27 rfl rfl ?_
      refine z_callVv (pc := 28) _ _ 0 5 (ct_X5_laysFar hG _) mv_X5_laysFar q1779 rfl (zGM_s0 hG) rfl (Nat.le_of_ble_eq_true rfl) (Nat.le_of_ble_eq_true rfl) rfl rfl (Nat.le_of_ble_eq_true rfl) dX5_far_28 (fun _ S6 => ?_)
      refine z_aload_n (pc := 31) 0 dX5_far_31 rfl rfl ?_
      refine gf_X5_M_62_0 hG (pc := 32) dX5_far_32 ?_
      refine z_iload_n (pc := 35) 1 dX5_far_35 rfl rfl ?_
      refine z_chk (fun h7 => ?_)
      refine z_iaload (pc := 36) 27 32 (zGM_s27 hG) h7 dX5_far_36 ?_
      refine z_ldc (pc := 37) (v := 1000000) dX5_far_37 q1632 ?_
      refine z_icmp_ne (pc := 39) 46 dX5_far_39 rfl ?_ ?_
      · refine z_aload_n (pc := 46) 0 dX5_far_46 rfl rfl ?_
        refine gf_X5_M_62_0 hG (pc := 47) dX5_far_47 ?_
        refine z_iload_n (pc := 50) 1 dX5_far_50 rfl rfl ?_
        refine z_chk (fun h8 => ?_)
        refine z_iaload (pc := 51) 27 32 (zGM_s27 hG) h8 dX5_far_51 ?_
        exact z_iret rfl dX5_far_52 rfl
      · refine z_iconst (pc := 42) (v := (-1)) dX5_far_42 (by decide) ?_
        refine z_goto (pc := 43) 52 dX5_far_43 rfl ?_
        exact z_iret rfl dX5_far_52 rfl
    · refine z_bipush (pc := 23) (v := (-2)) dX5_far_23 (by decide) ?_
      exact z_iret rfl dX5_far_25 rfl
abbrev mX5_many : zMr := ("HiddenCubeModel", cX5_many, 6, (some .int), 4, 0, 0, none)
def LB_X5_many_1 (x12 : Int32) (x16 : Int32) (rec15 : Int32 → zSt → Option (Int32 × zSt)) (rec24 : Int32 → zSt → Option (Int32 × zSt)) (x25 : Int32) (S26 : zSt) : Option (Int32 × zSt) :=
chk 0 15 (if (S26.1 18 (0 : Int32).toNatClampNeg) ≤ x25 then (rec15 (x16 + 1) S26) else (zbind (F_X5_isOpen x16 x25 S26) (fun r29 S28 =>
if r29 = 0 then (rec24 (x25 + 1) S28) else (zlet (x16 ^^^ ((1 : Int32) <<< (x25 &&& 31)) : Int32) (fun w30 : Int32 =>
chk w30 32 (if (S28.1 27 (w30).toNatClampNeg) = (x12 - 1) then (chk x16 32 (zlet (x16 ^^^ ((1 : Int32) <<< (x25 &&& 31)) : Int32) (fun w33 : Int32 =>
chk w33 32 (chk x16 32 (zlet (sI S28 28 (x16).toNatClampNeg ((S28.1 28 (x16).toNatClampNeg) + (S28.1 28 (w33).toNatClampNeg)) : zSt) (fun S36 : zSt =>
rec24 (x25 + 1) S36)))))) else (rec24 (x25 + 1) S28)))))))
def LB_X5_many_2 (x12 : Int32) (rec11 : Int32 → zSt → Option (Int32 × zSt)) (rec15 : Int32 → zSt → Option (Int32 × zSt)) (x16 : Int32) (S17 : zSt) : Option (Int32 × zSt) :=
zbind (F_X5_squares S17) (fun r19 S18 =>
if r19 ≤ x16 then (rec11 (x12 + 1) S18) else (chk x16 32 (if (S18.1 27 (x16).toNatClampNeg) = x12 then (chk x16 32 (zlet (sI S18 28 (x16).toNatClampNeg (if x12 = 0 then 1 else 0) : zSt) (fun S23 : zSt =>
loopK (fun _ _ => none) (LB_X5_many_1 x12 x16 rec15) zfuel 0 S23))) else (rec15 (x16 + 1) S18))))
def LB_X5_many_3 (a1 : Int32) (k8 : zSt → Option (Int32 × zSt)) (rec11 : Int32 → zSt → Option (Int32 × zSt)) (x12 : Int32) (S13 : zSt) : Option (Int32 × zSt) :=
chk a1 32 (if (S13.1 27 (a1).toNatClampNeg) < x12 then (k8 S13) else (loopK (fun _ _ => none) (LB_X5_many_2 x12 rec11) zfuel 0 S13))
def F_X5_many (a1 : Int32) (a2 : Int32) (S : zSt) : Option (Int32 × zSt) :=
zlet (sI S 0 0 0 : zSt) (fun S1 : zSt =>
zbind (F_X5_isSquare ((a1).toInt64) S1) (fun r3 S2 =>
if r3 = 0 then (some ((-2), S2)) else (zbind (F_X5_isSquare ((a2).toInt64) S2) (fun r5 S4 =>
if r5 = 0 then (some ((-2), S4)) else (zbind (F_X5_laysFar a2 S4) (fun _ S6 =>
chk a1 32 (if (S6.1 27 (a1).toNatClampNeg) = 1000000 then (some (0, S6)) else (joinK (fun  (S9 : zSt) => chk a1 32 (some (S9.1 28 (a1).toNatClampNeg, S9))) (fun k8 : zSt → Option (Int32 × zSt) =>
loopK (fun _ _ => none) (LB_X5_many_3 a1 k8) zfuel 0 S6)))))))))
theorem mv_X5_many : ZV mX5_many yX5_many 2 := ⟨q1784, q1785, q155, q1786, rfl, by decide, by decide, by decide +kernel⟩
theorem ct_X5_many {G : zGw} (hG : zGM G) (a1 : Int32) (a2 : Int32) : Zc mX5_many yX5_many zJI G [.ref (G.1 0), .int a1, .int a2] (F_X5_many a1 a2) := by
  refine Zc_of [some (.ref (G.1 0)), some (.int a1), some (.int a2), none, none, none] (by decide) rfl rfl (Nat.le_of_ble_eq_true rfl) rfl (fun X S res => ?_)
  unfold F_X5_many
  refine z_aload_n (pc := 0) 0 dX5_many_0 rfl rfl ?_
  refine z_iconst (pc := 1) (v := 0) dX5_many_1 (by decide) ?_
  refine pf_X5_M_131_0 hG (pc := 2) dX5_many_2 ?_
  refine z_letS (fun S1 => ?_)
  refine z_aload_n (pc := 5) 0 dX5_many_5 rfl rfl ?_
  refine z_iload_n (pc := 6) 1 dX5_many_6 rfl rfl ?_
  refine z_i2l (pc := 7) dX5_many_7 ?_
  refine z_callVi (pc := 8) _ _ 0 5 (ct_X5_isSquare hG _) mv_X5_isSquare q1721 rfl (zGM_s0 hG) rfl (Nat.le_of_ble_eq_true rfl) (Nat.le_of_ble_eq_true rfl) rfl rfl (Nat.le_of_ble_eq_true rfl) dX5_many_8 (fun r3 S2 => ?_)
  refine z_if_eq (pc := 11) 23 dX5_many_11 rfl ?_ ?_
  · refine z_bipush (pc := 23) (v := (-2)) dX5_many_23 (by decide) ?_
    exact z_iret rfl dX5_many_25 rfl
  · refine z_aload_n (pc := 14) 0 dX5_many_14 rfl rfl ?_
    refine z_iload_n (pc := 15) 2 dX5_many_15 rfl rfl ?_
    refine z_i2l (pc := 16) dX5_many_16 ?_
    refine z_callVi (pc := 17) _ _ 0 5 (ct_X5_isSquare hG _) mv_X5_isSquare q1721 rfl (zGM_s0 hG) rfl (Nat.le_of_ble_eq_true rfl) (Nat.le_of_ble_eq_true rfl) rfl rfl (Nat.le_of_ble_eq_true rfl) dX5_many_17 (fun r5 S4 => ?_)
    refine z_if_ne (pc := 20) 26 dX5_many_20 rfl ?_ ?_
    · refine z_aload_n (pc := 26) 0 dX5_many_26 rfl rfl ?_
      refine z_iload_n (pc := 27) 2 dX5_many_27 rfl rfl ?_
      refine z_callVv (pc := 28) _ _ 0 5 (ct_X5_laysFar hG _) mv_X5_laysFar q1779 rfl (zGM_s0 hG) rfl (Nat.le_of_ble_eq_true rfl) (Nat.le_of_ble_eq_true rfl) rfl rfl (Nat.le_of_ble_eq_true rfl) dX5_many_28 (fun _ S6 => ?_)
      refine z_aload_n (pc := 31) 0 dX5_many_31 rfl rfl ?_
      refine gf_X5_M_62_0 hG (pc := 32) dX5_many_32 ?_
      refine z_iload_n (pc := 35) 1 dX5_many_35 rfl rfl ?_
      refine z_chk (fun h7 => ?_)
      refine z_iaload (pc := 36) 27 32 (zGM_s27 hG) h7 dX5_many_36 ?_
      refine z_ldc (pc := 37) (v := 1000000) dX5_many_37 q1632 ?_
      refine z_icmp_ne (pc := 39) 44 dX5_many_39 rfl ?_ ?_
      · refine z_iconst (pc := 44) (v := 0) dX5_many_44 (by decide) ?_
        refine z_istore_n (pc := 45) 3 dX5_many_45 rfl (Nat.le_of_ble_eq_true rfl) rfl ?_
        refine z_join (fun j : zSt → Option (Int32 × zSt) => ∀  (S9 : zSt), Zm X mX5_many zJI G (0, 0) res S9 181 [some (.ref (G.1 0)), some (.int a1), none, none, none, none] [] (j S9)) ?_ (fun k8 hk8 => ?_)
        · intro S9
          refine z_aload_n (pc := 181) 0 dX5_many_181 rfl rfl ?_
          refine gf_X5_M_65_0 hG (pc := 182) dX5_many_182 ?_
          refine z_iload_n (pc := 185) 1 dX5_many_185 rfl rfl ?_
          refine z_chk (fun h10 => ?_)
          refine z_iaload (pc := 186) 28 32 (zGM_s28 hG) h10 dX5_many_186 ?_
          exact z_iret rfl dX5_many_187 rfl
        · refine z_maskk [true, true, false, true, false, false] ?_
          refine z_loopK (fun j : Int32 → zSt → Option (Int32 × zSt) => ∀ (x12 : Int32) (S13 : zSt), Zm X mX5_many zJI G (0, 0) res S13 46 [some (.ref (G.1 0)), some (.int a1), none, some (.int x12), none, none] [] (j x12 S13)) ?_ ?_ zfuel _ _
          · intro x12 S13; exact z_none
          · intro rec11 hrec11 x12 S13
            unfold LB_X5_many_3
            refine z_iload_n (pc := 46) 3 dX5_many_46 rfl rfl ?_
            refine z_aload_n (pc := 47) 0 dX5_many_47 rfl rfl ?_
            refine gf_X5_M_62_0 hG (pc := 48) dX5_many_48 ?_
            refine z_iload_n (pc := 51) 1 dX5_many_51 rfl rfl ?_
            refine z_chk (fun h14 => ?_)
            refine z_iaload (pc := 52) 27 32 (zGM_s27 hG) h14 dX5_many_52 ?_
            refine z_icmp_gt (pc := 53) 181 dX5_many_53 rfl ?_ ?_
            · exact z_mask [true, true, false, false, false, false] (hk8 _) rfl
            · refine z_iconst (pc := 56) (v := 0) dX5_many_56 (by decide) ?_
              refine z_istore (pc := 57) dX5_many_57 (Nat.le_of_ble_eq_true rfl) rfl ?_
              refine z_loopK (fun j : Int32 → zSt → Option (Int32 × zSt) => ∀ (x16 : Int32) (S17 : zSt), Zm X mX5_many zJI G (0, 0) res S17 59 [some (.ref (G.1 0)), some (.int a1), none, some (.int x12), some (.int x16), none] [] (j x16 S17)) ?_ ?_ zfuel _ _
              · intro x16 S17; exact z_none
              · intro rec15 hrec15 x16 S17
                unfold LB_X5_many_2
                refine z_iload (pc := 59) dX5_many_59 rfl ?_
                refine z_aload_n (pc := 61) 0 dX5_many_61 rfl rfl ?_
                refine z_callVi (pc := 62) _ _ 0 5 (ct_X5_squares hG) mv_X5_squares q1725 rfl (zGM_s0 hG) rfl (Nat.le_of_ble_eq_true rfl) (Nat.le_of_ble_eq_true rfl) rfl rfl (Nat.le_of_ble_eq_true rfl) dX5_many_62 (fun r19 S18 => ?_)
                refine z_icmp_ge (pc := 65) 175 dX5_many_65 rfl ?_ ?_
                · refine z_iinc (pc := 175) (w := x12 + 1) dX5_many_175 rfl (by rw [show Int32.ofInt 1 = 1 from by decide]) (Nat.le_of_ble_eq_true rfl) rfl ?_
                  refine z_goto (pc := 178) 46 dX5_many_178 rfl ?_
                  exact z_mask [true, true, false, true, false, false] (hrec11 _ _) rfl
                · refine z_aload_n (pc := 68) 0 dX5_many_68 rfl rfl ?_
                  refine gf_X5_M_62_0 hG (pc := 69) dX5_many_69 ?_
                  refine z_iload (pc := 72) dX5_many_72 rfl ?_
                  refine z_chk (fun h20 => ?_)
                  refine z_iaload (pc := 74) 27 32 (zGM_s27 hG) h20 dX5_many_74 ?_
                  refine z_iload_n (pc := 75) 3 dX5_many_75 rfl rfl ?_
                  refine z_icmp_eq (pc := 76) 82 dX5_many_76 rfl ?_ ?_
                  · refine z_aload_n (pc := 82) 0 dX5_many_82 rfl rfl ?_
                    refine gf_X5_M_65_0 hG (pc := 83) dX5_many_83 ?_
                    refine z_iload (pc := 86) dX5_many_86 rfl ?_
                    refine z_iload_n (pc := 88) 3 dX5_many_88 rfl rfl ?_
                    refine z_pure (st0 := [.int x16, .ref (G.1 28)]) 97 ((if x12 = 0 then 1 else 0)) ?_ (fun hJ => ?_)
                    · refine z_chk (fun h22 => ?_)
                      refine z_iastore (pc := 97) 28 32 (zGM_s28 hG) h22 dX5_many_97 ?_
                      refine z_letS (fun S23 => ?_)
                      refine z_iconst (pc := 98) (v := 0) dX5_many_98 (by decide) ?_
                      refine z_istore (pc := 99) dX5_many_99 (Nat.le_of_ble_eq_true rfl) rfl ?_
                      refine z_loopK (fun j : Int32 → zSt → Option (Int32 × zSt) => ∀ (x25 : Int32) (S26 : zSt), Zm X mX5_many zJI G (0, 0) res S26 101 [some (.ref (G.1 0)), some (.int a1), none, some (.int x12), some (.int x16), some (.int x25)] [] (j x25 S26)) ?_ ?_ zfuel _ _
                      · intro x25 S26; exact z_none
                      · intro rec24 hrec24 x25 S26
                        unfold LB_X5_many_1
                        refine z_iload (pc := 101) dX5_many_101 rfl ?_
                        refine z_aload_n (pc := 103) 0 dX5_many_103 rfl rfl ?_
                        refine gf_X5_M_34_0 hG (pc := 104) dX5_many_104 ?_
                        refine z_iconst (pc := 107) (v := 0) dX5_many_107 (by decide) ?_
                        refine z_chk (fun h27 => ?_)
                        refine z_iaload (pc := 108) 18 15 (zGM_s18 hG) h27 dX5_many_108 ?_
                        refine z_icmp_ge (pc := 109) 169 dX5_many_109 rfl ?_ ?_
                        · refine z_iinc (pc := 169) (w := x16 + 1) dX5_many_169 rfl (by rw [show Int32.ofInt 1 = 1 from by decide]) (Nat.le_of_ble_eq_true rfl) rfl ?_
                          refine z_goto (pc := 172) 59 dX5_many_172 rfl ?_
                          exact z_mask [true, true, false, true, true, false] (hrec15 _ _) rfl
                        · refine z_aload_n (pc := 112) 0 dX5_many_112 rfl rfl ?_
                          refine z_iload (pc := 113) dX5_many_113 rfl ?_
                          refine z_iload (pc := 115) dX5_many_115 rfl ?_
                          refine z_callVi (pc := 117) _ _ 0 5 (ct_X5_isOpen hG _ _) mv_X5_isOpen q1733 rfl (zGM_s0 hG) rfl (Nat.le_of_ble_eq_true rfl) (Nat.le_of_ble_eq_true rfl) rfl rfl (Nat.le_of_ble_eq_true rfl) dX5_many_117 (fun r29 S28 => ?_)
                          refine z_if_eq (pc := 120) 163 dX5_many_120 rfl ?_ ?_
                          · refine z_iinc (pc := 163) (w := x25 + 1) dX5_many_163 rfl (by rw [show Int32.ofInt 1 = 1 from by decide]) (Nat.le_of_ble_eq_true rfl) rfl ?_
                            refine z_goto (pc := 166) 101 dX5_many_166 rfl ?_
                            exact hrec24 _ _
                          · refine z_aload_n (pc := 123) 0 dX5_many_123 rfl rfl ?_
                            refine gf_X5_M_62_0 hG (pc := 124) dX5_many_124 ?_
                            refine z_iload (pc := 127) dX5_many_127 rfl ?_
                            refine z_iconst (pc := 129) (v := 1) dX5_many_129 (by decide) ?_
                            refine z_iload (pc := 130) dX5_many_130 rfl ?_
                            refine z_ishl (pc := 132) dX5_many_132 ?_
                            refine z_ixor (pc := 133) dX5_many_133 ?_
                            refine z_letI (fun w30 => ?_)
                            refine z_chk (fun h31 => ?_)
                            refine z_iaload (pc := 134) 27 32 (zGM_s27 hG) h31 dX5_many_134 ?_
                            refine z_iload_n (pc := 135) 3 dX5_many_135 rfl rfl ?_
                            refine z_iconst (pc := 136) (v := 1) dX5_many_136 (by decide) ?_
                            refine z_isub (pc := 137) dX5_many_137 ?_
                            refine z_icmp_ne (pc := 138) 163 dX5_many_138 rfl ?_ ?_
                            · refine z_iinc (pc := 163) (w := x25 + 1) dX5_many_163 rfl (by rw [show Int32.ofInt 1 = 1 from by decide]) (Nat.le_of_ble_eq_true rfl) rfl ?_
                              refine z_goto (pc := 166) 101 dX5_many_166 rfl ?_
                              exact hrec24 _ _
                            · refine z_aload_n (pc := 141) 0 dX5_many_141 rfl rfl ?_
                              refine gf_X5_M_65_0 hG (pc := 142) dX5_many_142 ?_
                              refine z_iload (pc := 145) dX5_many_145 rfl ?_
                              refine z_dup2 (pc := 147) dX5_many_147 rfl rfl ?_
                              refine z_chk (fun h32 => ?_)
                              refine z_iaload (pc := 148) 28 32 (zGM_s28 hG) h32 dX5_many_148 ?_
                              refine z_aload_n (pc := 149) 0 dX5_many_149 rfl rfl ?_
                              refine gf_X5_M_65_0 hG (pc := 150) dX5_many_150 ?_
                              refine z_iload (pc := 153) dX5_many_153 rfl ?_
                              refine z_iconst (pc := 155) (v := 1) dX5_many_155 (by decide) ?_
                              refine z_iload (pc := 156) dX5_many_156 rfl ?_
                              refine z_ishl (pc := 158) dX5_many_158 ?_
                              refine z_ixor (pc := 159) dX5_many_159 ?_
                              refine z_letI (fun w33 => ?_)
                              refine z_chk (fun h34 => ?_)
                              refine z_iaload (pc := 160) 28 32 (zGM_s28 hG) h34 dX5_many_160 ?_
                              refine z_iadd (pc := 161) dX5_many_161 ?_
                              refine z_chk (fun h35 => ?_)
                              refine z_iastore (pc := 162) 28 32 (zGM_s28 hG) h35 dX5_many_162 ?_
                              refine z_letS (fun S36 => ?_)
                              refine z_iinc (pc := 163) (w := x25 + 1) dX5_many_163 rfl (by rw [show Int32.ofInt 1 = 1 from by decide]) (Nat.le_of_ble_eq_true rfl) rfl ?_
                              refine z_goto (pc := 166) 101 dX5_many_166 rfl ?_
                              exact hrec24 _ _
                    · refine z_ifd_ne (pc := 89) 96 dX5_many_89 rfl (fun c37 => ?_) (fun c37 => ?_)
                      · refine z_iconst (pc := 96) (v := 0) dX5_many_96 (by decide) ?_
                        exact z_leaf hJ (by simp only [if_neg c37])
                      · refine z_iconst (pc := 92) (v := 1) dX5_many_92 (by decide) ?_
                        refine z_goto (pc := 93) 97 dX5_many_93 rfl ?_
                        exact z_leaf hJ (by simp only [if_pos c37])
                  · refine z_goto (pc := 79) 169 dX5_many_79 rfl ?_
                    refine z_iinc (pc := 169) (w := x16 + 1) dX5_many_169 rfl (by rw [show Int32.ofInt 1 = 1 from by decide]) (Nat.le_of_ble_eq_true rfl) rfl ?_
                    refine z_goto (pc := 172) 59 dX5_many_172 rfl ?_
                    exact hrec15 _ _
      · refine z_iconst (pc := 42) (v := 0) dX5_many_42 (by decide) ?_
        exact z_iret rfl dX5_many_43 rfl
    · refine z_bipush (pc := 23) (v := (-2)) dX5_many_23 (by decide) ?_
      exact z_iret rfl dX5_many_25 rfl
abbrev mX5_nextOf : zMr := ("HiddenCubeModel", cX5_nextOf, 5, (some .int), 3, 0, 0, none)
def LB_X5_nextOf_1 (a1 : Int32) (rec1 : Int32 → Int32 → zSt → Option (Int32 × zSt)) (x2 : Int32) (x3 : Int32) (S4 : zSt) : Option (Int32 × zSt) :=
chk 0 15 (if (S4.1 18 (0 : Int32).toNatClampNeg) ≤ x3 then (some (x2, S4)) else (zlet (a1 ^^^ ((1 : Int32) <<< (x3 &&& 31)) : Int32) (fun w6 : Int32 =>
zbind (F_X5_isOpen a1 x3 S4) (fun r8 S7 =>
if r8 = 0 then (rec1 x2 (x3 + 1) S7) else (chk w6 32 (chk a1 32 (if (S7.1 27 (w6).toNatClampNeg) = ((S7.1 27 (a1).toNatClampNeg) - 1) then (joinK (rec1 w6 (x3 + 1) S7) (fun j11 : Option (Int32 × zSt) =>
if x2 = (-1) then (j11) else (if x2 ≤ w6 then (rec1 x2 (x3 + 1) S7) else (j11)))) else (rec1 x2 (x3 + 1) S7))))))))
def F_X5_nextOf (a1 : Int32) (S : zSt) : Option (Int32 × zSt) :=
loopK (fun _ _ _ => none) (LB_X5_nextOf_1 a1) zfuel (-1) 0 S
theorem mv_X5_nextOf : ZV mX5_nextOf yX5_nextOf 1 := ⟨q1797, qs109, q155, q1798, rfl, by decide, by decide, by decide +kernel⟩
theorem ct_X5_nextOf {G : zGw} (hG : zGM G) (a1 : Int32) : Zc mX5_nextOf yX5_nextOf zJI G [.ref (G.1 0), .int a1] (F_X5_nextOf a1) := by
  refine Zc_of [some (.ref (G.1 0)), some (.int a1), none, none, none] (by decide) rfl rfl (Nat.le_of_ble_eq_true rfl) rfl (fun X S res => ?_)
  unfold F_X5_nextOf
  refine z_iconst (pc := 0) (v := (-1)) dX5_nextOf_0 (by decide) ?_
  refine z_istore_n (pc := 1) 2 dX5_nextOf_1 rfl (Nat.le_of_ble_eq_true rfl) rfl ?_
  refine z_iconst (pc := 2) (v := 0) dX5_nextOf_2 (by decide) ?_
  refine z_istore_n (pc := 3) 3 dX5_nextOf_3 rfl (Nat.le_of_ble_eq_true rfl) rfl ?_
  refine z_loopK (fun j : Int32 → Int32 → zSt → Option (Int32 × zSt) => ∀ (x2 : Int32) (x3 : Int32) (S4 : zSt), Zm X mX5_nextOf zJI G (0, 0) res S4 4 [some (.ref (G.1 0)), some (.int a1), some (.int x2), some (.int x3), none] [] (j x2 x3 S4)) ?_ ?_ zfuel _ _ _
  · intro x2 x3 S4; exact z_none
  · intro rec1 hrec1 x2 x3 S4
    unfold LB_X5_nextOf_1
    refine z_iload_n (pc := 4) 3 dX5_nextOf_4 rfl rfl ?_
    refine z_aload_n (pc := 5) 0 dX5_nextOf_5 rfl rfl ?_
    refine gf_X5_M_34_0 hG (pc := 6) dX5_nextOf_6 ?_
    refine z_iconst (pc := 9) (v := 0) dX5_nextOf_9 (by decide) ?_
    refine z_chk (fun h5 => ?_)
    refine z_iaload (pc := 10) 18 15 (zGM_s18 hG) h5 dX5_nextOf_10 ?_
    refine z_icmp_ge (pc := 11) 68 dX5_nextOf_11 rfl ?_ ?_
    · refine z_iload_n (pc := 68) 2 dX5_nextOf_68 rfl rfl ?_
      exact z_iret rfl dX5_nextOf_69 rfl
    · refine z_iload_n (pc := 14) 1 dX5_nextOf_14 rfl rfl ?_
      refine z_iconst (pc := 15) (v := 1) dX5_nextOf_15 (by decide) ?_
      refine z_iload_n (pc := 16) 3 dX5_nextOf_16 rfl rfl ?_
      refine z_ishl (pc := 17) dX5_nextOf_17 ?_
      refine z_ixor (pc := 18) dX5_nextOf_18 ?_
      refine z_letI (fun w6 => ?_)
      refine z_istore (pc := 19) dX5_nextOf_19 (Nat.le_of_ble_eq_true rfl) rfl ?_
      refine z_aload_n (pc := 21) 0 dX5_nextOf_21 rfl rfl ?_
      refine z_iload_n (pc := 22) 1 dX5_nextOf_22 rfl rfl ?_
      refine z_iload_n (pc := 23) 3 dX5_nextOf_23 rfl rfl ?_
      refine z_callVi (pc := 24) _ _ 0 5 (ct_X5_isOpen hG _ _) mv_X5_isOpen q1733 rfl (zGM_s0 hG) rfl (Nat.le_of_ble_eq_true rfl) (Nat.le_of_ble_eq_true rfl) rfl rfl (Nat.le_of_ble_eq_true rfl) dX5_nextOf_24 (fun r8 S7 => ?_)
      refine z_if_eq (pc := 27) 62 dX5_nextOf_27 rfl ?_ ?_
      · refine z_iinc (pc := 62) (w := x3 + 1) dX5_nextOf_62 rfl (by rw [show Int32.ofInt 1 = 1 from by decide]) (Nat.le_of_ble_eq_true rfl) rfl ?_
        refine z_goto (pc := 65) 4 dX5_nextOf_65 rfl ?_
        exact z_mask [true, true, true, true, false] (hrec1 _ _ _) rfl
      · refine z_aload_n (pc := 30) 0 dX5_nextOf_30 rfl rfl ?_
        refine gf_X5_M_62_0 hG (pc := 31) dX5_nextOf_31 ?_
        refine z_iload (pc := 34) dX5_nextOf_34 rfl ?_
        refine z_chk (fun h9 => ?_)
        refine z_iaload (pc := 36) 27 32 (zGM_s27 hG) h9 dX5_nextOf_36 ?_
        refine z_aload_n (pc := 37) 0 dX5_nextOf_37 rfl rfl ?_
        refine gf_X5_M_62_0 hG (pc := 38) dX5_nextOf_38 ?_
        refine z_iload_n (pc := 41) 1 dX5_nextOf_41 rfl rfl ?_
        refine z_chk (fun h10 => ?_)
        refine z_iaload (pc := 42) 27 32 (zGM_s27 hG) h10 dX5_nextOf_42 ?_
        refine z_iconst (pc := 43) (v := 1) dX5_nextOf_43 (by decide) ?_
        refine z_isub (pc := 44) dX5_nextOf_44 ?_
        refine z_icmp_ne (pc := 45) 62 dX5_nextOf_45 rfl ?_ ?_
        · refine z_iinc (pc := 62) (w := x3 + 1) dX5_nextOf_62 rfl (by rw [show Int32.ofInt 1 = 1 from by decide]) (Nat.le_of_ble_eq_true rfl) rfl ?_
          refine z_goto (pc := 65) 4 dX5_nextOf_65 rfl ?_
          exact z_mask [true, true, true, true, false] (hrec1 _ _ _) rfl
        · refine z_iload_n (pc := 48) 2 dX5_nextOf_48 rfl rfl ?_
          refine z_iconst (pc := 49) (v := (-1)) dX5_nextOf_49 (by decide) ?_
          refine z_join (fun j : Option (Int32 × zSt) =>  Zm X mX5_nextOf zJI G (0, 0) res S7 59 [some (.ref (G.1 0)), some (.int a1), none, some (.int x3), some (.int w6)] [] (j)) ?_ (fun j11 hj11 => ?_)
          · show _
            refine z_iload (pc := 59) dX5_nextOf_59 rfl ?_
            refine z_istore_n (pc := 61) 2 dX5_nextOf_61 rfl (Nat.le_of_ble_eq_true rfl) rfl ?_
            refine z_iinc (pc := 62) (w := x3 + 1) dX5_nextOf_62 rfl (by rw [show Int32.ofInt 1 = 1 from by decide]) (Nat.le_of_ble_eq_true rfl) rfl ?_
            refine z_goto (pc := 65) 4 dX5_nextOf_65 rfl ?_
            exact z_mask [true, true, true, true, false] (hrec1 _ _ _) rfl
          · refine z_icmp_eq (pc := 50) 59 dX5_nextOf_50 rfl ?_ ?_
            · exact z_mask [true, true, false, true, true] (hj11) rfl
            · refine z_iload (pc := 53) dX5_nextOf_53 rfl ?_
              refine z_iload_n (pc := 55) 2 dX5_nextOf_55 rfl rfl ?_
              refine z_icmp_ge (pc := 56) 62 dX5_nextOf_56 rfl ?_ ?_
              · refine z_iinc (pc := 62) (w := x3 + 1) dX5_nextOf_62 rfl (by rw [show Int32.ofInt 1 = 1 from by decide]) (Nat.le_of_ble_eq_true rfl) rfl ?_
                refine z_goto (pc := 65) 4 dX5_nextOf_65 rfl ?_
                exact z_mask [true, true, true, true, false] (hrec1 _ _ _) rfl
              · exact z_mask [true, true, false, true, true] (hj11) rfl
abbrev mX5_goesOn : zMr := ("HiddenCubeModel", cX5_goesOn, 6, (some .int), 4, 0, 0, none)
def LB_X5_goesOn_1 (a3 : Int32) (rec4 : Int32 → Int32 → zSt → Option (Int32 × zSt)) (x5 : Int32) (x6 : Int32) (S7 : zSt) : Option (Int32 × zSt) :=
if a3 ≤ x6 then (some (x5, S7)) else (zbind (F_X5_nextOf x5 S7) (fun r9 S8 =>
rec4 r9 (x6 + 1) S8))
def F_X5_goesOn (a1 : Int32) (a2 : Int32) (a3 : Int32) (S : zSt) : Option (Int32 × zSt) :=
zbind (F_X5_laysFar a2 S) (fun _ S1 =>
chk a1 32 (if (S1.1 27 (a1).toNatClampNeg) = 1000000 then (some ((-1), S1)) else (if a3 < 0 then (some ((-1), S1)) else (chk a1 32 (if a3 ≤ (S1.1 27 (a1).toNatClampNeg) then (loopK (fun _ _ _ => none) (LB_X5_goesOn_1 a3) zfuel a1 0 S1) else (some ((-1), S1)))))))
theorem mv_X5_goesOn : ZV mX5_goesOn yX5_goesOn 3 := ⟨q1793, qs108, q155, q1794, rfl, by decide, by decide, by decide +kernel⟩
theorem ct_X5_goesOn {G : zGw} (hG : zGM G) (a1 : Int32) (a2 : Int32) (a3 : Int32) : Zc mX5_goesOn yX5_goesOn zJI G [.ref (G.1 0), .int a1, .int a2, .int a3] (F_X5_goesOn a1 a2 a3) := by
  refine Zc_of [some (.ref (G.1 0)), some (.int a1), some (.int a2), some (.int a3), none, none] (by decide) rfl rfl (Nat.le_of_ble_eq_true rfl) rfl (fun X S res => ?_)
  unfold F_X5_goesOn
  refine z_aload_n (pc := 0) 0 dX5_goesOn_0 rfl rfl ?_
  refine z_iload_n (pc := 1) 2 dX5_goesOn_1 rfl rfl ?_
  refine z_callVv (pc := 2) _ _ 0 5 (ct_X5_laysFar hG _) mv_X5_laysFar q1779 rfl (zGM_s0 hG) rfl (Nat.le_of_ble_eq_true rfl) (Nat.le_of_ble_eq_true rfl) rfl rfl (Nat.le_of_ble_eq_true rfl) dX5_goesOn_2 (fun _ S1 => ?_)
  refine z_aload_n (pc := 5) 0 dX5_goesOn_5 rfl rfl ?_
  refine gf_X5_M_62_0 hG (pc := 6) dX5_goesOn_6 ?_
  refine z_iload_n (pc := 9) 1 dX5_goesOn_9 rfl rfl ?_
  refine z_chk (fun h2 => ?_)
  refine z_iaload (pc := 10) 27 32 (zGM_s27 hG) h2 dX5_goesOn_10 ?_
  refine z_ldc (pc := 11) (v := 1000000) dX5_goesOn_11 q1632 ?_
  refine z_icmp_eq (pc := 13) 30 dX5_goesOn_13 rfl ?_ ?_
  · refine z_iconst (pc := 30) (v := (-1)) dX5_goesOn_30 (by decide) ?_
    exact z_iret rfl dX5_goesOn_31 rfl
  · refine z_iload_n (pc := 16) 3 dX5_goesOn_16 rfl rfl ?_
    refine z_if_lt (pc := 17) 30 dX5_goesOn_17 rfl ?_ ?_
    · refine z_iconst (pc := 30) (v := (-1)) dX5_goesOn_30 (by decide) ?_
      exact z_iret rfl dX5_goesOn_31 rfl
    · refine z_iload_n (pc := 20) 3 dX5_goesOn_20 rfl rfl ?_
      refine z_aload_n (pc := 21) 0 dX5_goesOn_21 rfl rfl ?_
      refine gf_X5_M_62_0 hG (pc := 22) dX5_goesOn_22 ?_
      refine z_iload_n (pc := 25) 1 dX5_goesOn_25 rfl rfl ?_
      refine z_chk (fun h3 => ?_)
      refine z_iaload (pc := 26) 27 32 (zGM_s27 hG) h3 dX5_goesOn_26 ?_
      refine z_icmp_le (pc := 27) 32 dX5_goesOn_27 rfl ?_ ?_
      · refine z_iload_n (pc := 32) 1 dX5_goesOn_32 rfl rfl ?_
        refine z_istore (pc := 33) dX5_goesOn_33 (Nat.le_of_ble_eq_true rfl) rfl ?_
        refine z_iconst (pc := 35) (v := 0) dX5_goesOn_35 (by decide) ?_
        refine z_istore (pc := 36) dX5_goesOn_36 (Nat.le_of_ble_eq_true rfl) rfl ?_
        refine z_maskk [true, false, false, true, true, true] ?_
        refine z_loopK (fun j : Int32 → Int32 → zSt → Option (Int32 × zSt) => ∀ (x5 : Int32) (x6 : Int32) (S7 : zSt), Zm X mX5_goesOn zJI G (0, 0) res S7 38 [some (.ref (G.1 0)), none, none, some (.int a3), some (.int x5), some (.int x6)] [] (j x5 x6 S7)) ?_ ?_ zfuel _ _ _
        · intro x5 x6 S7; exact z_none
        · intro rec4 hrec4 x5 x6 S7
          unfold LB_X5_goesOn_1
          refine z_iload (pc := 38) dX5_goesOn_38 rfl ?_
          refine z_iload_n (pc := 40) 3 dX5_goesOn_40 rfl rfl ?_
          refine z_icmp_ge (pc := 41) 58 dX5_goesOn_41 rfl ?_ ?_
          · refine z_iload (pc := 58) dX5_goesOn_58 rfl ?_
            exact z_iret rfl dX5_goesOn_60 rfl
          · refine z_aload_n (pc := 44) 0 dX5_goesOn_44 rfl rfl ?_
            refine z_iload (pc := 45) dX5_goesOn_45 rfl ?_
            refine z_callVi (pc := 47) _ _ 0 5 (ct_X5_nextOf hG _) mv_X5_nextOf q1795 rfl (zGM_s0 hG) rfl (Nat.le_of_ble_eq_true rfl) (Nat.le_of_ble_eq_true rfl) rfl rfl (Nat.le_of_ble_eq_true rfl) dX5_goesOn_47 (fun r9 S8 => ?_)
            refine z_istore (pc := 50) dX5_goesOn_50 (Nat.le_of_ble_eq_true rfl) rfl ?_
            refine z_iinc (pc := 52) (w := x6 + 1) dX5_goesOn_52 rfl (by rw [show Int32.ofInt 1 = 1 from by decide]) (Nat.le_of_ble_eq_true rfl) rfl ?_
            refine z_goto (pc := 55) 38 dX5_goesOn_55 rfl ?_
            exact hrec4 _ _ _
      · refine z_iconst (pc := 30) (v := (-1)) dX5_goesOn_30 (by decide) ?_
        exact z_iret rfl dX5_goesOn_31 rfl
abbrev mX5_goes : zMr := ("HiddenCubeModel", cX5_goes, 4, (some .int), 5, 0, 0, none)
def F_X5_goes (a1 : Int32) (a2 : Int32) (a3 : Int32) (S : zSt) : Option (Int32 × zSt) :=
zlet (sI S 0 0 0 : zSt) (fun S1 : zSt =>
zbind (F_X5_isSquare ((a1).toInt64) S1) (fun r3 S2 =>
if r3 = 0 then (some ((-2), S2)) else (zbind (F_X5_isSquare ((a2).toInt64) S2) (fun r5 S4 =>
if r5 = 0 then (some ((-2), S4)) else (zbind (F_X5_goesOn a1 a2 a3 S4) (fun r7 S6 =>
some (r7, S6)))))))
theorem mv_X5_goes : ZV mX5_goes yX5_goes 3 := ⟨q1788, q1789, q155, q1790, rfl, by decide, by decide, by decide +kernel⟩
theorem ct_X5_goes {G : zGw} (hG : zGM G) (a1 : Int32) (a2 : Int32) (a3 : Int32) : Zc mX5_goes yX5_goes zJI G [.ref (G.1 0), .int a1, .int a2, .int a3] (F_X5_goes a1 a2 a3) := by
  refine Zc_of [some (.ref (G.1 0)), some (.int a1), some (.int a2), some (.int a3)] (by decide) rfl rfl (Nat.le_of_ble_eq_true rfl) rfl (fun X S res => ?_)
  unfold F_X5_goes
  refine z_aload_n (pc := 0) 0 dX5_goes_0 rfl rfl ?_
  refine z_iconst (pc := 1) (v := 0) dX5_goes_1 (by decide) ?_
  refine pf_X5_M_131_0 hG (pc := 2) dX5_goes_2 ?_
  refine z_letS (fun S1 => ?_)
  refine z_aload_n (pc := 5) 0 dX5_goes_5 rfl rfl ?_
  refine z_iload_n (pc := 6) 1 dX5_goes_6 rfl rfl ?_
  refine z_i2l (pc := 7) dX5_goes_7 ?_
  refine z_callVi (pc := 8) _ _ 0 5 (ct_X5_isSquare hG _) mv_X5_isSquare q1721 rfl (zGM_s0 hG) rfl (Nat.le_of_ble_eq_true rfl) (Nat.le_of_ble_eq_true rfl) rfl rfl (Nat.le_of_ble_eq_true rfl) dX5_goes_8 (fun r3 S2 => ?_)
  refine z_if_eq (pc := 11) 33 dX5_goes_11 rfl ?_ ?_
  · refine z_bipush (pc := 33) (v := (-2)) dX5_goes_33 (by decide) ?_
    exact z_iret rfl dX5_goes_35 rfl
  · refine z_aload_n (pc := 14) 0 dX5_goes_14 rfl rfl ?_
    refine z_iload_n (pc := 15) 2 dX5_goes_15 rfl rfl ?_
    refine z_i2l (pc := 16) dX5_goes_16 ?_
    refine z_callVi (pc := 17) _ _ 0 5 (ct_X5_isSquare hG _) mv_X5_isSquare q1721 rfl (zGM_s0 hG) rfl (Nat.le_of_ble_eq_true rfl) (Nat.le_of_ble_eq_true rfl) rfl rfl (Nat.le_of_ble_eq_true rfl) dX5_goes_17 (fun r5 S4 => ?_)
    refine z_if_eq (pc := 20) 33 dX5_goes_20 rfl ?_ ?_
    · refine z_bipush (pc := 33) (v := (-2)) dX5_goes_33 (by decide) ?_
      exact z_iret rfl dX5_goes_35 rfl
    · refine z_aload_n (pc := 23) 0 dX5_goes_23 rfl rfl ?_
      refine z_iload_n (pc := 24) 1 dX5_goes_24 rfl rfl ?_
      refine z_iload_n (pc := 25) 2 dX5_goes_25 rfl rfl ?_
      refine z_iload_n (pc := 26) 3 dX5_goes_26 rfl rfl ?_
      refine z_callVi (pc := 27) _ _ 0 5 (ct_X5_goesOn hG _ _ _) mv_X5_goesOn q1791 rfl (zGM_s0 hG) rfl (Nat.le_of_ble_eq_true rfl) (Nat.le_of_ble_eq_true rfl) rfl rfl (Nat.le_of_ble_eq_true rfl) dX5_goes_27 (fun r7 S6 => ?_)
      refine z_goto (pc := 30) 35 dX5_goes_30 rfl ?_
      exact z_iret rfl dX5_goes_35 rfl
abbrev mX5_nameOf : zMr := ("HiddenCubeModel", cX5_nameOf, 4, (some .int), 1, 0, 0, none)
def LB_X5_nameOf_1 (a1 : Int32) (a2 : Int32) (S : zSt) (rec1 : Int32 → Option (Int32 × zSt)) (x2 : Int32) : Option (Int32 × zSt) :=
chk 0 15 (if (S.1 18 (0 : Int32).toNatClampNeg) ≤ x2 then (some ((-1), S)) else (if (a1 ^^^ a2) = ((1 : Int32) <<< (x2 &&& 31)) then (some (x2, S)) else (rec1 (x2 + 1))))
def F_X5_nameOf (a1 : Int32) (a2 : Int32) (S : zSt) : Option (Int32 × zSt) :=
loopK (fun _ => none) (LB_X5_nameOf_1 a1 a2 S) zfuel 0
theorem mv_X5_nameOf : ZV mX5_nameOf yX5_nameOf 2 := ⟨q1805, qs110, q155, q1806, rfl, by decide, by decide, by decide +kernel⟩
theorem ct_X5_nameOf {G : zGw} (hG : zGM G) (a1 : Int32) (a2 : Int32) : Zc mX5_nameOf yX5_nameOf zJI G [.ref (G.1 0), .int a1, .int a2] (F_X5_nameOf a1 a2) := by
  refine Zc_of [some (.ref (G.1 0)), some (.int a1), some (.int a2), none] (by decide) rfl rfl (Nat.le_of_ble_eq_true rfl) rfl (fun X S res => ?_)
  unfold F_X5_nameOf
  refine z_iconst (pc := 0) (v := 0) dX5_nameOf_0 (by decide) ?_
  refine z_istore_n (pc := 1) 3 dX5_nameOf_1 rfl (Nat.le_of_ble_eq_true rfl) rfl ?_
  refine z_loopK (fun j : Int32 → Option (Int32 × zSt) => ∀ (x2 : Int32), Zm X mX5_nameOf zJI G (0, 0) res S 2 [some (.ref (G.1 0)), some (.int a1), some (.int a2), some (.int x2)] [] (j x2)) ?_ ?_ zfuel _
  · intro x2; exact z_none
  · intro rec1 hrec1 x2
    unfold LB_X5_nameOf_1
    refine z_iload_n (pc := 2) 3 dX5_nameOf_2 rfl rfl ?_
    refine z_aload_n (pc := 3) 0 dX5_nameOf_3 rfl rfl ?_
    refine gf_X5_M_34_0 hG (pc := 4) dX5_nameOf_4 ?_
    refine z_iconst (pc := 7) (v := 0) dX5_nameOf_7 (by decide) ?_
    refine z_chk (fun h3 => ?_)
    refine z_iaload (pc := 8) 18 15 (zGM_s18 hG) h3 dX5_nameOf_8 ?_
    refine z_icmp_ge (pc := 9) 29 dX5_nameOf_9 rfl ?_ ?_
    · refine z_iconst (pc := 29) (v := (-1)) dX5_nameOf_29 (by decide) ?_
      exact z_iret rfl dX5_nameOf_30 rfl
    · refine z_iload_n (pc := 12) 1 dX5_nameOf_12 rfl rfl ?_
      refine z_iload_n (pc := 13) 2 dX5_nameOf_13 rfl rfl ?_
      refine z_ixor (pc := 14) dX5_nameOf_14 ?_
      refine z_iconst (pc := 15) (v := 1) dX5_nameOf_15 (by decide) ?_
      refine z_iload_n (pc := 16) 3 dX5_nameOf_16 rfl rfl ?_
      refine z_ishl (pc := 17) dX5_nameOf_17 ?_
      refine z_icmp_ne (pc := 18) 23 dX5_nameOf_18 rfl ?_ ?_
      · refine z_iinc (pc := 23) (w := x2 + 1) dX5_nameOf_23 rfl (by rw [show Int32.ofInt 1 = 1 from by decide]) (Nat.le_of_ble_eq_true rfl) rfl ?_
        refine z_goto (pc := 26) 2 dX5_nameOf_26 rfl ?_
        exact hrec1 _
      · refine z_iload_n (pc := 21) 3 dX5_nameOf_21 rfl rfl ?_
        exact z_iret rfl dX5_nameOf_22 rfl
abbrev mX5_led : zMr := ("HiddenCubeModel", cX5_led, 5, (some .int), 5, 0, 0, none)
def F_X5_led (a1 : Int32) (a2 : Int32) (a3 : Int32) (S : zSt) : Option (Int32 × zSt) :=
zlet (sI S 0 0 0 : zSt) (fun S1 : zSt =>
zbind (F_X5_isSquare ((a1).toInt64) S1) (fun r3 S2 =>
if r3 = 0 then (some ((-2), S2)) else (zbind (F_X5_isSquare ((a2).toInt64) S2) (fun r5 S4 =>
if r5 = 0 then (some ((-2), S4)) else (if a3 < 0 then (some ((-1), S4)) else (zbind (F_X5_squares S4) (fun r7 S6 =>
if a3 < r7 then (zbind (F_X5_goesOn a1 a2 (a3 + 1) S6) (fun r9 S8 =>
if r9 = (-1) then (some ((-1), S8)) else (zbind (F_X5_goesOn a1 a2 a3 S8) (fun r11 S10 =>
zbind (F_X5_nameOf r11 r9 S10) (fun r13 S12 =>
some (r13, S12)))))) else (some ((-1), S6)))))))))
theorem mv_X5_led : ZV mX5_led yX5_led 3 := ⟨q1800, q1801, q155, q1802, rfl, by decide, by decide, by decide +kernel⟩
theorem ct_X5_led {G : zGw} (hG : zGM G) (a1 : Int32) (a2 : Int32) (a3 : Int32) : Zc mX5_led yX5_led zJI G [.ref (G.1 0), .int a1, .int a2, .int a3] (F_X5_led a1 a2 a3) := by
  refine Zc_of [some (.ref (G.1 0)), some (.int a1), some (.int a2), some (.int a3), none] (by decide) rfl rfl (Nat.le_of_ble_eq_true rfl) rfl (fun X S res => ?_)
  unfold F_X5_led
  refine z_aload_n (pc := 0) 0 dX5_led_0 rfl rfl ?_
  refine z_iconst (pc := 1) (v := 0) dX5_led_1 (by decide) ?_
  refine pf_X5_M_131_0 hG (pc := 2) dX5_led_2 ?_
  refine z_letS (fun S1 => ?_)
  refine z_aload_n (pc := 5) 0 dX5_led_5 rfl rfl ?_
  refine z_iload_n (pc := 6) 1 dX5_led_6 rfl rfl ?_
  refine z_i2l (pc := 7) dX5_led_7 ?_
  refine z_callVi (pc := 8) _ _ 0 5 (ct_X5_isSquare hG _) mv_X5_isSquare q1721 rfl (zGM_s0 hG) rfl (Nat.le_of_ble_eq_true rfl) (Nat.le_of_ble_eq_true rfl) rfl rfl (Nat.le_of_ble_eq_true rfl) dX5_led_8 (fun r3 S2 => ?_)
  refine z_if_eq (pc := 11) 23 dX5_led_11 rfl ?_ ?_
  · refine z_bipush (pc := 23) (v := (-2)) dX5_led_23 (by decide) ?_
    exact z_iret rfl dX5_led_25 rfl
  · refine z_aload_n (pc := 14) 0 dX5_led_14 rfl rfl ?_
    refine z_iload_n (pc := 15) 2 dX5_led_15 rfl rfl ?_
    refine z_i2l (pc := 16) dX5_led_16 ?_
    refine z_callVi (pc := 17) _ _ 0 5 (ct_X5_isSquare hG _) mv_X5_isSquare q1721 rfl (zGM_s0 hG) rfl (Nat.le_of_ble_eq_true rfl) (Nat.le_of_ble_eq_true rfl) rfl rfl (Nat.le_of_ble_eq_true rfl) dX5_led_17 (fun r5 S4 => ?_)
    refine z_if_ne (pc := 20) 26 dX5_led_20 rfl ?_ ?_
    · refine z_iload_n (pc := 26) 3 dX5_led_26 rfl rfl ?_
      refine z_if_lt (pc := 27) 38 dX5_led_27 rfl ?_ ?_
      · refine z_iconst (pc := 38) (v := (-1)) dX5_led_38 (by decide) ?_
        exact z_iret rfl dX5_led_39 rfl
      · refine z_iload_n (pc := 30) 3 dX5_led_30 rfl rfl ?_
        refine z_aload_n (pc := 31) 0 dX5_led_31 rfl rfl ?_
        refine z_callVi (pc := 32) _ _ 0 5 (ct_X5_squares hG) mv_X5_squares q1725 rfl (zGM_s0 hG) rfl (Nat.le_of_ble_eq_true rfl) (Nat.le_of_ble_eq_true rfl) rfl rfl (Nat.le_of_ble_eq_true rfl) dX5_led_32 (fun r7 S6 => ?_)
        refine z_icmp_lt (pc := 35) 40 dX5_led_35 rfl ?_ ?_
        · refine z_aload_n (pc := 40) 0 dX5_led_40 rfl rfl ?_
          refine z_iload_n (pc := 41) 1 dX5_led_41 rfl rfl ?_
          refine z_iload_n (pc := 42) 2 dX5_led_42 rfl rfl ?_
          refine z_iload_n (pc := 43) 3 dX5_led_43 rfl rfl ?_
          refine z_iconst (pc := 44) (v := 1) dX5_led_44 (by decide) ?_
          refine z_iadd (pc := 45) dX5_led_45 ?_
          refine z_callVi (pc := 46) _ _ 0 5 (ct_X5_goesOn hG _ _ _) mv_X5_goesOn q1791 rfl (zGM_s0 hG) rfl (Nat.le_of_ble_eq_true rfl) (Nat.le_of_ble_eq_true rfl) rfl rfl (Nat.le_of_ble_eq_true rfl) dX5_led_46 (fun r9 S8 => ?_)
          refine z_istore (pc := 49) dX5_led_49 (Nat.le_of_ble_eq_true rfl) rfl ?_
          refine z_iload (pc := 51) dX5_led_51 rfl ?_
          refine z_iconst (pc := 53) (v := (-1)) dX5_led_53 (by decide) ?_
          refine z_icmp_ne (pc := 54) 61 dX5_led_54 rfl ?_ ?_
          · refine z_aload_n (pc := 61) 0 dX5_led_61 rfl rfl ?_
            refine z_aload_n (pc := 62) 0 dX5_led_62 rfl rfl ?_
            refine z_iload_n (pc := 63) 1 dX5_led_63 rfl rfl ?_
            refine z_iload_n (pc := 64) 2 dX5_led_64 rfl rfl ?_
            refine z_iload_n (pc := 65) 3 dX5_led_65 rfl rfl ?_
            refine z_callVi (pc := 66) _ _ 0 5 (ct_X5_goesOn hG _ _ _) mv_X5_goesOn q1791 rfl (zGM_s0 hG) rfl (Nat.le_of_ble_eq_true rfl) (Nat.le_of_ble_eq_true rfl) rfl rfl (Nat.le_of_ble_eq_true rfl) dX5_led_66 (fun r11 S10 => ?_)
            refine z_iload (pc := 69) dX5_led_69 rfl ?_
            refine z_callVi (pc := 71) _ _ 0 5 (ct_X5_nameOf hG _ _) mv_X5_nameOf q1803 rfl (zGM_s0 hG) rfl (Nat.le_of_ble_eq_true rfl) (Nat.le_of_ble_eq_true rfl) rfl rfl (Nat.le_of_ble_eq_true rfl) dX5_led_71 (fun r13 S12 => ?_)
            exact z_iret rfl dX5_led_74 rfl
          · refine z_iconst (pc := 57) (v := (-1)) dX5_led_57 (by decide) ?_
            refine z_goto (pc := 58) 74 dX5_led_58 rfl ?_
            exact z_iret rfl dX5_led_74 rfl
        · refine z_iconst (pc := 38) (v := (-1)) dX5_led_38 (by decide) ?_
          exact z_iret rfl dX5_led_39 rfl
    · refine z_bipush (pc := 23) (v := (-2)) dX5_led_23 (by decide) ?_
      exact z_iret rfl dX5_led_25 rfl
abbrev mX5_farthest : zMr := ("HiddenCubeModel", cX5_farthest, 5, (some .int), 4, 0, 0, none)
def LB_X5_farthest_1 (k7 : Int32 → zSt → Option (Int32 × zSt)) (rec11 : Int32 → Int32 → zSt → Option (Int32 × zSt)) (x12 : Int32) (x13 : Int32) (S14 : zSt) : Option (Int32 × zSt) :=
zbind (F_X5_squares S14) (fun r16 S15 =>
if r16 ≤ x13 then (k7 x12 S15) else (chk x13 32 (if (S15.1 27 (x13).toNatClampNeg) = 1000000 then (rec11 x12 (x13 + 1) S15) else (joinK (rec11 x13 (x13 + 1) S15) (fun j18 : Option (Int32 × zSt) =>
if x12 = (-1) then (j18) else (chk x13 32 (chk x12 32 (if (S15.1 27 (x13).toNatClampNeg) ≤ (S15.1 27 (x12).toNatClampNeg) then (rec11 x12 (x13 + 1) S15) else (j18)))))))))
def F_X5_farthest (a1 : Int32) (a2 : Int32) (S : zSt) : Option (Int32 × zSt) :=
zlet (sI S 0 0 0 : zSt) (fun S1 : zSt =>
zbind (F_X5_isSquare ((a1).toInt64) S1) (fun r3 S2 =>
if r3 = 0 then (some ((-2), S2)) else (zbind (F_X5_in ((a2).toInt64) 0 1 S2) (fun r5 S4 =>
if r5 = 0 then (some ((-2), S4)) else (zbind (F_X5_laysFar a1 S4) (fun _ S6 =>
joinK (fun (x8 : Int32) (S9 : zSt) => if a2 = 0 then (some (x8, S9)) else (chk x8 32 (some (S9.1 27 (x8).toNatClampNeg, S9)))) (fun k7 : Int32 → zSt → Option (Int32 × zSt) =>
loopK (fun _ _ _ => none) (LB_X5_farthest_1 k7) zfuel (-1) 0 S6)))))))
theorem mv_X5_farthest : ZV mX5_farthest yX5_farthest 2 := ⟨q1808, q1809, q155, q1810, rfl, by decide, by decide, by decide +kernel⟩
theorem ct_X5_farthest {G : zGw} (hG : zGM G) (a1 : Int32) (a2 : Int32) : Zc mX5_farthest yX5_farthest zJI G [.ref (G.1 0), .int a1, .int a2] (F_X5_farthest a1 a2) := by
  refine Zc_of [some (.ref (G.1 0)), some (.int a1), some (.int a2), none, none] (by decide) rfl rfl (Nat.le_of_ble_eq_true rfl) rfl (fun X S res => ?_)
  unfold F_X5_farthest
  refine z_aload_n (pc := 0) 0 dX5_farthest_0 rfl rfl ?_
  refine z_iconst (pc := 1) (v := 0) dX5_farthest_1 (by decide) ?_
  refine pf_X5_M_131_0 hG (pc := 2) dX5_farthest_2 ?_
  refine z_letS (fun S1 => ?_)
  refine z_aload_n (pc := 5) 0 dX5_farthest_5 rfl rfl ?_
  refine z_iload_n (pc := 6) 1 dX5_farthest_6 rfl rfl ?_
  refine z_i2l (pc := 7) dX5_farthest_7 ?_
  refine z_callVi (pc := 8) _ _ 0 5 (ct_X5_isSquare hG _) mv_X5_isSquare q1721 rfl (zGM_s0 hG) rfl (Nat.le_of_ble_eq_true rfl) (Nat.le_of_ble_eq_true rfl) rfl rfl (Nat.le_of_ble_eq_true rfl) dX5_farthest_8 (fun r3 S2 => ?_)
  refine z_if_eq (pc := 11) 24 dX5_farthest_11 rfl ?_ ?_
  · refine z_bipush (pc := 24) (v := (-2)) dX5_farthest_24 (by decide) ?_
    exact z_iret rfl dX5_farthest_26 rfl
  · refine z_iload_n (pc := 14) 2 dX5_farthest_14 rfl rfl ?_
    refine z_i2l (pc := 15) dX5_farthest_15 ?_
    refine z_lconst (pc := 16) (v := 0) dX5_farthest_16 (by decide) ?_
    refine z_lconst (pc := 17) (v := 1) dX5_farthest_17 (by decide) ?_
    refine z_callSi (pc := 18) _ _ (ct_X5_in  _ _ _) mv_X5_in q1578 rfl (Nat.le_of_ble_eq_true rfl) (Nat.le_of_ble_eq_true rfl) rfl rfl (Nat.le_of_ble_eq_true rfl) dX5_farthest_18 (fun r5 S4 => ?_)
    refine z_if_ne (pc := 21) 27 dX5_farthest_21 rfl ?_ ?_
    · refine z_aload_n (pc := 27) 0 dX5_farthest_27 rfl rfl ?_
      refine z_iload_n (pc := 28) 1 dX5_farthest_28 rfl rfl ?_
      refine z_callVv (pc := 29) _ _ 0 5 (ct_X5_laysFar hG _) mv_X5_laysFar q1779 rfl (zGM_s0 hG) rfl (Nat.le_of_ble_eq_true rfl) (Nat.le_of_ble_eq_true rfl) rfl rfl (Nat.le_of_ble_eq_true rfl) dX5_farthest_29 (fun _ S6 => ?_)
      refine z_iconst (pc := 32) (v := (-1)) dX5_farthest_32 (by decide) ?_
      refine z_istore_n (pc := 33) 3 dX5_farthest_33 rfl (Nat.le_of_ble_eq_true rfl) rfl ?_
      refine z_iconst (pc := 34) (v := 0) dX5_farthest_34 (by decide) ?_
      refine z_istore (pc := 35) dX5_farthest_35 (Nat.le_of_ble_eq_true rfl) rfl ?_
      refine z_join (fun j : Int32 → zSt → Option (Int32 × zSt) => ∀ (x8 : Int32) (S9 : zSt), Zm X mX5_farthest zJI G (0, 0) res S9 88 [some (.ref (G.1 0)), none, some (.int a2), some (.int x8), none] [] (j x8 S9)) ?_ (fun k7 hk7 => ?_)
      · intro x8 S9
        refine z_iload_n (pc := 88) 2 dX5_farthest_88 rfl rfl ?_
        refine z_if_ne (pc := 89) 96 dX5_farthest_89 rfl ?_ ?_
        · refine z_aload_n (pc := 96) 0 dX5_farthest_96 rfl rfl ?_
          refine gf_X5_M_62_0 hG (pc := 97) dX5_farthest_97 ?_
          refine z_iload_n (pc := 100) 3 dX5_farthest_100 rfl rfl ?_
          refine z_chk (fun h10 => ?_)
          refine z_iaload (pc := 101) 27 32 (zGM_s27 hG) h10 dX5_farthest_101 ?_
          exact z_iret rfl dX5_farthest_102 rfl
        · refine z_iload_n (pc := 92) 3 dX5_farthest_92 rfl rfl ?_
          refine z_goto (pc := 93) 102 dX5_farthest_93 rfl ?_
          exact z_iret rfl dX5_farthest_102 rfl
      · refine z_maskk [true, false, true, true, true] ?_
        refine z_loopK (fun j : Int32 → Int32 → zSt → Option (Int32 × zSt) => ∀ (x12 : Int32) (x13 : Int32) (S14 : zSt), Zm X mX5_farthest zJI G (0, 0) res S14 37 [some (.ref (G.1 0)), none, some (.int a2), some (.int x12), some (.int x13)] [] (j x12 x13 S14)) ?_ ?_ zfuel _ _ _
        · intro x12 x13 S14; exact z_none
        · intro rec11 hrec11 x12 x13 S14
          unfold LB_X5_farthest_1
          refine z_iload (pc := 37) dX5_farthest_37 rfl ?_
          refine z_aload_n (pc := 39) 0 dX5_farthest_39 rfl rfl ?_
          refine z_callVi (pc := 40) _ _ 0 5 (ct_X5_squares hG) mv_X5_squares q1725 rfl (zGM_s0 hG) rfl (Nat.le_of_ble_eq_true rfl) (Nat.le_of_ble_eq_true rfl) rfl rfl (Nat.le_of_ble_eq_true rfl) dX5_farthest_40 (fun r16 S15 => ?_)
          refine z_icmp_ge (pc := 43) 88 dX5_farthest_43 rfl ?_ ?_
          · exact z_mask [true, false, true, true, false] (hk7 _ _) rfl
          · refine z_aload_n (pc := 46) 0 dX5_farthest_46 rfl rfl ?_
            refine gf_X5_M_62_0 hG (pc := 47) dX5_farthest_47 ?_
            refine z_iload (pc := 50) dX5_farthest_50 rfl ?_
            refine z_chk (fun h17 => ?_)
            refine z_iaload (pc := 52) 27 32 (zGM_s27 hG) h17 dX5_farthest_52 ?_
            refine z_ldc (pc := 53) (v := 1000000) dX5_farthest_53 q1632 ?_
            refine z_icmp_eq (pc := 55) 82 dX5_farthest_55 rfl ?_ ?_
            · refine z_iinc (pc := 82) (w := x13 + 1) dX5_farthest_82 rfl (by rw [show Int32.ofInt 1 = 1 from by decide]) (Nat.le_of_ble_eq_true rfl) rfl ?_
              refine z_goto (pc := 85) 37 dX5_farthest_85 rfl ?_
              exact hrec11 _ _ _
            · refine z_iload_n (pc := 58) 3 dX5_farthest_58 rfl rfl ?_
              refine z_iconst (pc := 59) (v := (-1)) dX5_farthest_59 (by decide) ?_
              refine z_join (fun j : Option (Int32 × zSt) =>  Zm X mX5_farthest zJI G (0, 0) res S15 79 [some (.ref (G.1 0)), none, some (.int a2), none, some (.int x13)] [] (j)) ?_ (fun j18 hj18 => ?_)
              · show _
                refine z_iload (pc := 79) dX5_farthest_79 rfl ?_
                refine z_istore_n (pc := 81) 3 dX5_farthest_81 rfl (Nat.le_of_ble_eq_true rfl) rfl ?_
                refine z_iinc (pc := 82) (w := x13 + 1) dX5_farthest_82 rfl (by rw [show Int32.ofInt 1 = 1 from by decide]) (Nat.le_of_ble_eq_true rfl) rfl ?_
                refine z_goto (pc := 85) 37 dX5_farthest_85 rfl ?_
                exact hrec11 _ _ _
              · refine z_icmp_eq (pc := 60) 79 dX5_farthest_60 rfl ?_ ?_
                · exact z_mask [true, false, true, false, true] (hj18) rfl
                · refine z_aload_n (pc := 63) 0 dX5_farthest_63 rfl rfl ?_
                  refine gf_X5_M_62_0 hG (pc := 64) dX5_farthest_64 ?_
                  refine z_iload (pc := 67) dX5_farthest_67 rfl ?_
                  refine z_chk (fun h19 => ?_)
                  refine z_iaload (pc := 69) 27 32 (zGM_s27 hG) h19 dX5_farthest_69 ?_
                  refine z_aload_n (pc := 70) 0 dX5_farthest_70 rfl rfl ?_
                  refine gf_X5_M_62_0 hG (pc := 71) dX5_farthest_71 ?_
                  refine z_iload_n (pc := 74) 3 dX5_farthest_74 rfl rfl ?_
                  refine z_chk (fun h20 => ?_)
                  refine z_iaload (pc := 75) 27 32 (zGM_s27 hG) h20 dX5_farthest_75 ?_
                  refine z_icmp_le (pc := 76) 82 dX5_farthest_76 rfl ?_ ?_
                  · refine z_iinc (pc := 82) (w := x13 + 1) dX5_farthest_82 rfl (by rw [show Int32.ofInt 1 = 1 from by decide]) (Nat.le_of_ble_eq_true rfl) rfl ?_
                    refine z_goto (pc := 85) 37 dX5_farthest_85 rfl ?_
                    exact hrec11 _ _ _
                  · exact z_mask [true, false, true, false, true] (hj18) rfl
    · refine z_bipush (pc := 24) (v := (-2)) dX5_farthest_24 (by decide) ?_
      exact z_iret rfl dX5_farthest_26 rfl
abbrev mX5_width : zMr := ("HiddenCubeModel", cX5_width, 4, (some .int), 4, 0, 0, none)
def LB_X5_width_1 (x6 : Int32) (rec4 : Int32 → Int32 → zSt → Option (Int32 × zSt)) (rec11 : Int32 → Int32 → zSt → Option (Int32 × zSt)) (x12 : Int32) (x13 : Int32) (S14 : zSt) : Option (Int32 × zSt) :=
zbind (F_X5_squares S14) (fun r16 S15 =>
if r16 ≤ x13 then (rec4 x12 (x6 + 1) S15) else (chk x13 32 (joinK (fun (v19 : Int32) => rec11 v19 (x13 + 1) S15) (fun j18 : Int32 → Option (Int32 × zSt) =>
joinK (j18 x12) (fun j20 : Option (Int32 × zSt) =>
if (S15.1 27 (x13).toNatClampNeg) = 1000000 then (j20) else (chk x13 32 (if (S15.1 27 (x13).toNatClampNeg) ≤ x12 then (j20) else (chk x13 32 (j18 (S15.1 27 (x13).toNatClampNeg))))))))))
def LB_X5_width_2 (rec4 : Int32 → Int32 → zSt → Option (Int32 × zSt)) (x5 : Int32) (x6 : Int32) (S7 : zSt) : Option (Int32 × zSt) :=
zbind (F_X5_squares S7) (fun r9 S8 =>
if r9 ≤ x6 then (some (x5, S8)) else (zbind (F_X5_laysFar x6 S8) (fun _ S10 =>
loopK (fun _ _ _ => none) (LB_X5_width_1 x6 rec4) zfuel x5 0 S10)))
def F_X5_width  (S : zSt) : Option (Int32 × zSt) :=
zlet (sI S 0 0 0 : zSt) (fun S1 : zSt =>
zbind (F_X5_isTown S1) (fun r3 S2 =>
if r3 = 0 then (some ((-2), S2)) else (loopK (fun _ _ _ => none) (LB_X5_width_2) zfuel 0 0 S2)))
theorem mv_X5_width : ZV mX5_width yX5_width 0 := ⟨q1812, q1813, q155, q1814, rfl, by decide, by decide, by decide +kernel⟩
theorem ct_X5_width {G : zGw} (hG : zGM G)  : Zc mX5_width yX5_width zJI G [.ref (G.1 0)] (F_X5_width) := by
  refine Zc_of [some (.ref (G.1 0)), none, none, none] (by decide) rfl rfl (Nat.le_of_ble_eq_true rfl) rfl (fun X S res => ?_)
  unfold F_X5_width
  refine z_aload_n (pc := 0) 0 dX5_width_0 rfl rfl ?_
  refine z_iconst (pc := 1) (v := 0) dX5_width_1 (by decide) ?_
  refine pf_X5_M_131_0 hG (pc := 2) dX5_width_2 ?_
  refine z_letS (fun S1 => ?_)
  refine z_aload_n (pc := 5) 0 dX5_width_5 rfl rfl ?_
  refine z_callVi (pc := 6) _ _ 0 5 (ct_X5_isTown hG) mv_X5_isTown q1729 rfl (zGM_s0 hG) rfl (Nat.le_of_ble_eq_true rfl) (Nat.le_of_ble_eq_true rfl) rfl rfl (Nat.le_of_ble_eq_true rfl) dX5_width_6 (fun r3 S2 => ?_)
  refine z_if_ne (pc := 9) 15 dX5_width_9 rfl ?_ ?_
  · refine z_iconst (pc := 15) (v := 0) dX5_width_15 (by decide) ?_
    refine z_istore_n (pc := 16) 1 dX5_width_16 rfl (Nat.le_of_ble_eq_true rfl) rfl ?_
    refine z_iconst (pc := 17) (v := 0) dX5_width_17 (by decide) ?_
    refine z_istore_n (pc := 18) 2 dX5_width_18 rfl (Nat.le_of_ble_eq_true rfl) rfl ?_
    refine z_loopK (fun j : Int32 → Int32 → zSt → Option (Int32 × zSt) => ∀ (x5 : Int32) (x6 : Int32) (S7 : zSt), Zm X mX5_width zJI G (0, 0) res S7 19 [some (.ref (G.1 0)), some (.int x5), some (.int x6), none] [] (j x5 x6 S7)) ?_ ?_ zfuel _ _ _
    · intro x5 x6 S7; exact z_none
    · intro rec4 hrec4 x5 x6 S7
      unfold LB_X5_width_2
      refine z_iload_n (pc := 19) 2 dX5_width_19 rfl rfl ?_
      refine z_aload_n (pc := 20) 0 dX5_width_20 rfl rfl ?_
      refine z_callVi (pc := 21) _ _ 0 5 (ct_X5_squares hG) mv_X5_squares q1725 rfl (zGM_s0 hG) rfl (Nat.le_of_ble_eq_true rfl) (Nat.le_of_ble_eq_true rfl) rfl rfl (Nat.le_of_ble_eq_true rfl) dX5_width_21 (fun r9 S8 => ?_)
      refine z_icmp_ge (pc := 24) 86 dX5_width_24 rfl ?_ ?_
      · refine z_iload_n (pc := 86) 1 dX5_width_86 rfl rfl ?_
        exact z_iret rfl dX5_width_87 rfl
      · refine z_aload_n (pc := 27) 0 dX5_width_27 rfl rfl ?_
        refine z_iload_n (pc := 28) 2 dX5_width_28 rfl rfl ?_
        refine z_callVv (pc := 29) _ _ 0 5 (ct_X5_laysFar hG _) mv_X5_laysFar q1779 rfl (zGM_s0 hG) rfl (Nat.le_of_ble_eq_true rfl) (Nat.le_of_ble_eq_true rfl) rfl rfl (Nat.le_of_ble_eq_true rfl) dX5_width_29 (fun _ S10 => ?_)
        refine z_iconst (pc := 32) (v := 0) dX5_width_32 (by decide) ?_
        refine z_istore_n (pc := 33) 3 dX5_width_33 rfl (Nat.le_of_ble_eq_true rfl) rfl ?_
        refine z_loopK (fun j : Int32 → Int32 → zSt → Option (Int32 × zSt) => ∀ (x12 : Int32) (x13 : Int32) (S14 : zSt), Zm X mX5_width zJI G (0, 0) res S14 34 [some (.ref (G.1 0)), some (.int x12), some (.int x6), some (.int x13)] [] (j x12 x13 S14)) ?_ ?_ zfuel _ _ _
        · intro x12 x13 S14; exact z_none
        · intro rec11 hrec11 x12 x13 S14
          unfold LB_X5_width_1
          refine z_iload_n (pc := 34) 3 dX5_width_34 rfl rfl ?_
          refine z_aload_n (pc := 35) 0 dX5_width_35 rfl rfl ?_
          refine z_callVi (pc := 36) _ _ 0 5 (ct_X5_squares hG) mv_X5_squares q1725 rfl (zGM_s0 hG) rfl (Nat.le_of_ble_eq_true rfl) (Nat.le_of_ble_eq_true rfl) rfl rfl (Nat.le_of_ble_eq_true rfl) dX5_width_36 (fun r16 S15 => ?_)
          refine z_icmp_ge (pc := 39) 80 dX5_width_39 rfl ?_ ?_
          · refine z_iinc (pc := 80) (w := x6 + 1) dX5_width_80 rfl (by rw [show Int32.ofInt 1 = 1 from by decide]) (Nat.le_of_ble_eq_true rfl) rfl ?_
            refine z_goto (pc := 83) 19 dX5_width_83 rfl ?_
            exact z_mask [true, true, true, false] (hrec4 _ _ _) rfl
          · refine z_aload_n (pc := 42) 0 dX5_width_42 rfl rfl ?_
            refine gf_X5_M_62_0 hG (pc := 43) dX5_width_43 ?_
            refine z_iload_n (pc := 46) 3 dX5_width_46 rfl rfl ?_
            refine z_chk (fun h17 => ?_)
            refine z_iaload (pc := 47) 27 32 (zGM_s27 hG) h17 dX5_width_47 ?_
            refine z_ldc (pc := 48) (v := 1000000) dX5_width_48 q1632 ?_
            refine z_join (fun j : Int32 → Option (Int32 × zSt) => ∀ (v19 : Int32), Zm X mX5_width zJI G (0, 0) res S15 73 [some (.ref (G.1 0)), none, some (.int x6), some (.int x13)] [.int v19] (j v19)) ?_ (fun j18 hj18 => ?_)
            · intro v19
              refine z_istore_n (pc := 73) 1 dX5_width_73 rfl (Nat.le_of_ble_eq_true rfl) rfl ?_
              refine z_iinc (pc := 74) (w := x13 + 1) dX5_width_74 rfl (by rw [show Int32.ofInt 1 = 1 from by decide]) (Nat.le_of_ble_eq_true rfl) rfl ?_
              refine z_goto (pc := 77) 34 dX5_width_77 rfl ?_
              exact hrec11 _ _ _
            · refine z_join (fun j : Option (Int32 × zSt) =>  Zm X mX5_width zJI G (0, 0) res S15 72 [some (.ref (G.1 0)), some (.int x12), some (.int x6), some (.int x13)] [] (j)) ?_ (fun j20 hj20 => ?_)
              · show _
                refine z_iload_n (pc := 72) 1 dX5_width_72 rfl rfl ?_
                exact z_mask [true, false, true, true] (hj18 _) rfl
              · refine z_icmp_eq (pc := 50) 72 dX5_width_50 rfl ?_ ?_
                · exact hj20 
                · refine z_aload_n (pc := 53) 0 dX5_width_53 rfl rfl ?_
                  refine gf_X5_M_62_0 hG (pc := 54) dX5_width_54 ?_
                  refine z_iload_n (pc := 57) 3 dX5_width_57 rfl rfl ?_
                  refine z_chk (fun h21 => ?_)
                  refine z_iaload (pc := 58) 27 32 (zGM_s27 hG) h21 dX5_width_58 ?_
                  refine z_iload_n (pc := 59) 1 dX5_width_59 rfl rfl ?_
                  refine z_icmp_le (pc := 60) 72 dX5_width_60 rfl ?_ ?_
                  · exact hj20 
                  · refine z_aload_n (pc := 63) 0 dX5_width_63 rfl rfl ?_
                    refine gf_X5_M_62_0 hG (pc := 64) dX5_width_64 ?_
                    refine z_iload_n (pc := 67) 3 dX5_width_67 rfl rfl ?_
                    refine z_chk (fun h22 => ?_)
                    refine z_iaload (pc := 68) 27 32 (zGM_s27 hG) h22 dX5_width_68 ?_
                    refine z_goto (pc := 69) 73 dX5_width_69 rfl ?_
                    exact z_mask [true, false, true, true] (hj18 _) rfl
  · refine z_bipush (pc := 12) (v := (-2)) dX5_width_12 (by decide) ?_
    exact z_iret rfl dX5_width_14 rfl
abbrev mX5_within : zMr := ("HiddenCubeModel", cX5_within, 5, (some .int), 4, 0, 0, none)
def LB_X5_within_1 (a2 : Int32) (rec5 : Int32 → Int32 → zSt → Option (Int32 × zSt)) (x6 : Int32) (x7 : Int32) (S8 : zSt) : Option (Int32 × zSt) :=
zbind (F_X5_squares S8) (fun r10 S9 =>
if r10 ≤ x7 then (some (x6, S9)) else (chk x7 32 (joinK (fun (v13 : Int32) => rec5 (x6 + v13) (x7 + 1) S9) (fun j12 : Int32 → Option (Int32 × zSt) =>
joinK (j12 0) (fun j14 : Option (Int32 × zSt) =>
if a2 < (S9.1 27 (x7).toNatClampNeg) then (j14) else (chk x7 32 (if (S9.1 27 (x7).toNatClampNeg) = 1000000 then (j14) else (j12 1))))))))
def F_X5_within (a1 : Int32) (a2 : Int32) (S : zSt) : Option (Int32 × zSt) :=
zlet (sI S 0 0 0 : zSt) (fun S1 : zSt =>
zbind (F_X5_isSquare ((a1).toInt64) S1) (fun r3 S2 =>
if r3 = 0 then (some ((-2), S2)) else (if 0 ≤ a2 then (zbind (F_X5_laysFar a1 S2) (fun _ S4 =>
loopK (fun _ _ _ => none) (LB_X5_within_1 a2) zfuel 0 0 S4)) else (some ((-2), S2)))))
theorem mv_X5_within : ZV mX5_within yX5_within 2 := ⟨q1816, q1817, q155, q1818, rfl, by decide, by decide, by decide +kernel⟩
theorem ct_X5_within {G : zGw} (hG : zGM G) (a1 : Int32) (a2 : Int32) : Zc mX5_within yX5_within zJI G [.ref (G.1 0), .int a1, .int a2] (F_X5_within a1 a2) := by
  refine Zc_of [some (.ref (G.1 0)), some (.int a1), some (.int a2), none, none] (by decide) rfl rfl (Nat.le_of_ble_eq_true rfl) rfl (fun X S res => ?_)
  unfold F_X5_within
  refine z_aload_n (pc := 0) 0 dX5_within_0 rfl rfl ?_
  refine z_iconst (pc := 1) (v := 0) dX5_within_1 (by decide) ?_
  refine pf_X5_M_131_0 hG (pc := 2) dX5_within_2 ?_
  refine z_letS (fun S1 => ?_)
  refine z_aload_n (pc := 5) 0 dX5_within_5 rfl rfl ?_
  refine z_iload_n (pc := 6) 1 dX5_within_6 rfl rfl ?_
  refine z_i2l (pc := 7) dX5_within_7 ?_
  refine z_callVi (pc := 8) _ _ 0 5 (ct_X5_isSquare hG _) mv_X5_isSquare q1721 rfl (zGM_s0 hG) rfl (Nat.le_of_ble_eq_true rfl) (Nat.le_of_ble_eq_true rfl) rfl rfl (Nat.le_of_ble_eq_true rfl) dX5_within_8 (fun r3 S2 => ?_)
  refine z_if_eq (pc := 11) 18 dX5_within_11 rfl ?_ ?_
  · refine z_bipush (pc := 18) (v := (-2)) dX5_within_18 (by decide) ?_
    exact z_iret rfl dX5_within_20 rfl
  · refine z_iload_n (pc := 14) 2 dX5_within_14 rfl rfl ?_
    refine z_if_ge (pc := 15) 21 dX5_within_15 rfl ?_ ?_
    · refine z_aload_n (pc := 21) 0 dX5_within_21 rfl rfl ?_
      refine z_iload_n (pc := 22) 1 dX5_within_22 rfl rfl ?_
      refine z_callVv (pc := 23) _ _ 0 5 (ct_X5_laysFar hG _) mv_X5_laysFar q1779 rfl (zGM_s0 hG) rfl (Nat.le_of_ble_eq_true rfl) (Nat.le_of_ble_eq_true rfl) rfl rfl (Nat.le_of_ble_eq_true rfl) dX5_within_23 (fun _ S4 => ?_)
      refine z_iconst (pc := 26) (v := 0) dX5_within_26 (by decide) ?_
      refine z_istore_n (pc := 27) 3 dX5_within_27 rfl (Nat.le_of_ble_eq_true rfl) rfl ?_
      refine z_iconst (pc := 28) (v := 0) dX5_within_28 (by decide) ?_
      refine z_istore (pc := 29) dX5_within_29 (Nat.le_of_ble_eq_true rfl) rfl ?_
      refine z_maskk [true, false, true, true, true] ?_
      refine z_loopK (fun j : Int32 → Int32 → zSt → Option (Int32 × zSt) => ∀ (x6 : Int32) (x7 : Int32) (S8 : zSt), Zm X mX5_within zJI G (0, 0) res S8 31 [some (.ref (G.1 0)), none, some (.int a2), some (.int x6), some (.int x7)] [] (j x6 x7 S8)) ?_ ?_ zfuel _ _ _
      · intro x6 x7 S8; exact z_none
      · intro rec5 hrec5 x6 x7 S8
        unfold LB_X5_within_1
        refine z_iload (pc := 31) dX5_within_31 rfl ?_
        refine z_aload_n (pc := 33) 0 dX5_within_33 rfl rfl ?_
        refine z_callVi (pc := 34) _ _ 0 5 (ct_X5_squares hG) mv_X5_squares q1725 rfl (zGM_s0 hG) rfl (Nat.le_of_ble_eq_true rfl) (Nat.le_of_ble_eq_true rfl) rfl rfl (Nat.le_of_ble_eq_true rfl) dX5_within_34 (fun r10 S9 => ?_)
        refine z_icmp_ge (pc := 37) 77 dX5_within_37 rfl ?_ ?_
        · refine z_iload_n (pc := 77) 3 dX5_within_77 rfl rfl ?_
          exact z_iret rfl dX5_within_78 rfl
        · refine z_iload_n (pc := 40) 3 dX5_within_40 rfl rfl ?_
          refine z_aload_n (pc := 41) 0 dX5_within_41 rfl rfl ?_
          refine gf_X5_M_62_0 hG (pc := 42) dX5_within_42 ?_
          refine z_iload (pc := 45) dX5_within_45 rfl ?_
          refine z_chk (fun h11 => ?_)
          refine z_iaload (pc := 47) 27 32 (zGM_s27 hG) h11 dX5_within_47 ?_
          refine z_iload_n (pc := 48) 2 dX5_within_48 rfl rfl ?_
          refine z_join (fun j : Int32 → Option (Int32 × zSt) => ∀ (v13 : Int32), Zm X mX5_within zJI G (0, 0) res S9 69 [some (.ref (G.1 0)), none, some (.int a2), none, some (.int x7)] [.int v13, .int x6] (j v13)) ?_ (fun j12 hj12 => ?_)
          · intro v13
            refine z_iadd (pc := 69) dX5_within_69 ?_
            refine z_istore_n (pc := 70) 3 dX5_within_70 rfl (Nat.le_of_ble_eq_true rfl) rfl ?_
            refine z_iinc (pc := 71) (w := x7 + 1) dX5_within_71 rfl (by rw [show Int32.ofInt 1 = 1 from by decide]) (Nat.le_of_ble_eq_true rfl) rfl ?_
            refine z_goto (pc := 74) 31 dX5_within_74 rfl ?_
            exact hrec5 _ _ _
          · refine z_join (fun j : Option (Int32 × zSt) =>  Zm X mX5_within zJI G (0, 0) res S9 68 [some (.ref (G.1 0)), none, some (.int a2), none, some (.int x7)] [.int x6] (j)) ?_ (fun j14 hj14 => ?_)
            · show _
              refine z_iconst (pc := 68) (v := 0) dX5_within_68 (by decide) ?_
              exact hj12 _
            · refine z_icmp_gt (pc := 49) 68 dX5_within_49 rfl ?_ ?_
              · exact z_mask [true, false, true, false, true] (hj14) rfl
              · refine z_aload_n (pc := 52) 0 dX5_within_52 rfl rfl ?_
                refine gf_X5_M_62_0 hG (pc := 53) dX5_within_53 ?_
                refine z_iload (pc := 56) dX5_within_56 rfl ?_
                refine z_chk (fun h15 => ?_)
                refine z_iaload (pc := 58) 27 32 (zGM_s27 hG) h15 dX5_within_58 ?_
                refine z_ldc (pc := 59) (v := 1000000) dX5_within_59 q1632 ?_
                refine z_icmp_eq (pc := 61) 68 dX5_within_61 rfl ?_ ?_
                · exact z_mask [true, false, true, false, true] (hj14) rfl
                · refine z_iconst (pc := 64) (v := 1) dX5_within_64 (by decide) ?_
                  refine z_goto (pc := 65) 69 dX5_within_65 rfl ?_
                  exact z_mask [true, false, true, false, true] (hj12 _) rfl
    · refine z_bipush (pc := 18) (v := (-2)) dX5_within_18 (by decide) ?_
      exact z_iret rfl dX5_within_20 rfl
abbrev mX5_areTwo : zMr := ("HiddenCubeModel", cX5_areTwo, 3, (some .boolean), 4, 0, 0, none)
def F_X5_areTwo (a1 : Int32) (a2 : Int32) (S : zSt) : Option (Int32 × zSt) :=
zbind (F_X5_isSquare ((a1).toInt64) S) (fun r2 S1 =>
if r2 = 0 then (some (0, S1)) else (zbind (F_X5_isSquare ((a2).toInt64) S1) (fun r4 S3 =>
if r4 = 0 then (some (0, S3)) else (if a1 = a2 then (some (0, S3)) else (some (1, S3))))))
theorem mv_X5_areTwo : ZV mX5_areTwo yX5_areTwo 2 := ⟨q1825, qs111, q155, q1826, rfl, by decide, by decide, by decide +kernel⟩
theorem ct_X5_areTwo {G : zGw} (hG : zGM G) (a1 : Int32) (a2 : Int32) : Zc mX5_areTwo yX5_areTwo zJI G [.ref (G.1 0), .int a1, .int a2] (F_X5_areTwo a1 a2) := by
  refine Zc_of [some (.ref (G.1 0)), some (.int a1), some (.int a2)] (by decide) rfl rfl (Nat.le_of_ble_eq_true rfl) rfl (fun X S res => ?_)
  unfold F_X5_areTwo
  refine z_aload_n (pc := 0) 0 dX5_areTwo_0 rfl rfl ?_
  refine z_iload_n (pc := 1) 1 dX5_areTwo_1 rfl rfl ?_
  refine z_i2l (pc := 2) dX5_areTwo_2 ?_
  refine z_callVi (pc := 3) _ _ 0 5 (ct_X5_isSquare hG _) mv_X5_isSquare q1721 rfl (zGM_s0 hG) rfl (Nat.le_of_ble_eq_true rfl) (Nat.le_of_ble_eq_true rfl) rfl rfl (Nat.le_of_ble_eq_true rfl) dX5_areTwo_3 (fun r2 S1 => ?_)
  refine z_if_eq (pc := 6) 27 dX5_areTwo_6 rfl ?_ ?_
  · refine z_iconst (pc := 27) (v := 0) dX5_areTwo_27 (by decide) ?_
    exact z_zret0 rfl dX5_areTwo_28 rfl
  · refine z_aload_n (pc := 9) 0 dX5_areTwo_9 rfl rfl ?_
    refine z_iload_n (pc := 10) 2 dX5_areTwo_10 rfl rfl ?_
    refine z_i2l (pc := 11) dX5_areTwo_11 ?_
    refine z_callVi (pc := 12) _ _ 0 5 (ct_X5_isSquare hG _) mv_X5_isSquare q1721 rfl (zGM_s0 hG) rfl (Nat.le_of_ble_eq_true rfl) (Nat.le_of_ble_eq_true rfl) rfl rfl (Nat.le_of_ble_eq_true rfl) dX5_areTwo_12 (fun r4 S3 => ?_)
    refine z_if_eq (pc := 15) 27 dX5_areTwo_15 rfl ?_ ?_
    · refine z_iconst (pc := 27) (v := 0) dX5_areTwo_27 (by decide) ?_
      exact z_zret0 rfl dX5_areTwo_28 rfl
    · refine z_iload_n (pc := 18) 1 dX5_areTwo_18 rfl rfl ?_
      refine z_iload_n (pc := 19) 2 dX5_areTwo_19 rfl rfl ?_
      refine z_icmp_eq (pc := 20) 27 dX5_areTwo_20 rfl ?_ ?_
      · refine z_iconst (pc := 27) (v := 0) dX5_areTwo_27 (by decide) ?_
        exact z_zret0 rfl dX5_areTwo_28 rfl
      · refine z_iconst (pc := 23) (v := 1) dX5_areTwo_23 (by decide) ?_
        refine z_goto (pc := 24) 28 dX5_areTwo_24 rfl ?_
        exact z_zret1 rfl dX5_areTwo_28 rfl
abbrev mX5_laysStreets : zMr := ("HiddenCubeModel", cX5_laysStreets, 3, none, 3, 0, 0, none)
def LB_X5_laysStreets_1 (x4 : Int32) (rec3 : Int32 → zSt → Option (Unit × zSt)) (rec8 : Int32 → zSt → Option (Unit × zSt)) (x9 : Int32) (S10 : zSt) : Option (Unit × zSt) :=
chk 0 15 (if (S10.1 18 (0 : Int32).toNatClampNeg) ≤ x9 then (rec3 (x4 + 1) S10) else (zbind (F_X5_isOpen x4 x9 S10) (fun r13 S12 =>
if r13 = 0 then (rec8 (x9 + 1) S12) else (zlet ((64 * x4) + (x4 ^^^ ((1 : Int32) <<< (x9 &&& 31))) : Int32) (fun w14 : Int32 =>
chk w14 4096 (zlet (sI S12 29 (w14).toNatClampNeg 1 : zSt) (fun S16 : zSt =>
rec8 (x9 + 1) S16)))))))
def LB_X5_laysStreets_2 (rec3 : Int32 → zSt → Option (Unit × zSt)) (x4 : Int32) (S5 : zSt) : Option (Unit × zSt) :=
zbind (F_X5_squares S5) (fun r7 S6 =>
if r7 ≤ x4 then (some ((), S6)) else (loopK (fun _ _ => none) (LB_X5_laysStreets_1 x4 rec3) zfuel 0 S6))
def LB_X5_laysStreets_3 (k1 : zSt → Option (Unit × zSt)) (rec17 : Int32 → zSt → Option (Unit × zSt)) (x18 : Int32) (S19 : zSt) : Option (Unit × zSt) :=
if 4096 ≤ x18 then (k1 S19) else (chk x18 4096 (zlet (sI S19 29 (x18).toNatClampNeg 0 : zSt) (fun S21 : zSt =>
rec17 (x18 + 1) S21)))
def F_X5_laysStreets  (S : zSt) : Option (Unit × zSt) :=
joinK (fun  (S2 : zSt) => loopK (fun _ _ => none) (LB_X5_laysStreets_2) zfuel 0 S2) (fun k1 : zSt → Option (Unit × zSt) =>
loopK (fun _ _ => none) (LB_X5_laysStreets_3 k1) zfuel 0 S)
theorem mv_X5_laysStreets : ZV mX5_laysStreets yX5_laysStreets 0 := ⟨q1845, qs116, q155, q1846, rfl, by decide, by decide, by decide +kernel⟩
theorem ct_X5_laysStreets {G : zGw} (hG : zGM G)  : Zc mX5_laysStreets yX5_laysStreets zJV G [.ref (G.1 0)] (F_X5_laysStreets) := by
  refine Zc_of [some (.ref (G.1 0)), none, none] (by decide) rfl rfl (Nat.le_of_ble_eq_true rfl) rfl (fun X S res => ?_)
  unfold F_X5_laysStreets
  refine z_iconst (pc := 0) (v := 0) dX5_laysStreets_0 (by decide) ?_
  refine z_istore_n (pc := 1) 1 dX5_laysStreets_1 rfl (Nat.le_of_ble_eq_true rfl) rfl ?_
  refine z_join (fun j : zSt → Option (Unit × zSt) => ∀  (S2 : zSt), Zm X mX5_laysStreets zJV G (0, 0) res S2 22 [some (.ref (G.1 0)), none, none] [] (j S2)) ?_ (fun k1 hk1 => ?_)
  · intro S2
    refine z_iconst (pc := 22) (v := 0) dX5_laysStreets_22 (by decide) ?_
    refine z_istore_n (pc := 23) 1 dX5_laysStreets_23 rfl (Nat.le_of_ble_eq_true rfl) rfl ?_
    refine z_loopK (fun j : Int32 → zSt → Option (Unit × zSt) => ∀ (x4 : Int32) (S5 : zSt), Zm X mX5_laysStreets zJV G (0, 0) res S5 24 [some (.ref (G.1 0)), some (.int x4), none] [] (j x4 S5)) ?_ ?_ zfuel _ _
    · intro x4 S5; exact z_none
    · intro rec3 hrec3 x4 S5
      unfold LB_X5_laysStreets_2
      refine z_iload_n (pc := 24) 1 dX5_laysStreets_24 rfl rfl ?_
      refine z_aload_n (pc := 25) 0 dX5_laysStreets_25 rfl rfl ?_
      refine z_callVi (pc := 26) _ _ 0 5 (ct_X5_squares hG) mv_X5_squares q1725 rfl (zGM_s0 hG) rfl (Nat.le_of_ble_eq_true rfl) (Nat.le_of_ble_eq_true rfl) rfl rfl (Nat.le_of_ble_eq_true rfl) dX5_laysStreets_26 (fun r7 S6 => ?_)
      refine z_icmp_ge (pc := 29) 81 dX5_laysStreets_29 rfl ?_ ?_
      · exact z_vret rfl dX5_laysStreets_81 rfl
      · refine z_iconst (pc := 32) (v := 0) dX5_laysStreets_32 (by decide) ?_
        refine z_istore_n (pc := 33) 2 dX5_laysStreets_33 rfl (Nat.le_of_ble_eq_true rfl) rfl ?_
        refine z_loopK (fun j : Int32 → zSt → Option (Unit × zSt) => ∀ (x9 : Int32) (S10 : zSt), Zm X mX5_laysStreets zJV G (0, 0) res S10 34 [some (.ref (G.1 0)), some (.int x4), some (.int x9)] [] (j x9 S10)) ?_ ?_ zfuel _ _
        · intro x9 S10; exact z_none
        · intro rec8 hrec8 x9 S10
          unfold LB_X5_laysStreets_1
          refine z_iload_n (pc := 34) 2 dX5_laysStreets_34 rfl rfl ?_
          refine z_aload_n (pc := 35) 0 dX5_laysStreets_35 rfl rfl ?_
          refine gf_X5_M_34_0 hG (pc := 36) dX5_laysStreets_36 ?_
          refine z_iconst (pc := 39) (v := 0) dX5_laysStreets_39 (by decide) ?_
          refine z_chk (fun h11 => ?_)
          refine z_iaload (pc := 40) 18 15 (zGM_s18 hG) h11 dX5_laysStreets_40 ?_
          refine z_icmp_ge (pc := 41) 75 dX5_laysStreets_41 rfl ?_ ?_
          · refine z_iinc (pc := 75) (w := x4 + 1) dX5_laysStreets_75 rfl (by rw [show Int32.ofInt 1 = 1 from by decide]) (Nat.le_of_ble_eq_true rfl) rfl ?_
            refine z_goto (pc := 78) 24 dX5_laysStreets_78 rfl ?_
            exact z_mask [true, true, false] (hrec3 _ _) rfl
          · refine z_aload_n (pc := 44) 0 dX5_laysStreets_44 rfl rfl ?_
            refine z_iload_n (pc := 45) 1 dX5_laysStreets_45 rfl rfl ?_
            refine z_iload_n (pc := 46) 2 dX5_laysStreets_46 rfl rfl ?_
            refine z_callVi (pc := 47) _ _ 0 5 (ct_X5_isOpen hG _ _) mv_X5_isOpen q1733 rfl (zGM_s0 hG) rfl (Nat.le_of_ble_eq_true rfl) (Nat.le_of_ble_eq_true rfl) rfl rfl (Nat.le_of_ble_eq_true rfl) dX5_laysStreets_47 (fun r13 S12 => ?_)
            refine z_if_eq (pc := 50) 69 dX5_laysStreets_50 rfl ?_ ?_
            · refine z_iinc (pc := 69) (w := x9 + 1) dX5_laysStreets_69 rfl (by rw [show Int32.ofInt 1 = 1 from by decide]) (Nat.le_of_ble_eq_true rfl) rfl ?_
              refine z_goto (pc := 72) 34 dX5_laysStreets_72 rfl ?_
              exact hrec8 _ _
            · refine z_aload_n (pc := 53) 0 dX5_laysStreets_53 rfl rfl ?_
              refine gf_X5_M_68_0 hG (pc := 54) dX5_laysStreets_54 ?_
              refine z_bipush (pc := 57) (v := 64) dX5_laysStreets_57 (by decide) ?_
              refine z_iload_n (pc := 59) 1 dX5_laysStreets_59 rfl rfl ?_
              refine z_imul (pc := 60) dX5_laysStreets_60 ?_
              refine z_iload_n (pc := 61) 1 dX5_laysStreets_61 rfl rfl ?_
              refine z_iconst (pc := 62) (v := 1) dX5_laysStreets_62 (by decide) ?_
              refine z_iload_n (pc := 63) 2 dX5_laysStreets_63 rfl rfl ?_
              refine z_ishl (pc := 64) dX5_laysStreets_64 ?_
              refine z_ixor (pc := 65) dX5_laysStreets_65 ?_
              refine z_iadd (pc := 66) dX5_laysStreets_66 ?_
              refine z_iconst (pc := 67) (v := 1) dX5_laysStreets_67 (by decide) ?_
              refine z_letI2 (fun w14 => ?_)
              refine z_chk (fun h15 => ?_)
              refine z_iastore (pc := 68) 29 4096 (zGM_s29 hG) h15 dX5_laysStreets_68 ?_
              refine z_letS (fun S16 => ?_)
              refine z_iinc (pc := 69) (w := x9 + 1) dX5_laysStreets_69 rfl (by rw [show Int32.ofInt 1 = 1 from by decide]) (Nat.le_of_ble_eq_true rfl) rfl ?_
              refine z_goto (pc := 72) 34 dX5_laysStreets_72 rfl ?_
              exact hrec8 _ _
  · refine z_loopK (fun j : Int32 → zSt → Option (Unit × zSt) => ∀ (x18 : Int32) (S19 : zSt), Zm X mX5_laysStreets zJV G (0, 0) res S19 2 [some (.ref (G.1 0)), some (.int x18), none] [] (j x18 S19)) ?_ ?_ zfuel _ _
    · intro x18 S19; exact z_none
    · intro rec17 hrec17 x18 S19
      unfold LB_X5_laysStreets_3
      refine z_iload_n (pc := 2) 1 dX5_laysStreets_2 rfl rfl ?_
      refine z_sipush (pc := 3) (v := 4096) dX5_laysStreets_3 (by decide) ?_
      refine z_icmp_ge (pc := 6) 22 dX5_laysStreets_6 rfl ?_ ?_
      · exact z_mask [true, false, false] (hk1 _) rfl
      · refine z_aload_n (pc := 9) 0 dX5_laysStreets_9 rfl rfl ?_
        refine gf_X5_M_68_0 hG (pc := 10) dX5_laysStreets_10 ?_
        refine z_iload_n (pc := 13) 1 dX5_laysStreets_13 rfl rfl ?_
        refine z_iconst (pc := 14) (v := 0) dX5_laysStreets_14 (by decide) ?_
        refine z_chk (fun h20 => ?_)
        refine z_iastore (pc := 15) 29 4096 (zGM_s29 hG) h20 dX5_laysStreets_15 ?_
        refine z_letS (fun S21 => ?_)
        refine z_iinc (pc := 16) (w := x18 + 1) dX5_laysStreets_16 rfl (by rw [show Int32.ofInt 1 = 1 from by decide]) (Nat.le_of_ble_eq_true rfl) rfl ?_
        refine z_goto (pc := 19) 2 dX5_laysStreets_19 rfl ?_
        exact hrec17 _ _
abbrev mX5_reaches : zMr := ("HiddenCubeModel", cX5_reaches, 7, (some .boolean), 1, 0, 0, none)
def LB_X5_reaches_1 (x12 : Int32) (rec10 : Int32 → Int32 → zSt → Option (Int32 × zSt)) (w15 : Int32) (rec16 : Int32 → Int32 → zSt → Option (Int32 × zSt)) (x17 : Int32) (x18 : Int32) (S19 : zSt) : Option (Int32 × zSt) :=
if 64 ≤ x18 then (rec10 x17 (x12 + 1) S19) else (chk x18 64 (if (S19.1 30 (x18).toNatClampNeg) = (-1) then (zlet ((64 * w15) + x18 : Int32) (fun w21 : Int32 =>
chk w21 4096 (if (S19.1 29 (w21).toNatClampNeg) = 0 then (rec16 x17 (x18 + 1) S19) else (chk x18 64 (zlet (sI S19 30 (x18).toNatClampNeg w15 : zSt) (fun S24 : zSt =>
chk x17 64 (zlet (sI S24 31 (x17).toNatClampNeg x18 : zSt) (fun S26 : zSt =>
rec16 (x17 + 1) (x18 + 1) S26)))))))) else (rec16 x17 (x18 + 1) S19)))
def LB_X5_reaches_2 (k7 : zSt → Option (Int32 × zSt)) (rec10 : Int32 → Int32 → zSt → Option (Int32 × zSt)) (x11 : Int32) (x12 : Int32) (S13 : zSt) : Option (Int32 × zSt) :=
if x11 ≤ x12 then (k7 S13) else (chk x12 64 (zlet (S13.1 31 (x12).toNatClampNeg : Int32) (fun w15 : Int32 =>
loopK (fun _ _ _ => none) (LB_X5_reaches_1 x12 rec10 w15) zfuel x11 0 S13)))
def LB_X5_reaches_3 (k1 : zSt → Option (Int32 × zSt)) (rec27 : Int32 → zSt → Option (Int32 × zSt)) (x28 : Int32) (S29 : zSt) : Option (Int32 × zSt) :=
if 64 ≤ x28 then (k1 S29) else (chk x28 64 (zlet (sI S29 30 (x28).toNatClampNeg (-1) : zSt) (fun S31 : zSt =>
rec27 (x28 + 1) S31)))
def F_X5_reaches (a1 : Int32) (a2 : Int32) (S : zSt) : Option (Int32 × zSt) :=
joinK (fun  (S2 : zSt) => chk a1 64 (zlet (sI S2 30 (a1).toNatClampNeg a1 : zSt) (fun S4 : zSt =>
chk 0 64 (zlet (sI S4 31 (0 : Int32).toNatClampNeg a1 : zSt) (fun S6 : zSt =>
joinK (fun  (S8 : zSt) => chk a2 64 (if (S8.1 30 (a2).toNatClampNeg) = (-1) then (some (0, S8)) else (some (1, S8)))) (fun k7 : zSt → Option (Int32 × zSt) =>
loopK (fun _ _ _ => none) (LB_X5_reaches_2 k7) zfuel 1 0 S6)))))) (fun k1 : zSt → Option (Int32 × zSt) =>
loopK (fun _ _ => none) (LB_X5_reaches_3 k1) zfuel 0 S)
theorem mv_X5_reaches : ZV mX5_reaches yX5_reaches 2 := ⟨q1841, qs115, q155, q1842, rfl, by decide, by decide, by decide +kernel⟩
theorem ct_X5_reaches {G : zGw} (hG : zGM G) (a1 : Int32) (a2 : Int32) : Zc mX5_reaches yX5_reaches zJI G [.ref (G.1 0), .int a1, .int a2] (F_X5_reaches a1 a2) := by
  refine Zc_of [some (.ref (G.1 0)), some (.int a1), some (.int a2), none, none, none, none] (by decide) rfl rfl (Nat.le_of_ble_eq_true rfl) rfl (fun X S res => ?_)
  unfold F_X5_reaches
  refine z_iconst (pc := 0) (v := 0) dX5_reaches_0 (by decide) ?_
  refine z_istore_n (pc := 1) 3 dX5_reaches_1 rfl (Nat.le_of_ble_eq_true rfl) rfl ?_
  refine z_join (fun j : zSt → Option (Int32 × zSt) => ∀  (S2 : zSt), Zm X mX5_reaches zJI G (0, 0) res S2 21 [some (.ref (G.1 0)), some (.int a1), some (.int a2), none, none, none, none] [] (j S2)) ?_ (fun k1 hk1 => ?_)
  · intro S2
    refine z_aload_n (pc := 21) 0 dX5_reaches_21 rfl rfl ?_
    refine gf_X5_M_71_0 hG (pc := 22) dX5_reaches_22 ?_
    refine z_iload_n (pc := 25) 1 dX5_reaches_25 rfl rfl ?_
    refine z_iload_n (pc := 26) 1 dX5_reaches_26 rfl rfl ?_
    refine z_chk (fun h3 => ?_)
    refine z_iastore (pc := 27) 30 64 (zGM_s30 hG) h3 dX5_reaches_27 ?_
    refine z_letS (fun S4 => ?_)
    refine z_aload_n (pc := 28) 0 dX5_reaches_28 rfl rfl ?_
    refine gf_X5_M_74_0 hG (pc := 29) dX5_reaches_29 ?_
    refine z_iconst (pc := 32) (v := 0) dX5_reaches_32 (by decide) ?_
    refine z_iload_n (pc := 33) 1 dX5_reaches_33 rfl rfl ?_
    refine z_chk (fun h5 => ?_)
    refine z_iastore (pc := 34) 31 64 (zGM_s31 hG) h5 dX5_reaches_34 ?_
    refine z_letS (fun S6 => ?_)
    refine z_iconst (pc := 35) (v := 1) dX5_reaches_35 (by decide) ?_
    refine z_istore_n (pc := 36) 3 dX5_reaches_36 rfl (Nat.le_of_ble_eq_true rfl) rfl ?_
    refine z_iconst (pc := 37) (v := 0) dX5_reaches_37 (by decide) ?_
    refine z_istore (pc := 38) dX5_reaches_38 (Nat.le_of_ble_eq_true rfl) rfl ?_
    refine z_join (fun j : zSt → Option (Int32 × zSt) => ∀  (S8 : zSt), Zm X mX5_reaches zJI G (0, 0) res S8 127 [some (.ref (G.1 0)), none, some (.int a2), none, none, none, none] [] (j S8)) ?_ (fun k7 hk7 => ?_)
    · intro S8
      refine z_aload_n (pc := 127) 0 dX5_reaches_127 rfl rfl ?_
      refine gf_X5_M_71_0 hG (pc := 128) dX5_reaches_128 ?_
      refine z_iload_n (pc := 131) 2 dX5_reaches_131 rfl rfl ?_
      refine z_chk (fun h9 => ?_)
      refine z_iaload (pc := 132) 30 64 (zGM_s30 hG) h9 dX5_reaches_132 ?_
      refine z_iconst (pc := 133) (v := (-1)) dX5_reaches_133 (by decide) ?_
      refine z_icmp_eq (pc := 134) 141 dX5_reaches_134 rfl ?_ ?_
      · refine z_iconst (pc := 141) (v := 0) dX5_reaches_141 (by decide) ?_
        exact z_zret0 rfl dX5_reaches_142 rfl
      · refine z_iconst (pc := 137) (v := 1) dX5_reaches_137 (by decide) ?_
        refine z_goto (pc := 138) 142 dX5_reaches_138 rfl ?_
        exact z_zret1 rfl dX5_reaches_142 rfl
    · refine z_maskk [true, false, true, true, true, false, false] ?_
      refine z_loopK (fun j : Int32 → Int32 → zSt → Option (Int32 × zSt) => ∀ (x11 : Int32) (x12 : Int32) (S13 : zSt), Zm X mX5_reaches zJI G (0, 0) res S13 40 [some (.ref (G.1 0)), none, some (.int a2), some (.int x11), some (.int x12), none, none] [] (j x11 x12 S13)) ?_ ?_ zfuel _ _ _
      · intro x11 x12 S13; exact z_none
      · intro rec10 hrec10 x11 x12 S13
        unfold LB_X5_reaches_2
        refine z_iload (pc := 40) dX5_reaches_40 rfl ?_
        refine z_iload_n (pc := 42) 3 dX5_reaches_42 rfl rfl ?_
        refine z_icmp_ge (pc := 43) 127 dX5_reaches_43 rfl ?_ ?_
        · exact z_mask [true, false, true, false, false, false, false] (hk7 _) rfl
        · refine z_aload_n (pc := 46) 0 dX5_reaches_46 rfl rfl ?_
          refine gf_X5_M_74_0 hG (pc := 47) dX5_reaches_47 ?_
          refine z_iload (pc := 50) dX5_reaches_50 rfl ?_
          refine z_chk (fun h14 => ?_)
          refine z_iaload (pc := 52) 31 64 (zGM_s31 hG) h14 dX5_reaches_52 ?_
          refine z_letI (fun w15 => ?_)
          refine z_istore (pc := 53) dX5_reaches_53 (Nat.le_of_ble_eq_true rfl) rfl ?_
          refine z_iconst (pc := 55) (v := 0) dX5_reaches_55 (by decide) ?_
          refine z_istore (pc := 56) dX5_reaches_56 (Nat.le_of_ble_eq_true rfl) rfl ?_
          refine z_loopK (fun j : Int32 → Int32 → zSt → Option (Int32 × zSt) => ∀ (x17 : Int32) (x18 : Int32) (S19 : zSt), Zm X mX5_reaches zJI G (0, 0) res S19 58 [some (.ref (G.1 0)), none, some (.int a2), some (.int x17), some (.int x12), some (.int w15), some (.int x18)] [] (j x17 x18 S19)) ?_ ?_ zfuel _ _ _
          · intro x17 x18 S19; exact z_none
          · intro rec16 hrec16 x17 x18 S19
            unfold LB_X5_reaches_1
            refine z_iload (pc := 58) dX5_reaches_58 rfl ?_
            refine z_bipush (pc := 60) (v := 64) dX5_reaches_60 (by decide) ?_
            refine z_icmp_ge (pc := 62) 121 dX5_reaches_62 rfl ?_ ?_
            · refine z_iinc (pc := 121) (w := x12 + 1) dX5_reaches_121 rfl (by rw [show Int32.ofInt 1 = 1 from by decide]) (Nat.le_of_ble_eq_true rfl) rfl ?_
              refine z_goto (pc := 124) 40 dX5_reaches_124 rfl ?_
              exact z_mask [true, false, true, true, true, false, false] (hrec10 _ _ _) rfl
            · refine z_aload_n (pc := 65) 0 dX5_reaches_65 rfl rfl ?_
              refine gf_X5_M_71_0 hG (pc := 66) dX5_reaches_66 ?_
              refine z_iload (pc := 69) dX5_reaches_69 rfl ?_
              refine z_chk (fun h20 => ?_)
              refine z_iaload (pc := 71) 30 64 (zGM_s30 hG) h20 dX5_reaches_71 ?_
              refine z_iconst (pc := 72) (v := (-1)) dX5_reaches_72 (by decide) ?_
              refine z_icmp_ne (pc := 73) 115 dX5_reaches_73 rfl ?_ ?_
              · refine z_iinc (pc := 115) (w := x18 + 1) dX5_reaches_115 rfl (by rw [show Int32.ofInt 1 = 1 from by decide]) (Nat.le_of_ble_eq_true rfl) rfl ?_
                refine z_goto (pc := 118) 58 dX5_reaches_118 rfl ?_
                exact hrec16 _ _ _
              · refine z_aload_n (pc := 76) 0 dX5_reaches_76 rfl rfl ?_
                refine gf_X5_M_68_0 hG (pc := 77) dX5_reaches_77 ?_
                refine z_bipush (pc := 80) (v := 64) dX5_reaches_80 (by decide) ?_
                refine z_iload (pc := 82) dX5_reaches_82 rfl ?_
                refine z_imul (pc := 84) dX5_reaches_84 ?_
                refine z_iload (pc := 85) dX5_reaches_85 rfl ?_
                refine z_iadd (pc := 87) dX5_reaches_87 ?_
                refine z_letI (fun w21 => ?_)
                refine z_chk (fun h22 => ?_)
                refine z_iaload (pc := 88) 29 4096 (zGM_s29 hG) h22 dX5_reaches_88 ?_
                refine z_if_ne (pc := 89) 95 dX5_reaches_89 rfl ?_ ?_
                · refine z_aload_n (pc := 95) 0 dX5_reaches_95 rfl rfl ?_
                  refine gf_X5_M_71_0 hG (pc := 96) dX5_reaches_96 ?_
                  refine z_iload (pc := 99) dX5_reaches_99 rfl ?_
                  refine z_iload (pc := 101) dX5_reaches_101 rfl ?_
                  refine z_chk (fun h23 => ?_)
                  refine z_iastore (pc := 103) 30 64 (zGM_s30 hG) h23 dX5_reaches_103 ?_
                  refine z_letS (fun S24 => ?_)
                  refine z_aload_n (pc := 104) 0 dX5_reaches_104 rfl rfl ?_
                  refine gf_X5_M_74_0 hG (pc := 105) dX5_reaches_105 ?_
                  refine z_iload_n (pc := 108) 3 dX5_reaches_108 rfl rfl ?_
                  refine z_iload (pc := 109) dX5_reaches_109 rfl ?_
                  refine z_chk (fun h25 => ?_)
                  refine z_iastore (pc := 111) 31 64 (zGM_s31 hG) h25 dX5_reaches_111 ?_
                  refine z_letS (fun S26 => ?_)
                  refine z_iinc (pc := 112) (w := x17 + 1) dX5_reaches_112 rfl (by rw [show Int32.ofInt 1 = 1 from by decide]) (Nat.le_of_ble_eq_true rfl) rfl ?_
                  refine z_iinc (pc := 115) (w := x18 + 1) dX5_reaches_115 rfl (by rw [show Int32.ofInt 1 = 1 from by decide]) (Nat.le_of_ble_eq_true rfl) rfl ?_
                  refine z_goto (pc := 118) 58 dX5_reaches_118 rfl ?_
                  exact hrec16 _ _ _
                · refine z_goto (pc := 92) 115 dX5_reaches_92 rfl ?_
                  refine z_iinc (pc := 115) (w := x18 + 1) dX5_reaches_115 rfl (by rw [show Int32.ofInt 1 = 1 from by decide]) (Nat.le_of_ble_eq_true rfl) rfl ?_
                  refine z_goto (pc := 118) 58 dX5_reaches_118 rfl ?_
                  exact hrec16 _ _ _
  · refine z_loopK (fun j : Int32 → zSt → Option (Int32 × zSt) => ∀ (x28 : Int32) (S29 : zSt), Zm X mX5_reaches zJI G (0, 0) res S29 2 [some (.ref (G.1 0)), some (.int a1), some (.int a2), some (.int x28), none, none, none] [] (j x28 S29)) ?_ ?_ zfuel _ _
    · intro x28 S29; exact z_none
    · intro rec27 hrec27 x28 S29
      unfold LB_X5_reaches_3
      refine z_iload_n (pc := 2) 3 dX5_reaches_2 rfl rfl ?_
      refine z_bipush (pc := 3) (v := 64) dX5_reaches_3 (by decide) ?_
      refine z_icmp_ge (pc := 5) 21 dX5_reaches_5 rfl ?_ ?_
      · exact z_mask [true, true, true, false, false, false, false] (hk1 _) rfl
      · refine z_aload_n (pc := 8) 0 dX5_reaches_8 rfl rfl ?_
        refine gf_X5_M_71_0 hG (pc := 9) dX5_reaches_9 ?_
        refine z_iload_n (pc := 12) 3 dX5_reaches_12 rfl rfl ?_
        refine z_iconst (pc := 13) (v := (-1)) dX5_reaches_13 (by decide) ?_
        refine z_chk (fun h30 => ?_)
        refine z_iastore (pc := 14) 30 64 (zGM_s30 hG) h30 dX5_reaches_14 ?_
        refine z_letS (fun S31 => ?_)
        refine z_iinc (pc := 15) (w := x28 + 1) dX5_reaches_15 rfl (by rw [show Int32.ofInt 1 = 1 from by decide]) (Nat.le_of_ble_eq_true rfl) rfl ?_
        refine z_goto (pc := 18) 2 dX5_reaches_18 rfl ?_
        exact hrec27 _ _
abbrev mX5_flows : zMr := ("HiddenCubeModel", cX5_flows, 5, (some .int), 2, 0, 0, none)
def LB_X5_flows_1 (a1 : Int32) (x2 : Int32) (rec1 : Int32 → zSt → Option (Int32 × zSt)) (rec6 : Int32 → zSt → Option (Int32 × zSt)) (x7 : Int32) (S8 : zSt) : Option (Int32 × zSt) :=
if x7 = a1 then (rec1 (x2 + 1) S8) else (chk x7 64 (zlet ((64 * (S8.1 30 (x7).toNatClampNeg)) + x7 : Int32) (fun w10 : Int32 =>
chk w10 4096 (chk w10 4096 (zlet (sI S8 29 (w10).toNatClampNeg ((S8.1 29 (w10).toNatClampNeg) - 1) : zSt) (fun S13 : zSt =>
chk x7 64 (zlet ((64 * x7) + (S13.1 30 (x7).toNatClampNeg) : Int32) (fun w15 : Int32 =>
chk w15 4096 (chk w15 4096 (zlet (sI S13 29 (w15).toNatClampNeg ((S13.1 29 (w15).toNatClampNeg) + 1) : zSt) (fun S18 : zSt =>
chk x7 64 (zlet (S18.1 30 (x7).toNatClampNeg : Int32) (fun w20 : Int32 =>
rec6 w20 S18)))))))))))))
def LB_X5_flows_2 (a1 : Int32) (a2 : Int32) (rec1 : Int32 → zSt → Option (Int32 × zSt)) (x2 : Int32) (S3 : zSt) : Option (Int32 × zSt) :=
zbind (F_X5_reaches a1 a2 S3) (fun r5 S4 =>
if r5 = 0 then (some (x2, S4)) else (loopK (fun _ _ => none) (LB_X5_flows_1 a1 x2 rec1) zfuel a2 S4))
def F_X5_flows (a1 : Int32) (a2 : Int32) (S : zSt) : Option (Int32 × zSt) :=
loopK (fun _ _ => none) (LB_X5_flows_2 a1 a2) zfuel 0 S
theorem mv_X5_flows : ZV mX5_flows yX5_flows 2 := ⟨q1837, qs114, q155, q1838, rfl, by decide, by decide, by decide +kernel⟩
theorem ct_X5_flows {G : zGw} (hG : zGM G) (a1 : Int32) (a2 : Int32) : Zc mX5_flows yX5_flows zJI G [.ref (G.1 0), .int a1, .int a2] (F_X5_flows a1 a2) := by
  refine Zc_of [some (.ref (G.1 0)), some (.int a1), some (.int a2), none, none] (by decide) rfl rfl (Nat.le_of_ble_eq_true rfl) rfl (fun X S res => ?_)
  unfold F_X5_flows
  refine z_iconst (pc := 0) (v := 0) dX5_flows_0 (by decide) ?_
  refine z_istore_n (pc := 1) 3 dX5_flows_1 rfl (Nat.le_of_ble_eq_true rfl) rfl ?_
  refine z_loopK (fun j : Int32 → zSt → Option (Int32 × zSt) => ∀ (x2 : Int32) (S3 : zSt), Zm X mX5_flows zJI G (0, 0) res S3 2 [some (.ref (G.1 0)), some (.int a1), some (.int a2), some (.int x2), none] [] (j x2 S3)) ?_ ?_ zfuel _ _
  · intro x2 S3; exact z_none
  · intro rec1 hrec1 x2 S3
    unfold LB_X5_flows_2
    refine z_aload_n (pc := 2) 0 dX5_flows_2 rfl rfl ?_
    refine z_iload_n (pc := 3) 1 dX5_flows_3 rfl rfl ?_
    refine z_iload_n (pc := 4) 2 dX5_flows_4 rfl rfl ?_
    refine z_callVi (pc := 5) _ _ 0 5 (ct_X5_reaches hG _ _) mv_X5_reaches q1839 rfl (zGM_s0 hG) rfl (Nat.le_of_ble_eq_true rfl) (Nat.le_of_ble_eq_true rfl) rfl rfl (Nat.le_of_ble_eq_true rfl) dX5_flows_5 (fun r5 S4 => ?_)
    refine z_if_eq (pc := 8) 82 dX5_flows_8 rfl ?_ ?_
    · refine z_iload_n (pc := 82) 3 dX5_flows_82 rfl rfl ?_
      exact z_iret rfl dX5_flows_83 rfl
    · refine z_iload_n (pc := 11) 2 dX5_flows_11 rfl rfl ?_
      refine z_istore (pc := 12) dX5_flows_12 (Nat.le_of_ble_eq_true rfl) rfl ?_
      refine z_loopK (fun j : Int32 → zSt → Option (Int32 × zSt) => ∀ (x7 : Int32) (S8 : zSt), Zm X mX5_flows zJI G (0, 0) res S8 14 [some (.ref (G.1 0)), some (.int a1), some (.int a2), some (.int x2), some (.int x7)] [] (j x7 S8)) ?_ ?_ zfuel _ _
      · intro x7 S8; exact z_none
      · intro rec6 hrec6 x7 S8
        unfold LB_X5_flows_1
        refine z_iload (pc := 14) dX5_flows_14 rfl ?_
        refine z_iload_n (pc := 16) 1 dX5_flows_16 rfl rfl ?_
        refine z_icmp_eq (pc := 17) 76 dX5_flows_17 rfl ?_ ?_
        · refine z_iinc (pc := 76) (w := x2 + 1) dX5_flows_76 rfl (by rw [show Int32.ofInt 1 = 1 from by decide]) (Nat.le_of_ble_eq_true rfl) rfl ?_
          refine z_goto (pc := 79) 2 dX5_flows_79 rfl ?_
          exact z_mask [true, true, true, true, false] (hrec1 _ _) rfl
        · refine z_aload_n (pc := 20) 0 dX5_flows_20 rfl rfl ?_
          refine gf_X5_M_68_0 hG (pc := 21) dX5_flows_21 ?_
          refine z_bipush (pc := 24) (v := 64) dX5_flows_24 (by decide) ?_
          refine z_aload_n (pc := 26) 0 dX5_flows_26 rfl rfl ?_
          refine gf_X5_M_71_0 hG (pc := 27) dX5_flows_27 ?_
          refine z_iload (pc := 30) dX5_flows_30 rfl ?_
          refine z_chk (fun h9 => ?_)
          refine z_iaload (pc := 32) 30 64 (zGM_s30 hG) h9 dX5_flows_32 ?_
          refine z_imul (pc := 33) dX5_flows_33 ?_
          refine z_iload (pc := 34) dX5_flows_34 rfl ?_
          refine z_iadd (pc := 36) dX5_flows_36 ?_
          refine z_letI (fun w10 => ?_)
          refine z_dup2 (pc := 37) dX5_flows_37 rfl rfl ?_
          refine z_chk (fun h11 => ?_)
          refine z_iaload (pc := 38) 29 4096 (zGM_s29 hG) h11 dX5_flows_38 ?_
          refine z_iconst (pc := 39) (v := 1) dX5_flows_39 (by decide) ?_
          refine z_isub (pc := 40) dX5_flows_40 ?_
          refine z_chk (fun h12 => ?_)
          refine z_iastore (pc := 41) 29 4096 (zGM_s29 hG) h12 dX5_flows_41 ?_
          refine z_letS (fun S13 => ?_)
          refine z_aload_n (pc := 42) 0 dX5_flows_42 rfl rfl ?_
          refine gf_X5_M_68_0 hG (pc := 43) dX5_flows_43 ?_
          refine z_bipush (pc := 46) (v := 64) dX5_flows_46 (by decide) ?_
          refine z_iload (pc := 48) dX5_flows_48 rfl ?_
          refine z_imul (pc := 50) dX5_flows_50 ?_
          refine z_aload_n (pc := 51) 0 dX5_flows_51 rfl rfl ?_
          refine gf_X5_M_71_0 hG (pc := 52) dX5_flows_52 ?_
          refine z_iload (pc := 55) dX5_flows_55 rfl ?_
          refine z_chk (fun h14 => ?_)
          refine z_iaload (pc := 57) 30 64 (zGM_s30 hG) h14 dX5_flows_57 ?_
          refine z_iadd (pc := 58) dX5_flows_58 ?_
          refine z_letI (fun w15 => ?_)
          refine z_dup2 (pc := 59) dX5_flows_59 rfl rfl ?_
          refine z_chk (fun h16 => ?_)
          refine z_iaload (pc := 60) 29 4096 (zGM_s29 hG) h16 dX5_flows_60 ?_
          refine z_iconst (pc := 61) (v := 1) dX5_flows_61 (by decide) ?_
          refine z_iadd (pc := 62) dX5_flows_62 ?_
          refine z_chk (fun h17 => ?_)
          refine z_iastore (pc := 63) 29 4096 (zGM_s29 hG) h17 dX5_flows_63 ?_
          refine z_letS (fun S18 => ?_)
          refine z_aload_n (pc := 64) 0 dX5_flows_64 rfl rfl ?_
          refine gf_X5_M_71_0 hG (pc := 65) dX5_flows_65 ?_
          refine z_iload (pc := 68) dX5_flows_68 rfl ?_
          refine z_chk (fun h19 => ?_)
          refine z_iaload (pc := 70) 30 64 (zGM_s30 hG) h19 dX5_flows_70 ?_
          refine z_letI (fun w20 => ?_)
          refine z_istore (pc := 71) dX5_flows_71 (Nat.le_of_ble_eq_true rfl) rfl ?_
          refine z_goto (pc := 73) 14 dX5_flows_73 rfl ?_
          exact hrec6 _ _
