/-! WALKS (written by gen/mkparts.py) -/
set_option maxRecDepth 100000
abbrev mX0_led : zMr := ("HiddenCube", cX0_led, 4, (some .int), 6, 0, 0, none)
def F_X0_led (a1 : Int32) (a2 : Int32) (a3 : Int32) (S : zSt) : Option (Int32 × zSt) :=
zbind (F_X0_isSquare ((a1).toInt64) S) (fun r2 S1 =>
if r2 = 0 then (some ((-2), S1)) else (zbind (F_X0_isSquare ((a2).toInt64) S1) (fun r4 S3 =>
if r4 = 0 then (some ((-2), S3)) else (if a3 < 0 then (some ((-1), S3)) else (if a3 = 2147483647 then (some ((-1), S3)) else (zbind (F_X0_goes a1 a2 (a3 + 1) S3) (fun r6 S5 =>
if r6 = (-1) then (some ((-1), S5)) else (zbind (F_X0_goes a1 a2 a3 S5) (fun r8 S7 =>
zbind (F_X0_goes a1 a2 (a3 + 1) S7) (fun r10 S9 =>
zbind (F_X0_nameOf r8 r10 S9) (fun r12 S11 =>
some (r12, S11))))))))))))
theorem mv_X0_led : ZV mX0_led yX0_led 3 := ⟨q807, q808, q150, q809, rfl, by decide, by decide, by decide +kernel⟩
theorem ct_X0_led {G : zGw} (hG : zGC G) (a1 : Int32) (a2 : Int32) (a3 : Int32) : Zc mX0_led yX0_led zJI G [.ref (G.1 0), .int a1, .int a2, .int a3] (F_X0_led a1 a2 a3) := by
  refine Zc_of [some (.ref (G.1 0)), some (.int a1), some (.int a2), some (.int a3)] (by decide) rfl rfl (Nat.le_of_ble_eq_true rfl) rfl (fun X S res => ?_)
  unfold F_X0_led
  refine z_aload_n (pc := 0) 0 dX0_led_0 rfl rfl ?_
  refine z_iload_n (pc := 1) 1 dX0_led_1 rfl rfl ?_
  refine z_i2l (pc := 2) dX0_led_2 ?_
  refine z_callVi (pc := 3) _ _ 0 0 (ct_X0_isSquare hG _) mv_X0_isSquare q723 rfl (zGC_s0 hG) rfl (Nat.le_of_ble_eq_true rfl) (Nat.le_of_ble_eq_true rfl) rfl rfl (Nat.le_of_ble_eq_true rfl) dX0_led_3 (fun r2 S1 => ?_)
  refine z_if_eq (pc := 6) 18 dX0_led_6 rfl ?_ ?_
  · refine z_bipush (pc := 18) (v := (-2)) dX0_led_18 (by decide) ?_
    exact z_iret rfl dX0_led_20 rfl
  · refine z_aload_n (pc := 9) 0 dX0_led_9 rfl rfl ?_
    refine z_iload_n (pc := 10) 2 dX0_led_10 rfl rfl ?_
    refine z_i2l (pc := 11) dX0_led_11 ?_
    refine z_callVi (pc := 12) _ _ 0 0 (ct_X0_isSquare hG _) mv_X0_isSquare q723 rfl (zGC_s0 hG) rfl (Nat.le_of_ble_eq_true rfl) (Nat.le_of_ble_eq_true rfl) rfl rfl (Nat.le_of_ble_eq_true rfl) dX0_led_12 (fun r4 S3 => ?_)
    refine z_if_ne (pc := 15) 21 dX0_led_15 rfl ?_ ?_
    · refine z_iload_n (pc := 21) 3 dX0_led_21 rfl rfl ?_
      refine z_if_lt (pc := 22) 44 dX0_led_22 rfl ?_ ?_
      · refine z_iconst (pc := 44) (v := (-1)) dX0_led_44 (by decide) ?_
        refine z_goto (pc := 45) 67 dX0_led_45 rfl ?_
        exact z_iret rfl dX0_led_67 rfl
      · refine z_iload_n (pc := 25) 3 dX0_led_25 rfl rfl ?_
        refine z_ldc (pc := 26) (v := 2147483647) dX0_led_26 q810 ?_
        refine z_icmp_eq (pc := 28) 44 dX0_led_28 rfl ?_ ?_
        · refine z_iconst (pc := 44) (v := (-1)) dX0_led_44 (by decide) ?_
          refine z_goto (pc := 45) 67 dX0_led_45 rfl ?_
          exact z_iret rfl dX0_led_67 rfl
        · refine z_aload_n (pc := 31) 0 dX0_led_31 rfl rfl ?_
          refine z_iload_n (pc := 32) 1 dX0_led_32 rfl rfl ?_
          refine z_iload_n (pc := 33) 2 dX0_led_33 rfl rfl ?_
          refine z_iload_n (pc := 34) 3 dX0_led_34 rfl rfl ?_
          refine z_iconst (pc := 35) (v := 1) dX0_led_35 (by decide) ?_
          refine z_iadd (pc := 36) dX0_led_36 ?_
          refine z_callVi (pc := 37) _ _ 0 0 (ct_X0_goes hG _ _ _) mv_X0_goes q811 rfl (zGC_s0 hG) rfl (Nat.le_of_ble_eq_true rfl) (Nat.le_of_ble_eq_true rfl) rfl rfl (Nat.le_of_ble_eq_true rfl) dX0_led_37 (fun r6 S5 => ?_)
          refine z_iconst (pc := 40) (v := (-1)) dX0_led_40 (by decide) ?_
          refine z_icmp_ne (pc := 41) 48 dX0_led_41 rfl ?_ ?_
          · refine z_aload_n (pc := 48) 0 dX0_led_48 rfl rfl ?_
            refine z_iload_n (pc := 49) 1 dX0_led_49 rfl rfl ?_
            refine z_iload_n (pc := 50) 2 dX0_led_50 rfl rfl ?_
            refine z_iload_n (pc := 51) 3 dX0_led_51 rfl rfl ?_
            refine z_callVi (pc := 52) _ _ 0 0 (ct_X0_goes hG _ _ _) mv_X0_goes q811 rfl (zGC_s0 hG) rfl (Nat.le_of_ble_eq_true rfl) (Nat.le_of_ble_eq_true rfl) rfl rfl (Nat.le_of_ble_eq_true rfl) dX0_led_52 (fun r8 S7 => ?_)
            refine z_aload_n (pc := 55) 0 dX0_led_55 rfl rfl ?_
            refine z_iload_n (pc := 56) 1 dX0_led_56 rfl rfl ?_
            refine z_iload_n (pc := 57) 2 dX0_led_57 rfl rfl ?_
            refine z_iload_n (pc := 58) 3 dX0_led_58 rfl rfl ?_
            refine z_iconst (pc := 59) (v := 1) dX0_led_59 (by decide) ?_
            refine z_iadd (pc := 60) dX0_led_60 ?_
            refine z_callVi (pc := 61) _ _ 0 0 (ct_X0_goes hG _ _ _) mv_X0_goes q811 rfl (zGC_s0 hG) rfl (Nat.le_of_ble_eq_true rfl) (Nat.le_of_ble_eq_true rfl) rfl rfl (Nat.le_of_ble_eq_true rfl) dX0_led_61 (fun r10 S9 => ?_)
            refine z_callSi (pc := 64) _ _ (ct_X0_nameOf  _ _) mv_X0_nameOf q812 rfl (Nat.le_of_ble_eq_true rfl) (Nat.le_of_ble_eq_true rfl) rfl rfl (Nat.le_of_ble_eq_true rfl) dX0_led_64 (fun r12 S11 => ?_)
            exact z_iret rfl dX0_led_67 rfl
          · refine z_iconst (pc := 44) (v := (-1)) dX0_led_44 (by decide) ?_
            refine z_goto (pc := 45) 67 dX0_led_45 rfl ?_
            exact z_iret rfl dX0_led_67 rfl
    · refine z_bipush (pc := 18) (v := (-2)) dX0_led_18 (by decide) ?_
      exact z_iret rfl dX0_led_20 rfl
abbrev mX0_farthest : zMr := ("HiddenCube", cX0_farthest, 5, (some .int), 5, 0, 0, none)
def LB_X0_farthest_1 (k6 : Int32 → zSt → Option (Int32 × zSt)) (rec10 : Int32 → Int32 → zSt → Option (Int32 × zSt)) (x11 : Int32) (x12 : Int32) (S13 : zSt) : Option (Int32 × zSt) :=
zbind (F_X1_squares 1 S13) (fun r15 S14 =>
if r15 ≤ x12 then (k6 x11 S14) else (chk x12 32 (chk x11 32 (joinK (rec10 x12 (x12 + 1) S14) (fun j18 : Option (Int32 × zSt) =>
if (S14.1 9 (x11).toNatClampNeg) < (S14.1 9 (x12).toNatClampNeg) then (j18) else (chk x12 32 (chk x11 32 (if (S14.1 9 (x12).toNatClampNeg) = (S14.1 9 (x11).toNatClampNeg) then (if x11 ≤ x12 then (rec10 x11 (x12 + 1) S14) else (j18)) else (rec10 x11 (x12 + 1) S14)))))))))
def F_X0_farthest (a1 : Int32) (a2 : Int32) (S : zSt) : Option (Int32 × zSt) :=
zbind (F_X0_isSquare ((a1).toInt64) S) (fun r2 S1 =>
if r2 = 0 then (some ((-2), S1)) else (zbind (F_X0_isOneOf a2 2 S1) (fun r4 S3 =>
if r4 = 0 then (some ((-2), S3)) else (zbind (F_X2_spreads_w8 a1 S3) (fun _ S5 =>
joinK (fun (x7 : Int32) (S8 : zSt) => if a2 = 0 then (some (x7, S8)) else (chk x7 32 (some (S8.1 9 (x7).toNatClampNeg, S8)))) (fun k6 : Int32 → zSt → Option (Int32 × zSt) =>
loopK (fun _ _ _ => none) (LB_X0_farthest_1 k6) zfuel a1 0 S5))))))
theorem mv_X0_farthest : ZV mX0_farthest yX0_farthest 2 := ⟨q820, q821, q150, q822, rfl, by decide, by decide, by decide +kernel⟩
theorem ct_X0_farthest {G : zGw} (hG : zGC G) (a1 : Int32) (a2 : Int32) : Zc mX0_farthest yX0_farthest zJI G [.ref (G.1 0), .int a1, .int a2] (F_X0_farthest a1 a2) := by
  refine Zc_of [some (.ref (G.1 0)), some (.int a1), some (.int a2), none, none] (by decide) rfl rfl (Nat.le_of_ble_eq_true rfl) rfl (fun X S res => ?_)
  unfold F_X0_farthest
  refine z_aload_n (pc := 0) 0 dX0_farthest_0 rfl rfl ?_
  refine z_iload_n (pc := 1) 1 dX0_farthest_1 rfl rfl ?_
  refine z_i2l (pc := 2) dX0_farthest_2 ?_
  refine z_callVi (pc := 3) _ _ 0 0 (ct_X0_isSquare hG _) mv_X0_isSquare q723 rfl (zGC_s0 hG) rfl (Nat.le_of_ble_eq_true rfl) (Nat.le_of_ble_eq_true rfl) rfl rfl (Nat.le_of_ble_eq_true rfl) dX0_farthest_3 (fun r2 S1 => ?_)
  refine z_if_eq (pc := 6) 17 dX0_farthest_6 rfl ?_ ?_
  · refine z_bipush (pc := 17) (v := (-2)) dX0_farthest_17 (by decide) ?_
    exact z_iret rfl dX0_farthest_19 rfl
  · refine z_iload_n (pc := 9) 2 dX0_farthest_9 rfl rfl ?_
    refine z_iconst (pc := 10) (v := 2) dX0_farthest_10 (by decide) ?_
    refine z_callSi (pc := 11) _ _ (ct_X0_isOneOf  _ _) mv_X0_isOneOf q737 rfl (Nat.le_of_ble_eq_true rfl) (Nat.le_of_ble_eq_true rfl) rfl rfl (Nat.le_of_ble_eq_true rfl) dX0_farthest_11 (fun r4 S3 => ?_)
    refine z_if_ne (pc := 14) 20 dX0_farthest_14 rfl ?_ ?_
    · refine z_aload_n (pc := 20) 0 dX0_farthest_20 rfl rfl ?_
      refine gf_X0_C_29_0 hG (pc := 21) dX0_farthest_21 ?_
      refine z_iload_n (pc := 24) 1 dX0_farthest_24 rfl rfl ?_
      refine z_callVv (pc := 25) _ _ 8 2 (ct_X2_spreads_w8 hG _) mv_X2_spreads_w8 q776 rfl (zGC_s8 hG) rfl (Nat.le_of_ble_eq_true rfl) (Nat.le_of_ble_eq_true rfl) rfl rfl (Nat.le_of_ble_eq_true rfl) dX0_farthest_25 (fun _ S5 => ?_)
      refine z_iload_n (pc := 28) 1 dX0_farthest_28 rfl rfl ?_
      refine z_istore_n (pc := 29) 3 dX0_farthest_29 rfl (Nat.le_of_ble_eq_true rfl) rfl ?_
      refine z_iconst (pc := 30) (v := 0) dX0_farthest_30 (by decide) ?_
      refine z_istore (pc := 31) dX0_farthest_31 (Nat.le_of_ble_eq_true rfl) rfl ?_
      refine z_join (fun j : Int32 → zSt → Option (Int32 × zSt) => ∀ (x7 : Int32) (S8 : zSt), Zm X mX0_farthest zJI G (0, 0) res S8 104 [some (.ref (G.1 0)), none, some (.int a2), some (.int x7), none] [] (j x7 S8)) ?_ (fun k6 hk6 => ?_)
      · intro x7 S8
        refine z_iload_n (pc := 104) 2 dX0_farthest_104 rfl rfl ?_
        refine z_if_ne (pc := 105) 112 dX0_farthest_105 rfl ?_ ?_
        · refine z_aload_n (pc := 112) 0 dX0_farthest_112 rfl rfl ?_
          refine gf_X0_C_29_0 hG (pc := 113) dX0_farthest_113 ?_
          refine gf_X0_C_210_8 hG (pc := 116) dX0_farthest_116 ?_
          refine z_iload_n (pc := 119) 3 dX0_farthest_119 rfl rfl ?_
          refine z_chk (fun h9 => ?_)
          refine z_iaload (pc := 120) 9 32 (zGC_s9 hG) h9 dX0_farthest_120 ?_
          exact z_iret rfl dX0_farthest_121 rfl
        · refine z_iload_n (pc := 108) 3 dX0_farthest_108 rfl rfl ?_
          refine z_goto (pc := 109) 121 dX0_farthest_109 rfl ?_
          exact z_iret rfl dX0_farthest_121 rfl
      · refine z_maskk [true, false, true, true, true] ?_
        refine z_loopK (fun j : Int32 → Int32 → zSt → Option (Int32 × zSt) => ∀ (x11 : Int32) (x12 : Int32) (S13 : zSt), Zm X mX0_farthest zJI G (0, 0) res S13 33 [some (.ref (G.1 0)), none, some (.int a2), some (.int x11), some (.int x12)] [] (j x11 x12 S13)) ?_ ?_ zfuel _ _ _
        · intro x11 x12 S13; exact z_none
        · intro rec10 hrec10 x11 x12 S13
          unfold LB_X0_farthest_1
          refine z_iload (pc := 33) dX0_farthest_33 rfl ?_
          refine z_aload_n (pc := 35) 0 dX0_farthest_35 rfl rfl ?_
          refine gf_X0_C_10_0 hG (pc := 36) dX0_farthest_36 ?_
          refine z_callVi (pc := 39) _ _ 1 1 (ct_X1_squares (zGC_T hG)) mv_X1_squares q727 rfl (zGC_s1 hG) rfl (Nat.le_of_ble_eq_true rfl) (Nat.le_of_ble_eq_true rfl) rfl rfl (Nat.le_of_ble_eq_true rfl) dX0_farthest_39 (fun r15 S14 => ?_)
          refine z_icmp_ge (pc := 42) 104 dX0_farthest_42 rfl ?_ ?_
          · exact z_mask [true, false, true, true, false] (hk6 _ _) rfl
          · refine z_aload_n (pc := 45) 0 dX0_farthest_45 rfl rfl ?_
            refine gf_X0_C_29_0 hG (pc := 46) dX0_farthest_46 ?_
            refine gf_X0_C_210_8 hG (pc := 49) dX0_farthest_49 ?_
            refine z_iload (pc := 52) dX0_farthest_52 rfl ?_
            refine z_chk (fun h16 => ?_)
            refine z_iaload (pc := 54) 9 32 (zGC_s9 hG) h16 dX0_farthest_54 ?_
            refine z_aload_n (pc := 55) 0 dX0_farthest_55 rfl rfl ?_
            refine gf_X0_C_29_0 hG (pc := 56) dX0_farthest_56 ?_
            refine gf_X0_C_210_8 hG (pc := 59) dX0_farthest_59 ?_
            refine z_iload_n (pc := 62) 3 dX0_farthest_62 rfl rfl ?_
            refine z_chk (fun h17 => ?_)
            refine z_iaload (pc := 63) 9 32 (zGC_s9 hG) h17 dX0_farthest_63 ?_
            refine z_join (fun j : Option (Int32 × zSt) =>  Zm X mX0_farthest zJI G (0, 0) res S14 95 [some (.ref (G.1 0)), none, some (.int a2), none, some (.int x12)] [] (j)) ?_ (fun j18 hj18 => ?_)
            · show _
              refine z_iload (pc := 95) dX0_farthest_95 rfl ?_
              refine z_istore_n (pc := 97) 3 dX0_farthest_97 rfl (Nat.le_of_ble_eq_true rfl) rfl ?_
              refine z_iinc (pc := 98) (w := x12 + 1) dX0_farthest_98 rfl (by rw [show Int32.ofInt 1 = 1 from by decide]) (Nat.le_of_ble_eq_true rfl) rfl ?_
              refine z_goto (pc := 101) 33 dX0_farthest_101 rfl ?_
              exact hrec10 _ _ _
            · refine z_icmp_gt (pc := 64) 95 dX0_farthest_64 rfl ?_ ?_
              · exact z_mask [true, false, true, false, true] (hj18) rfl
              · refine z_aload_n (pc := 67) 0 dX0_farthest_67 rfl rfl ?_
                refine gf_X0_C_29_0 hG (pc := 68) dX0_farthest_68 ?_
                refine gf_X0_C_210_8 hG (pc := 71) dX0_farthest_71 ?_
                refine z_iload (pc := 74) dX0_farthest_74 rfl ?_
                refine z_chk (fun h19 => ?_)
                refine z_iaload (pc := 76) 9 32 (zGC_s9 hG) h19 dX0_farthest_76 ?_
                refine z_aload_n (pc := 77) 0 dX0_farthest_77 rfl rfl ?_
                refine gf_X0_C_29_0 hG (pc := 78) dX0_farthest_78 ?_
                refine gf_X0_C_210_8 hG (pc := 81) dX0_farthest_81 ?_
                refine z_iload_n (pc := 84) 3 dX0_farthest_84 rfl rfl ?_
                refine z_chk (fun h20 => ?_)
                refine z_iaload (pc := 85) 9 32 (zGC_s9 hG) h20 dX0_farthest_85 ?_
                refine z_icmp_ne (pc := 86) 98 dX0_farthest_86 rfl ?_ ?_
                · refine z_iinc (pc := 98) (w := x12 + 1) dX0_farthest_98 rfl (by rw [show Int32.ofInt 1 = 1 from by decide]) (Nat.le_of_ble_eq_true rfl) rfl ?_
                  refine z_goto (pc := 101) 33 dX0_farthest_101 rfl ?_
                  exact hrec10 _ _ _
                · refine z_iload (pc := 89) dX0_farthest_89 rfl ?_
                  refine z_iload_n (pc := 91) 3 dX0_farthest_91 rfl rfl ?_
                  refine z_icmp_ge (pc := 92) 98 dX0_farthest_92 rfl ?_ ?_
                  · refine z_iinc (pc := 98) (w := x12 + 1) dX0_farthest_98 rfl (by rw [show Int32.ofInt 1 = 1 from by decide]) (Nat.le_of_ble_eq_true rfl) rfl ?_
                    refine z_goto (pc := 101) 33 dX0_farthest_101 rfl ?_
                    exact hrec10 _ _ _
                  · exact z_mask [true, false, true, false, true] (hj18) rfl
    · refine z_bipush (pc := 17) (v := (-2)) dX0_farthest_17 (by decide) ?_
      exact z_iret rfl dX0_farthest_19 rfl
abbrev mX0_isTown : zMr := ("HiddenCube", cX0_isTown, 1, (some .boolean), 1, 0, 0, none)
def F_X0_isTown  (S : zSt) : Option (Int32 × zSt) :=
if (S.1 1 0) ≤ 0 then (some (0, S)) else (some (1, S))
theorem mv_X0_isTown : ZV mX0_isTown yX0_isTown 0 := ⟨q829, qs24, q150, q830, rfl, by decide, by decide, by decide +kernel⟩
theorem ct_X0_isTown {G : zGw} (hG : zGC G)  : Zc mX0_isTown yX0_isTown zJI G [.ref (G.1 0)] (F_X0_isTown) := by
  refine Zc_of [some (.ref (G.1 0))] (by decide) rfl rfl (Nat.le_of_ble_eq_true rfl) rfl (fun X S res => ?_)
  unfold F_X0_isTown
  refine z_aload_n (pc := 0) 0 dX0_isTown_0 rfl rfl ?_
  refine gf_X0_C_10_0 hG (pc := 1) dX0_isTown_1 ?_
  refine gf_X0_C_158_1 hG (pc := 4) dX0_isTown_4 ?_
  refine z_if_le (pc := 7) 14 dX0_isTown_7 rfl ?_ ?_
  · refine z_iconst (pc := 14) (v := 0) dX0_isTown_14 (by decide) ?_
    exact z_zret0 rfl dX0_isTown_15 rfl
  · refine z_iconst (pc := 10) (v := 1) dX0_isTown_10 (by decide) ?_
    refine z_goto (pc := 11) 15 dX0_isTown_11 rfl ?_
    exact z_zret1 rfl dX0_isTown_15 rfl
abbrev mJ0_max : zMr := ("java/lang/Math", cJ0_max, 2, (some .int), 1, 0, 0, none)
def F_J0_max (a1 : Int32) (a2 : Int32) (S : zSt) : Option (Int32 × zSt) :=
if a1 < a2 then (some (a2, S)) else (some (a1, S))
theorem mv_J0_max : ZS mJ0_max yJ0_max 2 := ⟨q833, q159, q834, by decide, by decide, by decide +kernel⟩
theorem ct_J0_max {G : zGw} (a1 : Int32) (a2 : Int32) : Zc mJ0_max yJ0_max zJI G [.int a1, .int a2] (F_J0_max a1 a2) := by
  refine Zc_ofF [some (.int a1), some (.int a2)] (by decide +kernel) rfl rfl (Nat.le_of_ble_eq_true rfl) rfl (fun X S res => ?_)
  unfold F_J0_max
  refine z_iload_n (pc := 0) 0 dJ0_max_0 rfl rfl ?_
  refine z_iload_n (pc := 1) 1 dJ0_max_1 rfl rfl ?_
  refine z_icmp_lt (pc := 2) 9 dJ0_max_2 rfl ?_ ?_
  · refine z_iload_n (pc := 9) 1 dJ0_max_9 rfl rfl ?_
    exact z_iret rfl dJ0_max_10 rfl
  · refine z_iload_n (pc := 5) 0 dJ0_max_5 rfl rfl ?_
    refine z_goto (pc := 6) 10 dJ0_max_6 rfl ?_
    exact z_iret rfl dJ0_max_10 rfl
abbrev mX0_width : zMr := ("HiddenCube", cX0_width, 3, (some .int), 6, 0, 0, none)
def LB_X0_width_1 (rec3 : Int32 → Int32 → zSt → Option (Int32 × zSt)) (x4 : Int32) (x5 : Int32) (S6 : zSt) : Option (Int32 × zSt) :=
zbind (F_X1_squares 1 S6) (fun r8 S7 =>
if r8 ≤ x5 then (some (x4, S7)) else (zbind (F_X0_farthest x5 1 S7) (fun r10 S9 =>
zbind (F_J0_max x4 r10 S9) (fun r12 S11 =>
rec3 r12 (x5 + 1) S11))))
def F_X0_width  (S : zSt) : Option (Int32 × zSt) :=
zbind (F_X0_isTown S) (fun r2 S1 =>
if r2 = 0 then (some ((-2), S1)) else (loopK (fun _ _ _ => none) (LB_X0_width_1) zfuel 0 0 S1))
theorem mv_X0_width : ZV mX0_width yX0_width 0 := ⟨q824, q825, q150, q826, rfl, by decide, by decide, by decide +kernel⟩
theorem ct_X0_width {G : zGw} (hG : zGC G)  : Zc mX0_width yX0_width zJI G [.ref (G.1 0)] (F_X0_width) := by
  refine Zc_of [some (.ref (G.1 0)), none, none] (by decide) rfl rfl (Nat.le_of_ble_eq_true rfl) rfl (fun X S res => ?_)
  unfold F_X0_width
  refine z_aload_n (pc := 0) 0 dX0_width_0 rfl rfl ?_
  refine z_callVi (pc := 1) _ _ 0 0 (ct_X0_isTown hG) mv_X0_isTown q827 rfl (zGC_s0 hG) rfl (Nat.le_of_ble_eq_true rfl) (Nat.le_of_ble_eq_true rfl) rfl rfl (Nat.le_of_ble_eq_true rfl) dX0_width_1 (fun r2 S1 => ?_)
  refine z_if_ne (pc := 4) 10 dX0_width_4 rfl ?_ ?_
  · refine z_iconst (pc := 10) (v := 0) dX0_width_10 (by decide) ?_
    refine z_istore_n (pc := 11) 1 dX0_width_11 rfl (Nat.le_of_ble_eq_true rfl) rfl ?_
    refine z_iconst (pc := 12) (v := 0) dX0_width_12 (by decide) ?_
    refine z_istore_n (pc := 13) 2 dX0_width_13 rfl (Nat.le_of_ble_eq_true rfl) rfl ?_
    refine z_loopK (fun j : Int32 → Int32 → zSt → Option (Int32 × zSt) => ∀ (x4 : Int32) (x5 : Int32) (S6 : zSt), Zm X mX0_width zJI G (0, 0) res S6 14 [some (.ref (G.1 0)), some (.int x4), some (.int x5)] [] (j x4 x5 S6)) ?_ ?_ zfuel _ _ _
    · intro x4 x5 S6; exact z_none
    · intro rec3 hrec3 x4 x5 S6
      unfold LB_X0_width_1
      refine z_iload_n (pc := 14) 2 dX0_width_14 rfl rfl ?_
      refine z_aload_n (pc := 15) 0 dX0_width_15 rfl rfl ?_
      refine gf_X0_C_10_0 hG (pc := 16) dX0_width_16 ?_
      refine z_callVi (pc := 19) _ _ 1 1 (ct_X1_squares (zGC_T hG)) mv_X1_squares q727 rfl (zGC_s1 hG) rfl (Nat.le_of_ble_eq_true rfl) (Nat.le_of_ble_eq_true rfl) rfl rfl (Nat.le_of_ble_eq_true rfl) dX0_width_19 (fun r8 S7 => ?_)
      refine z_icmp_ge (pc := 22) 42 dX0_width_22 rfl ?_ ?_
      · refine z_iload_n (pc := 42) 1 dX0_width_42 rfl rfl ?_
        exact z_iret rfl dX0_width_43 rfl
      · refine z_iload_n (pc := 25) 1 dX0_width_25 rfl rfl ?_
        refine z_aload_n (pc := 26) 0 dX0_width_26 rfl rfl ?_
        refine z_iload_n (pc := 27) 2 dX0_width_27 rfl rfl ?_
        refine z_iconst (pc := 28) (v := 1) dX0_width_28 (by decide) ?_
        refine z_callVi (pc := 29) _ _ 0 0 (ct_X0_farthest hG _ _) mv_X0_farthest q831 rfl (zGC_s0 hG) rfl (Nat.le_of_ble_eq_true rfl) (Nat.le_of_ble_eq_true rfl) rfl rfl (Nat.le_of_ble_eq_true rfl) dX0_width_29 (fun r10 S9 => ?_)
        refine z_callSi (pc := 32) _ _ (ct_J0_max  _ _) mv_J0_max q832 rfl (Nat.le_of_ble_eq_true rfl) (Nat.le_of_ble_eq_true rfl) rfl rfl (Nat.le_of_ble_eq_true rfl) dX0_width_32 (fun r12 S11 => ?_)
        refine z_istore_n (pc := 35) 1 dX0_width_35 rfl (Nat.le_of_ble_eq_true rfl) rfl ?_
        refine z_iinc (pc := 36) (w := x5 + 1) dX0_width_36 rfl (by rw [show Int32.ofInt 1 = 1 from by decide]) (Nat.le_of_ble_eq_true rfl) rfl ?_
        refine z_goto (pc := 39) 14 dX0_width_39 rfl ?_
        exact hrec3 _ _ _
  · refine z_bipush (pc := 7) (v := (-2)) dX0_width_7 (by decide) ?_
    exact z_iret rfl dX0_width_9 rfl
abbrev mX0_within : zMr := ("HiddenCube", cX0_within, 5, (some .int), 5, 0, 0, none)
def LB_X0_within_1 (a2 : Int32) (rec4 : Int32 → Int32 → zSt → Option (Int32 × zSt)) (x5 : Int32) (x6 : Int32) (S7 : zSt) : Option (Int32 × zSt) :=
zbind (F_X1_squares 1 S7) (fun r9 S8 =>
if r9 ≤ x6 then (some (x5, S8)) else (chk x6 32 (zbind (F_X0_isIn ((S8.1 9 (x6).toNatClampNeg).toInt64) 0 ((a2).toInt64) S8) (fun r12 S11 =>
zlet (x5 + (if r12 = 0 then 0 else 1) : Int32) (fun w14 : Int32 =>
rec4 w14 (x6 + 1) S11)))))
def F_X0_within (a1 : Int32) (a2 : Int32) (S : zSt) : Option (Int32 × zSt) :=
zbind (F_X0_isSquare ((a1).toInt64) S) (fun r2 S1 =>
if r2 = 0 then (some ((-2), S1)) else (if 0 ≤ a2 then (zbind (F_X2_spreads_w8 a1 S1) (fun _ S3 =>
loopK (fun _ _ _ => none) (LB_X0_within_1 a2) zfuel 0 0 S3)) else (some ((-2), S1))))
theorem mv_X0_within : ZV mX0_within yX0_within 2 := ⟨q836, q837, q150, q838, rfl, by decide, by decide, by decide +kernel⟩
theorem ct_X0_within {G : zGw} (hG : zGC G) (a1 : Int32) (a2 : Int32) : Zc mX0_within yX0_within zJI G [.ref (G.1 0), .int a1, .int a2] (F_X0_within a1 a2) := by
  refine Zc_of [some (.ref (G.1 0)), some (.int a1), some (.int a2), none, none] (by decide) rfl rfl (Nat.le_of_ble_eq_true rfl) rfl (fun X S res => ?_)
  unfold F_X0_within
  refine z_aload_n (pc := 0) 0 dX0_within_0 rfl rfl ?_
  refine z_iload_n (pc := 1) 1 dX0_within_1 rfl rfl ?_
  refine z_i2l (pc := 2) dX0_within_2 ?_
  refine z_callVi (pc := 3) _ _ 0 0 (ct_X0_isSquare hG _) mv_X0_isSquare q723 rfl (zGC_s0 hG) rfl (Nat.le_of_ble_eq_true rfl) (Nat.le_of_ble_eq_true rfl) rfl rfl (Nat.le_of_ble_eq_true rfl) dX0_within_3 (fun r2 S1 => ?_)
  refine z_if_eq (pc := 6) 13 dX0_within_6 rfl ?_ ?_
  · refine z_bipush (pc := 13) (v := (-2)) dX0_within_13 (by decide) ?_
    exact z_iret rfl dX0_within_15 rfl
  · refine z_iload_n (pc := 9) 2 dX0_within_9 rfl rfl ?_
    refine z_if_ge (pc := 10) 16 dX0_within_10 rfl ?_ ?_
    · refine z_aload_n (pc := 16) 0 dX0_within_16 rfl rfl ?_
      refine gf_X0_C_29_0 hG (pc := 17) dX0_within_17 ?_
      refine z_iload_n (pc := 20) 1 dX0_within_20 rfl rfl ?_
      refine z_callVv (pc := 21) _ _ 8 2 (ct_X2_spreads_w8 hG _) mv_X2_spreads_w8 q776 rfl (zGC_s8 hG) rfl (Nat.le_of_ble_eq_true rfl) (Nat.le_of_ble_eq_true rfl) rfl rfl (Nat.le_of_ble_eq_true rfl) dX0_within_21 (fun _ S3 => ?_)
      refine z_iconst (pc := 24) (v := 0) dX0_within_24 (by decide) ?_
      refine z_istore_n (pc := 25) 3 dX0_within_25 rfl (Nat.le_of_ble_eq_true rfl) rfl ?_
      refine z_iconst (pc := 26) (v := 0) dX0_within_26 (by decide) ?_
      refine z_istore (pc := 27) dX0_within_27 (Nat.le_of_ble_eq_true rfl) rfl ?_
      refine z_maskk [true, false, true, true, true] ?_
      refine z_loopK (fun j : Int32 → Int32 → zSt → Option (Int32 × zSt) => ∀ (x5 : Int32) (x6 : Int32) (S7 : zSt), Zm X mX0_within zJI G (0, 0) res S7 29 [some (.ref (G.1 0)), none, some (.int a2), some (.int x5), some (.int x6)] [] (j x5 x6 S7)) ?_ ?_ zfuel _ _ _
      · intro x5 x6 S7; exact z_none
      · intro rec4 hrec4 x5 x6 S7
        unfold LB_X0_within_1
        refine z_iload (pc := 29) dX0_within_29 rfl ?_
        refine z_aload_n (pc := 31) 0 dX0_within_31 rfl rfl ?_
        refine gf_X0_C_10_0 hG (pc := 32) dX0_within_32 ?_
        refine z_callVi (pc := 35) _ _ 1 1 (ct_X1_squares (zGC_T hG)) mv_X1_squares q727 rfl (zGC_s1 hG) rfl (Nat.le_of_ble_eq_true rfl) (Nat.le_of_ble_eq_true rfl) rfl rfl (Nat.le_of_ble_eq_true rfl) dX0_within_35 (fun r9 S8 => ?_)
        refine z_icmp_ge (pc := 38) 75 dX0_within_38 rfl ?_ ?_
        · refine z_iload_n (pc := 75) 3 dX0_within_75 rfl rfl ?_
          exact z_iret rfl dX0_within_76 rfl
        · refine z_iload_n (pc := 41) 3 dX0_within_41 rfl rfl ?_
          refine z_aload_n (pc := 42) 0 dX0_within_42 rfl rfl ?_
          refine gf_X0_C_29_0 hG (pc := 43) dX0_within_43 ?_
          refine gf_X0_C_210_8 hG (pc := 46) dX0_within_46 ?_
          refine z_iload (pc := 49) dX0_within_49 rfl ?_
          refine z_chk (fun h10 => ?_)
          refine z_iaload (pc := 51) 9 32 (zGC_s9 hG) h10 dX0_within_51 ?_
          refine z_i2l (pc := 52) dX0_within_52 ?_
          refine z_lconst (pc := 53) (v := 0) dX0_within_53 (by decide) ?_
          refine z_iload_n (pc := 54) 2 dX0_within_54 rfl rfl ?_
          refine z_i2l (pc := 55) dX0_within_55 ?_
          refine z_callSi (pc := 56) _ _ (ct_X0_isIn  _ _ _) mv_X0_isIn q429 rfl (Nat.le_of_ble_eq_true rfl) (Nat.le_of_ble_eq_true rfl) rfl rfl (Nat.le_of_ble_eq_true rfl) dX0_within_56 (fun r12 S11 => ?_)
          refine z_pure (st0 := [.int x5]) 67 ((if r12 = 0 then 0 else 1)) ?_ (fun hJ => ?_)
          · refine z_iadd (pc := 67) dX0_within_67 ?_
            refine z_letI (fun w14 => ?_)
            refine z_istore_n (pc := 68) 3 dX0_within_68 rfl (Nat.le_of_ble_eq_true rfl) rfl ?_
            refine z_iinc (pc := 69) (w := x6 + 1) dX0_within_69 rfl (by rw [show Int32.ofInt 1 = 1 from by decide]) (Nat.le_of_ble_eq_true rfl) rfl ?_
            refine z_goto (pc := 72) 29 dX0_within_72 rfl ?_
            exact hrec4 _ _ _
          · refine z_ifd_eq (pc := 59) 66 dX0_within_59 rfl (fun c15 => ?_) (fun c15 => ?_)
            · refine z_iconst (pc := 66) (v := 0) dX0_within_66 (by decide) ?_
              exact z_leaf hJ (by simp only [if_pos c15])
            · refine z_iconst (pc := 62) (v := 1) dX0_within_62 (by decide) ?_
              refine z_goto (pc := 63) 67 dX0_within_63 rfl ?_
              exact z_leaf hJ (by simp only [if_neg c15])
    · refine z_bipush (pc := 13) (v := (-2)) dX0_within_13 (by decide) ?_
      exact z_iret rfl dX0_within_15 rfl
abbrev mX0_areTwo : zMr := ("HiddenCube", cX0_areTwo, 3, (some .boolean), 3, 0, 0, none)
def F_X0_areTwo (a1 : Int32) (a2 : Int32) (S : zSt) : Option (Int32 × zSt) :=
zbind (F_X0_isSquare ((a1).toInt64) S) (fun r2 S1 =>
if r2 = 0 then (some (0, S1)) else (zbind (F_X0_isSquare ((a2).toInt64) S1) (fun r4 S3 =>
if r4 = 0 then (some (0, S3)) else (if a1 = a2 then (some (0, S3)) else (some (1, S3))))))
theorem mv_X0_areTwo : ZV mX0_areTwo yX0_areTwo 2 := ⟨q845, qs25, q150, q846, rfl, by decide, by decide, by decide +kernel⟩
theorem ct_X0_areTwo {G : zGw} (hG : zGC G) (a1 : Int32) (a2 : Int32) : Zc mX0_areTwo yX0_areTwo zJI G [.ref (G.1 0), .int a1, .int a2] (F_X0_areTwo a1 a2) := by
  refine Zc_of [some (.ref (G.1 0)), some (.int a1), some (.int a2)] (by decide) rfl rfl (Nat.le_of_ble_eq_true rfl) rfl (fun X S res => ?_)
  unfold F_X0_areTwo
  refine z_aload_n (pc := 0) 0 dX0_areTwo_0 rfl rfl ?_
  refine z_iload_n (pc := 1) 1 dX0_areTwo_1 rfl rfl ?_
  refine z_i2l (pc := 2) dX0_areTwo_2 ?_
  refine z_callVi (pc := 3) _ _ 0 0 (ct_X0_isSquare hG _) mv_X0_isSquare q723 rfl (zGC_s0 hG) rfl (Nat.le_of_ble_eq_true rfl) (Nat.le_of_ble_eq_true rfl) rfl rfl (Nat.le_of_ble_eq_true rfl) dX0_areTwo_3 (fun r2 S1 => ?_)
  refine z_if_eq (pc := 6) 27 dX0_areTwo_6 rfl ?_ ?_
  · refine z_iconst (pc := 27) (v := 0) dX0_areTwo_27 (by decide) ?_
    exact z_zret0 rfl dX0_areTwo_28 rfl
  · refine z_aload_n (pc := 9) 0 dX0_areTwo_9 rfl rfl ?_
    refine z_iload_n (pc := 10) 2 dX0_areTwo_10 rfl rfl ?_
    refine z_i2l (pc := 11) dX0_areTwo_11 ?_
    refine z_callVi (pc := 12) _ _ 0 0 (ct_X0_isSquare hG _) mv_X0_isSquare q723 rfl (zGC_s0 hG) rfl (Nat.le_of_ble_eq_true rfl) (Nat.le_of_ble_eq_true rfl) rfl rfl (Nat.le_of_ble_eq_true rfl) dX0_areTwo_12 (fun r4 S3 => ?_)
    refine z_if_eq (pc := 15) 27 dX0_areTwo_15 rfl ?_ ?_
    · refine z_iconst (pc := 27) (v := 0) dX0_areTwo_27 (by decide) ?_
      exact z_zret0 rfl dX0_areTwo_28 rfl
    · refine z_iload_n (pc := 18) 1 dX0_areTwo_18 rfl rfl ?_
      refine z_iload_n (pc := 19) 2 dX0_areTwo_19 rfl rfl ?_
      refine z_icmp_eq (pc := 20) 27 dX0_areTwo_20 rfl ?_ ?_
      · refine z_iconst (pc := 27) (v := 0) dX0_areTwo_27 (by decide) ?_
        exact z_zret0 rfl dX0_areTwo_28 rfl
      · refine z_iconst (pc := 23) (v := 1) dX0_areTwo_23 (by decide) ?_
        refine z_goto (pc := 24) 28 dX0_areTwo_24 rfl ?_
        exact z_zret1 rfl dX0_areTwo_28 rfl
abbrev mX0_noWays : zMr := ("HiddenCube", cX0_noWays, 2, none, 1, 0, 0, none)
def LB_X0_noWays_1 (rec1 : Int32 → zSt → Option (Unit × zSt)) (x2 : Int32) (S3 : zSt) : Option (Unit × zSt) :=
if 32 ≤ x2 then (some ((), S3)) else (chk x2 32 (zlet (sI S3 14 (x2).toNatClampNeg 0 : zSt) (fun S5 : zSt =>
rec1 (x2 + 1) S5)))
def F_X0_noWays  (S : zSt) : Option (Unit × zSt) :=
loopK (fun _ _ => none) (LB_X0_noWays_1) zfuel 0 S
theorem mv_X0_noWays : ZV mX0_noWays yX0_noWays 0 := ⟨q853, qs27, q150, q854, rfl, by decide, by decide, by decide +kernel⟩
theorem ct_X0_noWays {G : zGw} (hG : zGC G)  : Zc mX0_noWays yX0_noWays zJV G [.ref (G.1 0)] (F_X0_noWays) := by
  refine Zc_of [some (.ref (G.1 0)), none] (by decide) rfl rfl (Nat.le_of_ble_eq_true rfl) rfl (fun X S res => ?_)
  unfold F_X0_noWays
  refine z_iconst (pc := 0) (v := 0) dX0_noWays_0 (by decide) ?_
  refine z_istore_n (pc := 1) 1 dX0_noWays_1 rfl (Nat.le_of_ble_eq_true rfl) rfl ?_
  refine z_loopK (fun j : Int32 → zSt → Option (Unit × zSt) => ∀ (x2 : Int32) (S3 : zSt), Zm X mX0_noWays zJV G (0, 0) res S3 2 [some (.ref (G.1 0)), some (.int x2)] [] (j x2 S3)) ?_ ?_ zfuel _ _
  · intro x2 S3; exact z_none
  · intro rec1 hrec1 x2 S3
    unfold LB_X0_noWays_1
    refine z_iload_n (pc := 2) 1 dX0_noWays_2 rfl rfl ?_
    refine z_bipush (pc := 3) (v := 32) dX0_noWays_3 (by decide) ?_
    refine z_icmp_ge (pc := 5) 21 dX0_noWays_5 rfl ?_ ?_
    · exact z_vret rfl dX0_noWays_21 rfl
    · refine z_aload_n (pc := 8) 0 dX0_noWays_8 rfl rfl ?_
      refine gf_X0_C_44_0 hG (pc := 9) dX0_noWays_9 ?_
      refine z_iload_n (pc := 12) 1 dX0_noWays_12 rfl rfl ?_
      refine z_iconst (pc := 13) (v := 0) dX0_noWays_13 (by decide) ?_
      refine z_chk (fun h4 => ?_)
      refine z_iastore (pc := 14) 14 32 (zGC_s14 hG) h4 dX0_noWays_14 ?_
      refine z_letS (fun S5 => ?_)
      refine z_iinc (pc := 15) (w := x2 + 1) dX0_noWays_15 rfl (by rw [show Int32.ofInt 1 = 1 from by decide]) (Nat.le_of_ble_eq_true rfl) rfl ?_
      refine z_goto (pc := 18) 2 dX0_noWays_18 rfl ?_
      exact hrec1 _ _
abbrev mX0_meets : zMr := ("HiddenCube", cX0_meets, 3, none, 1, 0, 0, none)
def F_X0_meets (a1 : Int32) (a2 : Int32) (S : zSt) : Option (Unit × zSt) :=
chk a1 64 (if (S.1 15 (a1).toNatClampNeg) = (-1) then (chk a1 64 (zlet (sI S 15 (a1).toNatClampNeg a2 : zSt) (fun S3 : zSt =>
chk (S3.1 0 11) 64 (zlet (sI S3 16 (S3.1 0 11).toNatClampNeg a1 : zSt) (fun S5 : zSt =>
zlet (sI S5 0 11 ((S5.1 0 11) + 1) : zSt) (fun S6 : zSt =>
some ((), S6))))))) else (some ((), S)))
theorem mv_X0_meets : ZV mX0_meets yX0_meets 2 := ⟨q881, qs34, q150, q882, rfl, by decide, by decide, by decide +kernel⟩
theorem ct_X0_meets {G : zGw} (hG : zGC G) (a1 : Int32) (a2 : Int32) : Zc mX0_meets yX0_meets zJV G [.ref (G.1 0), .int a1, .int a2] (F_X0_meets a1 a2) := by
  refine Zc_of [some (.ref (G.1 0)), some (.int a1), some (.int a2)] (by decide) rfl rfl (Nat.le_of_ble_eq_true rfl) rfl (fun X S res => ?_)
  unfold F_X0_meets
  refine z_aload_n (pc := 0) 0 dX0_meets_0 rfl rfl ?_
  refine gf_X0_C_47_0 hG (pc := 1) dX0_meets_1 ?_
  refine z_iload_n (pc := 4) 1 dX0_meets_4 rfl rfl ?_
  refine z_chk (fun h1 => ?_)
  refine z_iaload (pc := 5) 15 64 (zGC_s15 hG) h1 dX0_meets_5 ?_
  refine z_iconst (pc := 6) (v := (-1)) dX0_meets_6 (by decide) ?_
  refine z_icmp_eq (pc := 7) 11 dX0_meets_7 rfl ?_ ?_
  · refine z_aload_n (pc := 11) 0 dX0_meets_11 rfl rfl ?_
    refine gf_X0_C_47_0 hG (pc := 12) dX0_meets_12 ?_
    refine z_iload_n (pc := 15) 1 dX0_meets_15 rfl rfl ?_
    refine z_iload_n (pc := 16) 2 dX0_meets_16 rfl rfl ?_
    refine z_chk (fun h2 => ?_)
    refine z_iastore (pc := 17) 15 64 (zGC_s15 hG) h2 dX0_meets_17 ?_
    refine z_letS (fun S3 => ?_)
    refine z_aload_n (pc := 18) 0 dX0_meets_18 rfl rfl ?_
    refine gf_X0_C_50_0 hG (pc := 19) dX0_meets_19 ?_
    refine z_aload_n (pc := 22) 0 dX0_meets_22 rfl rfl ?_
    refine gf_X0_C_261_0 hG (pc := 23) dX0_meets_23 ?_
    refine z_iload_n (pc := 26) 1 dX0_meets_26 rfl rfl ?_
    refine z_chk (fun h4 => ?_)
    refine z_iastore (pc := 27) 16 64 (zGC_s16 hG) h4 dX0_meets_27 ?_
    refine z_letS (fun S5 => ?_)
    refine z_aload_n (pc := 28) 0 dX0_meets_28 rfl rfl ?_
    refine z_dup (pc := 29) dX0_meets_29 rfl ?_
    refine gf_X0_C_261_0 hG (pc := 30) dX0_meets_30 ?_
    refine z_iconst (pc := 33) (v := 1) dX0_meets_33 (by decide) ?_
    refine z_iadd (pc := 34) dX0_meets_34 ?_
    refine pf_X0_C_261_0 hG (pc := 35) dX0_meets_35 ?_
    refine z_letS (fun S6 => ?_)
    exact z_vret rfl dX0_meets_38 rfl
  · exact z_vret rfl dX0_meets_10 rfl
abbrev mX0_pushesBetween : zMr := ("HiddenCube", cX0_pushesBetween, 6, none, 3, 0, 0, none)
def F_X0_pushesBetween (a1 : Int32) (a2 : Int32) (S : zSt) : Option (Unit × zSt) :=
zlet (a1 - a1 / 32 * 32 : Int32) (fun w1 : Int32 =>
zlet (a2 - a2 / 32 * 32 : Int32) (fun w2 : Int32 =>
zbind (F_X0_nameOf w1 w2 S) (fun r4 S3 =>
if a1 < 32 then (chk w2 32 (chk w2 32 (zlet (sI S3 14 (w2).toNatClampNeg ((S3.1 14 (w2).toNatClampNeg) &&& (((1 : Int32) <<< (r4 &&& 31)) ^^^ (-1))) : zSt) (fun S7 : zSt =>
some ((), S7))))) else (chk w1 32 (chk w1 32 (zlet (sI S3 14 (w1).toNatClampNeg ((S3.1 14 (w1).toNatClampNeg) ||| ((1 : Int32) <<< (r4 &&& 31))) : zSt) (fun S10 : zSt =>
some ((), S10))))))))
theorem mv_X0_pushesBetween : ZV mX0_pushesBetween yX0_pushesBetween 2 := ⟨q889, qs36, q150, q890, rfl, by decide, by decide, by decide +kernel⟩
theorem ct_X0_pushesBetween {G : zGw} (hG : zGC G) (a1 : Int32) (a2 : Int32) : Zc mX0_pushesBetween yX0_pushesBetween zJV G [.ref (G.1 0), .int a1, .int a2] (F_X0_pushesBetween a1 a2) := by
  refine Zc_of [some (.ref (G.1 0)), some (.int a1), some (.int a2), none, none, none] (by decide) rfl rfl (Nat.le_of_ble_eq_true rfl) rfl (fun X S res => ?_)
  unfold F_X0_pushesBetween
  refine z_iload_n (pc := 0) 1 dX0_pushesBetween_0 rfl rfl ?_
  refine z_bipush (pc := 1) (v := 32) dX0_pushesBetween_1 (by decide) ?_
  refine z_iremc (pc := 3) dX0_pushesBetween_3 (by decide) ?_
  refine z_letI (fun w1 => ?_)
  refine z_istore_n (pc := 4) 3 dX0_pushesBetween_4 rfl (Nat.le_of_ble_eq_true rfl) rfl ?_
  refine z_iload_n (pc := 5) 2 dX0_pushesBetween_5 rfl rfl ?_
  refine z_bipush (pc := 6) (v := 32) dX0_pushesBetween_6 (by decide) ?_
  refine z_iremc (pc := 8) dX0_pushesBetween_8 (by decide) ?_
  refine z_letI (fun w2 => ?_)
  refine z_istore (pc := 9) dX0_pushesBetween_9 (Nat.le_of_ble_eq_true rfl) rfl ?_
  refine z_iload_n (pc := 11) 3 dX0_pushesBetween_11 rfl rfl ?_
  refine z_iload (pc := 12) dX0_pushesBetween_12 rfl ?_
  refine z_callSi (pc := 14) _ _ (ct_X0_nameOf  _ _) mv_X0_nameOf q812 rfl (Nat.le_of_ble_eq_true rfl) (Nat.le_of_ble_eq_true rfl) rfl rfl (Nat.le_of_ble_eq_true rfl) dX0_pushesBetween_14 (fun r4 S3 => ?_)
  refine z_istore (pc := 17) dX0_pushesBetween_17 (Nat.le_of_ble_eq_true rfl) rfl ?_
  refine z_iload_n (pc := 19) 1 dX0_pushesBetween_19 rfl rfl ?_
  refine z_bipush (pc := 20) (v := 32) dX0_pushesBetween_20 (by decide) ?_
  refine z_icmp_lt (pc := 22) 41 dX0_pushesBetween_22 rfl ?_ ?_
  · refine z_aload_n (pc := 41) 0 dX0_pushesBetween_41 rfl rfl ?_
    refine gf_X0_C_44_0 hG (pc := 42) dX0_pushesBetween_42 ?_
    refine z_iload (pc := 45) dX0_pushesBetween_45 rfl ?_
    refine z_dup2 (pc := 47) dX0_pushesBetween_47 rfl rfl ?_
    refine z_chk (fun h5 => ?_)
    refine z_iaload (pc := 48) 14 32 (zGC_s14 hG) h5 dX0_pushesBetween_48 ?_
    refine z_iconst (pc := 49) (v := 1) dX0_pushesBetween_49 (by decide) ?_
    refine z_iload (pc := 50) dX0_pushesBetween_50 rfl ?_
    refine z_ishl (pc := 52) dX0_pushesBetween_52 ?_
    refine z_iconst (pc := 53) (v := (-1)) dX0_pushesBetween_53 (by decide) ?_
    refine z_ixor (pc := 54) dX0_pushesBetween_54 ?_
    refine z_iand (pc := 55) dX0_pushesBetween_55 ?_
    refine z_chk (fun h6 => ?_)
    refine z_iastore (pc := 56) 14 32 (zGC_s14 hG) h6 dX0_pushesBetween_56 ?_
    refine z_letS (fun S7 => ?_)
    exact z_vret rfl dX0_pushesBetween_57 rfl
  · refine z_aload_n (pc := 25) 0 dX0_pushesBetween_25 rfl rfl ?_
    refine gf_X0_C_44_0 hG (pc := 26) dX0_pushesBetween_26 ?_
    refine z_iload_n (pc := 29) 3 dX0_pushesBetween_29 rfl rfl ?_
    refine z_dup2 (pc := 30) dX0_pushesBetween_30 rfl rfl ?_
    refine z_chk (fun h8 => ?_)
    refine z_iaload (pc := 31) 14 32 (zGC_s14 hG) h8 dX0_pushesBetween_31 ?_
    refine z_iconst (pc := 32) (v := 1) dX0_pushesBetween_32 (by decide) ?_
    refine z_iload (pc := 33) dX0_pushesBetween_33 rfl ?_
    refine z_ishl (pc := 35) dX0_pushesBetween_35 ?_
    refine z_ior (pc := 36) dX0_pushesBetween_36 ?_
    refine z_chk (fun h9 => ?_)
    refine z_iastore (pc := 37) 14 32 (zGC_s14 hG) h9 dX0_pushesBetween_37 ?_
    refine z_letS (fun S10 => ?_)
    refine z_goto (pc := 38) 57 dX0_pushesBetween_38 rfl ?_
    exact z_vret rfl dX0_pushesBetween_57 rfl
abbrev mX0_isThrough : zMr := ("HiddenCube", cX0_isThrough, 2, (some .boolean), 1, 0, 0, none)
def F_X0_isThrough (a1 : Int32) (S : zSt) : Option (Int32 × zSt) :=
chk a1 32 (if (S.1 14 (a1).toNatClampNeg) = 0 then (some (0, S)) else (some (1, S)))
theorem mv_X0_isThrough : ZV mX0_isThrough yX0_isThrough 1 := ⟨q885, qs35, q150, q886, rfl, by decide, by decide, by decide +kernel⟩
theorem ct_X0_isThrough {G : zGw} (hG : zGC G) (a1 : Int32) : Zc mX0_isThrough yX0_isThrough zJI G [.ref (G.1 0), .int a1] (F_X0_isThrough a1) := by
  refine Zc_of [some (.ref (G.1 0)), some (.int a1)] (by decide) rfl rfl (Nat.le_of_ble_eq_true rfl) rfl (fun X S res => ?_)
  unfold F_X0_isThrough
  refine z_aload_n (pc := 0) 0 dX0_isThrough_0 rfl rfl ?_
  refine gf_X0_C_44_0 hG (pc := 1) dX0_isThrough_1 ?_
  refine z_iload_n (pc := 4) 1 dX0_isThrough_4 rfl rfl ?_
  refine z_chk (fun h1 => ?_)
  refine z_iaload (pc := 5) 14 32 (zGC_s14 hG) h1 dX0_isThrough_5 ?_
  refine z_if_eq (pc := 6) 13 dX0_isThrough_6 rfl ?_ ?_
  · refine z_iconst (pc := 13) (v := 0) dX0_isThrough_13 (by decide) ?_
    exact z_zret0 rfl dX0_isThrough_14 rfl
  · refine z_iconst (pc := 9) (v := 1) dX0_isThrough_9 (by decide) ?_
    refine z_goto (pc := 10) 14 dX0_isThrough_10 rfl ?_
    exact z_zret1 rfl dX0_isThrough_14 rfl
abbrev mX0_flowsOut : zMr := ("HiddenCube", cX0_flowsOut, 3, (some .boolean), 2, 0, 0, none)
def F_X0_flowsOut (a1 : Int32) (a2 : Int32) (S : zSt) : Option (Int32 × zSt) :=
chk a1 32 (zbind (F_X0_has (S.1 14 (a1).toNatClampNeg) a2 S) (fun r3 S2 =>
some (r3 &&& 1, S2)))
theorem mv_X0_flowsOut : ZV mX0_flowsOut yX0_flowsOut 2 := ⟨q865, qs30, q150, q866, rfl, by decide, by decide, by decide +kernel⟩
theorem ct_X0_flowsOut {G : zGw} (hG : zGC G) (a1 : Int32) (a2 : Int32) : Zc mX0_flowsOut yX0_flowsOut zJI G [.ref (G.1 0), .int a1, .int a2] (F_X0_flowsOut a1 a2) := by
  refine Zc_of [some (.ref (G.1 0)), some (.int a1), some (.int a2)] (by decide) rfl rfl (Nat.le_of_ble_eq_true rfl) rfl (fun X S res => ?_)
  unfold F_X0_flowsOut
  refine z_aload_n (pc := 0) 0 dX0_flowsOut_0 rfl rfl ?_
  refine gf_X0_C_44_0 hG (pc := 1) dX0_flowsOut_1 ?_
  refine z_iload_n (pc := 4) 1 dX0_flowsOut_4 rfl rfl ?_
  refine z_chk (fun h1 => ?_)
  refine z_iaload (pc := 5) 14 32 (zGC_s14 hG) h1 dX0_flowsOut_5 ?_
  refine z_iload_n (pc := 6) 2 dX0_flowsOut_6 rfl rfl ?_
  refine z_callSi (pc := 7) _ _ (ct_X0_has  _ _) mv_X0_has q767 rfl (Nat.le_of_ble_eq_true rfl) (Nat.le_of_ble_eq_true rfl) rfl rfl (Nat.le_of_ble_eq_true rfl) dX0_flowsOut_7 (fun r3 S2 => ?_)
  exact z_zret rfl rfl dX0_flowsOut_10 rfl
abbrev mX0_addsWayBetween : zMr := ("HiddenCube", cX0_addsWayBetween, 9, (some .boolean), 4, 0, 0, none)
def LB_X0_addsWayBetween_1 (a1 : Int32) (rec8 : Int32 → zSt → Option (Int32 × zSt)) (x9 : Int32) (S10 : zSt) : Option (Int32 × zSt) :=
if x9 = (32 + a1) then (some (1, S10)) else (chk x9 64 (joinK (fun  (S13 : zSt) => chk x9 64 (zlet (S13.1 15 (x9).toNatClampNeg : Int32) (fun w15 : Int32 =>
rec8 w15 S13))) (fun j12 : zSt → Option (Int32 × zSt) =>
if ((S10.1 15 (x9).toNatClampNeg) - (S10.1 15 (x9).toNatClampNeg) / 32 * 32) = (x9 - x9 / 32 * 32) then (j12 S10) else (chk x9 64 (zbind (F_X0_pushesBetween (S10.1 15 (x9).toNatClampNeg) x9 S10) (fun _ S17 =>
j12 S17))))))
def LB_X0_addsWayBetween_2 (a1 : Int32) (w23 : Int32) (w24 : Int32) (w26 : Int32) (k27 : zSt → Option (Int32 × zSt)) (rec37 : Int32 → zSt → Option (Int32 × zSt)) (x38 : Int32) (S39 : zSt) : Option (Int32 × zSt) :=
if (S39.1 1 0) ≤ x38 then (k27 S39) else (zlet (w24 ^^^ ((1 : Int32) <<< (x38 &&& 31)) : Int32) (fun w40 : Int32 =>
zbind (F_X1_isOpen 1 w24 x38 S39) (fun r42 S41 =>
if r42 = 0 then (rec37 (x38 + 1) S41) else (joinK (fun  (S44 : zSt) => if w26 = 0 then (zbind (F_X0_flowsOut w40 x38 S44) (fun r46 S45 =>
if r46 = 0 then (rec37 (x38 + 1) S45) else (zbind (F_X0_meets (32 + w40) w23 S45) (fun _ S47 =>
rec37 (x38 + 1) S47)))) else (rec37 (x38 + 1) S44)) (fun j43 : zSt → Option (Int32 × zSt) =>
if w26 = 0 then (j43 S41) else (zbind (F_X0_flowsOut w24 x38 S41) (fun r49 S48 =>
if r49 = 0 then (if w40 = a1 then (j43 S48) else (zbind (F_X0_meets w40 w23 S48) (fun _ S50 =>
j43 S50))) else (j43 S48))))))))
def LB_X0_addsWayBetween_3 (a1 : Int32) (a2 : Int32) (k5 : zSt → Option (Int32 × zSt)) (rec18 : Int32 → zSt → Option (Int32 × zSt)) (x19 : Int32) (S20 : zSt) : Option (Int32 × zSt) :=
if (S20.1 0 11) ≤ x19 then (k5 S20) else (chk a2 64 (if (S20.1 15 (a2).toNatClampNeg) = (-1) then (chk x19 64 (zlet (S20.1 16 (x19).toNatClampNeg : Int32) (fun w23 : Int32 =>
zlet (w23 - w23 / 32 * 32 : Int32) (fun w24 : Int32 =>
zlet ((if w23 < 32 then 0 else 1) : Int32) (fun w26 : Int32 =>
joinK (fun  (S28 : zSt) => if w24 = a1 then (rec18 (x19 + 1) S28) else (if w24 = a2 then (rec18 (x19 + 1) S28) else (joinK (fun  (S30 : zSt) => if w26 = 0 then (rec18 (x19 + 1) S30) else (zbind (F_X0_isThrough w24 S30) (fun r32 S31 =>
if r32 = 0 then (rec18 (x19 + 1) S31) else (zbind (F_X0_meets w24 w23 S31) (fun _ S33 =>
rec18 (x19 + 1) S33))))) (fun j29 : zSt → Option (Int32 × zSt) =>
if w26 = 0 then (zbind (F_X0_isThrough w24 S28) (fun r35 S34 =>
if r35 = 0 then (zbind (F_X0_meets (32 + w24) w23 S34) (fun _ S36 =>
j29 S36)) else (j29 S34))) else (j29 S28))))) (fun k27 : zSt → Option (Int32 × zSt) =>
loopK (fun _ _ => none) (LB_X0_addsWayBetween_2 a1 w23 w24 w26 k27) zfuel 0 S20)))))) else (k5 S20)))
def LB_X0_addsWayBetween_4 (k1 : zSt → Option (Int32 × zSt)) (rec52 : Int32 → zSt → Option (Int32 × zSt)) (x53 : Int32) (S54 : zSt) : Option (Int32 × zSt) :=
if 64 ≤ x53 then (k1 S54) else (chk x53 64 (zlet (sI S54 15 (x53).toNatClampNeg (-1) : zSt) (fun S56 : zSt =>
rec52 (x53 + 1) S56)))
def F_X0_addsWayBetween (a1 : Int32) (a2 : Int32) (S : zSt) : Option (Int32 × zSt) :=
joinK (fun  (S2 : zSt) => zlet (sI S2 0 11 0 : zSt) (fun S3 : zSt =>
zbind (F_X0_meets (32 + a1) (32 + a1) S3) (fun _ S4 =>
joinK (fun  (S6 : zSt) => chk a2 64 (if (S6.1 15 (a2).toNatClampNeg) = (-1) then (some (0, S6)) else (loopK (fun _ _ => none) (LB_X0_addsWayBetween_1 a1) zfuel a2 S6))) (fun k5 : zSt → Option (Int32 × zSt) =>
loopK (fun _ _ => none) (LB_X0_addsWayBetween_3 a1 a2 k5) zfuel 0 S4)))) (fun k1 : zSt → Option (Int32 × zSt) =>
loopK (fun _ _ => none) (LB_X0_addsWayBetween_4 k1) zfuel 0 S)
theorem mv_X0_addsWayBetween : ZV mX0_addsWayBetween yX0_addsWayBetween 2 := ⟨q877, qs33, q150, q878, rfl, by decide, by decide, by decide +kernel⟩
theorem ct_X0_addsWayBetween {G : zGw} (hG : zGC G) (a1 : Int32) (a2 : Int32) : Zc mX0_addsWayBetween yX0_addsWayBetween zJI G [.ref (G.1 0), .int a1, .int a2] (F_X0_addsWayBetween a1 a2) := by
  refine Zc_of [some (.ref (G.1 0)), some (.int a1), some (.int a2), none, none, none, none, none, none] (by decide) rfl rfl (Nat.le_of_ble_eq_true rfl) rfl (fun X S res => ?_)
  unfold F_X0_addsWayBetween
  refine z_iconst (pc := 0) (v := 0) dX0_addsWayBetween_0 (by decide) ?_
  refine z_istore_n (pc := 1) 3 dX0_addsWayBetween_1 rfl (Nat.le_of_ble_eq_true rfl) rfl ?_
  refine z_join (fun j : zSt → Option (Int32 × zSt) => ∀  (S2 : zSt), Zm X mX0_addsWayBetween zJI G (0, 0) res S2 21 [some (.ref (G.1 0)), some (.int a1), some (.int a2), none, none, none, none, none, none] [] (j S2)) ?_ (fun k1 hk1 => ?_)
  · intro S2
    refine z_aload_n (pc := 21) 0 dX0_addsWayBetween_21 rfl rfl ?_
    refine z_iconst (pc := 22) (v := 0) dX0_addsWayBetween_22 (by decide) ?_
    refine pf_X0_C_261_0 hG (pc := 23) dX0_addsWayBetween_23 ?_
    refine z_letS (fun S3 => ?_)
    refine z_aload_n (pc := 26) 0 dX0_addsWayBetween_26 rfl rfl ?_
    refine z_bipush (pc := 27) (v := 32) dX0_addsWayBetween_27 (by decide) ?_
    refine z_iload_n (pc := 29) 1 dX0_addsWayBetween_29 rfl rfl ?_
    refine z_iadd (pc := 30) dX0_addsWayBetween_30 ?_
    refine z_bipush (pc := 31) (v := 32) dX0_addsWayBetween_31 (by decide) ?_
    refine z_iload_n (pc := 33) 1 dX0_addsWayBetween_33 rfl rfl ?_
    refine z_iadd (pc := 34) dX0_addsWayBetween_34 ?_
    refine z_callVv (pc := 35) _ _ 0 0 (ct_X0_meets hG _ _) mv_X0_meets q879 rfl (zGC_s0 hG) rfl (Nat.le_of_ble_eq_true rfl) (Nat.le_of_ble_eq_true rfl) rfl rfl (Nat.le_of_ble_eq_true rfl) dX0_addsWayBetween_35 (fun _ S4 => ?_)
    refine z_iconst (pc := 38) (v := 0) dX0_addsWayBetween_38 (by decide) ?_
    refine z_istore_n (pc := 39) 3 dX0_addsWayBetween_39 rfl (Nat.le_of_ble_eq_true rfl) rfl ?_
    refine z_join (fun j : zSt → Option (Int32 × zSt) => ∀  (S6 : zSt), Zm X mX0_addsWayBetween zJI G (0, 0) res S6 259 [some (.ref (G.1 0)), some (.int a1), some (.int a2), none, none, none, none, none, none] [] (j S6)) ?_ (fun k5 hk5 => ?_)
    · intro S6
      refine z_aload_n (pc := 259) 0 dX0_addsWayBetween_259 rfl rfl ?_
      refine gf_X0_C_47_0 hG (pc := 260) dX0_addsWayBetween_260 ?_
      refine z_iload_n (pc := 263) 2 dX0_addsWayBetween_263 rfl rfl ?_
      refine z_chk (fun h7 => ?_)
      refine z_iaload (pc := 264) 15 64 (zGC_s15 hG) h7 dX0_addsWayBetween_264 ?_
      refine z_iconst (pc := 265) (v := (-1)) dX0_addsWayBetween_265 (by decide) ?_
      refine z_icmp_ne (pc := 266) 271 dX0_addsWayBetween_266 rfl ?_ ?_
      · refine z_iload_n (pc := 271) 2 dX0_addsWayBetween_271 rfl rfl ?_
        refine z_istore_n (pc := 272) 3 dX0_addsWayBetween_272 rfl (Nat.le_of_ble_eq_true rfl) rfl ?_
        refine z_maskk [true, true, false, true, false, false, false, false, false] ?_
        refine z_loopK (fun j : Int32 → zSt → Option (Int32 × zSt) => ∀ (x9 : Int32) (S10 : zSt), Zm X mX0_addsWayBetween zJI G (0, 0) res S10 273 [some (.ref (G.1 0)), some (.int a1), none, some (.int x9), none, none, none, none, none] [] (j x9 S10)) ?_ ?_ zfuel _ _
        · intro x9 S10; exact z_none
        · intro rec8 hrec8 x9 S10
          unfold LB_X0_addsWayBetween_1
          refine z_iload_n (pc := 273) 3 dX0_addsWayBetween_273 rfl rfl ?_
          refine z_bipush (pc := 274) (v := 32) dX0_addsWayBetween_274 (by decide) ?_
          refine z_iload_n (pc := 276) 1 dX0_addsWayBetween_276 rfl rfl ?_
          refine z_iadd (pc := 277) dX0_addsWayBetween_277 ?_
          refine z_icmp_eq (pc := 278) 318 dX0_addsWayBetween_278 rfl ?_ ?_
          · refine z_iconst (pc := 318) (v := 1) dX0_addsWayBetween_318 (by decide) ?_
            exact z_zret1 rfl dX0_addsWayBetween_319 rfl
          · refine z_aload_n (pc := 281) 0 dX0_addsWayBetween_281 rfl rfl ?_
            refine gf_X0_C_47_0 hG (pc := 282) dX0_addsWayBetween_282 ?_
            refine z_iload_n (pc := 285) 3 dX0_addsWayBetween_285 rfl rfl ?_
            refine z_chk (fun h11 => ?_)
            refine z_iaload (pc := 286) 15 64 (zGC_s15 hG) h11 dX0_addsWayBetween_286 ?_
            refine z_bipush (pc := 287) (v := 32) dX0_addsWayBetween_287 (by decide) ?_
            refine z_iremc (pc := 289) dX0_addsWayBetween_289 (by decide) ?_
            refine z_iload_n (pc := 290) 3 dX0_addsWayBetween_290 rfl rfl ?_
            refine z_bipush (pc := 291) (v := 32) dX0_addsWayBetween_291 (by decide) ?_
            refine z_iremc (pc := 293) dX0_addsWayBetween_293 (by decide) ?_
            refine z_join (fun j : zSt → Option (Int32 × zSt) => ∀  (S13 : zSt), Zm X mX0_addsWayBetween zJI G (0, 0) res S13 308 [some (.ref (G.1 0)), some (.int a1), none, some (.int x9), none, none, none, none, none] [] (j S13)) ?_ (fun j12 hj12 => ?_)
            · intro S13
              refine z_aload_n (pc := 308) 0 dX0_addsWayBetween_308 rfl rfl ?_
              refine gf_X0_C_47_0 hG (pc := 309) dX0_addsWayBetween_309 ?_
              refine z_iload_n (pc := 312) 3 dX0_addsWayBetween_312 rfl rfl ?_
              refine z_chk (fun h14 => ?_)
              refine z_iaload (pc := 313) 15 64 (zGC_s15 hG) h14 dX0_addsWayBetween_313 ?_
              refine z_letI (fun w15 => ?_)
              refine z_istore_n (pc := 314) 3 dX0_addsWayBetween_314 rfl (Nat.le_of_ble_eq_true rfl) rfl ?_
              refine z_goto (pc := 315) 273 dX0_addsWayBetween_315 rfl ?_
              exact hrec8 _ _
            · refine z_icmp_eq (pc := 294) 308 dX0_addsWayBetween_294 rfl ?_ ?_
              · exact hj12 _
              · refine z_aload_n (pc := 297) 0 dX0_addsWayBetween_297 rfl rfl ?_
                refine z_aload_n (pc := 298) 0 dX0_addsWayBetween_298 rfl rfl ?_
                refine gf_X0_C_47_0 hG (pc := 299) dX0_addsWayBetween_299 ?_
                refine z_iload_n (pc := 302) 3 dX0_addsWayBetween_302 rfl rfl ?_
                refine z_chk (fun h16 => ?_)
                refine z_iaload (pc := 303) 15 64 (zGC_s15 hG) h16 dX0_addsWayBetween_303 ?_
                refine z_iload_n (pc := 304) 3 dX0_addsWayBetween_304 rfl rfl ?_
                refine z_callVv (pc := 305) _ _ 0 0 (ct_X0_pushesBetween hG _ _) mv_X0_pushesBetween q887 rfl (zGC_s0 hG) rfl (Nat.le_of_ble_eq_true rfl) (Nat.le_of_ble_eq_true rfl) rfl rfl (Nat.le_of_ble_eq_true rfl) dX0_addsWayBetween_305 (fun _ S17 => ?_)
                exact hj12 _
      · refine z_iconst (pc := 269) (v := 0) dX0_addsWayBetween_269 (by decide) ?_
        exact z_zret0 rfl dX0_addsWayBetween_270 rfl
    · refine z_loopK (fun j : Int32 → zSt → Option (Int32 × zSt) => ∀ (x19 : Int32) (S20 : zSt), Zm X mX0_addsWayBetween zJI G (0, 0) res S20 40 [some (.ref (G.1 0)), some (.int a1), some (.int a2), some (.int x19), none, none, none, none, none] [] (j x19 S20)) ?_ ?_ zfuel _ _
      · intro x19 S20; exact z_none
      · intro rec18 hrec18 x19 S20
        unfold LB_X0_addsWayBetween_3
        refine z_iload_n (pc := 40) 3 dX0_addsWayBetween_40 rfl rfl ?_
        refine z_aload_n (pc := 41) 0 dX0_addsWayBetween_41 rfl rfl ?_
        refine gf_X0_C_261_0 hG (pc := 42) dX0_addsWayBetween_42 ?_
        refine z_icmp_ge (pc := 45) 259 dX0_addsWayBetween_45 rfl ?_ ?_
        · exact z_mask [true, true, true, false, false, false, false, false, false] (hk5 _) rfl
        · refine z_aload_n (pc := 48) 0 dX0_addsWayBetween_48 rfl rfl ?_
          refine gf_X0_C_47_0 hG (pc := 49) dX0_addsWayBetween_49 ?_
          refine z_iload_n (pc := 52) 2 dX0_addsWayBetween_52 rfl rfl ?_
          refine z_chk (fun h21 => ?_)
          refine z_iaload (pc := 53) 15 64 (zGC_s15 hG) h21 dX0_addsWayBetween_53 ?_
          refine z_iconst (pc := 54) (v := (-1)) dX0_addsWayBetween_54 (by decide) ?_
          refine z_icmp_ne (pc := 55) 259 dX0_addsWayBetween_55 rfl ?_ ?_
          · exact z_mask [true, true, true, false, false, false, false, false, false] (hk5 _) rfl
          · refine z_aload_n (pc := 58) 0 dX0_addsWayBetween_58 rfl rfl ?_
            refine gf_X0_C_50_0 hG (pc := 59) dX0_addsWayBetween_59 ?_
            refine z_iload_n (pc := 62) 3 dX0_addsWayBetween_62 rfl rfl ?_
            refine z_chk (fun h22 => ?_)
            refine z_iaload (pc := 63) 16 64 (zGC_s16 hG) h22 dX0_addsWayBetween_63 ?_
            refine z_letI (fun w23 => ?_)
            refine z_istore (pc := 64) dX0_addsWayBetween_64 (Nat.le_of_ble_eq_true rfl) rfl ?_
            refine z_iload (pc := 66) dX0_addsWayBetween_66 rfl ?_
            refine z_bipush (pc := 68) (v := 32) dX0_addsWayBetween_68 (by decide) ?_
            refine z_iremc (pc := 70) dX0_addsWayBetween_70 (by decide) ?_
            refine z_letI (fun w24 => ?_)
            refine z_istore (pc := 71) dX0_addsWayBetween_71 (Nat.le_of_ble_eq_true rfl) rfl ?_
            refine z_iload (pc := 73) dX0_addsWayBetween_73 rfl ?_
            refine z_bipush (pc := 75) (v := 32) dX0_addsWayBetween_75 (by decide) ?_
            refine z_pure (st0 := []) 85 ((if w23 < 32 then 0 else 1)) ?_ (fun hJ => ?_)
            · refine z_letI (fun w26 => ?_)
              refine z_istore (pc := 85) dX0_addsWayBetween_85 (Nat.le_of_ble_eq_true rfl) rfl ?_
              refine z_iconst (pc := 87) (v := 0) dX0_addsWayBetween_87 (by decide) ?_
              refine z_istore (pc := 88) dX0_addsWayBetween_88 (Nat.le_of_ble_eq_true rfl) rfl ?_
              refine z_join (fun j : zSt → Option (Int32 × zSt) => ∀  (S28 : zSt), Zm X mX0_addsWayBetween zJI G (0, 0) res S28 191 [some (.ref (G.1 0)), some (.int a1), some (.int a2), some (.int x19), some (.int w23), some (.int w24), some (.int w26), none, none] [] (j S28)) ?_ (fun k27 hk27 => ?_)
              · intro S28
                refine z_iload (pc := 191) dX0_addsWayBetween_191 rfl ?_
                refine z_iload_n (pc := 193) 1 dX0_addsWayBetween_193 rfl rfl ?_
                refine z_icmp_eq (pc := 194) 253 dX0_addsWayBetween_194 rfl ?_ ?_
                · refine z_iinc (pc := 253) (w := x19 + 1) dX0_addsWayBetween_253 rfl (by rw [show Int32.ofInt 1 = 1 from by decide]) (Nat.le_of_ble_eq_true rfl) rfl ?_
                  refine z_goto (pc := 256) 40 dX0_addsWayBetween_256 rfl ?_
                  exact z_mask [true, true, true, true, false, false, false, false, false] (hrec18 _ _) rfl
                · refine z_iload (pc := 197) dX0_addsWayBetween_197 rfl ?_
                  refine z_iload_n (pc := 199) 2 dX0_addsWayBetween_199 rfl rfl ?_
                  refine z_icmp_ne (pc := 200) 206 dX0_addsWayBetween_200 rfl ?_ ?_
                  · refine z_iload (pc := 206) dX0_addsWayBetween_206 rfl ?_
                    refine z_join (fun j : zSt → Option (Int32 × zSt) => ∀  (S30 : zSt), Zm X mX0_addsWayBetween zJI G (0, 0) res S30 231 [some (.ref (G.1 0)), some (.int a1), some (.int a2), some (.int x19), some (.int w23), some (.int w24), some (.int w26), none, none] [] (j S30)) ?_ (fun j29 hj29 => ?_)
                    · intro S30
                      refine z_iload (pc := 231) dX0_addsWayBetween_231 rfl ?_
                      refine z_if_eq (pc := 233) 253 dX0_addsWayBetween_233 rfl ?_ ?_
                      · refine z_iinc (pc := 253) (w := x19 + 1) dX0_addsWayBetween_253 rfl (by rw [show Int32.ofInt 1 = 1 from by decide]) (Nat.le_of_ble_eq_true rfl) rfl ?_
                        refine z_goto (pc := 256) 40 dX0_addsWayBetween_256 rfl ?_
                        exact z_mask [true, true, true, true, false, false, false, false, false] (hrec18 _ _) rfl
                      · refine z_aload_n (pc := 236) 0 dX0_addsWayBetween_236 rfl rfl ?_
                        refine z_iload (pc := 237) dX0_addsWayBetween_237 rfl ?_
                        refine z_callVi (pc := 239) _ _ 0 0 (ct_X0_isThrough hG _) mv_X0_isThrough q883 rfl (zGC_s0 hG) rfl (Nat.le_of_ble_eq_true rfl) (Nat.le_of_ble_eq_true rfl) rfl rfl (Nat.le_of_ble_eq_true rfl) dX0_addsWayBetween_239 (fun r32 S31 => ?_)
                        refine z_if_eq (pc := 242) 253 dX0_addsWayBetween_242 rfl ?_ ?_
                        · refine z_iinc (pc := 253) (w := x19 + 1) dX0_addsWayBetween_253 rfl (by rw [show Int32.ofInt 1 = 1 from by decide]) (Nat.le_of_ble_eq_true rfl) rfl ?_
                          refine z_goto (pc := 256) 40 dX0_addsWayBetween_256 rfl ?_
                          exact z_mask [true, true, true, true, false, false, false, false, false] (hrec18 _ _) rfl
                        · refine z_aload_n (pc := 245) 0 dX0_addsWayBetween_245 rfl rfl ?_
                          refine z_iload (pc := 246) dX0_addsWayBetween_246 rfl ?_
                          refine z_iload (pc := 248) dX0_addsWayBetween_248 rfl ?_
                          refine z_callVv (pc := 250) _ _ 0 0 (ct_X0_meets hG _ _) mv_X0_meets q879 rfl (zGC_s0 hG) rfl (Nat.le_of_ble_eq_true rfl) (Nat.le_of_ble_eq_true rfl) rfl rfl (Nat.le_of_ble_eq_true rfl) dX0_addsWayBetween_250 (fun _ S33 => ?_)
                          refine z_iinc (pc := 253) (w := x19 + 1) dX0_addsWayBetween_253 rfl (by rw [show Int32.ofInt 1 = 1 from by decide]) (Nat.le_of_ble_eq_true rfl) rfl ?_
                          refine z_goto (pc := 256) 40 dX0_addsWayBetween_256 rfl ?_
                          exact z_mask [true, true, true, true, false, false, false, false, false] (hrec18 _ _) rfl
                    · refine z_if_ne (pc := 208) 231 dX0_addsWayBetween_208 rfl ?_ ?_
                      · exact hj29 _
                      · refine z_aload_n (pc := 211) 0 dX0_addsWayBetween_211 rfl rfl ?_
                        refine z_iload (pc := 212) dX0_addsWayBetween_212 rfl ?_
                        refine z_callVi (pc := 214) _ _ 0 0 (ct_X0_isThrough hG _) mv_X0_isThrough q883 rfl (zGC_s0 hG) rfl (Nat.le_of_ble_eq_true rfl) (Nat.le_of_ble_eq_true rfl) rfl rfl (Nat.le_of_ble_eq_true rfl) dX0_addsWayBetween_214 (fun r35 S34 => ?_)
                        refine z_if_ne (pc := 217) 231 dX0_addsWayBetween_217 rfl ?_ ?_
                        · exact hj29 _
                        · refine z_aload_n (pc := 220) 0 dX0_addsWayBetween_220 rfl rfl ?_
                          refine z_bipush (pc := 221) (v := 32) dX0_addsWayBetween_221 (by decide) ?_
                          refine z_iload (pc := 223) dX0_addsWayBetween_223 rfl ?_
                          refine z_iadd (pc := 225) dX0_addsWayBetween_225 ?_
                          refine z_iload (pc := 226) dX0_addsWayBetween_226 rfl ?_
                          refine z_callVv (pc := 228) _ _ 0 0 (ct_X0_meets hG _ _) mv_X0_meets q879 rfl (zGC_s0 hG) rfl (Nat.le_of_ble_eq_true rfl) (Nat.le_of_ble_eq_true rfl) rfl rfl (Nat.le_of_ble_eq_true rfl) dX0_addsWayBetween_228 (fun _ S36 => ?_)
                          exact hj29 _
                  · refine z_goto (pc := 203) 253 dX0_addsWayBetween_203 rfl ?_
                    refine z_iinc (pc := 253) (w := x19 + 1) dX0_addsWayBetween_253 rfl (by rw [show Int32.ofInt 1 = 1 from by decide]) (Nat.le_of_ble_eq_true rfl) rfl ?_
                    refine z_goto (pc := 256) 40 dX0_addsWayBetween_256 rfl ?_
                    exact z_mask [true, true, true, true, false, false, false, false, false] (hrec18 _ _) rfl
              · refine z_loopK (fun j : Int32 → zSt → Option (Int32 × zSt) => ∀ (x38 : Int32) (S39 : zSt), Zm X mX0_addsWayBetween zJI G (0, 0) res S39 90 [some (.ref (G.1 0)), some (.int a1), some (.int a2), some (.int x19), some (.int w23), some (.int w24), some (.int w26), some (.int x38), none] [] (j x38 S39)) ?_ ?_ zfuel _ _
                · intro x38 S39; exact z_none
                · intro rec37 hrec37 x38 S39
                  unfold LB_X0_addsWayBetween_2
                  refine z_iload (pc := 90) dX0_addsWayBetween_90 rfl ?_
                  refine z_aload_n (pc := 92) 0 dX0_addsWayBetween_92 rfl rfl ?_
                  refine gf_X0_C_10_0 hG (pc := 93) dX0_addsWayBetween_93 ?_
                  refine gf_X0_C_158_1 hG (pc := 96) dX0_addsWayBetween_96 ?_
                  refine z_icmp_ge (pc := 99) 191 dX0_addsWayBetween_99 rfl ?_ ?_
                  · exact z_mask [true, true, true, true, true, true, true, false, false] (hk27 _) rfl
                  · refine z_iload (pc := 102) dX0_addsWayBetween_102 rfl ?_
                    refine z_iconst (pc := 104) (v := 1) dX0_addsWayBetween_104 (by decide) ?_
                    refine z_iload (pc := 105) dX0_addsWayBetween_105 rfl ?_
                    refine z_ishl (pc := 107) dX0_addsWayBetween_107 ?_
                    refine z_ixor (pc := 108) dX0_addsWayBetween_108 ?_
                    refine z_letI (fun w40 => ?_)
                    refine z_istore (pc := 109) dX0_addsWayBetween_109 (Nat.le_of_ble_eq_true rfl) rfl ?_
                    refine z_aload_n (pc := 111) 0 dX0_addsWayBetween_111 rfl rfl ?_
                    refine gf_X0_C_10_0 hG (pc := 112) dX0_addsWayBetween_112 ?_
                    refine z_iload (pc := 115) dX0_addsWayBetween_115 rfl ?_
                    refine z_iload (pc := 117) dX0_addsWayBetween_117 rfl ?_
                    refine z_callVi (pc := 119) _ _ 1 1 (ct_X1_isOpen (zGC_T hG) _ _) mv_X1_isOpen q728 rfl (zGC_s1 hG) rfl (Nat.le_of_ble_eq_true rfl) (Nat.le_of_ble_eq_true rfl) rfl rfl (Nat.le_of_ble_eq_true rfl) dX0_addsWayBetween_119 (fun r42 S41 => ?_)
                    refine z_if_ne (pc := 122) 128 dX0_addsWayBetween_122 rfl ?_ ?_
                    · refine z_iload (pc := 128) dX0_addsWayBetween_128 rfl ?_
                      refine z_join (fun j : zSt → Option (Int32 × zSt) => ∀  (S44 : zSt), Zm X mX0_addsWayBetween zJI G (0, 0) res S44 158 [some (.ref (G.1 0)), some (.int a1), some (.int a2), some (.int x19), some (.int w23), some (.int w24), some (.int w26), some (.int x38), some (.int w40)] [] (j S44)) ?_ (fun j43 hj43 => ?_)
                      · intro S44
                        refine z_iload (pc := 158) dX0_addsWayBetween_158 rfl ?_
                        refine z_if_ne (pc := 160) 185 dX0_addsWayBetween_160 rfl ?_ ?_
                        · refine z_iinc (pc := 185) (w := x38 + 1) dX0_addsWayBetween_185 rfl (by rw [show Int32.ofInt 1 = 1 from by decide]) (Nat.le_of_ble_eq_true rfl) rfl ?_
                          refine z_goto (pc := 188) 90 dX0_addsWayBetween_188 rfl ?_
                          exact z_mask [true, true, true, true, true, true, true, true, false] (hrec37 _ _) rfl
                        · refine z_aload_n (pc := 163) 0 dX0_addsWayBetween_163 rfl rfl ?_
                          refine z_iload (pc := 164) dX0_addsWayBetween_164 rfl ?_
                          refine z_iload (pc := 166) dX0_addsWayBetween_166 rfl ?_
                          refine z_callVi (pc := 168) _ _ 0 0 (ct_X0_flowsOut hG _ _) mv_X0_flowsOut q863 rfl (zGC_s0 hG) rfl (Nat.le_of_ble_eq_true rfl) (Nat.le_of_ble_eq_true rfl) rfl rfl (Nat.le_of_ble_eq_true rfl) dX0_addsWayBetween_168 (fun r46 S45 => ?_)
                          refine z_if_eq (pc := 171) 185 dX0_addsWayBetween_171 rfl ?_ ?_
                          · refine z_iinc (pc := 185) (w := x38 + 1) dX0_addsWayBetween_185 rfl (by rw [show Int32.ofInt 1 = 1 from by decide]) (Nat.le_of_ble_eq_true rfl) rfl ?_
                            refine z_goto (pc := 188) 90 dX0_addsWayBetween_188 rfl ?_
                            exact z_mask [true, true, true, true, true, true, true, true, false] (hrec37 _ _) rfl
                          · refine z_aload_n (pc := 174) 0 dX0_addsWayBetween_174 rfl rfl ?_
                            refine z_bipush (pc := 175) (v := 32) dX0_addsWayBetween_175 (by decide) ?_
                            refine z_iload (pc := 177) dX0_addsWayBetween_177 rfl ?_
                            refine z_iadd (pc := 179) dX0_addsWayBetween_179 ?_
                            refine z_iload (pc := 180) dX0_addsWayBetween_180 rfl ?_
                            refine z_callVv (pc := 182) _ _ 0 0 (ct_X0_meets hG _ _) mv_X0_meets q879 rfl (zGC_s0 hG) rfl (Nat.le_of_ble_eq_true rfl) (Nat.le_of_ble_eq_true rfl) rfl rfl (Nat.le_of_ble_eq_true rfl) dX0_addsWayBetween_182 (fun _ S47 => ?_)
                            refine z_iinc (pc := 185) (w := x38 + 1) dX0_addsWayBetween_185 rfl (by rw [show Int32.ofInt 1 = 1 from by decide]) (Nat.le_of_ble_eq_true rfl) rfl ?_
                            refine z_goto (pc := 188) 90 dX0_addsWayBetween_188 rfl ?_
                            exact z_mask [true, true, true, true, true, true, true, true, false] (hrec37 _ _) rfl
                      · refine z_if_eq (pc := 130) 158 dX0_addsWayBetween_130 rfl ?_ ?_
                        · exact hj43 _
                        · refine z_aload_n (pc := 133) 0 dX0_addsWayBetween_133 rfl rfl ?_
                          refine z_iload (pc := 134) dX0_addsWayBetween_134 rfl ?_
                          refine z_iload (pc := 136) dX0_addsWayBetween_136 rfl ?_
                          refine z_callVi (pc := 138) _ _ 0 0 (ct_X0_flowsOut hG _ _) mv_X0_flowsOut q863 rfl (zGC_s0 hG) rfl (Nat.le_of_ble_eq_true rfl) (Nat.le_of_ble_eq_true rfl) rfl rfl (Nat.le_of_ble_eq_true rfl) dX0_addsWayBetween_138 (fun r49 S48 => ?_)
                          refine z_if_ne (pc := 141) 158 dX0_addsWayBetween_141 rfl ?_ ?_
                          · exact hj43 _
                          · refine z_iload (pc := 144) dX0_addsWayBetween_144 rfl ?_
                            refine z_iload_n (pc := 146) 1 dX0_addsWayBetween_146 rfl rfl ?_
                            refine z_icmp_eq (pc := 147) 158 dX0_addsWayBetween_147 rfl ?_ ?_
                            · exact hj43 _
                            · refine z_aload_n (pc := 150) 0 dX0_addsWayBetween_150 rfl rfl ?_
                              refine z_iload (pc := 151) dX0_addsWayBetween_151 rfl ?_
                              refine z_iload (pc := 153) dX0_addsWayBetween_153 rfl ?_
                              refine z_callVv (pc := 155) _ _ 0 0 (ct_X0_meets hG _ _) mv_X0_meets q879 rfl (zGC_s0 hG) rfl (Nat.le_of_ble_eq_true rfl) (Nat.le_of_ble_eq_true rfl) rfl rfl (Nat.le_of_ble_eq_true rfl) dX0_addsWayBetween_155 (fun _ S50 => ?_)
                              exact hj43 _
                    · refine z_goto (pc := 125) 185 dX0_addsWayBetween_125 rfl ?_
                      refine z_iinc (pc := 185) (w := x38 + 1) dX0_addsWayBetween_185 rfl (by rw [show Int32.ofInt 1 = 1 from by decide]) (Nat.le_of_ble_eq_true rfl) rfl ?_
                      refine z_goto (pc := 188) 90 dX0_addsWayBetween_188 rfl ?_
                      exact z_mask [true, true, true, true, true, true, true, true, false] (hrec37 _ _) rfl
            · refine z_icmpd_lt (pc := 77) 84 dX0_addsWayBetween_77 rfl (fun c51 => ?_) (fun c51 => ?_)
              · refine z_iconst (pc := 84) (v := 0) dX0_addsWayBetween_84 (by decide) ?_
                exact z_leaf hJ (by simp only [if_pos c51])
              · refine z_iconst (pc := 80) (v := 1) dX0_addsWayBetween_80 (by decide) ?_
                refine z_goto (pc := 81) 85 dX0_addsWayBetween_81 rfl ?_
                exact z_leaf hJ (by simp only [if_neg c51])
  · refine z_loopK (fun j : Int32 → zSt → Option (Int32 × zSt) => ∀ (x53 : Int32) (S54 : zSt), Zm X mX0_addsWayBetween zJI G (0, 0) res S54 2 [some (.ref (G.1 0)), some (.int a1), some (.int a2), some (.int x53), none, none, none, none, none] [] (j x53 S54)) ?_ ?_ zfuel _ _
    · intro x53 S54; exact z_none
    · intro rec52 hrec52 x53 S54
      unfold LB_X0_addsWayBetween_4
      refine z_iload_n (pc := 2) 3 dX0_addsWayBetween_2 rfl rfl ?_
      refine z_bipush (pc := 3) (v := 64) dX0_addsWayBetween_3 (by decide) ?_
      refine z_icmp_ge (pc := 5) 21 dX0_addsWayBetween_5 rfl ?_ ?_
      · exact z_mask [true, true, true, false, false, false, false, false, false] (hk1 _) rfl
      · refine z_aload_n (pc := 8) 0 dX0_addsWayBetween_8 rfl rfl ?_
        refine gf_X0_C_47_0 hG (pc := 9) dX0_addsWayBetween_9 ?_
        refine z_iload_n (pc := 12) 3 dX0_addsWayBetween_12 rfl rfl ?_
        refine z_iconst (pc := 13) (v := (-1)) dX0_addsWayBetween_13 (by decide) ?_
        refine z_chk (fun h55 => ?_)
        refine z_iastore (pc := 14) 15 64 (zGC_s15 hG) h55 dX0_addsWayBetween_14 ?_
        refine z_letS (fun S56 => ?_)
        refine z_iinc (pc := 15) (w := x53 + 1) dX0_addsWayBetween_15 rfl (by rw [show Int32.ofInt 1 = 1 from by decide]) (Nat.le_of_ble_eq_true rfl) rfl ?_
        refine z_goto (pc := 18) 2 dX0_addsWayBetween_18 rfl ?_
        exact hrec52 _ _
abbrev mX0_waysBetween : zMr := ("HiddenCube", cX0_waysBetween, 4, (some .int), 5, 0, 0, none)
def LB_X0_waysBetween_1 (a1 : Int32) (a2 : Int32) (rec2 : Int32 → zSt → Option (Int32 × zSt)) (x3 : Int32) (S4 : zSt) : Option (Int32 × zSt) :=
zbind (F_X0_addsWayBetween a1 a2 S4) (fun r6 S5 =>
if r6 = 0 then (some (x3, S5)) else (rec2 (x3 + 1) S5))
def F_X0_waysBetween (a1 : Int32) (a2 : Int32) (S : zSt) : Option (Int32 × zSt) :=
zbind (F_X0_noWays S) (fun _ S1 =>
loopK (fun _ _ => none) (LB_X0_waysBetween_1 a1 a2) zfuel 0 S1)
theorem mv_X0_waysBetween : ZV mX0_waysBetween yX0_waysBetween 2 := ⟨q873, qs32, q150, q874, rfl, by decide, by decide, by decide +kernel⟩
theorem ct_X0_waysBetween {G : zGw} (hG : zGC G) (a1 : Int32) (a2 : Int32) : Zc mX0_waysBetween yX0_waysBetween zJI G [.ref (G.1 0), .int a1, .int a2] (F_X0_waysBetween a1 a2) := by
  refine Zc_of [some (.ref (G.1 0)), some (.int a1), some (.int a2), none] (by decide) rfl rfl (Nat.le_of_ble_eq_true rfl) rfl (fun X S res => ?_)
  unfold F_X0_waysBetween
  refine z_aload_n (pc := 0) 0 dX0_waysBetween_0 rfl rfl ?_
  refine z_callVv (pc := 1) _ _ 0 0 (ct_X0_noWays hG) mv_X0_noWays q851 rfl (zGC_s0 hG) rfl (Nat.le_of_ble_eq_true rfl) (Nat.le_of_ble_eq_true rfl) rfl rfl (Nat.le_of_ble_eq_true rfl) dX0_waysBetween_1 (fun _ S1 => ?_)
  refine z_iconst (pc := 4) (v := 0) dX0_waysBetween_4 (by decide) ?_
  refine z_istore_n (pc := 5) 3 dX0_waysBetween_5 rfl (Nat.le_of_ble_eq_true rfl) rfl ?_
  refine z_loopK (fun j : Int32 → zSt → Option (Int32 × zSt) => ∀ (x3 : Int32) (S4 : zSt), Zm X mX0_waysBetween zJI G (0, 0) res S4 6 [some (.ref (G.1 0)), some (.int a1), some (.int a2), some (.int x3)] [] (j x3 S4)) ?_ ?_ zfuel _ _
  · intro x3 S4; exact z_none
  · intro rec2 hrec2 x3 S4
    unfold LB_X0_waysBetween_1
    refine z_aload_n (pc := 6) 0 dX0_waysBetween_6 rfl rfl ?_
    refine z_iload_n (pc := 7) 1 dX0_waysBetween_7 rfl rfl ?_
    refine z_iload_n (pc := 8) 2 dX0_waysBetween_8 rfl rfl ?_
    refine z_callVi (pc := 9) _ _ 0 0 (ct_X0_addsWayBetween hG _ _) mv_X0_addsWayBetween q875 rfl (zGC_s0 hG) rfl (Nat.le_of_ble_eq_true rfl) (Nat.le_of_ble_eq_true rfl) rfl rfl (Nat.le_of_ble_eq_true rfl) dX0_waysBetween_9 (fun r6 S5 => ?_)
    refine z_if_eq (pc := 12) 21 dX0_waysBetween_12 rfl ?_ ?_
    · refine z_iload_n (pc := 21) 3 dX0_waysBetween_21 rfl rfl ?_
      exact z_iret rfl dX0_waysBetween_22 rfl
    · refine z_iinc (pc := 15) (w := x3 + 1) dX0_waysBetween_15 rfl (by rw [show Int32.ofInt 1 = 1 from by decide]) (Nat.le_of_ble_eq_true rfl) rfl ?_
      refine z_goto (pc := 18) 6 dX0_waysBetween_18 rfl ?_
      exact hrec2 _ _
abbrev mX0_pushes : zMr := ("HiddenCube", cX0_pushes, 4, none, 3, 0, 0, none)
def F_X0_pushes (a1 : Int32) (a2 : Int32) (S : zSt) : Option (Unit × zSt) :=
zlet (a1 ^^^ ((1 : Int32) <<< (a2 &&& 31)) : Int32) (fun w1 : Int32 =>
zbind (F_X0_flowsOut w1 a2 S) (fun r3 S2 =>
if r3 = 0 then (chk a1 32 (chk a1 32 (zlet (sI S2 14 (a1).toNatClampNeg ((S2.1 14 (a1).toNatClampNeg) ||| ((1 : Int32) <<< (a2 &&& 31))) : zSt) (fun S6 : zSt =>
some ((), S6))))) else (chk w1 32 (chk w1 32 (zlet (sI S2 14 (w1).toNatClampNeg ((S2.1 14 (w1).toNatClampNeg) &&& (((1 : Int32) <<< (a2 &&& 31)) ^^^ (-1))) : zSt) (fun S9 : zSt =>
some ((), S9)))))))
theorem mv_X0_pushes : ZV mX0_pushes yX0_pushes 2 := ⟨q869, qs31, q150, q870, rfl, by decide, by decide, by decide +kernel⟩
theorem ct_X0_pushes {G : zGw} (hG : zGC G) (a1 : Int32) (a2 : Int32) : Zc mX0_pushes yX0_pushes zJV G [.ref (G.1 0), .int a1, .int a2] (F_X0_pushes a1 a2) := by
  refine Zc_of [some (.ref (G.1 0)), some (.int a1), some (.int a2), none] (by decide) rfl rfl (Nat.le_of_ble_eq_true rfl) rfl (fun X S res => ?_)
  unfold F_X0_pushes
  refine z_iload_n (pc := 0) 1 dX0_pushes_0 rfl rfl ?_
  refine z_iconst (pc := 1) (v := 1) dX0_pushes_1 (by decide) ?_
  refine z_iload_n (pc := 2) 2 dX0_pushes_2 rfl rfl ?_
  refine z_ishl (pc := 3) dX0_pushes_3 ?_
  refine z_ixor (pc := 4) dX0_pushes_4 ?_
  refine z_letI (fun w1 => ?_)
  refine z_istore_n (pc := 5) 3 dX0_pushes_5 rfl (Nat.le_of_ble_eq_true rfl) rfl ?_
  refine z_aload_n (pc := 6) 0 dX0_pushes_6 rfl rfl ?_
  refine z_iload_n (pc := 7) 3 dX0_pushes_7 rfl rfl ?_
  refine z_iload_n (pc := 8) 2 dX0_pushes_8 rfl rfl ?_
  refine z_callVi (pc := 9) _ _ 0 0 (ct_X0_flowsOut hG _ _) mv_X0_flowsOut q863 rfl (zGC_s0 hG) rfl (Nat.le_of_ble_eq_true rfl) (Nat.le_of_ble_eq_true rfl) rfl rfl (Nat.le_of_ble_eq_true rfl) dX0_pushes_9 (fun r3 S2 => ?_)
  refine z_if_eq (pc := 12) 32 dX0_pushes_12 rfl ?_ ?_
  · refine z_aload_n (pc := 32) 0 dX0_pushes_32 rfl rfl ?_
    refine gf_X0_C_44_0 hG (pc := 33) dX0_pushes_33 ?_
    refine z_iload_n (pc := 36) 1 dX0_pushes_36 rfl rfl ?_
    refine z_dup2 (pc := 37) dX0_pushes_37 rfl rfl ?_
    refine z_chk (fun h4 => ?_)
    refine z_iaload (pc := 38) 14 32 (zGC_s14 hG) h4 dX0_pushes_38 ?_
    refine z_iconst (pc := 39) (v := 1) dX0_pushes_39 (by decide) ?_
    refine z_iload_n (pc := 40) 2 dX0_pushes_40 rfl rfl ?_
    refine z_ishl (pc := 41) dX0_pushes_41 ?_
    refine z_ior (pc := 42) dX0_pushes_42 ?_
    refine z_chk (fun h5 => ?_)
    refine z_iastore (pc := 43) 14 32 (zGC_s14 hG) h5 dX0_pushes_43 ?_
    refine z_letS (fun S6 => ?_)
    exact z_vret rfl dX0_pushes_44 rfl
  · refine z_aload_n (pc := 15) 0 dX0_pushes_15 rfl rfl ?_
    refine gf_X0_C_44_0 hG (pc := 16) dX0_pushes_16 ?_
    refine z_iload_n (pc := 19) 3 dX0_pushes_19 rfl rfl ?_
    refine z_dup2 (pc := 20) dX0_pushes_20 rfl rfl ?_
    refine z_chk (fun h7 => ?_)
    refine z_iaload (pc := 21) 14 32 (zGC_s14 hG) h7 dX0_pushes_21 ?_
    refine z_iconst (pc := 22) (v := 1) dX0_pushes_22 (by decide) ?_
    refine z_iload_n (pc := 23) 2 dX0_pushes_23 rfl rfl ?_
    refine z_ishl (pc := 24) dX0_pushes_24 ?_
    refine z_iconst (pc := 25) (v := (-1)) dX0_pushes_25 (by decide) ?_
    refine z_ixor (pc := 26) dX0_pushes_26 ?_
    refine z_iand (pc := 27) dX0_pushes_27 ?_
    refine z_chk (fun h8 => ?_)
    refine z_iastore (pc := 28) 14 32 (zGC_s14 hG) h8 dX0_pushes_28 ?_
    refine z_letS (fun S9 => ?_)
    refine z_goto (pc := 29) 44 dX0_pushes_29 rfl ?_
    exact z_vret rfl dX0_pushes_44 rfl
abbrev mX0_canGo : zMr := ("HiddenCube", cX0_canGo, 3, (some .boolean), 3, 0, 0, none)
def F_X0_canGo (a1 : Int32) (a2 : Int32) (S : zSt) : Option (Int32 × zSt) :=
zbind (F_X1_isOpen 1 a1 a2 S) (fun r2 S1 =>
if r2 = 0 then (some (0, S1)) else (zbind (F_X0_flowsOut a1 a2 S1) (fun r4 S3 =>
if r4 = 0 then (some (1, S3)) else (some (0, S3)))))
theorem mv_X0_canGo : ZV mX0_canGo yX0_canGo 2 := ⟨q861, qs29, q150, q862, rfl, by decide, by decide, by decide +kernel⟩
theorem ct_X0_canGo {G : zGw} (hG : zGC G) (a1 : Int32) (a2 : Int32) : Zc mX0_canGo yX0_canGo zJI G [.ref (G.1 0), .int a1, .int a2] (F_X0_canGo a1 a2) := by
  refine Zc_of [some (.ref (G.1 0)), some (.int a1), some (.int a2)] (by decide) rfl rfl (Nat.le_of_ble_eq_true rfl) rfl (fun X S res => ?_)
  unfold F_X0_canGo
  refine z_aload_n (pc := 0) 0 dX0_canGo_0 rfl rfl ?_
  refine gf_X0_C_10_0 hG (pc := 1) dX0_canGo_1 ?_
  refine z_iload_n (pc := 4) 1 dX0_canGo_4 rfl rfl ?_
  refine z_iload_n (pc := 5) 2 dX0_canGo_5 rfl rfl ?_
  refine z_callVi (pc := 6) _ _ 1 1 (ct_X1_isOpen (zGC_T hG) _ _) mv_X1_isOpen q728 rfl (zGC_s1 hG) rfl (Nat.le_of_ble_eq_true rfl) (Nat.le_of_ble_eq_true rfl) rfl rfl (Nat.le_of_ble_eq_true rfl) dX0_canGo_6 (fun r2 S1 => ?_)
  refine z_if_eq (pc := 9) 25 dX0_canGo_9 rfl ?_ ?_
  · refine z_iconst (pc := 25) (v := 0) dX0_canGo_25 (by decide) ?_
    exact z_zret0 rfl dX0_canGo_26 rfl
  · refine z_aload_n (pc := 12) 0 dX0_canGo_12 rfl rfl ?_
    refine z_iload_n (pc := 13) 1 dX0_canGo_13 rfl rfl ?_
    refine z_iload_n (pc := 14) 2 dX0_canGo_14 rfl rfl ?_
    refine z_callVi (pc := 15) _ _ 0 0 (ct_X0_flowsOut hG _ _) mv_X0_flowsOut q863 rfl (zGC_s0 hG) rfl (Nat.le_of_ble_eq_true rfl) (Nat.le_of_ble_eq_true rfl) rfl rfl (Nat.le_of_ble_eq_true rfl) dX0_canGo_15 (fun r4 S3 => ?_)
    refine z_if_ne (pc := 18) 25 dX0_canGo_18 rfl ?_ ?_
    · refine z_iconst (pc := 25) (v := 0) dX0_canGo_25 (by decide) ?_
      exact z_zret0 rfl dX0_canGo_26 rfl
    · refine z_iconst (pc := 21) (v := 1) dX0_canGo_21 (by decide) ?_
      refine z_goto (pc := 22) 26 dX0_canGo_22 rfl ?_
      exact z_zret1 rfl dX0_canGo_26 rfl
abbrev mX0_addsWay : zMr := ("HiddenCube", cX0_addsWay, 8, (some .boolean), 4, 0, 0, none)
def LB_X0_addsWay_1 (a1 : Int32) (rec10 : Int32 → zSt → Option (Int32 × zSt)) (x11 : Int32) (S12 : zSt) : Option (Int32 × zSt) :=
if x11 = a1 then (some (1, S12)) else (chk x11 64 (chk x11 64 (zbind (F_X0_nameOf (S12.1 15 (x11).toNatClampNeg) x11 S12) (fun r16 S15 =>
zbind (F_X0_pushes (S12.1 15 (x11).toNatClampNeg) r16 S15) (fun _ S17 =>
chk x11 64 (zlet (S17.1 15 (x11).toNatClampNeg : Int32) (fun w19 : Int32 =>
rec10 w19 S17)))))))
def LB_X0_addsWay_2 (x21 : Int32) (rec20 : Int32 → Int32 → zSt → Option (Int32 × zSt)) (w26 : Int32) (rec27 : Int32 → Int32 → zSt → Option (Int32 × zSt)) (x28 : Int32) (x29 : Int32) (S30 : zSt) : Option (Int32 × zSt) :=
if (S30.1 1 0) ≤ x29 then (rec20 (x21 + 1) x28 S30) else (zlet (w26 ^^^ ((1 : Int32) <<< (x29 &&& 31)) : Int32) (fun w31 : Int32 =>
chk w31 64 (if (S30.1 15 (w31).toNatClampNeg) = (-1) then (zbind (F_X0_canGo w26 x29 S30) (fun r34 S33 =>
if r34 = 0 then (rec27 x28 (x29 + 1) S33) else (chk w31 64 (zlet (sI S33 15 (w31).toNatClampNeg w26 : zSt) (fun S36 : zSt =>
chk x28 64 (zlet (sI S36 16 (x28).toNatClampNeg w31 : zSt) (fun S38 : zSt =>
rec27 (x28 + 1) (x29 + 1) S38))))))) else (rec27 x28 (x29 + 1) S30))))
def LB_X0_addsWay_3 (a2 : Int32) (k7 : zSt → Option (Int32 × zSt)) (rec20 : Int32 → Int32 → zSt → Option (Int32 × zSt)) (x21 : Int32) (x22 : Int32) (S23 : zSt) : Option (Int32 × zSt) :=
if x22 ≤ x21 then (k7 S23) else (chk a2 64 (if (S23.1 15 (a2).toNatClampNeg) = (-1) then (chk x21 64 (zlet (S23.1 16 (x21).toNatClampNeg : Int32) (fun w26 : Int32 =>
loopK (fun _ _ _ => none) (LB_X0_addsWay_2 x21 rec20 w26) zfuel x22 0 S23))) else (k7 S23)))
def LB_X0_addsWay_4 (k1 : zSt → Option (Int32 × zSt)) (rec39 : Int32 → zSt → Option (Int32 × zSt)) (x40 : Int32) (S41 : zSt) : Option (Int32 × zSt) :=
if 64 ≤ x40 then (k1 S41) else (chk x40 64 (zlet (sI S41 15 (x40).toNatClampNeg (-1) : zSt) (fun S43 : zSt =>
rec39 (x40 + 1) S43)))
def F_X0_addsWay (a1 : Int32) (a2 : Int32) (S : zSt) : Option (Int32 × zSt) :=
joinK (fun  (S2 : zSt) => chk 0 64 (zlet (sI S2 16 (0 : Int32).toNatClampNeg a1 : zSt) (fun S4 : zSt =>
chk a1 64 (zlet (sI S4 15 (a1).toNatClampNeg a1 : zSt) (fun S6 : zSt =>
joinK (fun  (S8 : zSt) => chk a2 64 (if (S8.1 15 (a2).toNatClampNeg) = (-1) then (some (0, S8)) else (loopK (fun _ _ => none) (LB_X0_addsWay_1 a1) zfuel a2 S8))) (fun k7 : zSt → Option (Int32 × zSt) =>
loopK (fun _ _ _ => none) (LB_X0_addsWay_3 a2 k7) zfuel 0 1 S6)))))) (fun k1 : zSt → Option (Int32 × zSt) =>
loopK (fun _ _ => none) (LB_X0_addsWay_4 k1) zfuel 0 S)
theorem mv_X0_addsWay : ZV mX0_addsWay yX0_addsWay 2 := ⟨q857, qs28, q150, q858, rfl, by decide, by decide, by decide +kernel⟩
theorem ct_X0_addsWay {G : zGw} (hG : zGC G) (a1 : Int32) (a2 : Int32) : Zc mX0_addsWay yX0_addsWay zJI G [.ref (G.1 0), .int a1, .int a2] (F_X0_addsWay a1 a2) := by
  refine Zc_of [some (.ref (G.1 0)), some (.int a1), some (.int a2), none, none, none, none, none] (by decide) rfl rfl (Nat.le_of_ble_eq_true rfl) rfl (fun X S res => ?_)
  unfold F_X0_addsWay
  refine z_iconst (pc := 0) (v := 0) dX0_addsWay_0 (by decide) ?_
  refine z_istore_n (pc := 1) 3 dX0_addsWay_1 rfl (Nat.le_of_ble_eq_true rfl) rfl ?_
  refine z_join (fun j : zSt → Option (Int32 × zSt) => ∀  (S2 : zSt), Zm X mX0_addsWay zJI G (0, 0) res S2 21 [some (.ref (G.1 0)), some (.int a1), some (.int a2), none, none, none, none, none] [] (j S2)) ?_ (fun k1 hk1 => ?_)
  · intro S2
    refine z_iconst (pc := 21) (v := 0) dX0_addsWay_21 (by decide) ?_
    refine z_istore_n (pc := 22) 3 dX0_addsWay_22 rfl (Nat.le_of_ble_eq_true rfl) rfl ?_
    refine z_iconst (pc := 23) (v := 1) dX0_addsWay_23 (by decide) ?_
    refine z_istore (pc := 24) dX0_addsWay_24 (Nat.le_of_ble_eq_true rfl) rfl ?_
    refine z_aload_n (pc := 26) 0 dX0_addsWay_26 rfl rfl ?_
    refine gf_X0_C_50_0 hG (pc := 27) dX0_addsWay_27 ?_
    refine z_iconst (pc := 30) (v := 0) dX0_addsWay_30 (by decide) ?_
    refine z_iload_n (pc := 31) 1 dX0_addsWay_31 rfl rfl ?_
    refine z_chk (fun h3 => ?_)
    refine z_iastore (pc := 32) 16 64 (zGC_s16 hG) h3 dX0_addsWay_32 ?_
    refine z_letS (fun S4 => ?_)
    refine z_aload_n (pc := 33) 0 dX0_addsWay_33 rfl rfl ?_
    refine gf_X0_C_47_0 hG (pc := 34) dX0_addsWay_34 ?_
    refine z_iload_n (pc := 37) 1 dX0_addsWay_37 rfl rfl ?_
    refine z_iload_n (pc := 38) 1 dX0_addsWay_38 rfl rfl ?_
    refine z_chk (fun h5 => ?_)
    refine z_iastore (pc := 39) 15 64 (zGC_s15 hG) h5 dX0_addsWay_39 ?_
    refine z_letS (fun S6 => ?_)
    refine z_join (fun j : zSt → Option (Int32 × zSt) => ∀  (S8 : zSt), Zm X mX0_addsWay zJI G (0, 0) res S8 146 [some (.ref (G.1 0)), some (.int a1), some (.int a2), none, none, none, none, none] [] (j S8)) ?_ (fun k7 hk7 => ?_)
    · intro S8
      refine z_aload_n (pc := 146) 0 dX0_addsWay_146 rfl rfl ?_
      refine gf_X0_C_47_0 hG (pc := 147) dX0_addsWay_147 ?_
      refine z_iload_n (pc := 150) 2 dX0_addsWay_150 rfl rfl ?_
      refine z_chk (fun h9 => ?_)
      refine z_iaload (pc := 151) 15 64 (zGC_s15 hG) h9 dX0_addsWay_151 ?_
      refine z_iconst (pc := 152) (v := (-1)) dX0_addsWay_152 (by decide) ?_
      refine z_icmp_ne (pc := 153) 158 dX0_addsWay_153 rfl ?_ ?_
      · refine z_iload_n (pc := 158) 2 dX0_addsWay_158 rfl rfl ?_
        refine z_istore (pc := 159) dX0_addsWay_159 (Nat.le_of_ble_eq_true rfl) rfl ?_
        refine z_maskk [true, true, false, false, false, true, false, false] ?_
        refine z_loopK (fun j : Int32 → zSt → Option (Int32 × zSt) => ∀ (x11 : Int32) (S12 : zSt), Zm X mX0_addsWay zJI G (0, 0) res S12 161 [some (.ref (G.1 0)), some (.int a1), none, none, none, some (.int x11), none, none] [] (j x11 S12)) ?_ ?_ zfuel _ _
        · intro x11 S12; exact z_none
        · intro rec10 hrec10 x11 S12
          unfold LB_X0_addsWay_1
          refine z_iload (pc := 161) dX0_addsWay_161 rfl ?_
          refine z_iload_n (pc := 163) 1 dX0_addsWay_163 rfl rfl ?_
          refine z_icmp_eq (pc := 164) 202 dX0_addsWay_164 rfl ?_ ?_
          · refine z_iconst (pc := 202) (v := 1) dX0_addsWay_202 (by decide) ?_
            exact z_zret1 rfl dX0_addsWay_203 rfl
          · refine z_aload_n (pc := 167) 0 dX0_addsWay_167 rfl rfl ?_
            refine z_aload_n (pc := 168) 0 dX0_addsWay_168 rfl rfl ?_
            refine gf_X0_C_47_0 hG (pc := 169) dX0_addsWay_169 ?_
            refine z_iload (pc := 172) dX0_addsWay_172 rfl ?_
            refine z_chk (fun h13 => ?_)
            refine z_iaload (pc := 174) 15 64 (zGC_s15 hG) h13 dX0_addsWay_174 ?_
            refine z_aload_n (pc := 175) 0 dX0_addsWay_175 rfl rfl ?_
            refine gf_X0_C_47_0 hG (pc := 176) dX0_addsWay_176 ?_
            refine z_iload (pc := 179) dX0_addsWay_179 rfl ?_
            refine z_chk (fun h14 => ?_)
            refine z_iaload (pc := 181) 15 64 (zGC_s15 hG) h14 dX0_addsWay_181 ?_
            refine z_iload (pc := 182) dX0_addsWay_182 rfl ?_
            refine z_callSi (pc := 184) _ _ (ct_X0_nameOf  _ _) mv_X0_nameOf q812 rfl (Nat.le_of_ble_eq_true rfl) (Nat.le_of_ble_eq_true rfl) rfl rfl (Nat.le_of_ble_eq_true rfl) dX0_addsWay_184 (fun r16 S15 => ?_)
            refine z_callVv (pc := 187) _ _ 0 0 (ct_X0_pushes hG _ _) mv_X0_pushes q867 rfl (zGC_s0 hG) rfl (Nat.le_of_ble_eq_true rfl) (Nat.le_of_ble_eq_true rfl) rfl rfl (Nat.le_of_ble_eq_true rfl) dX0_addsWay_187 (fun _ S17 => ?_)
            refine z_aload_n (pc := 190) 0 dX0_addsWay_190 rfl rfl ?_
            refine gf_X0_C_47_0 hG (pc := 191) dX0_addsWay_191 ?_
            refine z_iload (pc := 194) dX0_addsWay_194 rfl ?_
            refine z_chk (fun h18 => ?_)
            refine z_iaload (pc := 196) 15 64 (zGC_s15 hG) h18 dX0_addsWay_196 ?_
            refine z_letI (fun w19 => ?_)
            refine z_istore (pc := 197) dX0_addsWay_197 (Nat.le_of_ble_eq_true rfl) rfl ?_
            refine z_goto (pc := 199) 161 dX0_addsWay_199 rfl ?_
            exact hrec10 _ _
      · refine z_iconst (pc := 156) (v := 0) dX0_addsWay_156 (by decide) ?_
        exact z_zret0 rfl dX0_addsWay_157 rfl
    · refine z_loopK (fun j : Int32 → Int32 → zSt → Option (Int32 × zSt) => ∀ (x21 : Int32) (x22 : Int32) (S23 : zSt), Zm X mX0_addsWay zJI G (0, 0) res S23 40 [some (.ref (G.1 0)), some (.int a1), some (.int a2), some (.int x21), some (.int x22), none, none, none] [] (j x21 x22 S23)) ?_ ?_ zfuel _ _ _
      · intro x21 x22 S23; exact z_none
      · intro rec20 hrec20 x21 x22 S23
        unfold LB_X0_addsWay_3
        refine z_iload_n (pc := 40) 3 dX0_addsWay_40 rfl rfl ?_
        refine z_iload (pc := 41) dX0_addsWay_41 rfl ?_
        refine z_icmp_ge (pc := 43) 146 dX0_addsWay_43 rfl ?_ ?_
        · exact z_mask [true, true, true, false, false, false, false, false] (hk7 _) rfl
        · refine z_aload_n (pc := 46) 0 dX0_addsWay_46 rfl rfl ?_
          refine gf_X0_C_47_0 hG (pc := 47) dX0_addsWay_47 ?_
          refine z_iload_n (pc := 50) 2 dX0_addsWay_50 rfl rfl ?_
          refine z_chk (fun h24 => ?_)
          refine z_iaload (pc := 51) 15 64 (zGC_s15 hG) h24 dX0_addsWay_51 ?_
          refine z_iconst (pc := 52) (v := (-1)) dX0_addsWay_52 (by decide) ?_
          refine z_icmp_ne (pc := 53) 146 dX0_addsWay_53 rfl ?_ ?_
          · exact z_mask [true, true, true, false, false, false, false, false] (hk7 _) rfl
          · refine z_aload_n (pc := 56) 0 dX0_addsWay_56 rfl rfl ?_
            refine gf_X0_C_50_0 hG (pc := 57) dX0_addsWay_57 ?_
            refine z_iload_n (pc := 60) 3 dX0_addsWay_60 rfl rfl ?_
            refine z_chk (fun h25 => ?_)
            refine z_iaload (pc := 61) 16 64 (zGC_s16 hG) h25 dX0_addsWay_61 ?_
            refine z_letI (fun w26 => ?_)
            refine z_istore (pc := 62) dX0_addsWay_62 (Nat.le_of_ble_eq_true rfl) rfl ?_
            refine z_iinc (pc := 64) (w := x21 + 1) dX0_addsWay_64 rfl (by rw [show Int32.ofInt 1 = 1 from by decide]) (Nat.le_of_ble_eq_true rfl) rfl ?_
            refine z_iconst (pc := 67) (v := 0) dX0_addsWay_67 (by decide) ?_
            refine z_istore (pc := 68) dX0_addsWay_68 (Nat.le_of_ble_eq_true rfl) rfl ?_
            refine z_loopK (fun j : Int32 → Int32 → zSt → Option (Int32 × zSt) => ∀ (x28 : Int32) (x29 : Int32) (S30 : zSt), Zm X mX0_addsWay zJI G (0, 0) res S30 70 [some (.ref (G.1 0)), some (.int a1), some (.int a2), some (.int (x21 + 1)), some (.int x28), some (.int w26), some (.int x29), none] [] (j x28 x29 S30)) ?_ ?_ zfuel _ _ _
            · intro x28 x29 S30; exact z_none
            · intro rec27 hrec27 x28 x29 S30
              unfold LB_X0_addsWay_2
              refine z_iload (pc := 70) dX0_addsWay_70 rfl ?_
              refine z_aload_n (pc := 72) 0 dX0_addsWay_72 rfl rfl ?_
              refine gf_X0_C_10_0 hG (pc := 73) dX0_addsWay_73 ?_
              refine gf_X0_C_158_1 hG (pc := 76) dX0_addsWay_76 ?_
              refine z_icmp_ge (pc := 79) 143 dX0_addsWay_79 rfl ?_ ?_
              · refine z_goto (pc := 143) 40 dX0_addsWay_143 rfl ?_
                exact z_mask [true, true, true, true, true, false, false, false] (hrec20 _ _ _) rfl
              · refine z_iload (pc := 82) dX0_addsWay_82 rfl ?_
                refine z_iconst (pc := 84) (v := 1) dX0_addsWay_84 (by decide) ?_
                refine z_iload (pc := 85) dX0_addsWay_85 rfl ?_
                refine z_ishl (pc := 87) dX0_addsWay_87 ?_
                refine z_ixor (pc := 88) dX0_addsWay_88 ?_
                refine z_letI (fun w31 => ?_)
                refine z_istore (pc := 89) dX0_addsWay_89 (Nat.le_of_ble_eq_true rfl) rfl ?_
                refine z_aload_n (pc := 91) 0 dX0_addsWay_91 rfl rfl ?_
                refine gf_X0_C_47_0 hG (pc := 92) dX0_addsWay_92 ?_
                refine z_iload (pc := 95) dX0_addsWay_95 rfl ?_
                refine z_chk (fun h32 => ?_)
                refine z_iaload (pc := 97) 15 64 (zGC_s15 hG) h32 dX0_addsWay_97 ?_
                refine z_iconst (pc := 98) (v := (-1)) dX0_addsWay_98 (by decide) ?_
                refine z_icmp_ne (pc := 99) 137 dX0_addsWay_99 rfl ?_ ?_
                · refine z_iinc (pc := 137) (w := x29 + 1) dX0_addsWay_137 rfl (by rw [show Int32.ofInt 1 = 1 from by decide]) (Nat.le_of_ble_eq_true rfl) rfl ?_
                  refine z_goto (pc := 140) 70 dX0_addsWay_140 rfl ?_
                  exact z_mask [true, true, true, true, true, true, true, false] (hrec27 _ _ _) rfl
                · refine z_aload_n (pc := 102) 0 dX0_addsWay_102 rfl rfl ?_
                  refine z_iload (pc := 103) dX0_addsWay_103 rfl ?_
                  refine z_iload (pc := 105) dX0_addsWay_105 rfl ?_
                  refine z_callVi (pc := 107) _ _ 0 0 (ct_X0_canGo hG _ _) mv_X0_canGo q859 rfl (zGC_s0 hG) rfl (Nat.le_of_ble_eq_true rfl) (Nat.le_of_ble_eq_true rfl) rfl rfl (Nat.le_of_ble_eq_true rfl) dX0_addsWay_107 (fun r34 S33 => ?_)
                  refine z_if_ne (pc := 110) 116 dX0_addsWay_110 rfl ?_ ?_
                  · refine z_aload_n (pc := 116) 0 dX0_addsWay_116 rfl rfl ?_
                    refine gf_X0_C_47_0 hG (pc := 117) dX0_addsWay_117 ?_
                    refine z_iload (pc := 120) dX0_addsWay_120 rfl ?_
                    refine z_iload (pc := 122) dX0_addsWay_122 rfl ?_
                    refine z_chk (fun h35 => ?_)
                    refine z_iastore (pc := 124) 15 64 (zGC_s15 hG) h35 dX0_addsWay_124 ?_
                    refine z_letS (fun S36 => ?_)
                    refine z_aload_n (pc := 125) 0 dX0_addsWay_125 rfl rfl ?_
                    refine gf_X0_C_50_0 hG (pc := 126) dX0_addsWay_126 ?_
                    refine z_iload (pc := 129) dX0_addsWay_129 rfl ?_
                    refine z_iload (pc := 131) dX0_addsWay_131 rfl ?_
                    refine z_chk (fun h37 => ?_)
                    refine z_iastore (pc := 133) 16 64 (zGC_s16 hG) h37 dX0_addsWay_133 ?_
                    refine z_letS (fun S38 => ?_)
                    refine z_iinc (pc := 134) (w := x28 + 1) dX0_addsWay_134 rfl (by rw [show Int32.ofInt 1 = 1 from by decide]) (Nat.le_of_ble_eq_true rfl) rfl ?_
                    refine z_iinc (pc := 137) (w := x29 + 1) dX0_addsWay_137 rfl (by rw [show Int32.ofInt 1 = 1 from by decide]) (Nat.le_of_ble_eq_true rfl) rfl ?_
                    refine z_goto (pc := 140) 70 dX0_addsWay_140 rfl ?_
                    exact z_mask [true, true, true, true, true, true, true, false] (hrec27 _ _ _) rfl
                  · refine z_goto (pc := 113) 137 dX0_addsWay_113 rfl ?_
                    refine z_iinc (pc := 137) (w := x29 + 1) dX0_addsWay_137 rfl (by rw [show Int32.ofInt 1 = 1 from by decide]) (Nat.le_of_ble_eq_true rfl) rfl ?_
                    refine z_goto (pc := 140) 70 dX0_addsWay_140 rfl ?_
                    exact z_mask [true, true, true, true, true, true, true, false] (hrec27 _ _ _) rfl
  · refine z_loopK (fun j : Int32 → zSt → Option (Int32 × zSt) => ∀ (x40 : Int32) (S41 : zSt), Zm X mX0_addsWay zJI G (0, 0) res S41 2 [some (.ref (G.1 0)), some (.int a1), some (.int a2), some (.int x40), none, none, none, none] [] (j x40 S41)) ?_ ?_ zfuel _ _
    · intro x40 S41; exact z_none
    · intro rec39 hrec39 x40 S41
      unfold LB_X0_addsWay_4
      refine z_iload_n (pc := 2) 3 dX0_addsWay_2 rfl rfl ?_
      refine z_bipush (pc := 3) (v := 64) dX0_addsWay_3 (by decide) ?_
      refine z_icmp_ge (pc := 5) 21 dX0_addsWay_5 rfl ?_ ?_
      · exact z_mask [true, true, true, false, false, false, false, false] (hk1 _) rfl
      · refine z_aload_n (pc := 8) 0 dX0_addsWay_8 rfl rfl ?_
        refine gf_X0_C_47_0 hG (pc := 9) dX0_addsWay_9 ?_
        refine z_iload_n (pc := 12) 3 dX0_addsWay_12 rfl rfl ?_
        refine z_iconst (pc := 13) (v := (-1)) dX0_addsWay_13 (by decide) ?_
        refine z_chk (fun h42 => ?_)
        refine z_iastore (pc := 14) 15 64 (zGC_s15 hG) h42 dX0_addsWay_14 ?_
        refine z_letS (fun S43 => ?_)
        refine z_iinc (pc := 15) (w := x40 + 1) dX0_addsWay_15 rfl (by rw [show Int32.ofInt 1 = 1 from by decide]) (Nat.le_of_ble_eq_true rfl) rfl ?_
        refine z_goto (pc := 18) 2 dX0_addsWay_18 rfl ?_
        exact hrec39 _ _
abbrev mX0_waysApart : zMr := ("HiddenCube", cX0_waysApart, 4, (some .int), 5, 0, 0, none)
def LB_X0_waysApart_1 (a1 : Int32) (a2 : Int32) (rec2 : Int32 → zSt → Option (Int32 × zSt)) (x3 : Int32) (S4 : zSt) : Option (Int32 × zSt) :=
zbind (F_X0_addsWay a1 a2 S4) (fun r6 S5 =>
if r6 = 0 then (some (x3, S5)) else (rec2 (x3 + 1) S5))
def F_X0_waysApart (a1 : Int32) (a2 : Int32) (S : zSt) : Option (Int32 × zSt) :=
zbind (F_X0_noWays S) (fun _ S1 =>
loopK (fun _ _ => none) (LB_X0_waysApart_1 a1 a2) zfuel 0 S1)
theorem mv_X0_waysApart : ZV mX0_waysApart yX0_waysApart 2 := ⟨q849, qs26, q150, q850, rfl, by decide, by decide, by decide +kernel⟩
theorem ct_X0_waysApart {G : zGw} (hG : zGC G) (a1 : Int32) (a2 : Int32) : Zc mX0_waysApart yX0_waysApart zJI G [.ref (G.1 0), .int a1, .int a2] (F_X0_waysApart a1 a2) := by
  refine Zc_of [some (.ref (G.1 0)), some (.int a1), some (.int a2), none] (by decide) rfl rfl (Nat.le_of_ble_eq_true rfl) rfl (fun X S res => ?_)
  unfold F_X0_waysApart
  refine z_aload_n (pc := 0) 0 dX0_waysApart_0 rfl rfl ?_
  refine z_callVv (pc := 1) _ _ 0 0 (ct_X0_noWays hG) mv_X0_noWays q851 rfl (zGC_s0 hG) rfl (Nat.le_of_ble_eq_true rfl) (Nat.le_of_ble_eq_true rfl) rfl rfl (Nat.le_of_ble_eq_true rfl) dX0_waysApart_1 (fun _ S1 => ?_)
  refine z_iconst (pc := 4) (v := 0) dX0_waysApart_4 (by decide) ?_
  refine z_istore_n (pc := 5) 3 dX0_waysApart_5 rfl (Nat.le_of_ble_eq_true rfl) rfl ?_
  refine z_loopK (fun j : Int32 → zSt → Option (Int32 × zSt) => ∀ (x3 : Int32) (S4 : zSt), Zm X mX0_waysApart zJI G (0, 0) res S4 6 [some (.ref (G.1 0)), some (.int a1), some (.int a2), some (.int x3)] [] (j x3 S4)) ?_ ?_ zfuel _ _
  · intro x3 S4; exact z_none
  · intro rec2 hrec2 x3 S4
    unfold LB_X0_waysApart_1
    refine z_aload_n (pc := 6) 0 dX0_waysApart_6 rfl rfl ?_
    refine z_iload_n (pc := 7) 1 dX0_waysApart_7 rfl rfl ?_
    refine z_iload_n (pc := 8) 2 dX0_waysApart_8 rfl rfl ?_
    refine z_callVi (pc := 9) _ _ 0 0 (ct_X0_addsWay hG _ _) mv_X0_addsWay q855 rfl (zGC_s0 hG) rfl (Nat.le_of_ble_eq_true rfl) (Nat.le_of_ble_eq_true rfl) rfl rfl (Nat.le_of_ble_eq_true rfl) dX0_waysApart_9 (fun r6 S5 => ?_)
    refine z_if_eq (pc := 12) 21 dX0_waysApart_12 rfl ?_ ?_
    · refine z_iload_n (pc := 21) 3 dX0_waysApart_21 rfl rfl ?_
      exact z_iret rfl dX0_waysApart_22 rfl
    · refine z_iinc (pc := 15) (w := x3 + 1) dX0_waysApart_15 rfl (by rw [show Int32.ofInt 1 = 1 from by decide]) (Nat.le_of_ble_eq_true rfl) rfl ?_
      refine z_goto (pc := 18) 6 dX0_waysApart_18 rfl ?_
      exact hrec2 _ _
abbrev mX0_apartWays : zMr := ("HiddenCube", cX0_apartWays, 4, (some .int), 6, 0, 0, none)
def F_X0_apartWays (a1 : Int32) (a2 : Int32) (a3 : Int32) (S : zSt) : Option (Int32 × zSt) :=
zbind (F_X0_areTwo a1 a2 S) (fun r2 S1 =>
if r2 = 0 then (some ((-2), S1)) else (zbind (F_X0_isOneOf a3 2 S1) (fun r4 S3 =>
if r4 = 0 then (some ((-2), S3)) else (if a3 = 0 then (zbind (F_X0_waysApart a1 a2 S3) (fun r8 S7 =>
some (r8, S7))) else (zbind (F_X0_waysBetween a1 a2 S3) (fun r6 S5 =>
some (r6, S5)))))))
theorem mv_X0_apartWays : ZV mX0_apartWays yX0_apartWays 3 := ⟨q840, q841, q150, q842, rfl, by decide, by decide, by decide +kernel⟩
theorem ct_X0_apartWays {G : zGw} (hG : zGC G) (a1 : Int32) (a2 : Int32) (a3 : Int32) : Zc mX0_apartWays yX0_apartWays zJI G [.ref (G.1 0), .int a1, .int a2, .int a3] (F_X0_apartWays a1 a2 a3) := by
  refine Zc_of [some (.ref (G.1 0)), some (.int a1), some (.int a2), some (.int a3)] (by decide) rfl rfl (Nat.le_of_ble_eq_true rfl) rfl (fun X S res => ?_)
  unfold F_X0_apartWays
  refine z_aload_n (pc := 0) 0 dX0_apartWays_0 rfl rfl ?_
  refine z_iload_n (pc := 1) 1 dX0_apartWays_1 rfl rfl ?_
  refine z_iload_n (pc := 2) 2 dX0_apartWays_2 rfl rfl ?_
  refine z_callVi (pc := 3) _ _ 0 0 (ct_X0_areTwo hG _ _) mv_X0_areTwo q843 rfl (zGC_s0 hG) rfl (Nat.le_of_ble_eq_true rfl) (Nat.le_of_ble_eq_true rfl) rfl rfl (Nat.le_of_ble_eq_true rfl) dX0_apartWays_3 (fun r2 S1 => ?_)
  refine z_if_eq (pc := 6) 17 dX0_apartWays_6 rfl ?_ ?_
  · refine z_bipush (pc := 17) (v := (-2)) dX0_apartWays_17 (by decide) ?_
    exact z_iret rfl dX0_apartWays_19 rfl
  · refine z_iload_n (pc := 9) 3 dX0_apartWays_9 rfl rfl ?_
    refine z_iconst (pc := 10) (v := 2) dX0_apartWays_10 (by decide) ?_
    refine z_callSi (pc := 11) _ _ (ct_X0_isOneOf  _ _) mv_X0_isOneOf q737 rfl (Nat.le_of_ble_eq_true rfl) (Nat.le_of_ble_eq_true rfl) rfl rfl (Nat.le_of_ble_eq_true rfl) dX0_apartWays_11 (fun r4 S3 => ?_)
    refine z_if_ne (pc := 14) 20 dX0_apartWays_14 rfl ?_ ?_
    · refine z_iload_n (pc := 20) 3 dX0_apartWays_20 rfl rfl ?_
      refine z_if_ne (pc := 21) 33 dX0_apartWays_21 rfl ?_ ?_
      · refine z_aload_n (pc := 33) 0 dX0_apartWays_33 rfl rfl ?_
        refine z_iload_n (pc := 34) 1 dX0_apartWays_34 rfl rfl ?_
        refine z_iload_n (pc := 35) 2 dX0_apartWays_35 rfl rfl ?_
        refine z_callVi (pc := 36) _ _ 0 0 (ct_X0_waysBetween hG _ _) mv_X0_waysBetween q871 rfl (zGC_s0 hG) rfl (Nat.le_of_ble_eq_true rfl) (Nat.le_of_ble_eq_true rfl) rfl rfl (Nat.le_of_ble_eq_true rfl) dX0_apartWays_36 (fun r6 S5 => ?_)
        exact z_iret rfl dX0_apartWays_39 rfl
      · refine z_aload_n (pc := 24) 0 dX0_apartWays_24 rfl rfl ?_
        refine z_iload_n (pc := 25) 1 dX0_apartWays_25 rfl rfl ?_
        refine z_iload_n (pc := 26) 2 dX0_apartWays_26 rfl rfl ?_
        refine z_callVi (pc := 27) _ _ 0 0 (ct_X0_waysApart hG _ _) mv_X0_waysApart q847 rfl (zGC_s0 hG) rfl (Nat.le_of_ble_eq_true rfl) (Nat.le_of_ble_eq_true rfl) rfl rfl (Nat.le_of_ble_eq_true rfl) dX0_apartWays_27 (fun r8 S7 => ?_)
        refine z_goto (pc := 30) 39 dX0_apartWays_30 rfl ?_
        exact z_iret rfl dX0_apartWays_39 rfl
    · refine z_bipush (pc := 17) (v := (-2)) dX0_apartWays_17 (by decide) ?_
      exact z_iret rfl dX0_apartWays_19 rfl
abbrev mX0_side : zMr := ("HiddenCube", cX0_side, 5, (some .int), 6, 0, 0, none)
def LB_X0_side_1 (rec5 : Int32 → Int32 → zSt → Option (Int32 × zSt)) (x6 : Int32) (x7 : Int32) (S8 : zSt) : Option (Int32 × zSt) :=
zbind (F_X1_squares 1 S8) (fun r10 S9 =>
if r10 ≤ x7 then (some (x6, S9)) else (chk x7 64 (zlet (x6 ||| (if (S9.1 15 (x7).toNatClampNeg) = (-1) then 0 else (1 : Int32) <<< (x7 &&& 31)) : Int32) (fun w13 : Int32 =>
rec5 w13 (x7 + 1) S9))))
def F_X0_side (a1 : Int32) (a2 : Int32) (S : zSt) : Option (Int32 × zSt) :=
zbind (F_X0_areTwo a1 a2 S) (fun r2 S1 =>
if r2 = 0 then (some ((-2), S1)) else (zbind (F_X0_waysApart a1 a2 S1) (fun r4 S3 =>
loopK (fun _ _ _ => none) (LB_X0_side_1) zfuel 0 0 S3)))
theorem mv_X0_side : ZV mX0_side yX0_side 2 := ⟨q892, q893, q150, q894, rfl, by decide, by decide, by decide +kernel⟩
theorem ct_X0_side {G : zGw} (hG : zGC G) (a1 : Int32) (a2 : Int32) : Zc mX0_side yX0_side zJI G [.ref (G.1 0), .int a1, .int a2] (F_X0_side a1 a2) := by
  refine Zc_of [some (.ref (G.1 0)), some (.int a1), some (.int a2), none, none] (by decide) rfl rfl (Nat.le_of_ble_eq_true rfl) rfl (fun X S res => ?_)
  unfold F_X0_side
  refine z_aload_n (pc := 0) 0 dX0_side_0 rfl rfl ?_
  refine z_iload_n (pc := 1) 1 dX0_side_1 rfl rfl ?_
  refine z_iload_n (pc := 2) 2 dX0_side_2 rfl rfl ?_
  refine z_callVi (pc := 3) _ _ 0 0 (ct_X0_areTwo hG _ _) mv_X0_areTwo q843 rfl (zGC_s0 hG) rfl (Nat.le_of_ble_eq_true rfl) (Nat.le_of_ble_eq_true rfl) rfl rfl (Nat.le_of_ble_eq_true rfl) dX0_side_3 (fun r2 S1 => ?_)
  refine z_if_ne (pc := 6) 12 dX0_side_6 rfl ?_ ?_
  · refine z_aload_n (pc := 12) 0 dX0_side_12 rfl rfl ?_
    refine z_iload_n (pc := 13) 1 dX0_side_13 rfl rfl ?_
    refine z_iload_n (pc := 14) 2 dX0_side_14 rfl rfl ?_
    refine z_callVi (pc := 15) _ _ 0 0 (ct_X0_waysApart hG _ _) mv_X0_waysApart q847 rfl (zGC_s0 hG) rfl (Nat.le_of_ble_eq_true rfl) (Nat.le_of_ble_eq_true rfl) rfl rfl (Nat.le_of_ble_eq_true rfl) dX0_side_15 (fun r4 S3 => ?_)
    refine z_pop (pc := 18) dX0_side_18 rfl ?_
    refine z_iconst (pc := 19) (v := 0) dX0_side_19 (by decide) ?_
    refine z_istore_n (pc := 20) 3 dX0_side_20 rfl (Nat.le_of_ble_eq_true rfl) rfl ?_
    refine z_iconst (pc := 21) (v := 0) dX0_side_21 (by decide) ?_
    refine z_istore (pc := 22) dX0_side_22 (Nat.le_of_ble_eq_true rfl) rfl ?_
    refine z_maskk [true, false, false, true, true] ?_
    refine z_loopK (fun j : Int32 → Int32 → zSt → Option (Int32 × zSt) => ∀ (x6 : Int32) (x7 : Int32) (S8 : zSt), Zm X mX0_side zJI G (0, 0) res S8 24 [some (.ref (G.1 0)), none, none, some (.int x6), some (.int x7)] [] (j x6 x7 S8)) ?_ ?_ zfuel _ _ _
    · intro x6 x7 S8; exact z_none
    · intro rec5 hrec5 x6 x7 S8
      unfold LB_X0_side_1
      refine z_iload (pc := 24) dX0_side_24 rfl ?_
      refine z_aload_n (pc := 26) 0 dX0_side_26 rfl rfl ?_
      refine gf_X0_C_10_0 hG (pc := 27) dX0_side_27 ?_
      refine z_callVi (pc := 30) _ _ 1 1 (ct_X1_squares (zGC_T hG)) mv_X1_squares q727 rfl (zGC_s1 hG) rfl (Nat.le_of_ble_eq_true rfl) (Nat.le_of_ble_eq_true rfl) rfl rfl (Nat.le_of_ble_eq_true rfl) dX0_side_30 (fun r10 S9 => ?_)
      refine z_icmp_ge (pc := 33) 64 dX0_side_33 rfl ?_ ?_
      · refine z_iload_n (pc := 64) 3 dX0_side_64 rfl rfl ?_
        exact z_iret rfl dX0_side_65 rfl
      · refine z_iload_n (pc := 36) 3 dX0_side_36 rfl rfl ?_
        refine z_aload_n (pc := 37) 0 dX0_side_37 rfl rfl ?_
        refine gf_X0_C_47_0 hG (pc := 38) dX0_side_38 ?_
        refine z_iload (pc := 41) dX0_side_41 rfl ?_
        refine z_chk (fun h11 => ?_)
        refine z_iaload (pc := 43) 15 64 (zGC_s15 hG) h11 dX0_side_43 ?_
        refine z_iconst (pc := 44) (v := (-1)) dX0_side_44 (by decide) ?_
        refine z_pure (st0 := [.int x6]) 56 ((if (S9.1 15 (x7).toNatClampNeg) = (-1) then 0 else (1 : Int32) <<< (x7 &&& 31))) ?_ (fun hJ => ?_)
        · refine z_ior (pc := 56) dX0_side_56 ?_
          refine z_letI (fun w13 => ?_)
          refine z_istore_n (pc := 57) 3 dX0_side_57 rfl (Nat.le_of_ble_eq_true rfl) rfl ?_
          refine z_iinc (pc := 58) (w := x7 + 1) dX0_side_58 rfl (by rw [show Int32.ofInt 1 = 1 from by decide]) (Nat.le_of_ble_eq_true rfl) rfl ?_
          refine z_goto (pc := 61) 24 dX0_side_61 rfl ?_
          exact hrec5 _ _ _
        · refine z_icmpd_ne (pc := 45) 52 dX0_side_45 rfl (fun c14 => ?_) (fun c14 => ?_)
          · refine z_iconst (pc := 52) (v := 1) dX0_side_52 (by decide) ?_
            refine z_iload (pc := 53) dX0_side_53 rfl ?_
            refine z_ishl (pc := 55) dX0_side_55 ?_
            exact z_leaf hJ (by simp only [if_neg c14])
          · refine z_iconst (pc := 48) (v := 0) dX0_side_48 (by decide) ?_
            refine z_goto (pc := 49) 56 dX0_side_49 rfl ?_
            exact z_leaf hJ (by simp only [if_pos c14])
  · refine z_bipush (pc := 9) (v := (-2)) dX0_side_9 (by decide) ?_
    exact z_iret rfl dX0_side_11 rfl
abbrev mX0_partsBy_p8 : zMr := ("HiddenCube", cX0_partsBy, 6, (some .int), 5, 0, 0, none)
def LB_X0_partsBy_p8_1 (x3 : Int32) (x4 : Int32) (rec1 : Int32 → Int32 → Int32 → zSt → Option (Int32 × zSt)) (rec11 : Int32 → Int32 → zSt → Option (Int32 × zSt)) (x12 : Int32) (x13 : Int32) (S14 : zSt) : Option (Int32 × zSt) :=
zbind (F_X1_squares 1 S14) (fun r16 S15 =>
if r16 ≤ x13 then (rec1 x12 (x3 + 1) (x4 + 1) S15) else (chk x13 32 (zlet (x12 ||| (if (S15.1 9 (x13).toNatClampNeg) = (-1) then 0 else (1 : Int32) <<< (x13 &&& 31)) : Int32) (fun w19 : Int32 =>
rec11 w19 (x13 + 1) S15))))
def LB_X0_partsBy_p8_2 (rec1 : Int32 → Int32 → Int32 → zSt → Option (Int32 × zSt)) (x2 : Int32) (x3 : Int32) (x4 : Int32) (S5 : zSt) : Option (Int32 × zSt) :=
zbind (F_X1_squares 1 S5) (fun r7 S6 =>
if r7 ≤ x4 then (some (x3, S6)) else (zbind (F_X0_has x2 x4 S6) (fun r9 S8 =>
if r9 = 0 then (zbind (F_X2_spreads_w8 x4 S8) (fun _ S10 =>
loopK (fun _ _ _ => none) (LB_X0_partsBy_p8_1 x3 x4 rec1) zfuel x2 0 S10)) else (rec1 x2 x3 (x4 + 1) S8))))
def F_X0_partsBy_p8  (S : zSt) : Option (Int32 × zSt) :=
loopK (fun _ _ _ _ => none) (LB_X0_partsBy_p8_2) zfuel 0 0 0 S
theorem mv_X0_partsBy_p8 : ZV mX0_partsBy_p8 yX0_partsBy 1 := ⟨q901, qs37, q150, q902, rfl, by decide, by decide, by decide +kernel⟩
theorem ct_X0_partsBy_p8 {G : zGw} (hG : zGC G)  : Zc mX0_partsBy_p8 yX0_partsBy zJI G [.ref (G.1 0), .ref (G.1 8)] (F_X0_partsBy_p8) := by
  refine Zc_of [some (.ref (G.1 0)), some (.ref (G.1 8)), none, none, none, none] (by decide) rfl rfl (Nat.le_of_ble_eq_true rfl) rfl (fun X S res => ?_)
  unfold F_X0_partsBy_p8
  refine z_iconst (pc := 0) (v := 0) dX0_partsBy_0 (by decide) ?_
  refine z_istore_n (pc := 1) 2 dX0_partsBy_1 rfl (Nat.le_of_ble_eq_true rfl) rfl ?_
  refine z_iconst (pc := 2) (v := 0) dX0_partsBy_2 (by decide) ?_
  refine z_istore_n (pc := 3) 3 dX0_partsBy_3 rfl (Nat.le_of_ble_eq_true rfl) rfl ?_
  refine z_iconst (pc := 4) (v := 0) dX0_partsBy_4 (by decide) ?_
  refine z_istore (pc := 5) dX0_partsBy_5 (Nat.le_of_ble_eq_true rfl) rfl ?_
  refine z_loopK (fun j : Int32 → Int32 → Int32 → zSt → Option (Int32 × zSt) => ∀ (x2 : Int32) (x3 : Int32) (x4 : Int32) (S5 : zSt), Zm X mX0_partsBy_p8 zJI G (0, 0) res S5 7 [some (.ref (G.1 0)), some (.ref (G.1 8)), some (.int x2), some (.int x3), some (.int x4), none] [] (j x2 x3 x4 S5)) ?_ ?_ zfuel _ _ _ _
  · intro x2 x3 x4 S5; exact z_none
  · intro rec1 hrec1 x2 x3 x4 S5
    unfold LB_X0_partsBy_p8_2
    refine z_iload (pc := 7) dX0_partsBy_7 rfl ?_
    refine z_aload_n (pc := 9) 0 dX0_partsBy_9 rfl rfl ?_
    refine gf_X0_C_10_0 hG (pc := 10) dX0_partsBy_10 ?_
    refine z_callVi (pc := 13) _ _ 1 1 (ct_X1_squares (zGC_T hG)) mv_X1_squares q727 rfl (zGC_s1 hG) rfl (Nat.le_of_ble_eq_true rfl) (Nat.le_of_ble_eq_true rfl) rfl rfl (Nat.le_of_ble_eq_true rfl) dX0_partsBy_13 (fun r7 S6 => ?_)
    refine z_icmp_ge (pc := 16) 89 dX0_partsBy_16 rfl ?_ ?_
    · refine z_iload_n (pc := 89) 3 dX0_partsBy_89 rfl rfl ?_
      exact z_iret rfl dX0_partsBy_90 rfl
    · refine z_iload_n (pc := 19) 2 dX0_partsBy_19 rfl rfl ?_
      refine z_iload (pc := 20) dX0_partsBy_20 rfl ?_
      refine z_callSi (pc := 22) _ _ (ct_X0_has  _ _) mv_X0_has q767 rfl (Nat.le_of_ble_eq_true rfl) (Nat.le_of_ble_eq_true rfl) rfl rfl (Nat.le_of_ble_eq_true rfl) dX0_partsBy_22 (fun r9 S8 => ?_)
      refine z_if_eq (pc := 25) 31 dX0_partsBy_25 rfl ?_ ?_
      · refine z_iinc (pc := 31) (w := x3 + 1) dX0_partsBy_31 rfl (by rw [show Int32.ofInt 1 = 1 from by decide]) (Nat.le_of_ble_eq_true rfl) rfl ?_
        refine z_aload_n (pc := 34) 1 dX0_partsBy_34 rfl rfl ?_
        refine z_iload (pc := 35) dX0_partsBy_35 rfl ?_
        refine z_callVv (pc := 37) _ _ 8 2 (ct_X2_spreads_w8 hG _) mv_X2_spreads_w8 q776 rfl (zGC_s8 hG) rfl (Nat.le_of_ble_eq_true rfl) (Nat.le_of_ble_eq_true rfl) rfl rfl (Nat.le_of_ble_eq_true rfl) dX0_partsBy_37 (fun _ S10 => ?_)
        refine z_iconst (pc := 40) (v := 0) dX0_partsBy_40 (by decide) ?_
        refine z_istore (pc := 41) dX0_partsBy_41 (Nat.le_of_ble_eq_true rfl) rfl ?_
        refine z_loopK (fun j : Int32 → Int32 → zSt → Option (Int32 × zSt) => ∀ (x12 : Int32) (x13 : Int32) (S14 : zSt), Zm X mX0_partsBy_p8 zJI G (0, 0) res S14 43 [some (.ref (G.1 0)), some (.ref (G.1 8)), some (.int x12), some (.int (x3 + 1)), some (.int x4), some (.int x13)] [] (j x12 x13 S14)) ?_ ?_ zfuel _ _ _
        · intro x12 x13 S14; exact z_none
        · intro rec11 hrec11 x12 x13 S14
          unfold LB_X0_partsBy_p8_1
          refine z_iload (pc := 43) dX0_partsBy_43 rfl ?_
          refine z_aload_n (pc := 45) 0 dX0_partsBy_45 rfl rfl ?_
          refine gf_X0_C_10_0 hG (pc := 46) dX0_partsBy_46 ?_
          refine z_callVi (pc := 49) _ _ 1 1 (ct_X1_squares (zGC_T hG)) mv_X1_squares q727 rfl (zGC_s1 hG) rfl (Nat.le_of_ble_eq_true rfl) (Nat.le_of_ble_eq_true rfl) rfl rfl (Nat.le_of_ble_eq_true rfl) dX0_partsBy_49 (fun r16 S15 => ?_)
          refine z_icmp_ge (pc := 52) 83 dX0_partsBy_52 rfl ?_ ?_
          · refine z_iinc (pc := 83) (w := x4 + 1) dX0_partsBy_83 rfl (by rw [show Int32.ofInt 1 = 1 from by decide]) (Nat.le_of_ble_eq_true rfl) rfl ?_
            refine z_goto (pc := 86) 7 dX0_partsBy_86 rfl ?_
            exact z_mask [true, true, true, true, true, false] (hrec1 _ _ _ _) rfl
          · refine z_iload_n (pc := 55) 2 dX0_partsBy_55 rfl rfl ?_
            refine z_aload_n (pc := 56) 1 dX0_partsBy_56 rfl rfl ?_
            refine gf_X0_C_210_8 hG (pc := 57) dX0_partsBy_57 ?_
            refine z_iload (pc := 60) dX0_partsBy_60 rfl ?_
            refine z_chk (fun h17 => ?_)
            refine z_iaload (pc := 62) 9 32 (zGC_s9 hG) h17 dX0_partsBy_62 ?_
            refine z_iconst (pc := 63) (v := (-1)) dX0_partsBy_63 (by decide) ?_
            refine z_pure (st0 := [.int x12]) 75 ((if (S15.1 9 (x13).toNatClampNeg) = (-1) then 0 else (1 : Int32) <<< (x13 &&& 31))) ?_ (fun hJ => ?_)
            · refine z_ior (pc := 75) dX0_partsBy_75 ?_
              refine z_letI (fun w19 => ?_)
              refine z_istore_n (pc := 76) 2 dX0_partsBy_76 rfl (Nat.le_of_ble_eq_true rfl) rfl ?_
              refine z_iinc (pc := 77) (w := x13 + 1) dX0_partsBy_77 rfl (by rw [show Int32.ofInt 1 = 1 from by decide]) (Nat.le_of_ble_eq_true rfl) rfl ?_
              refine z_goto (pc := 80) 43 dX0_partsBy_80 rfl ?_
              exact hrec11 _ _ _
            · refine z_icmpd_ne (pc := 64) 71 dX0_partsBy_64 rfl (fun c20 => ?_) (fun c20 => ?_)
              · refine z_iconst (pc := 71) (v := 1) dX0_partsBy_71 (by decide) ?_
                refine z_iload (pc := 72) dX0_partsBy_72 rfl ?_
                refine z_ishl (pc := 74) dX0_partsBy_74 ?_
                exact z_leaf hJ (by simp only [if_neg c20])
              · refine z_iconst (pc := 67) (v := 0) dX0_partsBy_67 (by decide) ?_
                refine z_goto (pc := 68) 75 dX0_partsBy_68 rfl ?_
                exact z_leaf hJ (by simp only [if_pos c20])
      · refine z_goto (pc := 28) 83 dX0_partsBy_28 rfl ?_
        refine z_iinc (pc := 83) (w := x4 + 1) dX0_partsBy_83 rfl (by rw [show Int32.ofInt 1 = 1 from by decide]) (Nat.le_of_ble_eq_true rfl) rfl ?_
        refine z_goto (pc := 86) 7 dX0_partsBy_86 rfl ?_
        exact hrec1 _ _ _ _
