/-! WALKS (written by gen/mkparts.py) -/
set_option maxRecDepth 100000
abbrev mX0_lawOfWardens : zMr := ("HiddenCube", cX0_lawOfWardens, 2, (some .int), 6, 0, 0, none)
def F_X0_lawOfWardens  (S : zSt) : Option (Int32 × zSt) :=
zbind (F_X0_asksWardens 1 S) (fun r2 S1 =>
if 0 ≤ r2 then (zbind (F_X0_fewestWith 0 S1) (fun r4 S3 =>
zbind (F_X1_squares 1 S3) (fun r6 S5 =>
nz ((S5.1 1 0) + 1) (if (r6 / ((S5.1 1 0) + 1)) < r4 then (some (0, S5)) else (some ((-1), S5)))))) else (some (r2, S1)))
theorem mv_X0_lawOfWardens : ZV mX0_lawOfWardens yX0_lawOfWardens 0 := ⟨q1250, qs75, q150, q1251, rfl, by decide, by decide, by decide +kernel⟩
theorem ct_X0_lawOfWardens {G : zGw} (hG : zGC G)  : Zc mX0_lawOfWardens yX0_lawOfWardens zJI G [.ref (G.1 0)] (F_X0_lawOfWardens) := by
  refine Zc_of [some (.ref (G.1 0)), none] (by decide) rfl rfl (Nat.le_of_ble_eq_true rfl) rfl (fun X S res => ?_)
  unfold F_X0_lawOfWardens
  refine z_aload_n (pc := 0) 0 dX0_lawOfWardens_0 rfl rfl ?_
  refine z_iconst (pc := 1) (v := 1) dX0_lawOfWardens_1 (by decide) ?_
  refine z_callVi (pc := 2) _ _ 0 0 (ct_X0_asksWardens hG _) mv_X0_asksWardens q1062 rfl (zGC_s0 hG) rfl (Nat.le_of_ble_eq_true rfl) (Nat.le_of_ble_eq_true rfl) rfl rfl (Nat.le_of_ble_eq_true rfl) dX0_lawOfWardens_2 (fun r2 S1 => ?_)
  refine z_istore_n (pc := 5) 1 dX0_lawOfWardens_5 rfl (Nat.le_of_ble_eq_true rfl) rfl ?_
  refine z_iload_n (pc := 6) 1 dX0_lawOfWardens_6 rfl rfl ?_
  refine z_if_ge (pc := 7) 14 dX0_lawOfWardens_7 rfl ?_ ?_
  · refine z_aload_n (pc := 14) 0 dX0_lawOfWardens_14 rfl rfl ?_
    refine z_iconst (pc := 15) (v := 0) dX0_lawOfWardens_15 (by decide) ?_
    refine z_callVi (pc := 16) _ _ 0 0 (ct_X0_fewestWith hG _) mv_X0_fewestWith q1074 rfl (zGC_s0 hG) rfl (Nat.le_of_ble_eq_true rfl) (Nat.le_of_ble_eq_true rfl) rfl rfl (Nat.le_of_ble_eq_true rfl) dX0_lawOfWardens_16 (fun r4 S3 => ?_)
    refine z_aload_n (pc := 19) 0 dX0_lawOfWardens_19 rfl rfl ?_
    refine gf_X0_C_10_0 hG (pc := 20) dX0_lawOfWardens_20 ?_
    refine z_callVi (pc := 23) _ _ 1 1 (ct_X1_squares (zGC_T hG)) mv_X1_squares q727 rfl (zGC_s1 hG) rfl (Nat.le_of_ble_eq_true rfl) (Nat.le_of_ble_eq_true rfl) rfl rfl (Nat.le_of_ble_eq_true rfl) dX0_lawOfWardens_23 (fun r6 S5 => ?_)
    refine z_aload_n (pc := 26) 0 dX0_lawOfWardens_26 rfl rfl ?_
    refine gf_X0_C_10_0 hG (pc := 27) dX0_lawOfWardens_27 ?_
    refine gf_X0_C_158_1 hG (pc := 30) dX0_lawOfWardens_30 ?_
    refine z_iconst (pc := 33) (v := 1) dX0_lawOfWardens_33 (by decide) ?_
    refine z_iadd (pc := 34) dX0_lawOfWardens_34 ?_
    refine z_idiv (pc := 35) dX0_lawOfWardens_35 ?_
    refine z_icmp_gt (pc := 36) 43 dX0_lawOfWardens_36 rfl ?_ ?_
    · refine z_iconst (pc := 43) (v := 0) dX0_lawOfWardens_43 (by decide) ?_
      exact z_iret rfl dX0_lawOfWardens_44 rfl
    · refine z_iconst (pc := 39) (v := (-1)) dX0_lawOfWardens_39 (by decide) ?_
      refine z_goto (pc := 40) 44 dX0_lawOfWardens_40 rfl ?_
      exact z_iret rfl dX0_lawOfWardens_44 rfl
  · refine z_iload_n (pc := 10) 1 dX0_lawOfWardens_10 rfl rfl ?_
    refine z_goto (pc := 11) 44 dX0_lawOfWardens_11 rfl ?_
    exact z_iret rfl dX0_lawOfWardens_44 rfl
abbrev mX0_law : zMr := ("HiddenCube", cX0_law, 4, (some .int), 7, 0, 0, none)
def LB_X0_law_1 (a1 : Int32) (k5 : Int32 → Int32 → zSt → Option (Int32 × zSt)) (x10 : Int32) (rec9 : Int32 → zSt → Option (Int32 × zSt)) (rec16 : Int32 → zSt → Option (Int32 × zSt)) (x17 : Int32) (S18 : zSt) : Option (Int32 × zSt) :=
zbind (F_X1_squares 1 S18) (fun r20 S19 =>
if r20 ≤ x17 then (rec9 (x10 + 1) S19) else (if a1 = 0 then (zbind (F_X0_waysBetween x10 x17 S19) (fun r22 S21 =>
if r22 = (S21.1 1 0) then (rec16 (x17 + 1) S21) else (k5 x10 x17 S21))) else (rec9 (x10 + 1) S19)))
def LB_X0_law_2 (a1 : Int32) (k5 : Int32 → Int32 → zSt → Option (Int32 × zSt)) (rec9 : Int32 → zSt → Option (Int32 × zSt)) (x10 : Int32) (S11 : zSt) : Option (Int32 × zSt) :=
zbind (F_X1_squares 1 S11) (fun r13 S12 =>
if r13 ≤ x10 then (some ((-1), S12)) else (joinK (fun  (S15 : zSt) => loopK (fun _ _ => none) (LB_X0_law_1 a1 k5 x10 rec9) zfuel (x10 + 1) S15) (fun j14 : zSt → Option (Int32 × zSt) =>
if a1 = 1 then (zbind (F_X0_waysOf x10 S12) (fun r24 S23 =>
if (S23.1 1 0) ≤ r24 then (j14 S23) else (some (x10, S23)))) else (j14 S12))))
def F_X0_law (a1 : Int32) (S : zSt) : Option (Int32 × zSt) :=
zbind (F_X0_isTown S) (fun r2 S1 =>
if r2 = 0 then (some ((-2), S1)) else (zbind (F_X0_isOneOf a1 3 S1) (fun r4 S3 =>
if r4 = 0 then (some ((-2), S3)) else (if a1 = 2 then (zbind (F_X0_lawOfWardens S3) (fun r26 S25 =>
some (r26, S25))) else (joinK (fun (x6 : Int32) (x7 : Int32) (S8 : zSt) => some ((100 * x6) + x7, S8)) (fun k5 : Int32 → Int32 → zSt → Option (Int32 × zSt) =>
loopK (fun _ _ => none) (LB_X0_law_2 a1 k5) zfuel 0 S3))))))
theorem mv_X0_law : ZV mX0_law yX0_law 1 := ⟨q1245, q1246, q150, q1247, rfl, by decide, by decide, by decide +kernel⟩
theorem ct_X0_law {G : zGw} (hG : zGC G) (a1 : Int32) : Zc mX0_law yX0_law zJI G [.ref (G.1 0), .int a1] (F_X0_law a1) := by
  refine Zc_of [some (.ref (G.1 0)), some (.int a1), none, none] (by decide) rfl rfl (Nat.le_of_ble_eq_true rfl) rfl (fun X S res => ?_)
  unfold F_X0_law
  refine z_aload_n (pc := 0) 0 dX0_law_0 rfl rfl ?_
  refine z_callVi (pc := 1) _ _ 0 0 (ct_X0_isTown hG) mv_X0_isTown q827 rfl (zGC_s0 hG) rfl (Nat.le_of_ble_eq_true rfl) (Nat.le_of_ble_eq_true rfl) rfl rfl (Nat.le_of_ble_eq_true rfl) dX0_law_1 (fun r2 S1 => ?_)
  refine z_if_eq (pc := 4) 15 dX0_law_4 rfl ?_ ?_
  · refine z_bipush (pc := 15) (v := (-2)) dX0_law_15 (by decide) ?_
    exact z_iret rfl dX0_law_17 rfl
  · refine z_iload_n (pc := 7) 1 dX0_law_7 rfl rfl ?_
    refine z_iconst (pc := 8) (v := 3) dX0_law_8 (by decide) ?_
    refine z_callSi (pc := 9) _ _ (ct_X0_isOneOf  _ _) mv_X0_isOneOf q737 rfl (Nat.le_of_ble_eq_true rfl) (Nat.le_of_ble_eq_true rfl) rfl rfl (Nat.le_of_ble_eq_true rfl) dX0_law_9 (fun r4 S3 => ?_)
    refine z_if_ne (pc := 12) 18 dX0_law_12 rfl ?_ ?_
    · refine z_iload_n (pc := 18) 1 dX0_law_18 rfl rfl ?_
      refine z_iconst (pc := 19) (v := 2) dX0_law_19 (by decide) ?_
      refine z_icmp_ne (pc := 20) 28 dX0_law_20 rfl ?_ ?_
      · refine z_iconst (pc := 28) (v := 0) dX0_law_28 (by decide) ?_
        refine z_istore_n (pc := 29) 2 dX0_law_29 rfl (Nat.le_of_ble_eq_true rfl) rfl ?_
        refine z_join (fun j : Int32 → Int32 → zSt → Option (Int32 × zSt) => ∀ (x6 : Int32) (x7 : Int32) (S8 : zSt), Zm X mX0_law zJI G (0, 0) res S8 98 [none, none, some (.int x6), some (.int x7)] [] (j x6 x7 S8)) ?_ (fun k5 hk5 => ?_)
        · intro x6 x7 S8
          refine z_bipush (pc := 98) (v := 100) dX0_law_98 (by decide) ?_
          refine z_iload_n (pc := 100) 2 dX0_law_100 rfl rfl ?_
          refine z_imul (pc := 101) dX0_law_101 ?_
          refine z_iload_n (pc := 102) 3 dX0_law_102 rfl rfl ?_
          refine z_iadd (pc := 103) dX0_law_103 ?_
          exact z_iret rfl dX0_law_104 rfl
        · refine z_loopK (fun j : Int32 → zSt → Option (Int32 × zSt) => ∀ (x10 : Int32) (S11 : zSt), Zm X mX0_law zJI G (0, 0) res S11 30 [some (.ref (G.1 0)), some (.int a1), some (.int x10), none] [] (j x10 S11)) ?_ ?_ zfuel _ _
          · intro x10 S11; exact z_none
          · intro rec9 hrec9 x10 S11
            unfold LB_X0_law_2
            refine z_iload_n (pc := 30) 2 dX0_law_30 rfl rfl ?_
            refine z_aload_n (pc := 31) 0 dX0_law_31 rfl rfl ?_
            refine gf_X0_C_10_0 hG (pc := 32) dX0_law_32 ?_
            refine z_callVi (pc := 35) _ _ 1 1 (ct_X1_squares (zGC_T hG)) mv_X1_squares q727 rfl (zGC_s1 hG) rfl (Nat.le_of_ble_eq_true rfl) (Nat.le_of_ble_eq_true rfl) rfl rfl (Nat.le_of_ble_eq_true rfl) dX0_law_35 (fun r13 S12 => ?_)
            refine z_icmp_ge (pc := 38) 117 dX0_law_38 rfl ?_ ?_
            · refine z_iconst (pc := 117) (v := (-1)) dX0_law_117 (by decide) ?_
              exact z_iret rfl dX0_law_118 rfl
            · refine z_iload_n (pc := 41) 1 dX0_law_41 rfl rfl ?_
              refine z_iconst (pc := 42) (v := 1) dX0_law_42 (by decide) ?_
              refine z_join (fun j : zSt → Option (Int32 × zSt) => ∀  (S15 : zSt), Zm X mX0_law zJI G (0, 0) res S15 63 [some (.ref (G.1 0)), some (.int a1), some (.int x10), none] [] (j S15)) ?_ (fun j14 hj14 => ?_)
              · intro S15
                refine z_iload_n (pc := 63) 2 dX0_law_63 rfl rfl ?_
                refine z_iconst (pc := 64) (v := 1) dX0_law_64 (by decide) ?_
                refine z_iadd (pc := 65) dX0_law_65 ?_
                refine z_istore_n (pc := 66) 3 dX0_law_66 rfl (Nat.le_of_ble_eq_true rfl) rfl ?_
                refine z_loopK (fun j : Int32 → zSt → Option (Int32 × zSt) => ∀ (x17 : Int32) (S18 : zSt), Zm X mX0_law zJI G (0, 0) res S18 67 [some (.ref (G.1 0)), some (.int a1), some (.int x10), some (.int x17)] [] (j x17 S18)) ?_ ?_ zfuel _ _
                · intro x17 S18; exact z_none
                · intro rec16 hrec16 x17 S18
                  unfold LB_X0_law_1
                  refine z_iload_n (pc := 67) 3 dX0_law_67 rfl rfl ?_
                  refine z_aload_n (pc := 68) 0 dX0_law_68 rfl rfl ?_
                  refine gf_X0_C_10_0 hG (pc := 69) dX0_law_69 ?_
                  refine z_callVi (pc := 72) _ _ 1 1 (ct_X1_squares (zGC_T hG)) mv_X1_squares q727 rfl (zGC_s1 hG) rfl (Nat.le_of_ble_eq_true rfl) (Nat.le_of_ble_eq_true rfl) rfl rfl (Nat.le_of_ble_eq_true rfl) dX0_law_72 (fun r20 S19 => ?_)
                  refine z_icmp_ge (pc := 75) 111 dX0_law_75 rfl ?_ ?_
                  · refine z_iinc (pc := 111) (w := x10 + 1) dX0_law_111 rfl (by rw [show Int32.ofInt 1 = 1 from by decide]) (Nat.le_of_ble_eq_true rfl) rfl ?_
                    refine z_goto (pc := 114) 30 dX0_law_114 rfl ?_
                    exact z_mask [true, true, true, false] (hrec9 _ _) rfl
                  · refine z_iload_n (pc := 78) 1 dX0_law_78 rfl rfl ?_
                    refine z_if_ne (pc := 79) 111 dX0_law_79 rfl ?_ ?_
                    · refine z_iinc (pc := 111) (w := x10 + 1) dX0_law_111 rfl (by rw [show Int32.ofInt 1 = 1 from by decide]) (Nat.le_of_ble_eq_true rfl) rfl ?_
                      refine z_goto (pc := 114) 30 dX0_law_114 rfl ?_
                      exact z_mask [true, true, true, false] (hrec9 _ _) rfl
                    · refine z_aload_n (pc := 82) 0 dX0_law_82 rfl rfl ?_
                      refine z_iload_n (pc := 83) 2 dX0_law_83 rfl rfl ?_
                      refine z_iload_n (pc := 84) 3 dX0_law_84 rfl rfl ?_
                      refine z_callVi (pc := 85) _ _ 0 0 (ct_X0_waysBetween hG _ _) mv_X0_waysBetween q871 rfl (zGC_s0 hG) rfl (Nat.le_of_ble_eq_true rfl) (Nat.le_of_ble_eq_true rfl) rfl rfl (Nat.le_of_ble_eq_true rfl) dX0_law_85 (fun r22 S21 => ?_)
                      refine z_aload_n (pc := 88) 0 dX0_law_88 rfl rfl ?_
                      refine gf_X0_C_10_0 hG (pc := 89) dX0_law_89 ?_
                      refine gf_X0_C_158_1 hG (pc := 92) dX0_law_92 ?_
                      refine z_icmp_eq (pc := 95) 105 dX0_law_95 rfl ?_ ?_
                      · refine z_iinc (pc := 105) (w := x17 + 1) dX0_law_105 rfl (by rw [show Int32.ofInt 1 = 1 from by decide]) (Nat.le_of_ble_eq_true rfl) rfl ?_
                        refine z_goto (pc := 108) 67 dX0_law_108 rfl ?_
                        exact hrec16 _ _
                      · exact z_mask [false, false, true, true] (hk5 _ _ _) rfl
              · refine z_icmp_ne (pc := 43) 63 dX0_law_43 rfl ?_ ?_
                · exact hj14 _
                · refine z_aload_n (pc := 46) 0 dX0_law_46 rfl rfl ?_
                  refine z_iload_n (pc := 47) 2 dX0_law_47 rfl rfl ?_
                  refine z_callVi (pc := 48) _ _ 0 0 (ct_X0_waysOf hG _) mv_X0_waysOf q745 rfl (zGC_s0 hG) rfl (Nat.le_of_ble_eq_true rfl) (Nat.le_of_ble_eq_true rfl) rfl rfl (Nat.le_of_ble_eq_true rfl) dX0_law_48 (fun r24 S23 => ?_)
                  refine z_aload_n (pc := 51) 0 dX0_law_51 rfl rfl ?_
                  refine gf_X0_C_10_0 hG (pc := 52) dX0_law_52 ?_
                  refine gf_X0_C_158_1 hG (pc := 55) dX0_law_55 ?_
                  refine z_icmp_ge (pc := 58) 63 dX0_law_58 rfl ?_ ?_
                  · exact hj14 _
                  · refine z_iload_n (pc := 61) 2 dX0_law_61 rfl rfl ?_
                    exact z_iret rfl dX0_law_62 rfl
      · refine z_aload_n (pc := 23) 0 dX0_law_23 rfl rfl ?_
        refine z_callVi (pc := 24) _ _ 0 0 (ct_X0_lawOfWardens hG) mv_X0_lawOfWardens q1248 rfl (zGC_s0 hG) rfl (Nat.le_of_ble_eq_true rfl) (Nat.le_of_ble_eq_true rfl) rfl rfl (Nat.le_of_ble_eq_true rfl) dX0_law_24 (fun r26 S25 => ?_)
        exact z_iret rfl dX0_law_27 rfl
    · refine z_bipush (pc := 15) (v := (-2)) dX0_law_15 (by decide) ?_
      exact z_iret rfl dX0_law_17 rfl
abbrev mX0_isSeed : zMr := ("HiddenCube", cX0_isSeed, 1, (some .boolean), 2, 0, 0, none)
def F_X0_isSeed (a1 : Int32) (S : zSt) : Option (Int32 × zSt) :=
zbind (F_X0_isIn ((a1).toInt64) 0 2000000000 S) (fun r2 S1 =>
some (r2 &&& 1, S1))
theorem mv_X0_isSeed : ZS mX0_isSeed yX0_isSeed 1 := ⟨q1257, q150, q1258, by decide, by decide, by decide +kernel⟩
theorem ct_X0_isSeed {G : zGw} (a1 : Int32) : Zc mX0_isSeed yX0_isSeed zJI G [.int a1] (F_X0_isSeed a1) := by
  refine Zc_of [some (.int a1)] (by decide) rfl rfl (Nat.le_of_ble_eq_true rfl) rfl (fun X S res => ?_)
  unfold F_X0_isSeed
  refine z_iload_n (pc := 0) 0 dX0_isSeed_0 rfl rfl ?_
  refine z_i2l (pc := 1) dX0_isSeed_1 ?_
  refine z_lconst (pc := 2) (v := 0) dX0_isSeed_2 (by decide) ?_
  refine z_ldc2 (pc := 3) (v := 2000000000) dX0_isSeed_3 q1259 ?_
  refine z_callSi (pc := 6) _ _ (ct_X0_isIn  _ _ _) mv_X0_isIn q429 rfl (Nat.le_of_ble_eq_true rfl) (Nat.le_of_ble_eq_true rfl) rfl rfl (Nat.le_of_ble_eq_true rfl) dX0_isSeed_6 (fun r2 S1 => ?_)
  exact z_zret rfl rfl dX0_isSeed_9 rfl
abbrev mX0_draws : zMr := ("HiddenCube", cX0_draws, 6, none, 1, 0, 0, none)
def LB_X0_draws_1 (rec1 : Int64 → Int32 → zSt → Option (Unit × zSt)) (x2 : Int64) (x3 : Int32) (S4 : zSt) : Option (Unit × zSt) :=
if 60 ≤ x3 then (some ((), S4)) else (zlet (((1103515245 * x2) + 12345) - ((1103515245 * x2) + 12345) / 2147483648 * 2147483648 : Int64) (fun w5 : Int64 =>
nzL ((S4.1 1 0).toInt64) (chk x3 60 (zlet (sI S4 36 (x3).toNatClampNeg (((w5 / 65536) - (w5 / 65536) / ((S4.1 1 0).toInt64) * ((S4.1 1 0).toInt64)).toInt32) : zSt) (fun S7 : zSt =>
rec1 w5 (x3 + 1) S7)))))
def F_X0_draws (a1 : Int64) (S : zSt) : Option (Unit × zSt) :=
loopK (fun _ _ _ => none) (LB_X0_draws_1) zfuel a1 0 S
theorem mv_X0_draws : ZV mX0_draws yX0_draws 1 := ⟨q1266, qs77, q150, q1267, rfl, by decide, by decide, by decide +kernel⟩
theorem ct_X0_draws {G : zGw} (hG : zGC G) (a1 : Int64) : Zc mX0_draws yX0_draws zJV G [.ref (G.1 0), .long a1] (F_X0_draws a1) := by
  refine Zc_of [some (.ref (G.1 0)), some (.long a1), none, none, none, none] (by decide) rfl rfl (Nat.le_of_ble_eq_true rfl) rfl (fun X S res => ?_)
  unfold F_X0_draws
  refine z_lload_n (pc := 0) 1 dX0_draws_0 rfl rfl ?_
  refine z_lstore_n (pc := 1) 3 dX0_draws_1 rfl (Nat.le_of_ble_eq_true rfl) rfl ?_
  refine z_iconst (pc := 2) (v := 0) dX0_draws_2 (by decide) ?_
  refine z_istore (pc := 3) dX0_draws_3 (Nat.le_of_ble_eq_true rfl) rfl ?_
  refine z_maskk [true, false, false, true, false, true] ?_
  refine z_loopK (fun j : Int64 → Int32 → zSt → Option (Unit × zSt) => ∀ (x2 : Int64) (x3 : Int32) (S4 : zSt), Zm X mX0_draws zJV G (0, 0) res S4 5 [some (.ref (G.1 0)), none, none, some (.long x2), none, some (.int x3)] [] (j x2 x3 S4)) ?_ ?_ zfuel _ _ _
  · intro x2 x3 S4; exact z_none
  · intro rec1 hrec1 x2 x3 S4
    unfold LB_X0_draws_1
    refine z_iload (pc := 5) dX0_draws_5 rfl ?_
    refine z_bipush (pc := 7) (v := 60) dX0_draws_7 (by decide) ?_
    refine z_icmp_ge (pc := 9) 54 dX0_draws_9 rfl ?_ ?_
    · exact z_vret rfl dX0_draws_54 rfl
    · refine z_ldc2 (pc := 12) (v := 1103515245) dX0_draws_12 q1268 ?_
      refine z_lload_n (pc := 15) 3 dX0_draws_15 rfl rfl ?_
      refine z_lmul (pc := 16) dX0_draws_16 ?_
      refine z_ldc2 (pc := 17) (v := 12345) dX0_draws_17 q1269 ?_
      refine z_ladd (pc := 20) dX0_draws_20 ?_
      refine z_ldc2 (pc := 21) (v := 2147483648) dX0_draws_21 q1270 ?_
      refine z_lremc (pc := 24) dX0_draws_24 (by decide) ?_
      refine z_letL (fun w5 => ?_)
      refine z_lstore_n (pc := 25) 3 dX0_draws_25 rfl (Nat.le_of_ble_eq_true rfl) rfl ?_
      refine z_aload_n (pc := 26) 0 dX0_draws_26 rfl rfl ?_
      refine gf_X0_C_112_0 hG (pc := 27) dX0_draws_27 ?_
      refine z_iload (pc := 30) dX0_draws_30 rfl ?_
      refine z_lload_n (pc := 32) 3 dX0_draws_32 rfl rfl ?_
      refine z_ldc2 (pc := 33) (v := 65536) dX0_draws_33 q1271 ?_
      refine z_ldivc (pc := 36) dX0_draws_36 (by decide) ?_
      refine z_aload_n (pc := 37) 0 dX0_draws_37 rfl rfl ?_
      refine gf_X0_C_10_0 hG (pc := 38) dX0_draws_38 ?_
      refine gf_X0_C_158_1 hG (pc := 41) dX0_draws_41 ?_
      refine z_i2l (pc := 44) dX0_draws_44 ?_
      refine z_lrem (pc := 45) dX0_draws_45 ?_
      refine z_l2i (pc := 46) dX0_draws_46 ?_
      refine z_chk (fun h6 => ?_)
      refine z_iastore (pc := 47) 36 60 (zGC_s36 hG) h6 dX0_draws_47 ?_
      refine z_letS (fun S7 => ?_)
      refine z_iinc (pc := 48) (w := x3 + 1) dX0_draws_48 rfl (by rw [show Int32.ofInt 1 = 1 from by decide]) (Nat.le_of_ble_eq_true rfl) rfl ?_
      refine z_goto (pc := 51) 5 dX0_draws_51 rfl ?_
      exact hrec1 _ _ _
abbrev mX0_daysOf : zMr := ("HiddenCube", cX0_daysOf, 8, (some .int), 5, 0, 0, none)
def LB_X0_daysOf_1 (a3 : Int32) (k4 : Int32 → zSt → Option (Int32 × zSt)) (rec7 : Int32 → Int32 → zSt → Option (Int32 × zSt)) (x8 : Int32) (x9 : Int32) (S10 : zSt) : Option (Int32 × zSt) :=
if 60 ≤ x9 then (some ((-1), S10)) else (chk x9 60 (zbind (F_X0_nextTo x8 (S10.1 36 (x9).toNatClampNeg) S10) (fun r13 S12 =>
zlet ((if r13 = (-1) then x8 else r13) : Int32) (fun w15 : Int32 =>
if w15 = a3 then (k4 x9 S12) else (rec7 w15 (x9 + 1) S12)))))
def F_X0_daysOf (a1 : Int64) (a2 : Int32) (a3 : Int32) (S : zSt) : Option (Int32 × zSt) :=
zbind (F_X0_draws a1 S) (fun _ S1 =>
zbind (F_X2_spreads_w8 a3 S1) (fun _ S2 =>
chk a2 32 (if (S2.1 9 (a2).toNatClampNeg) = (-1) then (some ((-1), S2)) else (joinK (fun (x5 : Int32) (S6 : zSt) => some (x5 + 1, S6)) (fun k4 : Int32 → zSt → Option (Int32 × zSt) =>
loopK (fun _ _ _ => none) (LB_X0_daysOf_1 a3 k4) zfuel a2 0 S2)))))
theorem mv_X0_daysOf : ZV mX0_daysOf yX0_daysOf 3 := ⟨q1262, qs76, q150, q1263, rfl, by decide, by decide, by decide +kernel⟩
theorem ct_X0_daysOf {G : zGw} (hG : zGC G) (a1 : Int64) (a2 : Int32) (a3 : Int32) : Zc mX0_daysOf yX0_daysOf zJI G [.ref (G.1 0), .long a1, .int a2, .int a3] (F_X0_daysOf a1 a2 a3) := by
  refine Zc_of [some (.ref (G.1 0)), some (.long a1), none, some (.int a2), some (.int a3), none, none, none] (by decide) rfl rfl (Nat.le_of_ble_eq_true rfl) rfl (fun X S res => ?_)
  unfold F_X0_daysOf
  refine z_aload_n (pc := 0) 0 dX0_daysOf_0 rfl rfl ?_
  refine z_lload_n (pc := 1) 1 dX0_daysOf_1 rfl rfl ?_
  refine z_callVv (pc := 2) _ _ 0 0 (ct_X0_draws hG _) mv_X0_draws q1264 rfl (zGC_s0 hG) rfl (Nat.le_of_ble_eq_true rfl) (Nat.le_of_ble_eq_true rfl) rfl rfl (Nat.le_of_ble_eq_true rfl) dX0_daysOf_2 (fun _ S1 => ?_)
  refine z_aload_n (pc := 5) 0 dX0_daysOf_5 rfl rfl ?_
  refine gf_X0_C_29_0 hG (pc := 6) dX0_daysOf_6 ?_
  refine z_iload (pc := 9) dX0_daysOf_9 rfl ?_
  refine z_callVv (pc := 11) _ _ 8 2 (ct_X2_spreads_w8 hG _) mv_X2_spreads_w8 q776 rfl (zGC_s8 hG) rfl (Nat.le_of_ble_eq_true rfl) (Nat.le_of_ble_eq_true rfl) rfl rfl (Nat.le_of_ble_eq_true rfl) dX0_daysOf_11 (fun _ S2 => ?_)
  refine z_aload_n (pc := 14) 0 dX0_daysOf_14 rfl rfl ?_
  refine gf_X0_C_29_0 hG (pc := 15) dX0_daysOf_15 ?_
  refine gf_X0_C_210_8 hG (pc := 18) dX0_daysOf_18 ?_
  refine z_iload_n (pc := 21) 3 dX0_daysOf_21 rfl rfl ?_
  refine z_chk (fun h3 => ?_)
  refine z_iaload (pc := 22) 9 32 (zGC_s9 hG) h3 dX0_daysOf_22 ?_
  refine z_iconst (pc := 23) (v := (-1)) dX0_daysOf_23 (by decide) ?_
  refine z_icmp_ne (pc := 24) 29 dX0_daysOf_24 rfl ?_ ?_
  · refine z_iload_n (pc := 29) 3 dX0_daysOf_29 rfl rfl ?_
    refine z_istore (pc := 30) dX0_daysOf_30 (Nat.le_of_ble_eq_true rfl) rfl ?_
    refine z_iconst (pc := 32) (v := 0) dX0_daysOf_32 (by decide) ?_
    refine z_istore (pc := 33) dX0_daysOf_33 (Nat.le_of_ble_eq_true rfl) rfl ?_
    refine z_join (fun j : Int32 → zSt → Option (Int32 × zSt) => ∀ (x5 : Int32) (S6 : zSt), Zm X mX0_daysOf zJI G (0, 0) res S6 79 [none, none, none, none, none, none, some (.int x5), none] [] (j x5 S6)) ?_ (fun k4 hk4 => ?_)
    · intro x5 S6
      refine z_iload (pc := 79) dX0_daysOf_79 rfl ?_
      refine z_iconst (pc := 81) (v := 1) dX0_daysOf_81 (by decide) ?_
      refine z_iadd (pc := 82) dX0_daysOf_82 ?_
      exact z_iret rfl dX0_daysOf_83 rfl
    · refine z_maskk [true, false, false, false, true, true, true, false] ?_
      refine z_loopK (fun j : Int32 → Int32 → zSt → Option (Int32 × zSt) => ∀ (x8 : Int32) (x9 : Int32) (S10 : zSt), Zm X mX0_daysOf zJI G (0, 0) res S10 35 [some (.ref (G.1 0)), none, none, none, some (.int a3), some (.int x8), some (.int x9), none] [] (j x8 x9 S10)) ?_ ?_ zfuel _ _ _
      · intro x8 x9 S10; exact z_none
      · intro rec7 hrec7 x8 x9 S10
        unfold LB_X0_daysOf_1
        refine z_iload (pc := 35) dX0_daysOf_35 rfl ?_
        refine z_bipush (pc := 37) (v := 60) dX0_daysOf_37 (by decide) ?_
        refine z_icmp_ge (pc := 39) 90 dX0_daysOf_39 rfl ?_ ?_
        · refine z_iconst (pc := 90) (v := (-1)) dX0_daysOf_90 (by decide) ?_
          exact z_iret rfl dX0_daysOf_91 rfl
        · refine z_aload_n (pc := 42) 0 dX0_daysOf_42 rfl rfl ?_
          refine z_iload (pc := 43) dX0_daysOf_43 rfl ?_
          refine z_aload_n (pc := 45) 0 dX0_daysOf_45 rfl rfl ?_
          refine gf_X0_C_112_0 hG (pc := 46) dX0_daysOf_46 ?_
          refine z_iload (pc := 49) dX0_daysOf_49 rfl ?_
          refine z_chk (fun h11 => ?_)
          refine z_iaload (pc := 51) 36 60 (zGC_s36 hG) h11 dX0_daysOf_51 ?_
          refine z_callVi (pc := 52) _ _ 0 0 (ct_X0_nextTo hG _ _) mv_X0_nextTo q802 rfl (zGC_s0 hG) rfl (Nat.le_of_ble_eq_true rfl) (Nat.le_of_ble_eq_true rfl) rfl rfl (Nat.le_of_ble_eq_true rfl) dX0_daysOf_52 (fun r13 S12 => ?_)
          refine z_istore (pc := 55) dX0_daysOf_55 (Nat.le_of_ble_eq_true rfl) rfl ?_
          refine z_iload (pc := 57) dX0_daysOf_57 rfl ?_
          refine z_iconst (pc := 59) (v := (-1)) dX0_daysOf_59 (by decide) ?_
          refine z_pure (st0 := []) 70 ((if r13 = (-1) then x8 else r13)) ?_ (fun hJ => ?_)
          · refine z_letI (fun w15 => ?_)
            refine z_istore (pc := 70) dX0_daysOf_70 (Nat.le_of_ble_eq_true rfl) rfl ?_
            refine z_iload (pc := 72) dX0_daysOf_72 rfl ?_
            refine z_iload (pc := 74) dX0_daysOf_74 rfl ?_
            refine z_icmp_ne (pc := 76) 84 dX0_daysOf_76 rfl ?_ ?_
            · refine z_iinc (pc := 84) (w := x9 + 1) dX0_daysOf_84 rfl (by rw [show Int32.ofInt 1 = 1 from by decide]) (Nat.le_of_ble_eq_true rfl) rfl ?_
              refine z_goto (pc := 87) 35 dX0_daysOf_87 rfl ?_
              exact z_mask [true, false, false, false, true, true, true, false] (hrec7 _ _ _) rfl
            · exact z_mask [false, false, false, false, false, false, true, false] (hk4 _ _) rfl
          · refine z_icmpd_ne (pc := 60) 68 dX0_daysOf_60 rfl (fun c16 => ?_) (fun c16 => ?_)
            · refine z_iload (pc := 68) dX0_daysOf_68 rfl ?_
              exact z_leaf hJ (by simp only [if_neg c16])
            · refine z_iload (pc := 63) dX0_daysOf_63 rfl ?_
              refine z_goto (pc := 65) 70 dX0_daysOf_65 rfl ?_
              exact z_leaf hJ (by simp only [if_pos c16])
  · refine z_iconst (pc := 27) (v := (-1)) dX0_daysOf_27 (by decide) ?_
    exact z_iret rfl dX0_daysOf_28 rfl
abbrev mX0_flood : zMr := ("HiddenCube", cX0_flood, 4, (some .int), 6, 0, 0, none)
def F_X0_flood (a1 : Int32) (a2 : Int32) (a3 : Int32) (S : zSt) : Option (Int32 × zSt) :=
zbind (F_X0_isSeed a1 S) (fun r2 S1 =>
if r2 = 0 then (some ((-2), S1)) else (zbind (F_X0_areTwo a2 a3 S1) (fun r4 S3 =>
if r4 = 0 then (some ((-2), S3)) else (zbind (F_X0_daysOf ((a1).toInt64) a2 a3 S3) (fun r6 S5 =>
some (r6, S5))))))
theorem mv_X0_flood : ZV mX0_flood yX0_flood 3 := ⟨q1253, q1254, q150, q1255, rfl, by decide, by decide, by decide +kernel⟩
theorem ct_X0_flood {G : zGw} (hG : zGC G) (a1 : Int32) (a2 : Int32) (a3 : Int32) : Zc mX0_flood yX0_flood zJI G [.ref (G.1 0), .int a1, .int a2, .int a3] (F_X0_flood a1 a2 a3) := by
  refine Zc_of [some (.ref (G.1 0)), some (.int a1), some (.int a2), some (.int a3)] (by decide) rfl rfl (Nat.le_of_ble_eq_true rfl) rfl (fun X S res => ?_)
  unfold F_X0_flood
  refine z_iload_n (pc := 0) 1 dX0_flood_0 rfl rfl ?_
  refine z_callSi (pc := 1) _ _ (ct_X0_isSeed  _) mv_X0_isSeed q1256 rfl (Nat.le_of_ble_eq_true rfl) (Nat.le_of_ble_eq_true rfl) rfl rfl (Nat.le_of_ble_eq_true rfl) dX0_flood_1 (fun r2 S1 => ?_)
  refine z_if_eq (pc := 4) 27 dX0_flood_4 rfl ?_ ?_
  · refine z_bipush (pc := 27) (v := (-2)) dX0_flood_27 (by decide) ?_
    exact z_iret rfl dX0_flood_29 rfl
  · refine z_aload_n (pc := 7) 0 dX0_flood_7 rfl rfl ?_
    refine z_iload_n (pc := 8) 2 dX0_flood_8 rfl rfl ?_
    refine z_iload_n (pc := 9) 3 dX0_flood_9 rfl rfl ?_
    refine z_callVi (pc := 10) _ _ 0 0 (ct_X0_areTwo hG _ _) mv_X0_areTwo q843 rfl (zGC_s0 hG) rfl (Nat.le_of_ble_eq_true rfl) (Nat.le_of_ble_eq_true rfl) rfl rfl (Nat.le_of_ble_eq_true rfl) dX0_flood_10 (fun r4 S3 => ?_)
    refine z_if_eq (pc := 13) 27 dX0_flood_13 rfl ?_ ?_
    · refine z_bipush (pc := 27) (v := (-2)) dX0_flood_27 (by decide) ?_
      exact z_iret rfl dX0_flood_29 rfl
    · refine z_aload_n (pc := 16) 0 dX0_flood_16 rfl rfl ?_
      refine z_iload_n (pc := 17) 1 dX0_flood_17 rfl rfl ?_
      refine z_i2l (pc := 18) dX0_flood_18 ?_
      refine z_iload_n (pc := 19) 2 dX0_flood_19 rfl rfl ?_
      refine z_iload_n (pc := 20) 3 dX0_flood_20 rfl rfl ?_
      refine z_callVi (pc := 21) _ _ 0 0 (ct_X0_daysOf hG _ _ _) mv_X0_daysOf q1260 rfl (zGC_s0 hG) rfl (Nat.le_of_ble_eq_true rfl) (Nat.le_of_ble_eq_true rfl) rfl rfl (Nat.le_of_ble_eq_true rfl) dX0_flood_21 (fun r6 S5 => ?_)
      refine z_goto (pc := 24) 29 dX0_flood_24 rfl ?_
      exact z_iret rfl dX0_flood_29 rfl
abbrev mX0_day : zMr := ("HiddenCube", cX0_day, 3, (some .int), 3, 0, 0, none)
def F_X0_day (a1 : Int32) (a2 : Int32) (S : zSt) : Option (Int32 × zSt) :=
zbind (F_X0_isTown S) (fun r2 S1 =>
if r2 = 0 then (some ((-2), S1)) else (zbind (F_X0_isSeed a1 S1) (fun r4 S3 =>
if r4 = 0 then (some ((-2), S3)) else (zbind (F_X0_isOneOf a2 60 S3) (fun r6 S5 =>
if r6 = 0 then (some ((-2), S5)) else (zbind (F_X0_draws ((a1).toInt64) S5) (fun _ S7 =>
chk a2 60 (some (S7.1 36 (a2).toNatClampNeg, S7)))))))))
theorem mv_X0_day : ZV mX0_day yX0_day 2 := ⟨q1273, q1274, q150, q1275, rfl, by decide, by decide, by decide +kernel⟩
theorem ct_X0_day {G : zGw} (hG : zGC G) (a1 : Int32) (a2 : Int32) : Zc mX0_day yX0_day zJI G [.ref (G.1 0), .int a1, .int a2] (F_X0_day a1 a2) := by
  refine Zc_of [some (.ref (G.1 0)), some (.int a1), some (.int a2)] (by decide) rfl rfl (Nat.le_of_ble_eq_true rfl) rfl (fun X S res => ?_)
  unfold F_X0_day
  refine z_aload_n (pc := 0) 0 dX0_day_0 rfl rfl ?_
  refine z_callVi (pc := 1) _ _ 0 0 (ct_X0_isTown hG) mv_X0_isTown q827 rfl (zGC_s0 hG) rfl (Nat.le_of_ble_eq_true rfl) (Nat.le_of_ble_eq_true rfl) rfl rfl (Nat.le_of_ble_eq_true rfl) dX0_day_1 (fun r2 S1 => ?_)
  refine z_if_eq (pc := 4) 23 dX0_day_4 rfl ?_ ?_
  · refine z_bipush (pc := 23) (v := (-2)) dX0_day_23 (by decide) ?_
    exact z_iret rfl dX0_day_25 rfl
  · refine z_iload_n (pc := 7) 1 dX0_day_7 rfl rfl ?_
    refine z_callSi (pc := 8) _ _ (ct_X0_isSeed  _) mv_X0_isSeed q1256 rfl (Nat.le_of_ble_eq_true rfl) (Nat.le_of_ble_eq_true rfl) rfl rfl (Nat.le_of_ble_eq_true rfl) dX0_day_8 (fun r4 S3 => ?_)
    refine z_if_eq (pc := 11) 23 dX0_day_11 rfl ?_ ?_
    · refine z_bipush (pc := 23) (v := (-2)) dX0_day_23 (by decide) ?_
      exact z_iret rfl dX0_day_25 rfl
    · refine z_iload_n (pc := 14) 2 dX0_day_14 rfl rfl ?_
      refine z_bipush (pc := 15) (v := 60) dX0_day_15 (by decide) ?_
      refine z_callSi (pc := 17) _ _ (ct_X0_isOneOf  _ _) mv_X0_isOneOf q737 rfl (Nat.le_of_ble_eq_true rfl) (Nat.le_of_ble_eq_true rfl) rfl rfl (Nat.le_of_ble_eq_true rfl) dX0_day_17 (fun r6 S5 => ?_)
      refine z_if_ne (pc := 20) 26 dX0_day_20 rfl ?_ ?_
      · refine z_aload_n (pc := 26) 0 dX0_day_26 rfl rfl ?_
        refine z_iload_n (pc := 27) 1 dX0_day_27 rfl rfl ?_
        refine z_i2l (pc := 28) dX0_day_28 ?_
        refine z_callVv (pc := 29) _ _ 0 0 (ct_X0_draws hG _) mv_X0_draws q1264 rfl (zGC_s0 hG) rfl (Nat.le_of_ble_eq_true rfl) (Nat.le_of_ble_eq_true rfl) rfl rfl (Nat.le_of_ble_eq_true rfl) dX0_day_29 (fun _ S7 => ?_)
        refine z_aload_n (pc := 32) 0 dX0_day_32 rfl rfl ?_
        refine gf_X0_C_112_0 hG (pc := 33) dX0_day_33 ?_
        refine z_iload_n (pc := 36) 2 dX0_day_36 rfl rfl ?_
        refine z_chk (fun h8 => ?_)
        refine z_iaload (pc := 37) 36 60 (zGC_s36 hG) h8 dX0_day_37 ?_
        exact z_iret rfl dX0_day_38 rfl
      · refine z_bipush (pc := 23) (v := (-2)) dX0_day_23 (by decide) ?_
        exact z_iret rfl dX0_day_25 rfl
abbrev mX0_chance : zMr := ("HiddenCube", cX0_chance, 8, (some .int), 6, 0, 0, none)
def LB_X0_chance_1 (a1 : Int32) (a2 : Int32) (a3 : Int32) (a4 : Int32) (a5 : Int32) (rec9 : Int32 → Int32 → zSt → Option (Int32 × zSt)) (x10 : Int32) (x11 : Int32) (S12 : zSt) : Option (Int32 × zSt) :=
if a2 ≤ x11 then (some (x10, S12)) else (zbind (F_X0_daysOf (((a1).toInt64) + ((x11).toInt64)) a3 a4 S12) (fun r14 S13 =>
zbind (F_X0_isIn ((r14).toInt64) 1 ((a5).toInt64) S13) (fun r16 S15 =>
zlet (x10 + (if r16 = 0 then 0 else 1) : Int32) (fun w18 : Int32 =>
rec9 w18 (x11 + 1) S15))))
def F_X0_chance (a1 : Int32) (a2 : Int32) (a3 : Int32) (a4 : Int32) (a5 : Int32) (S : zSt) : Option (Int32 × zSt) :=
zbind (F_X0_isSeed a1 S) (fun r2 S1 =>
if r2 = 0 then (some ((-2), S1)) else (zbind (F_X0_isIn ((a2).toInt64) 1 20 S1) (fun r4 S3 =>
if r4 = 0 then (some ((-2), S3)) else (zbind (F_X0_areTwo a3 a4 S3) (fun r6 S5 =>
if r6 = 0 then (some ((-2), S5)) else (zbind (F_X0_isIn ((a5).toInt64) 1 60 S5) (fun r8 S7 =>
if r8 = 0 then (some ((-2), S7)) else (loopK (fun _ _ _ => none) (LB_X0_chance_1 a1 a2 a3 a4 a5) zfuel 0 0 S7))))))))
theorem mv_X0_chance : ZV mX0_chance yX0_chance 5 := ⟨q1277, q1278, q150, q1279, rfl, by decide, by decide, by decide +kernel⟩
theorem ct_X0_chance {G : zGw} (hG : zGC G) (a1 : Int32) (a2 : Int32) (a3 : Int32) (a4 : Int32) (a5 : Int32) : Zc mX0_chance yX0_chance zJI G [.ref (G.1 0), .int a1, .int a2, .int a3, .int a4, .int a5] (F_X0_chance a1 a2 a3 a4 a5) := by
  refine Zc_of [some (.ref (G.1 0)), some (.int a1), some (.int a2), some (.int a3), some (.int a4), some (.int a5), none, none] (by decide) rfl rfl (Nat.le_of_ble_eq_true rfl) rfl (fun X S res => ?_)
  unfold F_X0_chance
  refine z_iload_n (pc := 0) 1 dX0_chance_0 rfl rfl ?_
  refine z_callSi (pc := 1) _ _ (ct_X0_isSeed  _) mv_X0_isSeed q1256 rfl (Nat.le_of_ble_eq_true rfl) (Nat.le_of_ble_eq_true rfl) rfl rfl (Nat.le_of_ble_eq_true rfl) dX0_chance_1 (fun r2 S1 => ?_)
  refine z_if_eq (pc := 4) 42 dX0_chance_4 rfl ?_ ?_
  · refine z_bipush (pc := 42) (v := (-2)) dX0_chance_42 (by decide) ?_
    exact z_iret rfl dX0_chance_44 rfl
  · refine z_iload_n (pc := 7) 2 dX0_chance_7 rfl rfl ?_
    refine z_i2l (pc := 8) dX0_chance_8 ?_
    refine z_lconst (pc := 9) (v := 1) dX0_chance_9 (by decide) ?_
    refine z_ldc2 (pc := 10) (v := 20) dX0_chance_10 q1280 ?_
    refine z_callSi (pc := 13) _ _ (ct_X0_isIn  _ _ _) mv_X0_isIn q429 rfl (Nat.le_of_ble_eq_true rfl) (Nat.le_of_ble_eq_true rfl) rfl rfl (Nat.le_of_ble_eq_true rfl) dX0_chance_13 (fun r4 S3 => ?_)
    refine z_if_eq (pc := 16) 42 dX0_chance_16 rfl ?_ ?_
    · refine z_bipush (pc := 42) (v := (-2)) dX0_chance_42 (by decide) ?_
      exact z_iret rfl dX0_chance_44 rfl
    · refine z_aload_n (pc := 19) 0 dX0_chance_19 rfl rfl ?_
      refine z_iload_n (pc := 20) 3 dX0_chance_20 rfl rfl ?_
      refine z_iload (pc := 21) dX0_chance_21 rfl ?_
      refine z_callVi (pc := 23) _ _ 0 0 (ct_X0_areTwo hG _ _) mv_X0_areTwo q843 rfl (zGC_s0 hG) rfl (Nat.le_of_ble_eq_true rfl) (Nat.le_of_ble_eq_true rfl) rfl rfl (Nat.le_of_ble_eq_true rfl) dX0_chance_23 (fun r6 S5 => ?_)
      refine z_if_eq (pc := 26) 42 dX0_chance_26 rfl ?_ ?_
      · refine z_bipush (pc := 42) (v := (-2)) dX0_chance_42 (by decide) ?_
        exact z_iret rfl dX0_chance_44 rfl
      · refine z_iload (pc := 29) dX0_chance_29 rfl ?_
        refine z_i2l (pc := 31) dX0_chance_31 ?_
        refine z_lconst (pc := 32) (v := 1) dX0_chance_32 (by decide) ?_
        refine z_ldc2 (pc := 33) (v := 60) dX0_chance_33 q1281 ?_
        refine z_callSi (pc := 36) _ _ (ct_X0_isIn  _ _ _) mv_X0_isIn q429 rfl (Nat.le_of_ble_eq_true rfl) (Nat.le_of_ble_eq_true rfl) rfl rfl (Nat.le_of_ble_eq_true rfl) dX0_chance_36 (fun r8 S7 => ?_)
        refine z_if_ne (pc := 39) 45 dX0_chance_39 rfl ?_ ?_
        · refine z_iconst (pc := 45) (v := 0) dX0_chance_45 (by decide) ?_
          refine z_istore (pc := 46) dX0_chance_46 (Nat.le_of_ble_eq_true rfl) rfl ?_
          refine z_iconst (pc := 48) (v := 0) dX0_chance_48 (by decide) ?_
          refine z_istore (pc := 49) dX0_chance_49 (Nat.le_of_ble_eq_true rfl) rfl ?_
          refine z_loopK (fun j : Int32 → Int32 → zSt → Option (Int32 × zSt) => ∀ (x10 : Int32) (x11 : Int32) (S12 : zSt), Zm X mX0_chance zJI G (0, 0) res S12 51 [some (.ref (G.1 0)), some (.int a1), some (.int a2), some (.int a3), some (.int a4), some (.int a5), some (.int x10), some (.int x11)] [] (j x10 x11 S12)) ?_ ?_ zfuel _ _ _
          · intro x10 x11 S12; exact z_none
          · intro rec9 hrec9 x10 x11 S12
            unfold LB_X0_chance_1
            refine z_iload (pc := 51) dX0_chance_51 rfl ?_
            refine z_iload_n (pc := 53) 2 dX0_chance_53 rfl rfl ?_
            refine z_icmp_ge (pc := 54) 97 dX0_chance_54 rfl ?_ ?_
            · refine z_iload (pc := 97) dX0_chance_97 rfl ?_
              exact z_iret rfl dX0_chance_99 rfl
            · refine z_iload (pc := 57) dX0_chance_57 rfl ?_
              refine z_aload_n (pc := 59) 0 dX0_chance_59 rfl rfl ?_
              refine z_iload_n (pc := 60) 1 dX0_chance_60 rfl rfl ?_
              refine z_i2l (pc := 61) dX0_chance_61 ?_
              refine z_iload (pc := 62) dX0_chance_62 rfl ?_
              refine z_i2l (pc := 64) dX0_chance_64 ?_
              refine z_ladd (pc := 65) dX0_chance_65 ?_
              refine z_iload_n (pc := 66) 3 dX0_chance_66 rfl rfl ?_
              refine z_iload (pc := 67) dX0_chance_67 rfl ?_
              refine z_callVi (pc := 69) _ _ 0 0 (ct_X0_daysOf hG _ _ _) mv_X0_daysOf q1260 rfl (zGC_s0 hG) rfl (Nat.le_of_ble_eq_true rfl) (Nat.le_of_ble_eq_true rfl) rfl rfl (Nat.le_of_ble_eq_true rfl) dX0_chance_69 (fun r14 S13 => ?_)
              refine z_i2l (pc := 72) dX0_chance_72 ?_
              refine z_lconst (pc := 73) (v := 1) dX0_chance_73 (by decide) ?_
              refine z_iload (pc := 74) dX0_chance_74 rfl ?_
              refine z_i2l (pc := 76) dX0_chance_76 ?_
              refine z_callSi (pc := 77) _ _ (ct_X0_isIn  _ _ _) mv_X0_isIn q429 rfl (Nat.le_of_ble_eq_true rfl) (Nat.le_of_ble_eq_true rfl) rfl rfl (Nat.le_of_ble_eq_true rfl) dX0_chance_77 (fun r16 S15 => ?_)
              refine z_pure (st0 := [.int x10]) 88 ((if r16 = 0 then 0 else 1)) ?_ (fun hJ => ?_)
              · refine z_iadd (pc := 88) dX0_chance_88 ?_
                refine z_letI (fun w18 => ?_)
                refine z_istore (pc := 89) dX0_chance_89 (Nat.le_of_ble_eq_true rfl) rfl ?_
                refine z_iinc (pc := 91) (w := x11 + 1) dX0_chance_91 rfl (by rw [show Int32.ofInt 1 = 1 from by decide]) (Nat.le_of_ble_eq_true rfl) rfl ?_
                refine z_goto (pc := 94) 51 dX0_chance_94 rfl ?_
                exact hrec9 _ _ _
              · refine z_ifd_eq (pc := 80) 87 dX0_chance_80 rfl (fun c19 => ?_) (fun c19 => ?_)
                · refine z_iconst (pc := 87) (v := 0) dX0_chance_87 (by decide) ?_
                  exact z_leaf hJ (by simp only [if_pos c19])
                · refine z_iconst (pc := 83) (v := 1) dX0_chance_83 (by decide) ?_
                  refine z_goto (pc := 84) 88 dX0_chance_84 rfl ?_
                  exact z_leaf hJ (by simp only [if_neg c19])
        · refine z_bipush (pc := 42) (v := (-2)) dX0_chance_42 (by decide) ?_
          exact z_iret rfl dX0_chance_44 rfl
abbrev mX0_shutStreets : zMr := ("HiddenCube", cX0_shutStreets, 3, (some .int), 2, 0, 0, none)
def LB_X0_shutStreets_1 (k1 : Int32 → zSt → Option (Int32 × zSt)) (rec4 : Int32 → Int32 → zSt → Option (Int32 × zSt)) (x5 : Int32) (x6 : Int32) (S7 : zSt) : Option (Int32 × zSt) :=
zbind (F_X1_squares 1 S7) (fun r9 S8 =>
if r9 ≤ x6 then (k1 x5 S8) else (chk x6 32 (zbind (F_J7_bitCount (S8.1 7 (x6).toNatClampNeg) S8) (fun r12 S11 =>
rec4 (x5 + r12) (x6 + 1) S11))))
def F_X0_shutStreets  (S : zSt) : Option (Int32 × zSt) :=
joinK (fun (x2 : Int32) (S3 : zSt) => some (x2 / 2, S3)) (fun k1 : Int32 → zSt → Option (Int32 × zSt) =>
loopK (fun _ _ _ => none) (LB_X0_shutStreets_1 k1) zfuel 0 0 S)
theorem mv_X0_shutStreets : ZV mX0_shutStreets yX0_shutStreets 0 := ⟨q1288, qs78, q150, q1289, rfl, by decide, by decide, by decide +kernel⟩
theorem ct_X0_shutStreets {G : zGw} (hG : zGC G)  : Zc mX0_shutStreets yX0_shutStreets zJI G [.ref (G.1 0)] (F_X0_shutStreets) := by
  refine Zc_of [some (.ref (G.1 0)), none, none] (by decide) rfl rfl (Nat.le_of_ble_eq_true rfl) rfl (fun X S res => ?_)
  unfold F_X0_shutStreets
  refine z_iconst (pc := 0) (v := 0) dX0_shutStreets_0 (by decide) ?_
  refine z_istore_n (pc := 1) 1 dX0_shutStreets_1 rfl (Nat.le_of_ble_eq_true rfl) rfl ?_
  refine z_iconst (pc := 2) (v := 0) dX0_shutStreets_2 (by decide) ?_
  refine z_istore_n (pc := 3) 2 dX0_shutStreets_3 rfl (Nat.le_of_ble_eq_true rfl) rfl ?_
  refine z_join (fun j : Int32 → zSt → Option (Int32 × zSt) => ∀ (x2 : Int32) (S3 : zSt), Zm X mX0_shutStreets zJI G (0, 0) res S3 36 [none, some (.int x2), none] [] (j x2 S3)) ?_ (fun k1 hk1 => ?_)
  · intro x2 S3
    refine z_iload_n (pc := 36) 1 dX0_shutStreets_36 rfl rfl ?_
    refine z_iconst (pc := 37) (v := 2) dX0_shutStreets_37 (by decide) ?_
    refine z_idivc (pc := 38) dX0_shutStreets_38 (by decide) ?_
    exact z_iret rfl dX0_shutStreets_39 rfl
  · refine z_loopK (fun j : Int32 → Int32 → zSt → Option (Int32 × zSt) => ∀ (x5 : Int32) (x6 : Int32) (S7 : zSt), Zm X mX0_shutStreets zJI G (0, 0) res S7 4 [some (.ref (G.1 0)), some (.int x5), some (.int x6)] [] (j x5 x6 S7)) ?_ ?_ zfuel _ _ _
    · intro x5 x6 S7; exact z_none
    · intro rec4 hrec4 x5 x6 S7
      unfold LB_X0_shutStreets_1
      refine z_iload_n (pc := 4) 2 dX0_shutStreets_4 rfl rfl ?_
      refine z_aload_n (pc := 5) 0 dX0_shutStreets_5 rfl rfl ?_
      refine gf_X0_C_10_0 hG (pc := 6) dX0_shutStreets_6 ?_
      refine z_callVi (pc := 9) _ _ 1 1 (ct_X1_squares (zGC_T hG)) mv_X1_squares q727 rfl (zGC_s1 hG) rfl (Nat.le_of_ble_eq_true rfl) (Nat.le_of_ble_eq_true rfl) rfl rfl (Nat.le_of_ble_eq_true rfl) dX0_shutStreets_9 (fun r9 S8 => ?_)
      refine z_icmp_ge (pc := 12) 36 dX0_shutStreets_12 rfl ?_ ?_
      · exact z_mask [false, true, false] (hk1 _ _) rfl
      · refine z_iload_n (pc := 15) 1 dX0_shutStreets_15 rfl rfl ?_
        refine z_aload_n (pc := 16) 0 dX0_shutStreets_16 rfl rfl ?_
        refine gf_X0_C_10_0 hG (pc := 17) dX0_shutStreets_17 ?_
        refine gf_X0_C_192_1 hG (pc := 20) dX0_shutStreets_20 ?_
        refine z_iload_n (pc := 23) 2 dX0_shutStreets_23 rfl rfl ?_
        refine z_chk (fun h10 => ?_)
        refine z_iaload (pc := 24) 7 32 (zGC_s7 hG) h10 dX0_shutStreets_24 ?_
        refine z_callSi (pc := 25) _ _ (ct_J7_bitCount  _) mv_J7_bitCount q749 rfl (Nat.le_of_ble_eq_true rfl) (Nat.le_of_ble_eq_true rfl) rfl rfl (Nat.le_of_ble_eq_true rfl) dX0_shutStreets_25 (fun r12 S11 => ?_)
        refine z_iadd (pc := 28) dX0_shutStreets_28 ?_
        refine z_istore_n (pc := 29) 1 dX0_shutStreets_29 rfl (Nat.le_of_ble_eq_true rfl) rfl ?_
        refine z_iinc (pc := 30) (w := x6 + 1) dX0_shutStreets_30 rfl (by rw [show Int32.ofInt 1 = 1 from by decide]) (Nat.le_of_ble_eq_true rfl) rfl ?_
        refine z_goto (pc := 33) 4 dX0_shutStreets_33 rfl ?_
        exact hrec4 _ _ _
abbrev mX0_count : zMr := ("HiddenCube", cX0_count, 4, (some .int), 3, 0, 0, none)
def LB_X0_count_1 (S : zSt) (V : zSV) (rec7 : Int32 → Int32 → Option (Int32 × zSt)) (x8 : Int32) (x9 : Int32) : Option (Int32 × zSt) :=
if 4 ≤ x9 then (some (x8, S)) else (chk x9 4 (joinK (fun (v12 : Int32) => rec7 (x8 + v12) (x9 + 1)) (fun j11 : Int32 → Option (Int32 × zSt) =>
zcV (V (x9).toNatClampNeg) (j11 0) (j11 1))))
def F_X0_count (V : zSV) (a1 : Int32) (S : zSt) : Option (Int32 × zSt) :=
zsw a1 9 (zs9 (some (S.1 1 0, S)) (zbind (F_X1_squares 1 S) (fun r2 S1 =>
some (r2, S1))) (zbind (F_X0_shutStreets S) (fun r4 S3 =>
some (r4, S3))) (some (S.1 1 8, S)) (some (S.1 1 9, S)) (zbind (F_J7_bitCount (S.1 1 10) S) (fun r6 S5 =>
some (r6, S5))) (some (S.1 1 1, S)) (some (S.1 0 2, S)) (loopK (fun _ _ => none) (LB_X0_count_1 S V) zfuel 0 0)) (some ((-1), S))
theorem mv_X0_count : ZV mX0_count yX0_count 1 := ⟨q1283, q1284, q150, q1285, rfl, by decide, by decide, by decide +kernel⟩
theorem ct_X0_count {G : zGw} (hG : zGC G) {V : zSV} (hV : zGV G V) (a1 : Int32) : Zc mX0_count yX0_count zJI G [.ref (G.1 0), .int a1] (F_X0_count V a1) := by
  refine Zc_of [some (.ref (G.1 0)), some (.int a1), none, none] (by decide) rfl rfl (Nat.le_of_ble_eq_true rfl) rfl (fun X S res => ?_)
  unfold F_X0_count
  refine z_iconst (pc := 0) (v := 0) dX0_count_0 (by decide) ?_
  refine z_istore_n (pc := 1) 2 dX0_count_1 rfl (Nat.le_of_ble_eq_true rfl) rfl ?_
  refine z_iload_n (pc := 2) 1 dX0_count_2 rfl rfl ?_
  refine z_switch9 (pc := 3) 148 52 60 68 73 81 89 100 108 113 dX0_count_3 rfl rfl rfl rfl rfl rfl rfl rfl rfl rfl ?_ ?_ ?_ ?_ ?_ ?_ ?_ ?_ ?_ ?_
  · refine z_iconst (pc := 148) (v := (-1)) dX0_count_148 (by decide) ?_
    exact z_iret rfl dX0_count_149 rfl
  · refine z_aload_n (pc := 52) 0 dX0_count_52 rfl rfl ?_
    refine gf_X0_C_10_0 hG (pc := 53) dX0_count_53 ?_
    refine gf_X0_C_158_1 hG (pc := 56) dX0_count_56 ?_
    exact z_iret rfl dX0_count_59 rfl
  · refine z_aload_n (pc := 60) 0 dX0_count_60 rfl rfl ?_
    refine gf_X0_C_10_0 hG (pc := 61) dX0_count_61 ?_
    refine z_callVi (pc := 64) _ _ 1 1 (ct_X1_squares (zGC_T hG)) mv_X1_squares q727 rfl (zGC_s1 hG) rfl (Nat.le_of_ble_eq_true rfl) (Nat.le_of_ble_eq_true rfl) rfl rfl (Nat.le_of_ble_eq_true rfl) dX0_count_64 (fun r2 S1 => ?_)
    exact z_iret rfl dX0_count_67 rfl
  · refine z_aload_n (pc := 68) 0 dX0_count_68 rfl rfl ?_
    refine z_callVi (pc := 69) _ _ 0 0 (ct_X0_shutStreets hG) mv_X0_shutStreets q1286 rfl (zGC_s0 hG) rfl (Nat.le_of_ble_eq_true rfl) (Nat.le_of_ble_eq_true rfl) rfl rfl (Nat.le_of_ble_eq_true rfl) dX0_count_69 (fun r4 S3 => ?_)
    exact z_iret rfl dX0_count_72 rfl
  · refine z_aload_n (pc := 73) 0 dX0_count_73 rfl rfl ?_
    refine gf_X0_C_10_0 hG (pc := 74) dX0_count_74 ?_
    refine gf_X0_C_419_1 hG (pc := 77) dX0_count_77 ?_
    exact z_iret rfl dX0_count_80 rfl
  · refine z_aload_n (pc := 81) 0 dX0_count_81 rfl rfl ?_
    refine gf_X0_C_10_0 hG (pc := 82) dX0_count_82 ?_
    refine gf_X0_C_453_1 hG (pc := 85) dX0_count_85 ?_
    exact z_iret rfl dX0_count_88 rfl
  · refine z_aload_n (pc := 89) 0 dX0_count_89 rfl rfl ?_
    refine gf_X0_C_10_0 hG (pc := 90) dX0_count_90 ?_
    refine gf_X0_C_368_1 hG (pc := 93) dX0_count_93 ?_
    refine z_callSi (pc := 96) _ _ (ct_J7_bitCount  _) mv_J7_bitCount q749 rfl (Nat.le_of_ble_eq_true rfl) (Nat.le_of_ble_eq_true rfl) rfl rfl (Nat.le_of_ble_eq_true rfl) dX0_count_96 (fun r6 S5 => ?_)
    exact z_iret rfl dX0_count_99 rfl
  · refine z_aload_n (pc := 100) 0 dX0_count_100 rfl rfl ?_
    refine gf_X0_C_10_0 hG (pc := 101) dX0_count_101 ?_
    refine gf_X0_C_147_1 hG (pc := 104) dX0_count_104 ?_
    exact z_iret rfl dX0_count_107 rfl
  · refine z_aload_n (pc := 108) 0 dX0_count_108 rfl rfl ?_
    refine gf_X0_C_126_0 hG (pc := 109) dX0_count_109 ?_
    exact z_iret rfl dX0_count_112 rfl
  · refine z_iconst (pc := 113) (v := 0) dX0_count_113 (by decide) ?_
    refine z_istore_n (pc := 114) 3 dX0_count_114 rfl (Nat.le_of_ble_eq_true rfl) rfl ?_
    refine z_maskk [true, false, true, true] ?_
    refine z_loopK (fun j : Int32 → Int32 → Option (Int32 × zSt) => ∀ (x8 : Int32) (x9 : Int32), Zm X mX0_count zJI G (0, 0) res S 115 [some (.ref (G.1 0)), none, some (.int x8), some (.int x9)] [] (j x8 x9)) ?_ ?_ zfuel _ _
    · intro x8 x9; exact z_none
    · intro rec7 hrec7 x8 x9
      unfold LB_X0_count_1
      refine z_iload_n (pc := 115) 3 dX0_count_115 rfl rfl ?_
      refine z_iconst (pc := 116) (v := 4) dX0_count_116 (by decide) ?_
      refine z_icmp_ge (pc := 117) 146 dX0_count_117 rfl ?_ ?_
      · refine z_iload_n (pc := 146) 2 dX0_count_146 rfl rfl ?_
        exact z_iret rfl dX0_count_147 rfl
      · refine z_iload_n (pc := 120) 2 dX0_count_120 rfl rfl ?_
        refine z_aload_n (pc := 121) 0 dX0_count_121 rfl rfl ?_
        refine gf_X0_C_118_0 hG (pc := 122) dX0_count_122 ?_
        refine z_iload_n (pc := 125) 3 dX0_count_125 rfl rfl ?_
        refine z_chk (fun h10 => ?_)
        refine z_aaloadV (pc := 126) hG hV h10 dX0_count_126 ?_
        refine z_join (fun j : Int32 → Option (Int32 × zSt) => ∀ (v12 : Int32), Zm X mX0_count zJI G (0, 0) res S 138 [some (.ref (G.1 0)), none, none, some (.int x9)] [.int v12, .int x8] (j v12)) ?_ (fun j11 hj11 => ?_)
        · intro v12
          refine z_iadd (pc := 138) dX0_count_138 ?_
          refine z_istore_n (pc := 139) 2 dX0_count_139 rfl (Nat.le_of_ble_eq_true rfl) rfl ?_
          refine z_iinc (pc := 140) (w := x9 + 1) dX0_count_140 rfl (by rw [show Int32.ofInt 1 = 1 from by decide]) (Nat.le_of_ble_eq_true rfl) rfl ?_
          refine z_goto (pc := 143) 115 dX0_count_143 rfl ?_
          exact hrec7 _ _
        · refine z_zcV (fun hq13 => ?_) (fun _ hq13 => ?_)
          · refine z_rowN (pc := 127) 137 hV (Nat.not_le.mp fun q => h10 (Or.inr q)) hq13 dX0_count_127 dX0_count_130 rfl ?_
            refine z_iconst (pc := 133) (v := 0) dX0_count_133 (by decide) ?_
            refine z_goto (pc := 134) 138 dX0_count_134 rfl ?_
            exact z_mask [true, false, false, true] (hj11 _) rfl
          · refine z_rowY (pc := 127) 137 hV (Nat.not_le.mp fun q => h10 (Or.inr q)) hq13 dX0_count_127 dX0_count_130 rfl rfl ?_
            refine z_iconst (pc := 137) (v := 1) dX0_count_137 (by decide) ?_
            exact z_mask [true, false, false, true] (hj11 _) rfl
abbrev mX0_write : zMr := ("HiddenCube", cX0_write, 6, (some .int), 171, 3, 222, some [(10, 22, 23, 398), (10, 22, 28, 517)])
def F_X0_write (V : zSV) (a1 : Int32) (a2 : Int32) (a3 : Int64) (S : zSt) : Option (Int32 × zSt) :=
zbind (F_X0_isSlot a1 S) (fun r2 S1 =>
if r2 = 0 then (some ((-2), S1)) else (chk a1 4 (zcV (V (a1).toNatClampNeg) (some ((-6), S1)) (zout (V (a1).toNatClampNeg) a2 (some ((-7), S1)) (zbind (F_X4_put V (a1).toNatClampNeg a2 a3 S1) (fun _ S4 =>
some (0, S4)))))))
theorem mv_X0_write : ZVW mX0_write yX0_write 3 := ⟨q1344, q1345, q150, q1346, rfl, by decide, by decide, by decide +kernel⟩
theorem ct_X0_write {G : zGw} (hG : zGC G) {V : zSV} (hV : zGV G V) (a1 : Int32) (a2 : Int32) (a3 : Int64) : Zc mX0_write yX0_write zJI G [.ref (G.1 0), .int a1, .int a2, .long a3] (F_X0_write V a1 a2 a3) := by
  refine Zc_ofW [some (.ref (G.1 0)), some (.int a1), some (.int a2), some (.long a3), none, none] (by decide) rfl _ rfl (Nat.le_of_ble_eq_true rfl) rfl (fun X S res => ?_)
  unfold F_X0_write
  refine z_iload_n (pc := 0) 1 dX0_write_0 rfl rfl ?_
  refine z_callSi (pc := 1) _ _ (ct_X0_isSlot  _) mv_X0_isSlot q1121 rfl (Nat.le_of_ble_eq_true rfl) (Nat.le_of_ble_eq_true rfl) rfl rfl (Nat.le_of_ble_eq_true rfl) dX0_write_1 (fun r2 S1 => ?_)
  refine z_if_ne (pc := 4) 10 dX0_write_4 rfl ?_ ?_
  · refine z_aload_n (pc := 10) 0 dX0_write_10 rfl rfl ?_
    refine gf_X0_C_118_0 hG (pc := 11) dX0_write_11 ?_
    refine z_iload_n (pc := 14) 1 dX0_write_14 rfl rfl ?_
    refine z_chk (fun h3 => ?_)
    refine z_aaloadV (pc := 15) hG hV h3 dX0_write_15 ?_
    refine z_iload_n (pc := 16) 2 dX0_write_16 rfl rfl ?_
    refine z_lload_n (pc := 17) 3 dX0_write_17 rfl rfl ?_
    refine z_zcV (fun hq5 => (by refine z_callVt (pc := 18) _ _ (40 + (a1).toNatClampNeg) 4 (cx_X4_putN hV (Nat.not_le.mp fun q => h3 (Or.inr q)) hq5 _ _) rfl mv_X4_putN q1366 rfl (hV _ (Nat.not_le.mp fun q => h3 (Or.inr q))).1 rfl (Nat.le_of_ble_eq_true rfl) (Nat.le_of_ble_eq_true rfl) rfl (Nat.le_of_ble_eq_true rfl) (Nat.le_of_ble_eq_true rfl) (Nat.le_of_ble_eq_true rfl) dX0_write_18 "java/lang/NullPointerException" [] ⟨10, 22, 23, 398⟩ [⟨10, 22, 28, 517⟩] rfl (by intro z hz; cases hz) rfl (by decide) q1094 (by decide) (fun q9 => ?_); refine z_astore (pc := 23) dX0_write_23 (Nat.le_of_ble_eq_true rfl) rfl ?_; refine z_bipush (pc := 25) (v := (-6)) dX0_write_25 (by decide) ?_; exact z_iret rfl dX0_write_27 rfl)) (fun q8 hq5 => ?_)
    refine z_zout hq5 (fun h6 => (by refine z_callVt (pc := 18) _ _ (40 + (a1).toNatClampNeg) 4 (cx_X4_putT hV (Nat.not_le.mp fun q => h3 (Or.inr q)) (show V _ = some (_, _) from hq5) _ _ h6) rfl mv_X4_putT q1366 rfl (hV _ (Nat.not_le.mp fun q => h3 (Or.inr q))).1 rfl (Nat.le_of_ble_eq_true rfl) (Nat.le_of_ble_eq_true rfl) rfl (Nat.le_of_ble_eq_true rfl) (Nat.le_of_ble_eq_true rfl) (Nat.le_of_ble_eq_true rfl) dX0_write_18 "java/lang/ArrayIndexOutOfBoundsException" [⟨10, 22, 23, 398⟩] ⟨10, 22, 28, 517⟩ [] rfl (fun z hz => by cases List.mem_singleton.mp hz; exact Or.inr ⟨by decide, "java/lang/NullPointerException", q1094, by decide⟩) rfl (by decide) q1347 (by decide) (fun q9 => ?_); refine z_astore (pc := 28) dX0_write_28 (Nat.le_of_ble_eq_true rfl) rfl ?_; refine z_bipush (pc := 30) (v := (-7)) dX0_write_30 (by decide) ?_; exact z_iret rfl dX0_write_32 rfl)) ?_
    refine z_callVv (pc := 18) _ _ (40 + (a1).toNatClampNeg) 4 (ct_X4_put hV (Nat.not_le.mp fun q => h3 (Or.inr q)) _ _) mv_X4_put q1366 rfl (hV _ (Nat.not_le.mp fun q => h3 (Or.inr q))).1 rfl (Nat.le_of_ble_eq_true rfl) (Nat.le_of_ble_eq_true rfl) rfl rfl (Nat.le_of_ble_eq_true rfl) dX0_write_18 (fun _ S4 => ?_)
    refine z_iconst (pc := 21) (v := 0) dX0_write_21 (by decide) ?_
    exact z_iret rfl dX0_write_22 rfl
  · refine z_bipush (pc := 7) (v := (-2)) dX0_write_7 (by decide) ?_
    exact z_iret rfl dX0_write_9 rfl
