/-! WALKS (written by gen/mkparts.py) -/
set_option maxRecDepth 100000
abbrev mX5_ringsOf : zMr := ("HiddenCubeModel", cX5_ringsOf, 7, (some .int), 3, 0, 0, none)
def LB_X5_ringsOf_1 (a1 : Int32) (x3 : Int32) (x4 : Int32) (rec1 : Int64 → Int32 → Int32 → zSt → Option (Int32 × zSt)) (rec8 : Int64 → Int32 → zSt → Option (Int32 × zSt)) (x9 : Int64) (x10 : Int32) (S11 : zSt) : Option (Int32 × zSt) :=
if (lg_cmp ((x9 >>> ((x10).toInt64 &&& 63)) &&& 1) 0) = 0 then (zlet (x9 ||| ((1 : Int64) <<< ((x10).toInt64 &&& 63)) : Int64) (fun w12 : Int64 =>
zbind (F_X5_turnedBy a1 x10 S11) (fun r14 S13 =>
rec8 w12 r14 S13))) else (rec1 x9 (x3 + 1) (x4 + 1) S11)
def LB_X5_ringsOf_2 (a1 : Int32) (rec1 : Int64 → Int32 → Int32 → zSt → Option (Int32 × zSt)) (x2 : Int64) (x3 : Int32) (x4 : Int32) (S5 : zSt) : Option (Int32 × zSt) :=
zbind (F_X5_squares S5) (fun r7 S6 =>
if r7 ≤ x4 then (some (x3, S6)) else (if (lg_cmp ((x2 >>> ((x4).toInt64 &&& 63)) &&& 1) 1) = 0 then (rec1 x2 x3 (x4 + 1) S6) else (loopK (fun _ _ _ => none) (LB_X5_ringsOf_1 a1 x3 x4 rec1) zfuel x2 x4 S6)))
def F_X5_ringsOf (a1 : Int32) (S : zSt) : Option (Int32 × zSt) :=
loopK (fun _ _ _ _ => none) (LB_X5_ringsOf_2 a1) zfuel 0 0 0 S
theorem mv_X5_ringsOf : ZV mX5_ringsOf yX5_ringsOf 1 := ⟨q1935, qs125, q155, q1936, rfl, by decide, by decide, by decide +kernel⟩
theorem ct_X5_ringsOf {G : zGw} (hG : zGM G) (a1 : Int32) : Zc mX5_ringsOf yX5_ringsOf zJI G [.ref (G.1 0), .int a1] (F_X5_ringsOf a1) := by
  refine Zc_of [some (.ref (G.1 0)), some (.int a1), none, none, none, none, none] (by decide) rfl rfl (Nat.le_of_ble_eq_true rfl) rfl (fun X S res => ?_)
  unfold F_X5_ringsOf
  refine z_lconst (pc := 0) (v := 0) dX5_ringsOf_0 (by decide) ?_
  refine z_lstore_n (pc := 1) 2 dX5_ringsOf_1 rfl (Nat.le_of_ble_eq_true rfl) rfl ?_
  refine z_iconst (pc := 2) (v := 0) dX5_ringsOf_2 (by decide) ?_
  refine z_istore (pc := 3) dX5_ringsOf_3 (Nat.le_of_ble_eq_true rfl) rfl ?_
  refine z_iconst (pc := 5) (v := 0) dX5_ringsOf_5 (by decide) ?_
  refine z_istore (pc := 6) dX5_ringsOf_6 (Nat.le_of_ble_eq_true rfl) rfl ?_
  refine z_loopK (fun j : Int64 → Int32 → Int32 → zSt → Option (Int32 × zSt) => ∀ (x2 : Int64) (x3 : Int32) (x4 : Int32) (S5 : zSt), Zm X mX5_ringsOf zJI G (0, 0) res S5 8 [some (.ref (G.1 0)), some (.int a1), some (.long x2), none, some (.int x3), some (.int x4), none] [] (j x2 x3 x4 S5)) ?_ ?_ zfuel _ _ _ _
  · intro x2 x3 x4 S5; exact z_none
  · intro rec1 hrec1 x2 x3 x4 S5
    unfold LB_X5_ringsOf_2
    refine z_iload (pc := 8) dX5_ringsOf_8 rfl ?_
    refine z_aload_n (pc := 10) 0 dX5_ringsOf_10 rfl rfl ?_
    refine z_callVi (pc := 11) _ _ 0 5 (ct_X5_squares hG) mv_X5_squares q1725 rfl (zGM_s0 hG) rfl (Nat.le_of_ble_eq_true rfl) (Nat.le_of_ble_eq_true rfl) rfl rfl (Nat.le_of_ble_eq_true rfl) dX5_ringsOf_11 (fun r7 S6 => ?_)
    refine z_icmp_ge (pc := 14) 74 dX5_ringsOf_14 rfl ?_ ?_
    · refine z_iload (pc := 74) dX5_ringsOf_74 rfl ?_
      exact z_iret rfl dX5_ringsOf_76 rfl
    · refine z_lload_n (pc := 17) 2 dX5_ringsOf_17 rfl rfl ?_
      refine z_iload (pc := 18) dX5_ringsOf_18 rfl ?_
      refine z_lshr (pc := 20) dX5_ringsOf_20 ?_
      refine z_lconst (pc := 21) (v := 1) dX5_ringsOf_21 (by decide) ?_
      refine z_land (pc := 22) dX5_ringsOf_22 ?_
      refine z_lconst (pc := 23) (v := 1) dX5_ringsOf_23 (by decide) ?_
      refine z_lcmp (pc := 24) dX5_ringsOf_24 ?_
      refine z_if_ne (pc := 25) 31 dX5_ringsOf_25 rfl ?_ ?_
      · refine z_iinc (pc := 31) (w := x3 + 1) dX5_ringsOf_31 rfl (by rw [show Int32.ofInt 1 = 1 from by decide]) (Nat.le_of_ble_eq_true rfl) rfl ?_
        refine z_iload (pc := 34) dX5_ringsOf_34 rfl ?_
        refine z_istore (pc := 36) dX5_ringsOf_36 (Nat.le_of_ble_eq_true rfl) rfl ?_
        refine z_loopK (fun j : Int64 → Int32 → zSt → Option (Int32 × zSt) => ∀ (x9 : Int64) (x10 : Int32) (S11 : zSt), Zm X mX5_ringsOf zJI G (0, 0) res S11 38 [some (.ref (G.1 0)), some (.int a1), some (.long x9), none, some (.int (x3 + 1)), some (.int x4), some (.int x10)] [] (j x9 x10 S11)) ?_ ?_ zfuel _ _ _
        · intro x9 x10 S11; exact z_none
        · intro rec8 hrec8 x9 x10 S11
          unfold LB_X5_ringsOf_1
          refine z_lload_n (pc := 38) 2 dX5_ringsOf_38 rfl rfl ?_
          refine z_iload (pc := 39) dX5_ringsOf_39 rfl ?_
          refine z_lshr (pc := 41) dX5_ringsOf_41 ?_
          refine z_lconst (pc := 42) (v := 1) dX5_ringsOf_42 (by decide) ?_
          refine z_land (pc := 43) dX5_ringsOf_43 ?_
          refine z_lconst (pc := 44) (v := 0) dX5_ringsOf_44 (by decide) ?_
          refine z_lcmp (pc := 45) dX5_ringsOf_45 ?_
          refine z_if_ne (pc := 46) 68 dX5_ringsOf_46 rfl ?_ ?_
          · refine z_iinc (pc := 68) (w := x4 + 1) dX5_ringsOf_68 rfl (by rw [show Int32.ofInt 1 = 1 from by decide]) (Nat.le_of_ble_eq_true rfl) rfl ?_
            refine z_goto (pc := 71) 8 dX5_ringsOf_71 rfl ?_
            exact z_mask [true, true, true, false, true, true, false] (hrec1 _ _ _ _) rfl
          · refine z_lload_n (pc := 49) 2 dX5_ringsOf_49 rfl rfl ?_
            refine z_lconst (pc := 50) (v := 1) dX5_ringsOf_50 (by decide) ?_
            refine z_iload (pc := 51) dX5_ringsOf_51 rfl ?_
            refine z_lshl (pc := 53) dX5_ringsOf_53 ?_
            refine z_lor (pc := 54) dX5_ringsOf_54 ?_
            refine z_letL (fun w12 => ?_)
            refine z_lstore_n (pc := 55) 2 dX5_ringsOf_55 rfl (Nat.le_of_ble_eq_true rfl) rfl ?_
            refine z_aload_n (pc := 56) 0 dX5_ringsOf_56 rfl rfl ?_
            refine z_iload_n (pc := 57) 1 dX5_ringsOf_57 rfl rfl ?_
            refine z_iload (pc := 58) dX5_ringsOf_58 rfl ?_
            refine z_callVi (pc := 60) _ _ 0 5 (ct_X5_turnedBy hG _ _) mv_X5_turnedBy q1916 rfl (zGM_s0 hG) rfl (Nat.le_of_ble_eq_true rfl) (Nat.le_of_ble_eq_true rfl) rfl rfl (Nat.le_of_ble_eq_true rfl) dX5_ringsOf_60 (fun r14 S13 => ?_)
            refine z_istore (pc := 63) dX5_ringsOf_63 (Nat.le_of_ble_eq_true rfl) rfl ?_
            refine z_goto (pc := 65) 38 dX5_ringsOf_65 rfl ?_
            exact hrec8 _ _ _
      · refine z_goto (pc := 28) 68 dX5_ringsOf_28 rfl ?_
        refine z_iinc (pc := 68) (w := x4 + 1) dX5_ringsOf_68 rfl (by rw [show Int32.ofInt 1 = 1 from by decide]) (Nat.le_of_ble_eq_true rfl) rfl ?_
        refine z_goto (pc := 71) 8 dX5_ringsOf_71 rfl ?_
        exact hrec1 _ _ _ _
abbrev mX5_colours : zMr := ("HiddenCubeModel", cX5_colours, 8, (some .long), 46, 0, 0, none)
def LB_X5_colours_1 (a1 : Int32) (k16 : Int64 → Option (Int64 × zSt)) (rec18 : Int64 → Int32 → Option (Int64 × zSt)) (x19 : Int64) (x20 : Int32) : Option (Int64 × zSt) :=
if x20 ≤ 0 then (k16 x19) else (zlet (x19 * ((a1).toInt64) : Int64) (fun w21 : Int64 =>
rec18 w21 (x20 + (-1))))
def LB_X5_colours_2 (a1 : Int32) (k7 : Int64 → zSt → Option (Int64 × zSt)) (rec10 : Int64 → Int32 → zSt → Option (Int64 × zSt)) (x11 : Int64) (x12 : Int32) (S13 : zSt) : Option (Int64 × zSt) :=
if (S13.1 0 34) ≤ x12 then (k7 x11 S13) else (zbind (F_X5_ringsOf x12 S13) (fun r15 S14 =>
joinK (fun (x17 : Int64) => rec10 (x11 + x17) (x12 + 1) S14) (fun k16 : Int64 → Option (Int64 × zSt) =>
loopK (fun _ _ => none) (LB_X5_colours_1 a1 k16) zfuel 1 r15)))
def F_X5_colours (a1 : Int32) (S : zSt) : Option (Int64 × zSt) :=
zlet (sI S 0 0 0 : zSt) (fun S1 : zSt =>
zbind (F_X5_isTown S1) (fun r3 S2 =>
if r3 = 0 then (some ((-2), S2)) else (zbind (F_X5_in ((a1).toInt64) 1 3 S2) (fun r5 S4 =>
if r5 = 0 then (some ((-2), S4)) else (zbind (F_X5_laysTurnings S4) (fun _ S6 =>
joinK (fun (x8 : Int64) (S9 : zSt) => nzL ((S9.1 0 34).toInt64) (some (x8 / ((S9.1 0 34).toInt64), S9))) (fun k7 : Int64 → zSt → Option (Int64 × zSt) =>
loopK (fun _ _ _ => none) (LB_X5_colours_2 a1 k7) zfuel 0 0 S6)))))))
theorem mv_X5_colours : ZV mX5_colours yX5_colours 1 := ⟨q1929, q1930, q155, q1931, rfl, by decide, by decide, by decide +kernel⟩
theorem ct_X5_colours {G : zGw} (hG : zGM G) (a1 : Int32) : Zc mX5_colours yX5_colours zJL G [.ref (G.1 0), .int a1] (F_X5_colours a1) := by
  refine Zc_of [some (.ref (G.1 0)), some (.int a1), none, none, none, none, none, none] (by decide) rfl rfl (Nat.le_of_ble_eq_true rfl) rfl (fun X S res => ?_)
  unfold F_X5_colours
  refine z_aload_n (pc := 0) 0 dX5_colours_0 rfl rfl ?_
  refine z_iconst (pc := 1) (v := 0) dX5_colours_1 (by decide) ?_
  refine pf_X5_M_131_0 hG (pc := 2) dX5_colours_2 ?_
  refine z_letS (fun S1 => ?_)
  refine z_aload_n (pc := 5) 0 dX5_colours_5 rfl rfl ?_
  refine z_callVi (pc := 6) _ _ 0 5 (ct_X5_isTown hG) mv_X5_isTown q1729 rfl (zGM_s0 hG) rfl (Nat.le_of_ble_eq_true rfl) (Nat.le_of_ble_eq_true rfl) rfl rfl (Nat.le_of_ble_eq_true rfl) dX5_colours_6 (fun r3 S2 => ?_)
  refine z_if_eq (pc := 9) 24 dX5_colours_9 rfl ?_ ?_
  · refine z_ldc2 (pc := 24) (v := (-2)) dX5_colours_24 q1932 ?_
    exact z_lret rfl dX5_colours_27 rfl
  · refine z_iload_n (pc := 12) 1 dX5_colours_12 rfl rfl ?_
    refine z_i2l (pc := 13) dX5_colours_13 ?_
    refine z_lconst (pc := 14) (v := 1) dX5_colours_14 (by decide) ?_
    refine z_ldc2 (pc := 15) (v := 3) dX5_colours_15 q1577 ?_
    refine z_callSi (pc := 18) _ _ (ct_X5_in  _ _ _) mv_X5_in q1578 rfl (Nat.le_of_ble_eq_true rfl) (Nat.le_of_ble_eq_true rfl) rfl rfl (Nat.le_of_ble_eq_true rfl) dX5_colours_18 (fun r5 S4 => ?_)
    refine z_if_ne (pc := 21) 28 dX5_colours_21 rfl ?_ ?_
    · refine z_aload_n (pc := 28) 0 dX5_colours_28 rfl rfl ?_
      refine z_callVv (pc := 29) _ _ 0 5 (ct_X5_laysTurnings hG) mv_X5_laysTurnings q1904 rfl (zGM_s0 hG) rfl (Nat.le_of_ble_eq_true rfl) (Nat.le_of_ble_eq_true rfl) rfl rfl (Nat.le_of_ble_eq_true rfl) dX5_colours_29 (fun _ S6 => ?_)
      refine z_lconst (pc := 32) (v := 0) dX5_colours_32 (by decide) ?_
      refine z_lstore_n (pc := 33) 2 dX5_colours_33 rfl (Nat.le_of_ble_eq_true rfl) rfl ?_
      refine z_iconst (pc := 34) (v := 0) dX5_colours_34 (by decide) ?_
      refine z_istore (pc := 35) dX5_colours_35 (Nat.le_of_ble_eq_true rfl) rfl ?_
      refine z_join (fun j : Int64 → zSt → Option (Int64 × zSt) => ∀ (x8 : Int64) (S9 : zSt), Zm X mX5_colours zJL G (0, 0) res S9 86 [some (.ref (G.1 0)), none, some (.long x8), none, none, none, none, none] [] (j x8 S9)) ?_ (fun k7 hk7 => ?_)
      · intro x8 S9
        refine z_lload_n (pc := 86) 2 dX5_colours_86 rfl rfl ?_
        refine z_aload_n (pc := 87) 0 dX5_colours_87 rfl rfl ?_
        refine gf_X5_M_353_0 hG (pc := 88) dX5_colours_88 ?_
        refine z_i2l (pc := 91) dX5_colours_91 ?_
        refine z_ldiv (pc := 92) dX5_colours_92 ?_
        exact z_lret rfl dX5_colours_93 rfl
      · refine z_loopK (fun j : Int64 → Int32 → zSt → Option (Int64 × zSt) => ∀ (x11 : Int64) (x12 : Int32) (S13 : zSt), Zm X mX5_colours zJL G (0, 0) res S13 37 [some (.ref (G.1 0)), some (.int a1), some (.long x11), none, some (.int x12), none, none, none] [] (j x11 x12 S13)) ?_ ?_ zfuel _ _ _
        · intro x11 x12 S13; exact z_none
        · intro rec10 hrec10 x11 x12 S13
          unfold LB_X5_colours_2
          refine z_iload (pc := 37) dX5_colours_37 rfl ?_
          refine z_aload_n (pc := 39) 0 dX5_colours_39 rfl rfl ?_
          refine gf_X5_M_353_0 hG (pc := 40) dX5_colours_40 ?_
          refine z_icmp_ge (pc := 43) 86 dX5_colours_43 rfl ?_ ?_
          · exact z_mask [true, false, true, false, false, false, false, false] (hk7 _ _) rfl
          · refine z_lconst (pc := 46) (v := 1) dX5_colours_46 (by decide) ?_
            refine z_lstore (pc := 47) dX5_colours_47 (Nat.le_of_ble_eq_true rfl) rfl ?_
            refine z_aload_n (pc := 49) 0 dX5_colours_49 rfl rfl ?_
            refine z_iload (pc := 50) dX5_colours_50 rfl ?_
            refine z_callVi (pc := 52) _ _ 0 5 (ct_X5_ringsOf hG _) mv_X5_ringsOf q1933 rfl (zGM_s0 hG) rfl (Nat.le_of_ble_eq_true rfl) (Nat.le_of_ble_eq_true rfl) rfl rfl (Nat.le_of_ble_eq_true rfl) dX5_colours_52 (fun r15 S14 => ?_)
            refine z_istore (pc := 55) dX5_colours_55 (Nat.le_of_ble_eq_true rfl) rfl ?_
            refine z_join (fun j : Int64 → Option (Int64 × zSt) => ∀ (x17 : Int64), Zm X mX5_colours zJL G (0, 0) res S14 75 [some (.ref (G.1 0)), some (.int a1), some (.long x11), none, some (.int x12), some (.long x17), none, none] [] (j x17)) ?_ (fun k16 hk16 => ?_)
            · intro x17
              refine z_lload_n (pc := 75) 2 dX5_colours_75 rfl rfl ?_
              refine z_lload (pc := 76) dX5_colours_76 rfl ?_
              refine z_ladd (pc := 78) dX5_colours_78 ?_
              refine z_lstore_n (pc := 79) 2 dX5_colours_79 rfl (Nat.le_of_ble_eq_true rfl) rfl ?_
              refine z_iinc (pc := 80) (w := x12 + 1) dX5_colours_80 rfl (by rw [show Int32.ofInt 1 = 1 from by decide]) (Nat.le_of_ble_eq_true rfl) rfl ?_
              refine z_goto (pc := 83) 37 dX5_colours_83 rfl ?_
              exact z_mask [true, true, true, false, true, false, false, false] (hrec10 _ _ _) rfl
            · refine z_loopK (fun j : Int64 → Int32 → Option (Int64 × zSt) => ∀ (x19 : Int64) (x20 : Int32), Zm X mX5_colours zJL G (0, 0) res S14 57 [some (.ref (G.1 0)), some (.int a1), some (.long x11), none, some (.int x12), some (.long x19), none, some (.int x20)] [] (j x19 x20)) ?_ ?_ zfuel _ _
              · intro x19 x20; exact z_none
              · intro rec18 hrec18 x19 x20
                unfold LB_X5_colours_1
                refine z_iload (pc := 57) dX5_colours_57 rfl ?_
                refine z_if_le (pc := 59) 75 dX5_colours_59 rfl ?_ ?_
                · exact z_mask [true, true, true, false, true, true, false, false] (hk16 _) rfl
                · refine z_lload (pc := 62) dX5_colours_62 rfl ?_
                  refine z_iload_n (pc := 64) 1 dX5_colours_64 rfl rfl ?_
                  refine z_i2l (pc := 65) dX5_colours_65 ?_
                  refine z_lmul (pc := 66) dX5_colours_66 ?_
                  refine z_letL (fun w21 => ?_)
                  refine z_lstore (pc := 67) dX5_colours_67 (Nat.le_of_ble_eq_true rfl) rfl ?_
                  refine z_iinc (pc := 69) (w := x20 + (-1)) dX5_colours_69 rfl (by rw [show Int32.ofInt (-1) = (-1) from by decide]) (Nat.le_of_ble_eq_true rfl) rfl ?_
                  refine z_goto (pc := 72) 57 dX5_colours_72 rfl ?_
                  exact hrec18 _ _
    · refine z_ldc2 (pc := 24) (v := (-2)) dX5_colours_24 q1932 ?_
      exact z_lret rfl dX5_colours_27 rfl
abbrev mX5_whyNoRounds : zMr := ("HiddenCubeModel", cX5_whyNoRounds, 1, (some .int), 2, 0, 0, none)
def F_X5_whyNoRounds  (S : zSt) : Option (Int32 × zSt) :=
zbind (F_X5_isTown S) (fun r2 S1 =>
if r2 = 0 then (some ((-2), S1)) else (chk 0 15 (if (S1.1 18 (0 : Int32).toNatClampNeg) = 5 then (some ((-9), S1)) else (some (0, S1)))))
theorem mv_X5_whyNoRounds : ZV mX5_whyNoRounds yX5_whyNoRounds 0 := ⟨q1943, qs126, q155, q1944, rfl, by decide, by decide, by decide +kernel⟩
theorem ct_X5_whyNoRounds {G : zGw} (hG : zGM G)  : Zc mX5_whyNoRounds yX5_whyNoRounds zJI G [.ref (G.1 0)] (F_X5_whyNoRounds) := by
  refine Zc_of [some (.ref (G.1 0))] (by decide) rfl rfl (Nat.le_of_ble_eq_true rfl) rfl (fun X S res => ?_)
  unfold F_X5_whyNoRounds
  refine z_aload_n (pc := 0) 0 dX5_whyNoRounds_0 rfl rfl ?_
  refine z_callVi (pc := 1) _ _ 0 5 (ct_X5_isTown hG) mv_X5_isTown q1729 rfl (zGM_s0 hG) rfl (Nat.le_of_ble_eq_true rfl) (Nat.le_of_ble_eq_true rfl) rfl rfl (Nat.le_of_ble_eq_true rfl) dX5_whyNoRounds_1 (fun r2 S1 => ?_)
  refine z_if_ne (pc := 4) 12 dX5_whyNoRounds_4 rfl ?_ ?_
  · refine z_aload_n (pc := 12) 0 dX5_whyNoRounds_12 rfl rfl ?_
    refine gf_X5_M_34_0 hG (pc := 13) dX5_whyNoRounds_13 ?_
    refine z_iconst (pc := 16) (v := 0) dX5_whyNoRounds_16 (by decide) ?_
    refine z_chk (fun h3 => ?_)
    refine z_iaload (pc := 17) 18 15 (zGM_s18 hG) h3 dX5_whyNoRounds_17 ?_
    refine z_iconst (pc := 18) (v := 5) dX5_whyNoRounds_18 (by decide) ?_
    refine z_icmp_ne (pc := 19) 27 dX5_whyNoRounds_19 rfl ?_ ?_
    · refine z_iconst (pc := 27) (v := 0) dX5_whyNoRounds_27 (by decide) ?_
      exact z_iret rfl dX5_whyNoRounds_28 rfl
    · refine z_bipush (pc := 22) (v := (-9)) dX5_whyNoRounds_22 (by decide) ?_
      refine z_goto (pc := 24) 28 dX5_whyNoRounds_24 rfl ?_
      exact z_iret rfl dX5_whyNoRounds_28 rfl
  · refine z_bipush (pc := 7) (v := (-2)) dX5_whyNoRounds_7 (by decide) ?_
    refine z_goto (pc := 9) 28 dX5_whyNoRounds_9 rfl ?_
    exact z_iret rfl dX5_whyNoRounds_28 rfl
abbrev mX5_laysNumbers : zMr := ("HiddenCubeModel", cX5_laysNumbers, 4, none, 3, 0, 0, none)
def LB_X5_laysNumbers_1 (x3 : Int32) (rec1 : Int32 → Int32 → zSt → Option (Unit × zSt)) (rec7 : Int32 → Int32 → zSt → Option (Unit × zSt)) (x8 : Int32) (x9 : Int32) (S10 : zSt) : Option (Unit × zSt) :=
chk 0 15 (if (S10.1 18 (0 : Int32).toNatClampNeg) ≤ x9 then (rec1 x8 (x3 + 1) S10) else (zbind (F_X5_isBit x3 x9 S10) (fun r13 S12 =>
if r13 = 0 then (chk ((5 * x3) + x9) 80 (zlet (sI S12 37 ((5 * x3) + x9).toNatClampNeg x8 : zSt) (fun S15 : zSt =>
zlet ((5 * (x3 ^^^ ((1 : Int32) <<< (x9 &&& 31)))) + x9 : Int32) (fun w16 : Int32 =>
chk w16 80 (zlet (sI S15 37 (w16).toNatClampNeg x8 : zSt) (fun S18 : zSt =>
rec7 (x8 + 1) (x9 + 1) S18)))))) else (rec7 x8 (x9 + 1) S12))))
def LB_X5_laysNumbers_2 (rec1 : Int32 → Int32 → zSt → Option (Unit × zSt)) (x2 : Int32) (x3 : Int32) (S4 : zSt) : Option (Unit × zSt) :=
zbind (F_X5_squares S4) (fun r6 S5 =>
if r6 ≤ x3 then (some ((), S5)) else (loopK (fun _ _ _ => none) (LB_X5_laysNumbers_1 x3 rec1) zfuel x2 0 S5))
def F_X5_laysNumbers  (S : zSt) : Option (Unit × zSt) :=
loopK (fun _ _ _ => none) (LB_X5_laysNumbers_2) zfuel 0 0 S
theorem mv_X5_laysNumbers : ZV mX5_laysNumbers yX5_laysNumbers 0 := ⟨q1951, qs128, q155, q1952, rfl, by decide, by decide, by decide +kernel⟩
theorem ct_X5_laysNumbers {G : zGw} (hG : zGM G)  : Zc mX5_laysNumbers yX5_laysNumbers zJV G [.ref (G.1 0)] (F_X5_laysNumbers) := by
  refine Zc_of [some (.ref (G.1 0)), none, none, none] (by decide) rfl rfl (Nat.le_of_ble_eq_true rfl) rfl (fun X S res => ?_)
  unfold F_X5_laysNumbers
  refine z_iconst (pc := 0) (v := 0) dX5_laysNumbers_0 (by decide) ?_
  refine z_istore_n (pc := 1) 1 dX5_laysNumbers_1 rfl (Nat.le_of_ble_eq_true rfl) rfl ?_
  refine z_iconst (pc := 2) (v := 0) dX5_laysNumbers_2 (by decide) ?_
  refine z_istore_n (pc := 3) 2 dX5_laysNumbers_3 rfl (Nat.le_of_ble_eq_true rfl) rfl ?_
  refine z_loopK (fun j : Int32 → Int32 → zSt → Option (Unit × zSt) => ∀ (x2 : Int32) (x3 : Int32) (S4 : zSt), Zm X mX5_laysNumbers zJV G (0, 0) res S4 4 [some (.ref (G.1 0)), some (.int x2), some (.int x3), none] [] (j x2 x3 S4)) ?_ ?_ zfuel _ _ _
  · intro x2 x3 S4; exact z_none
  · intro rec1 hrec1 x2 x3 S4
    unfold LB_X5_laysNumbers_2
    refine z_iload_n (pc := 4) 2 dX5_laysNumbers_4 rfl rfl ?_
    refine z_aload_n (pc := 5) 0 dX5_laysNumbers_5 rfl rfl ?_
    refine z_callVi (pc := 6) _ _ 0 5 (ct_X5_squares hG) mv_X5_squares q1725 rfl (zGM_s0 hG) rfl (Nat.le_of_ble_eq_true rfl) (Nat.le_of_ble_eq_true rfl) rfl rfl (Nat.le_of_ble_eq_true rfl) dX5_laysNumbers_6 (fun r6 S5 => ?_)
    refine z_icmp_ge (pc := 9) 76 dX5_laysNumbers_9 rfl ?_ ?_
    · exact z_vret rfl dX5_laysNumbers_76 rfl
    · refine z_iconst (pc := 12) (v := 0) dX5_laysNumbers_12 (by decide) ?_
      refine z_istore_n (pc := 13) 3 dX5_laysNumbers_13 rfl (Nat.le_of_ble_eq_true rfl) rfl ?_
      refine z_loopK (fun j : Int32 → Int32 → zSt → Option (Unit × zSt) => ∀ (x8 : Int32) (x9 : Int32) (S10 : zSt), Zm X mX5_laysNumbers zJV G (0, 0) res S10 14 [some (.ref (G.1 0)), some (.int x8), some (.int x3), some (.int x9)] [] (j x8 x9 S10)) ?_ ?_ zfuel _ _ _
      · intro x8 x9 S10; exact z_none
      · intro rec7 hrec7 x8 x9 S10
        unfold LB_X5_laysNumbers_1
        refine z_iload_n (pc := 14) 3 dX5_laysNumbers_14 rfl rfl ?_
        refine z_aload_n (pc := 15) 0 dX5_laysNumbers_15 rfl rfl ?_
        refine gf_X5_M_34_0 hG (pc := 16) dX5_laysNumbers_16 ?_
        refine z_iconst (pc := 19) (v := 0) dX5_laysNumbers_19 (by decide) ?_
        refine z_chk (fun h11 => ?_)
        refine z_iaload (pc := 20) 18 15 (zGM_s18 hG) h11 dX5_laysNumbers_20 ?_
        refine z_icmp_ge (pc := 21) 70 dX5_laysNumbers_21 rfl ?_ ?_
        · refine z_iinc (pc := 70) (w := x3 + 1) dX5_laysNumbers_70 rfl (by rw [show Int32.ofInt 1 = 1 from by decide]) (Nat.le_of_ble_eq_true rfl) rfl ?_
          refine z_goto (pc := 73) 4 dX5_laysNumbers_73 rfl ?_
          exact z_mask [true, true, true, false] (hrec1 _ _ _) rfl
        · refine z_iload_n (pc := 24) 2 dX5_laysNumbers_24 rfl rfl ?_
          refine z_iload_n (pc := 25) 3 dX5_laysNumbers_25 rfl rfl ?_
          refine z_callSi (pc := 26) _ _ (ct_X5_isBit  _ _) mv_X5_isBit q1737 rfl (Nat.le_of_ble_eq_true rfl) (Nat.le_of_ble_eq_true rfl) rfl rfl (Nat.le_of_ble_eq_true rfl) dX5_laysNumbers_26 (fun r13 S12 => ?_)
          refine z_if_eq (pc := 29) 35 dX5_laysNumbers_29 rfl ?_ ?_
          · refine z_aload_n (pc := 35) 0 dX5_laysNumbers_35 rfl rfl ?_
            refine gf_X5_M_89_0 hG (pc := 36) dX5_laysNumbers_36 ?_
            refine z_iconst (pc := 39) (v := 5) dX5_laysNumbers_39 (by decide) ?_
            refine z_iload_n (pc := 40) 2 dX5_laysNumbers_40 rfl rfl ?_
            refine z_imul (pc := 41) dX5_laysNumbers_41 ?_
            refine z_iload_n (pc := 42) 3 dX5_laysNumbers_42 rfl rfl ?_
            refine z_iadd (pc := 43) dX5_laysNumbers_43 ?_
            refine z_iload_n (pc := 44) 1 dX5_laysNumbers_44 rfl rfl ?_
            refine z_chk (fun h14 => ?_)
            refine z_iastore (pc := 45) 37 80 (zGM_s37 hG) h14 dX5_laysNumbers_45 ?_
            refine z_letS (fun S15 => ?_)
            refine z_aload_n (pc := 46) 0 dX5_laysNumbers_46 rfl rfl ?_
            refine gf_X5_M_89_0 hG (pc := 47) dX5_laysNumbers_47 ?_
            refine z_iconst (pc := 50) (v := 5) dX5_laysNumbers_50 (by decide) ?_
            refine z_iload_n (pc := 51) 2 dX5_laysNumbers_51 rfl rfl ?_
            refine z_iconst (pc := 52) (v := 1) dX5_laysNumbers_52 (by decide) ?_
            refine z_iload_n (pc := 53) 3 dX5_laysNumbers_53 rfl rfl ?_
            refine z_ishl (pc := 54) dX5_laysNumbers_54 ?_
            refine z_ixor (pc := 55) dX5_laysNumbers_55 ?_
            refine z_imul (pc := 56) dX5_laysNumbers_56 ?_
            refine z_iload_n (pc := 57) 3 dX5_laysNumbers_57 rfl rfl ?_
            refine z_iadd (pc := 58) dX5_laysNumbers_58 ?_
            refine z_iload_n (pc := 59) 1 dX5_laysNumbers_59 rfl rfl ?_
            refine z_letI2 (fun w16 => ?_)
            refine z_chk (fun h17 => ?_)
            refine z_iastore (pc := 60) 37 80 (zGM_s37 hG) h17 dX5_laysNumbers_60 ?_
            refine z_letS (fun S18 => ?_)
            refine z_iinc (pc := 61) (w := x8 + 1) dX5_laysNumbers_61 rfl (by rw [show Int32.ofInt 1 = 1 from by decide]) (Nat.le_of_ble_eq_true rfl) rfl ?_
            refine z_iinc (pc := 64) (w := x9 + 1) dX5_laysNumbers_64 rfl (by rw [show Int32.ofInt 1 = 1 from by decide]) (Nat.le_of_ble_eq_true rfl) rfl ?_
            refine z_goto (pc := 67) 14 dX5_laysNumbers_67 rfl ?_
            exact hrec7 _ _ _
          · refine z_goto (pc := 32) 64 dX5_laysNumbers_32 rfl ?_
            refine z_iinc (pc := 64) (w := x9 + 1) dX5_laysNumbers_64 rfl (by rw [show Int32.ofInt 1 = 1 from by decide]) (Nat.le_of_ble_eq_true rfl) rfl ?_
            refine z_goto (pc := 67) 14 dX5_laysNumbers_67 rfl ?_
            exact hrec7 _ _ _
abbrev mX5_goesRound (nrec : Nat) : zMr := ("HiddenCubeModel", cX5_goesRound, 7, none, 3 + nrec, 0, 0, none)
def LB_X5_goesRound_1 (a1 : Int32) (a2 : Int32) (a3 : Int32) (self : Int32 → Int32 → Int32 → zSt → Option (Unit × zSt)) (w2 : Int32) (rec5 : Int32 → zSt → Option (Unit × zSt)) (x6 : Int32) (S7 : zSt) : Option (Unit × zSt) :=
zbind (F_X5_squares S7) (fun r9 S8 =>
if r9 ≤ x6 then (some ((), S8)) else (zbind (F_X5_nameOf w2 x6 S8) (fun r11 S10 =>
if r11 = (-1) then (rec5 (x6 + 1) S10) else (zbind (F_X5_isBit a2 x6 S10) (fun r13 S12 =>
if r13 = 0 then (zbind (F_X5_isOpen w2 r11 S12) (fun r15 S14 =>
if r15 = 0 then (rec5 (x6 + 1) S14) else (chk a1 17 (zlet (sI S14 40 (a1).toNatClampNeg x6 : zSt) (fun S17 : zSt =>
zlet ((5 * w2) + r11 : Int32) (fun w18 : Int32 =>
chk w18 80 (zbind (self (a1 + 1) (a2 ||| ((1 : Int32) <<< (x6 &&& 31))) (a3 ||| ((1 : Int32) <<< ((S17.1 37 (w18).toNatClampNeg) &&& 31))) S17) (fun _ S20 =>
rec5 (x6 + 1) S20)))))))) else (rec5 (x6 + 1) S12))))))
def LB_X5_goesRound_2 (a1 : Int32) (j26 : zSt → Option (Unit × zSt)) (rec33 : Int32 → zSt → Option (Unit × zSt)) (x34 : Int32) (S35 : zSt) : Option (Unit × zSt) :=
if a1 ≤ x34 then (j26 S35) else (chk x34 17 (chk x34 16 (zlet (sI S35 41 (x34).toNatClampNeg (S35.1 40 (x34).toNatClampNeg) : zSt) (fun S38 : zSt =>
rec33 (x34 + 1) S38))))
def FB_X5_goesRound (self : Int32 → Int32 → Int32 → zSt → Option (Unit × zSt)) (a1 : Int32) (a2 : Int32) (a3 : Int32) (S : zSt) : Option (Unit × zSt) :=
chk (a1 - 1) 17 (zlet (S.1 40 (a1 - 1).toNatClampNeg : Int32) (fun w2 : Int32 =>
zbind (F_X5_squares S) (fun r4 S3 =>
if a1 = r4 then (zbind (F_X5_nameOf w2 0 S3) (fun r22 S21 =>
if r22 = (-1) then (some ((), S21)) else (zbind (F_X5_isOpen w2 r22 S21) (fun r24 S23 =>
if r24 = 0 then (some ((), S23)) else (chk 1 17 (if (S23.1 40 (1 : Int32).toNatClampNeg) ≤ w2 then (joinK (fun  (S27 : zSt) => zlet ((5 * w2) + r22 : Int32) (fun w28 : Int32 =>
chk w28 80 (chk (S27.1 0 38) 1400 (zlet (sI S27 38 (S27.1 0 38).toNatClampNeg (a3 ||| ((1 : Int32) <<< ((S27.1 37 (w28).toNatClampNeg) &&& 31))) : zSt) (fun S31 : zSt =>
zlet (sI S31 0 38 ((S31.1 0 38) + 1) : zSt) (fun S32 : zSt =>
some ((), S32))))))) (fun j26 : zSt → Option (Unit × zSt) =>
if (S23.1 0 38) = 0 then (loopK (fun _ _ => none) (LB_X5_goesRound_2 a1 j26) zfuel 0 S23) else (j26 S23))) else (some ((), S23)))))))) else (loopK (fun _ _ => none) (LB_X5_goesRound_1 a1 a2 a3 self w2) zfuel 0 S3))))
def F_X5_goesRound : Nat → Int32 → Int32 → Int32 → zSt → Option (Unit × zSt)
  | 0 => fun _ _ _ _ => none
  | nrec + 1 => FB_X5_goesRound (F_X5_goesRound nrec)
theorem mv_X5_goesRound (nrec : Nat) : ZV (mX5_goesRound nrec) yX5_goesRound 3 := ⟨q1955, qs129, q155, q1956, rfl, by decide, by decide, by decide +kernel⟩
theorem ct_X5_goesRound {G : zGw} (hG : zGM G) : ∀ (nrec : Nat) (a1 : Int32) (a2 : Int32) (a3 : Int32), Zc (mX5_goesRound nrec) yX5_goesRound zJV G [.ref (G.1 0), .int a1, .int a2, .int a3] (F_X5_goesRound nrec a1 a2 a3) := by
  intro nrec
  induction nrec with
  | zero =>
    intro a1 a2 a3 l S res sz hfl hF
    cases hF
  | succ nrec ih =>
    intro a1 a2 a3
    show Zc (mX5_goesRound (nrec + 1)) yX5_goesRound zJV G [.ref (G.1 0), .int a1, .int a2, .int a3] (FB_X5_goesRound (F_X5_goesRound nrec) a1 a2 a3)
    refine Zc_of [some (.ref (G.1 0)), some (.int a1), some (.int a2), some (.int a3), none, none, none] (by decide) rfl rfl (Nat.le_of_ble_eq_true rfl) rfl (fun X S res => ?_)
    unfold FB_X5_goesRound
    refine z_aload_n (pc := 0) 0 dX5_goesRound_0 rfl rfl ?_
    refine gf_X5_M_95_0 hG (pc := 1) dX5_goesRound_1 ?_
    refine z_iload_n (pc := 4) 1 dX5_goesRound_4 rfl rfl ?_
    refine z_iconst (pc := 5) (v := 1) dX5_goesRound_5 (by decide) ?_
    refine z_isub (pc := 6) dX5_goesRound_6 ?_
    refine z_chk (fun h1 => ?_)
    refine z_iaload (pc := 7) 40 17 (zGM_s40 hG) h1 dX5_goesRound_7 ?_
    refine z_letI (fun w2 => ?_)
    refine z_istore (pc := 8) dX5_goesRound_8 (Nat.le_of_ble_eq_true rfl) rfl ?_
    refine z_iload_n (pc := 10) 1 dX5_goesRound_10 rfl rfl ?_
    refine z_aload_n (pc := 11) 0 dX5_goesRound_11 rfl rfl ?_
    refine z_callVi (pc := 12) _ _ 0 5 (ct_X5_squares hG) mv_X5_squares q1725 rfl (zGM_s0 hG) rfl (Nat.le_trans (m := 3) (Nat.le_of_ble_eq_true rfl) (Nat.le_add_right _ _)) (Nat.le_of_ble_eq_true rfl) rfl rfl (Nat.le_of_ble_eq_true rfl) dX5_goesRound_12 (fun r4 S3 => ?_)
    refine z_icmp_ne (pc := 15) 128 dX5_goesRound_15 rfl ?_ ?_
    · refine z_iconst (pc := 128) (v := 0) dX5_goesRound_128 (by decide) ?_
      refine z_istore (pc := 129) dX5_goesRound_129 (Nat.le_of_ble_eq_true rfl) rfl ?_
      refine z_loopK (fun j : Int32 → zSt → Option (Unit × zSt) => ∀ (x6 : Int32) (S7 : zSt), Zm X (mX5_goesRound (nrec + 1)) zJV G (0, 0) res S7 131 [some (.ref (G.1 0)), some (.int a1), some (.int a2), some (.int a3), some (.int w2), some (.int x6), none] [] (j x6 S7)) ?_ ?_ zfuel _ _
      · intro x6 S7; exact z_none
      · intro rec5 hrec5 x6 S7
        unfold LB_X5_goesRound_1
        refine z_iload (pc := 131) dX5_goesRound_131 rfl ?_
        refine z_aload_n (pc := 133) 0 dX5_goesRound_133 rfl rfl ?_
        refine z_callVi (pc := 134) _ _ 0 5 (ct_X5_squares hG) mv_X5_squares q1725 rfl (zGM_s0 hG) rfl (Nat.le_trans (m := 3) (Nat.le_of_ble_eq_true rfl) (Nat.le_add_right _ _)) (Nat.le_of_ble_eq_true rfl) rfl rfl (Nat.le_of_ble_eq_true rfl) dX5_goesRound_134 (fun r9 S8 => ?_)
        refine z_icmp_ge (pc := 137) 222 dX5_goesRound_137 rfl ?_ ?_
        · exact z_vret rfl dX5_goesRound_222 rfl
        · refine z_aload_n (pc := 140) 0 dX5_goesRound_140 rfl rfl ?_
          refine z_iload (pc := 141) dX5_goesRound_141 rfl ?_
          refine z_iload (pc := 143) dX5_goesRound_143 rfl ?_
          refine z_callVi (pc := 145) _ _ 0 5 (ct_X5_nameOf hG _ _) mv_X5_nameOf q1803 rfl (zGM_s0 hG) rfl (Nat.le_trans (m := 3) (Nat.le_of_ble_eq_true rfl) (Nat.le_add_right _ _)) (Nat.le_of_ble_eq_true rfl) rfl rfl (Nat.le_of_ble_eq_true rfl) dX5_goesRound_145 (fun r11 S10 => ?_)
          refine z_istore (pc := 148) dX5_goesRound_148 (Nat.le_of_ble_eq_true rfl) rfl ?_
          refine z_iload (pc := 150) dX5_goesRound_150 rfl ?_
          refine z_iconst (pc := 152) (v := (-1)) dX5_goesRound_152 (by decide) ?_
          refine z_icmp_eq (pc := 153) 216 dX5_goesRound_153 rfl ?_ ?_
          · refine z_iinc (pc := 216) (w := x6 + 1) dX5_goesRound_216 rfl (by rw [show Int32.ofInt 1 = 1 from by decide]) (Nat.le_of_ble_eq_true rfl) rfl ?_
            refine z_goto (pc := 219) 131 dX5_goesRound_219 rfl ?_
            exact z_mask [true, true, true, true, true, true, false] (hrec5 _ _) rfl
          · refine z_iload_n (pc := 156) 2 dX5_goesRound_156 rfl rfl ?_
            refine z_iload (pc := 157) dX5_goesRound_157 rfl ?_
            refine z_callSi (pc := 159) _ _ (ct_X5_isBit  _ _) mv_X5_isBit q1737 rfl (Nat.le_trans (m := 3) (Nat.le_of_ble_eq_true rfl) (Nat.le_add_right _ _)) (Nat.le_of_ble_eq_true rfl) rfl rfl (Nat.le_of_ble_eq_true rfl) dX5_goesRound_159 (fun r13 S12 => ?_)
            refine z_if_ne (pc := 162) 216 dX5_goesRound_162 rfl ?_ ?_
            · refine z_iinc (pc := 216) (w := x6 + 1) dX5_goesRound_216 rfl (by rw [show Int32.ofInt 1 = 1 from by decide]) (Nat.le_of_ble_eq_true rfl) rfl ?_
              refine z_goto (pc := 219) 131 dX5_goesRound_219 rfl ?_
              exact z_mask [true, true, true, true, true, true, false] (hrec5 _ _) rfl
            · refine z_aload_n (pc := 165) 0 dX5_goesRound_165 rfl rfl ?_
              refine z_iload (pc := 166) dX5_goesRound_166 rfl ?_
              refine z_iload (pc := 168) dX5_goesRound_168 rfl ?_
              refine z_callVi (pc := 170) _ _ 0 5 (ct_X5_isOpen hG _ _) mv_X5_isOpen q1733 rfl (zGM_s0 hG) rfl (Nat.le_trans (m := 3) (Nat.le_of_ble_eq_true rfl) (Nat.le_add_right _ _)) (Nat.le_of_ble_eq_true rfl) rfl rfl (Nat.le_of_ble_eq_true rfl) dX5_goesRound_170 (fun r15 S14 => ?_)
              refine z_if_ne (pc := 173) 179 dX5_goesRound_173 rfl ?_ ?_
              · refine z_aload_n (pc := 179) 0 dX5_goesRound_179 rfl rfl ?_
                refine gf_X5_M_95_0 hG (pc := 180) dX5_goesRound_180 ?_
                refine z_iload_n (pc := 183) 1 dX5_goesRound_183 rfl rfl ?_
                refine z_iload (pc := 184) dX5_goesRound_184 rfl ?_
                refine z_chk (fun h16 => ?_)
                refine z_iastore (pc := 186) 40 17 (zGM_s40 hG) h16 dX5_goesRound_186 ?_
                refine z_letS (fun S17 => ?_)
                refine z_aload_n (pc := 187) 0 dX5_goesRound_187 rfl rfl ?_
                refine z_iload_n (pc := 188) 1 dX5_goesRound_188 rfl rfl ?_
                refine z_iconst (pc := 189) (v := 1) dX5_goesRound_189 (by decide) ?_
                refine z_iadd (pc := 190) dX5_goesRound_190 ?_
                refine z_iload_n (pc := 191) 2 dX5_goesRound_191 rfl rfl ?_
                refine z_iconst (pc := 192) (v := 1) dX5_goesRound_192 (by decide) ?_
                refine z_iload (pc := 193) dX5_goesRound_193 rfl ?_
                refine z_ishl (pc := 195) dX5_goesRound_195 ?_
                refine z_ior (pc := 196) dX5_goesRound_196 ?_
                refine z_iload_n (pc := 197) 3 dX5_goesRound_197 rfl rfl ?_
                refine z_iconst (pc := 198) (v := 1) dX5_goesRound_198 (by decide) ?_
                refine z_aload_n (pc := 199) 0 dX5_goesRound_199 rfl rfl ?_
                refine gf_X5_M_89_0 hG (pc := 200) dX5_goesRound_200 ?_
                refine z_iconst (pc := 203) (v := 5) dX5_goesRound_203 (by decide) ?_
                refine z_iload (pc := 204) dX5_goesRound_204 rfl ?_
                refine z_imul (pc := 206) dX5_goesRound_206 ?_
                refine z_iload (pc := 207) dX5_goesRound_207 rfl ?_
                refine z_iadd (pc := 209) dX5_goesRound_209 ?_
                refine z_letI (fun w18 => ?_)
                refine z_chk (fun h19 => ?_)
                refine z_iaload (pc := 210) 37 80 (zGM_s37 hG) h19 dX5_goesRound_210 ?_
                refine z_ishl (pc := 211) dX5_goesRound_211 ?_
                refine z_ior (pc := 212) dX5_goesRound_212 ?_
                refine z_callVv (pc := 213) _ _ 0 5 (ih _ _ _) (mv_X5_goesRound _) q1953 rfl (zGM_s0 hG) rfl (Nat.le_refl _) (Nat.le_of_ble_eq_true rfl) rfl rfl (Nat.le_of_ble_eq_true rfl) dX5_goesRound_213 (fun _ S20 => ?_)
                refine z_iinc (pc := 216) (w := x6 + 1) dX5_goesRound_216 rfl (by rw [show Int32.ofInt 1 = 1 from by decide]) (Nat.le_of_ble_eq_true rfl) rfl ?_
                refine z_goto (pc := 219) 131 dX5_goesRound_219 rfl ?_
                exact z_mask [true, true, true, true, true, true, false] (hrec5 _ _) rfl
              · refine z_goto (pc := 176) 216 dX5_goesRound_176 rfl ?_
                refine z_iinc (pc := 216) (w := x6 + 1) dX5_goesRound_216 rfl (by rw [show Int32.ofInt 1 = 1 from by decide]) (Nat.le_of_ble_eq_true rfl) rfl ?_
                refine z_goto (pc := 219) 131 dX5_goesRound_219 rfl ?_
                exact z_mask [true, true, true, true, true, true, false] (hrec5 _ _) rfl
    · refine z_aload_n (pc := 18) 0 dX5_goesRound_18 rfl rfl ?_
      refine z_iload (pc := 19) dX5_goesRound_19 rfl ?_
      refine z_iconst (pc := 21) (v := 0) dX5_goesRound_21 (by decide) ?_
      refine z_callVi (pc := 22) _ _ 0 5 (ct_X5_nameOf hG _ _) mv_X5_nameOf q1803 rfl (zGM_s0 hG) rfl (Nat.le_trans (m := 3) (Nat.le_of_ble_eq_true rfl) (Nat.le_add_right _ _)) (Nat.le_of_ble_eq_true rfl) rfl rfl (Nat.le_of_ble_eq_true rfl) dX5_goesRound_22 (fun r22 S21 => ?_)
      refine z_istore (pc := 25) dX5_goesRound_25 (Nat.le_of_ble_eq_true rfl) rfl ?_
      refine z_iload (pc := 27) dX5_goesRound_27 rfl ?_
      refine z_iconst (pc := 29) (v := (-1)) dX5_goesRound_29 (by decide) ?_
      refine z_icmp_eq (pc := 30) 55 dX5_goesRound_30 rfl ?_ ?_
      · exact z_vret rfl dX5_goesRound_55 rfl
      · refine z_aload_n (pc := 33) 0 dX5_goesRound_33 rfl rfl ?_
        refine z_iload (pc := 34) dX5_goesRound_34 rfl ?_
        refine z_iload (pc := 36) dX5_goesRound_36 rfl ?_
        refine z_callVi (pc := 38) _ _ 0 5 (ct_X5_isOpen hG _ _) mv_X5_isOpen q1733 rfl (zGM_s0 hG) rfl (Nat.le_trans (m := 3) (Nat.le_of_ble_eq_true rfl) (Nat.le_add_right _ _)) (Nat.le_of_ble_eq_true rfl) rfl rfl (Nat.le_of_ble_eq_true rfl) dX5_goesRound_38 (fun r24 S23 => ?_)
        refine z_if_eq (pc := 41) 55 dX5_goesRound_41 rfl ?_ ?_
        · exact z_vret rfl dX5_goesRound_55 rfl
        · refine z_aload_n (pc := 44) 0 dX5_goesRound_44 rfl rfl ?_
          refine gf_X5_M_95_0 hG (pc := 45) dX5_goesRound_45 ?_
          refine z_iconst (pc := 48) (v := 1) dX5_goesRound_48 (by decide) ?_
          refine z_chk (fun h25 => ?_)
          refine z_iaload (pc := 49) 40 17 (zGM_s40 hG) h25 dX5_goesRound_49 ?_
          refine z_iload (pc := 50) dX5_goesRound_50 rfl ?_
          refine z_icmp_le (pc := 52) 56 dX5_goesRound_52 rfl ?_ ?_
          · refine z_aload_n (pc := 56) 0 dX5_goesRound_56 rfl rfl ?_
            refine gf_X5_M_376_0 hG (pc := 57) dX5_goesRound_57 ?_
            refine z_join (fun j : zSt → Option (Unit × zSt) => ∀  (S27 : zSt), Zm X (mX5_goesRound (nrec + 1)) zJV G (0, 0) res S27 92 [some (.ref (G.1 0)), none, none, some (.int a3), some (.int w2), some (.int r22), none] [] (j S27)) ?_ (fun j26 hj26 => ?_)
            · intro S27
              refine z_aload_n (pc := 92) 0 dX5_goesRound_92 rfl rfl ?_
              refine gf_X5_M_92_0 hG (pc := 93) dX5_goesRound_93 ?_
              refine z_aload_n (pc := 96) 0 dX5_goesRound_96 rfl rfl ?_
              refine gf_X5_M_376_0 hG (pc := 97) dX5_goesRound_97 ?_
              refine z_iload_n (pc := 100) 3 dX5_goesRound_100 rfl rfl ?_
              refine z_iconst (pc := 101) (v := 1) dX5_goesRound_101 (by decide) ?_
              refine z_aload_n (pc := 102) 0 dX5_goesRound_102 rfl rfl ?_
              refine gf_X5_M_89_0 hG (pc := 103) dX5_goesRound_103 ?_
              refine z_iconst (pc := 106) (v := 5) dX5_goesRound_106 (by decide) ?_
              refine z_iload (pc := 107) dX5_goesRound_107 rfl ?_
              refine z_imul (pc := 109) dX5_goesRound_109 ?_
              refine z_iload (pc := 110) dX5_goesRound_110 rfl ?_
              refine z_iadd (pc := 112) dX5_goesRound_112 ?_
              refine z_letI (fun w28 => ?_)
              refine z_chk (fun h29 => ?_)
              refine z_iaload (pc := 113) 37 80 (zGM_s37 hG) h29 dX5_goesRound_113 ?_
              refine z_ishl (pc := 114) dX5_goesRound_114 ?_
              refine z_ior (pc := 115) dX5_goesRound_115 ?_
              refine z_chk (fun h30 => ?_)
              refine z_iastore (pc := 116) 38 1400 (zGM_s38 hG) h30 dX5_goesRound_116 ?_
              refine z_letS (fun S31 => ?_)
              refine z_aload_n (pc := 117) 0 dX5_goesRound_117 rfl rfl ?_
              refine z_dup (pc := 118) dX5_goesRound_118 rfl ?_
              refine gf_X5_M_376_0 hG (pc := 119) dX5_goesRound_119 ?_
              refine z_iconst (pc := 122) (v := 1) dX5_goesRound_122 (by decide) ?_
              refine z_iadd (pc := 123) dX5_goesRound_123 ?_
              refine pf_X5_M_376_0 hG (pc := 124) dX5_goesRound_124 ?_
              refine z_letS (fun S32 => ?_)
              exact z_vret rfl dX5_goesRound_127 rfl
            · refine z_if_ne (pc := 60) 92 dX5_goesRound_60 rfl ?_ ?_
              · exact z_mask [true, false, false, true, true, true, false] (hj26 _) rfl
              · refine z_iconst (pc := 63) (v := 0) dX5_goesRound_63 (by decide) ?_
                refine z_istore (pc := 64) dX5_goesRound_64 (Nat.le_of_ble_eq_true rfl) rfl ?_
                refine z_maskk [true, true, false, true, true, true, true] ?_
                refine z_loopK (fun j : Int32 → zSt → Option (Unit × zSt) => ∀ (x34 : Int32) (S35 : zSt), Zm X (mX5_goesRound (nrec + 1)) zJV G (0, 0) res S35 66 [some (.ref (G.1 0)), some (.int a1), none, some (.int a3), some (.int w2), some (.int r22), some (.int x34)] [] (j x34 S35)) ?_ ?_ zfuel _ _
                · intro x34 S35; exact z_none
                · intro rec33 hrec33 x34 S35
                  unfold LB_X5_goesRound_2
                  refine z_iload (pc := 66) dX5_goesRound_66 rfl ?_
                  refine z_iload_n (pc := 68) 1 dX5_goesRound_68 rfl rfl ?_
                  refine z_icmp_ge (pc := 69) 92 dX5_goesRound_69 rfl ?_ ?_
                  · exact z_mask [true, false, false, true, true, true, false] (hj26 _) rfl
                  · refine z_aload_n (pc := 72) 0 dX5_goesRound_72 rfl rfl ?_
                    refine gf_X5_M_98_0 hG (pc := 73) dX5_goesRound_73 ?_
                    refine z_iload (pc := 76) dX5_goesRound_76 rfl ?_
                    refine z_aload_n (pc := 78) 0 dX5_goesRound_78 rfl rfl ?_
                    refine gf_X5_M_95_0 hG (pc := 79) dX5_goesRound_79 ?_
                    refine z_iload (pc := 82) dX5_goesRound_82 rfl ?_
                    refine z_chk (fun h36 => ?_)
                    refine z_iaload (pc := 84) 40 17 (zGM_s40 hG) h36 dX5_goesRound_84 ?_
                    refine z_chk (fun h37 => ?_)
                    refine z_iastore (pc := 85) 41 16 (zGM_s41 hG) h37 dX5_goesRound_85 ?_
                    refine z_letS (fun S38 => ?_)
                    refine z_iinc (pc := 86) (w := x34 + 1) dX5_goesRound_86 rfl (by rw [show Int32.ofInt 1 = 1 from by decide]) (Nat.le_of_ble_eq_true rfl) rfl ?_
                    refine z_goto (pc := 89) 66 dX5_goesRound_89 rfl ?_
                    exact hrec33 _ _
          · exact z_vret rfl dX5_goesRound_55 rfl
abbrev mX5_laysRounds : zMr := ("HiddenCubeModel", cX5_laysRounds, 1, none, 44, 0, 0, none)
def F_X5_laysRounds  (S : zSt) : Option (Unit × zSt) :=
zbind (F_X5_laysNumbers S) (fun _ S1 =>
zlet (sI S1 0 38 0 : zSt) (fun S2 : zSt =>
chk 0 17 (zlet (sI S2 40 (0 : Int32).toNatClampNeg 0 : zSt) (fun S4 : zSt =>
zbind (F_X5_goesRound 40 1 1 0 S4) (fun _ S5 =>
some ((), S5))))))
theorem mv_X5_laysRounds : ZV mX5_laysRounds yX5_laysRounds 0 := ⟨q1947, qs127, q155, q1948, rfl, by decide, by decide, by decide +kernel⟩
theorem ct_X5_laysRounds {G : zGw} (hG : zGM G)  : Zc mX5_laysRounds yX5_laysRounds zJV G [.ref (G.1 0)] (F_X5_laysRounds) := by
  refine Zc_of [some (.ref (G.1 0))] (by decide) rfl rfl (Nat.le_of_ble_eq_true rfl) rfl (fun X S res => ?_)
  unfold F_X5_laysRounds
  refine z_aload_n (pc := 0) 0 dX5_laysRounds_0 rfl rfl ?_
  refine z_callVv (pc := 1) _ _ 0 5 (ct_X5_laysNumbers hG) mv_X5_laysNumbers q1949 rfl (zGM_s0 hG) rfl (Nat.le_of_ble_eq_true rfl) (Nat.le_of_ble_eq_true rfl) rfl rfl (Nat.le_of_ble_eq_true rfl) dX5_laysRounds_1 (fun _ S1 => ?_)
  refine z_aload_n (pc := 4) 0 dX5_laysRounds_4 rfl rfl ?_
  refine z_iconst (pc := 5) (v := 0) dX5_laysRounds_5 (by decide) ?_
  refine pf_X5_M_376_0 hG (pc := 6) dX5_laysRounds_6 ?_
  refine z_letS (fun S2 => ?_)
  refine z_aload_n (pc := 9) 0 dX5_laysRounds_9 rfl rfl ?_
  refine gf_X5_M_95_0 hG (pc := 10) dX5_laysRounds_10 ?_
  refine z_iconst (pc := 13) (v := 0) dX5_laysRounds_13 (by decide) ?_
  refine z_iconst (pc := 14) (v := 0) dX5_laysRounds_14 (by decide) ?_
  refine z_chk (fun h3 => ?_)
  refine z_iastore (pc := 15) 40 17 (zGM_s40 hG) h3 dX5_laysRounds_15 ?_
  refine z_letS (fun S4 => ?_)
  refine z_aload_n (pc := 16) 0 dX5_laysRounds_16 rfl rfl ?_
  refine z_iconst (pc := 17) (v := 1) dX5_laysRounds_17 (by decide) ?_
  refine z_iconst (pc := 18) (v := 1) dX5_laysRounds_18 (by decide) ?_
  refine z_iconst (pc := 19) (v := 0) dX5_laysRounds_19 (by decide) ?_
  refine z_callVv (pc := 20) _ _ 0 5 (ct_X5_goesRound hG 40 _ _ _) (mv_X5_goesRound _) q1953 rfl (zGM_s0 hG) rfl (Nat.le_of_ble_eq_true rfl) (Nat.le_of_ble_eq_true rfl) rfl rfl (Nat.le_of_ble_eq_true rfl) dX5_laysRounds_20 (fun _ S5 => ?_)
  exact z_vret rfl dX5_laysRounds_23 rfl
abbrev mX5_rounds : zMr := ("HiddenCubeModel", cX5_rounds, 2, (some .int), 45, 0, 0, none)
def F_X5_rounds  (S : zSt) : Option (Int32 × zSt) :=
zlet (sI S 0 0 0 : zSt) (fun S1 : zSt =>
zbind (F_X5_whyNoRounds S1) (fun r3 S2 =>
if r3 = 0 then (zbind (F_X5_laysRounds S2) (fun _ S4 =>
some (S4.1 0 38, S4))) else (some (r3, S2))))
theorem mv_X5_rounds : ZV mX5_rounds yX5_rounds 0 := ⟨q1938, q1939, q155, q1940, rfl, by decide, by decide, by decide +kernel⟩
theorem ct_X5_rounds {G : zGw} (hG : zGM G)  : Zc mX5_rounds yX5_rounds zJI G [.ref (G.1 0)] (F_X5_rounds) := by
  refine Zc_of [some (.ref (G.1 0)), none] (by decide) rfl rfl (Nat.le_of_ble_eq_true rfl) rfl (fun X S res => ?_)
  unfold F_X5_rounds
  refine z_aload_n (pc := 0) 0 dX5_rounds_0 rfl rfl ?_
  refine z_iconst (pc := 1) (v := 0) dX5_rounds_1 (by decide) ?_
  refine pf_X5_M_131_0 hG (pc := 2) dX5_rounds_2 ?_
  refine z_letS (fun S1 => ?_)
  refine z_aload_n (pc := 5) 0 dX5_rounds_5 rfl rfl ?_
  refine z_callVi (pc := 6) _ _ 0 5 (ct_X5_whyNoRounds hG) mv_X5_whyNoRounds q1941 rfl (zGM_s0 hG) rfl (Nat.le_of_ble_eq_true rfl) (Nat.le_of_ble_eq_true rfl) rfl rfl (Nat.le_of_ble_eq_true rfl) dX5_rounds_6 (fun r3 S2 => ?_)
  refine z_istore_n (pc := 9) 1 dX5_rounds_9 rfl (Nat.le_of_ble_eq_true rfl) rfl ?_
  refine z_iload_n (pc := 10) 1 dX5_rounds_10 rfl rfl ?_
  refine z_if_eq (pc := 11) 16 dX5_rounds_11 rfl ?_ ?_
  · refine z_aload_n (pc := 16) 0 dX5_rounds_16 rfl rfl ?_
    refine z_callVv (pc := 17) _ _ 0 5 (ct_X5_laysRounds hG) mv_X5_laysRounds q1945 rfl (zGM_s0 hG) rfl (Nat.le_of_ble_eq_true rfl) (Nat.le_of_ble_eq_true rfl) rfl rfl (Nat.le_of_ble_eq_true rfl) dX5_rounds_17 (fun _ S4 => ?_)
    refine z_aload_n (pc := 20) 0 dX5_rounds_20 rfl rfl ?_
    refine gf_X5_M_376_0 hG (pc := 21) dX5_rounds_21 ?_
    exact z_iret rfl dX5_rounds_24 rfl
  · refine z_iload_n (pc := 14) 1 dX5_rounds_14 rfl rfl ?_
    exact z_iret rfl dX5_rounds_15 rfl
abbrev mX5_round : zMr := ("HiddenCubeModel", cX5_round, 3, (some .int), 45, 0, 0, none)
def F_X5_round (a1 : Int32) (S : zSt) : Option (Int32 × zSt) :=
zlet (sI S 0 0 0 : zSt) (fun S1 : zSt =>
zbind (F_X5_whyNoRounds S1) (fun r3 S2 =>
if r3 = 0 then (zbind (F_X5_laysRounds S2) (fun _ S4 =>
if (S4.1 0 38) ≤ 0 then (some ((-1), S4)) else (zbind (F_X5_squares S4) (fun r6 S5 =>
zbind (F_X5_in ((a1).toInt64) 0 ((r6 - 1).toInt64) S5) (fun r8 S7 =>
if r8 = 0 then (some ((-1), S7)) else (chk a1 16 (some (S7.1 41 (a1).toNatClampNeg, S7)))))))) else (some (r3, S2))))
theorem mv_X5_round : ZV mX5_round yX5_round 1 := ⟨q1958, q1959, q155, q1960, rfl, by decide, by decide, by decide +kernel⟩
theorem ct_X5_round {G : zGw} (hG : zGM G) (a1 : Int32) : Zc mX5_round yX5_round zJI G [.ref (G.1 0), .int a1] (F_X5_round a1) := by
  refine Zc_of [some (.ref (G.1 0)), some (.int a1), none] (by decide) rfl rfl (Nat.le_of_ble_eq_true rfl) rfl (fun X S res => ?_)
  unfold F_X5_round
  refine z_aload_n (pc := 0) 0 dX5_round_0 rfl rfl ?_
  refine z_iconst (pc := 1) (v := 0) dX5_round_1 (by decide) ?_
  refine pf_X5_M_131_0 hG (pc := 2) dX5_round_2 ?_
  refine z_letS (fun S1 => ?_)
  refine z_aload_n (pc := 5) 0 dX5_round_5 rfl rfl ?_
  refine z_callVi (pc := 6) _ _ 0 5 (ct_X5_whyNoRounds hG) mv_X5_whyNoRounds q1941 rfl (zGM_s0 hG) rfl (Nat.le_of_ble_eq_true rfl) (Nat.le_of_ble_eq_true rfl) rfl rfl (Nat.le_of_ble_eq_true rfl) dX5_round_6 (fun r3 S2 => ?_)
  refine z_istore_n (pc := 9) 2 dX5_round_9 rfl (Nat.le_of_ble_eq_true rfl) rfl ?_
  refine z_iload_n (pc := 10) 2 dX5_round_10 rfl rfl ?_
  refine z_if_eq (pc := 11) 16 dX5_round_11 rfl ?_ ?_
  · refine z_aload_n (pc := 16) 0 dX5_round_16 rfl rfl ?_
    refine z_callVv (pc := 17) _ _ 0 5 (ct_X5_laysRounds hG) mv_X5_laysRounds q1945 rfl (zGM_s0 hG) rfl (Nat.le_of_ble_eq_true rfl) (Nat.le_of_ble_eq_true rfl) rfl rfl (Nat.le_of_ble_eq_true rfl) dX5_round_17 (fun _ S4 => ?_)
    refine z_aload_n (pc := 20) 0 dX5_round_20 rfl rfl ?_
    refine gf_X5_M_376_0 hG (pc := 21) dX5_round_21 ?_
    refine z_if_le (pc := 24) 52 dX5_round_24 rfl ?_ ?_
    · refine z_iconst (pc := 52) (v := (-1)) dX5_round_52 (by decide) ?_
      exact z_iret rfl dX5_round_53 rfl
    · refine z_iload_n (pc := 27) 1 dX5_round_27 rfl rfl ?_
      refine z_i2l (pc := 28) dX5_round_28 ?_
      refine z_lconst (pc := 29) (v := 0) dX5_round_29 (by decide) ?_
      refine z_aload_n (pc := 30) 0 dX5_round_30 rfl rfl ?_
      refine z_callVi (pc := 31) _ _ 0 5 (ct_X5_squares hG) mv_X5_squares q1725 rfl (zGM_s0 hG) rfl (Nat.le_of_ble_eq_true rfl) (Nat.le_of_ble_eq_true rfl) rfl rfl (Nat.le_of_ble_eq_true rfl) dX5_round_31 (fun r6 S5 => ?_)
      refine z_iconst (pc := 34) (v := 1) dX5_round_34 (by decide) ?_
      refine z_isub (pc := 35) dX5_round_35 ?_
      refine z_i2l (pc := 36) dX5_round_36 ?_
      refine z_callSi (pc := 37) _ _ (ct_X5_in  _ _ _) mv_X5_in q1578 rfl (Nat.le_of_ble_eq_true rfl) (Nat.le_of_ble_eq_true rfl) rfl rfl (Nat.le_of_ble_eq_true rfl) dX5_round_37 (fun r8 S7 => ?_)
      refine z_if_eq (pc := 40) 52 dX5_round_40 rfl ?_ ?_
      · refine z_iconst (pc := 52) (v := (-1)) dX5_round_52 (by decide) ?_
        exact z_iret rfl dX5_round_53 rfl
      · refine z_aload_n (pc := 43) 0 dX5_round_43 rfl rfl ?_
        refine gf_X5_M_98_0 hG (pc := 44) dX5_round_44 ?_
        refine z_iload_n (pc := 47) 1 dX5_round_47 rfl rfl ?_
        refine z_chk (fun h9 => ?_)
        refine z_iaload (pc := 48) 41 16 (zGM_s41 hG) h9 dX5_round_48 ?_
        refine z_goto (pc := 49) 53 dX5_round_49 rfl ?_
        exact z_iret rfl dX5_round_53 rfl
  · refine z_iload_n (pc := 14) 2 dX5_round_14 rfl rfl ?_
    exact z_iret rfl dX5_round_15 rfl
abbrev mX5_by : zMr := ("HiddenCubeModel", cX5_by, 5, (some .int), 45, 0, 0, none)
def LB_X5_by_1 (a1 : Int32) (rec8 : Int32 → Int32 → zSt → Option (Int32 × zSt)) (x9 : Int32) (x10 : Int32) (S11 : zSt) : Option (Int32 × zSt) :=
zbind (F_X5_squares S11) (fun r13 S12 =>
if r13 ≤ x10 then (some (x9, S12)) else (chk x10 16 (zbind (F_X5_squares S12) (fun r16 S15 =>
nz r16 (zlet ((x10 + 1) - (x10 + 1) / r16 * r16 : Int32) (fun w17 : Int32 =>
chk w17 16 (zbind (F_X5_nameOf (S12.1 41 (x10).toNatClampNeg) (S15.1 41 (w17).toNatClampNeg) S15) (fun r20 S19 =>
zlet (x9 + (if r20 = a1 then 1 else 0) : Int32) (fun w22 : Int32 =>
rec8 w22 (x10 + 1) S19)))))))))
def F_X5_by (a1 : Int32) (S : zSt) : Option (Int32 × zSt) :=
zlet (sI S 0 0 0 : zSt) (fun S1 : zSt =>
zbind (F_X5_isName a1 S1) (fun r3 S2 =>
joinK (fun (v5 : Int32) (S6 : zSt) => if v5 = 0 then (zbind (F_X5_laysRounds S6) (fun _ S7 =>
if (S7.1 0 38) = 0 then (some ((-1), S7)) else (loopK (fun _ _ _ => none) (LB_X5_by_1 a1) zfuel 0 0 S7))) else (some (v5, S6))) (fun j4 : Int32 → zSt → Option (Int32 × zSt) =>
if r3 = 0 then (j4 (-2) S2) else (zbind (F_X5_whyNoRounds S2) (fun r25 S24 =>
j4 r25 S24)))))
theorem mv_X5_by : ZV mX5_by yX5_by 1 := ⟨q1962, q1963, q155, q1964, rfl, by decide, by decide, by decide +kernel⟩
theorem ct_X5_by {G : zGw} (hG : zGM G) (a1 : Int32) : Zc mX5_by yX5_by zJI G [.ref (G.1 0), .int a1] (F_X5_by a1) := by
  refine Zc_of [some (.ref (G.1 0)), some (.int a1), none, none, none] (by decide) rfl rfl (Nat.le_of_ble_eq_true rfl) rfl (fun X S res => ?_)
  unfold F_X5_by
  refine z_aload_n (pc := 0) 0 dX5_by_0 rfl rfl ?_
  refine z_iconst (pc := 1) (v := 0) dX5_by_1 (by decide) ?_
  refine pf_X5_M_131_0 hG (pc := 2) dX5_by_2 ?_
  refine z_letS (fun S1 => ?_)
  refine z_aload_n (pc := 5) 0 dX5_by_5 rfl rfl ?_
  refine z_iload_n (pc := 6) 1 dX5_by_6 rfl rfl ?_
  refine z_callVi (pc := 7) _ _ 0 5 (ct_X5_isName hG _) mv_X5_isName q1713 rfl (zGM_s0 hG) rfl (Nat.le_of_ble_eq_true rfl) (Nat.le_of_ble_eq_true rfl) rfl rfl (Nat.le_of_ble_eq_true rfl) dX5_by_7 (fun r3 S2 => ?_)
  refine z_join (fun j : Int32 → zSt → Option (Int32 × zSt) => ∀ (v5 : Int32) (S6 : zSt), Zm X mX5_by zJI G (0, 0) res S6 22 [some (.ref (G.1 0)), some (.int a1), none, none, none] [.int v5] (j v5 S6)) ?_ (fun j4 hj4 => ?_)
  · intro v5 S6
    refine z_istore_n (pc := 22) 2 dX5_by_22 rfl (Nat.le_of_ble_eq_true rfl) rfl ?_
    refine z_iload_n (pc := 23) 2 dX5_by_23 rfl rfl ?_
    refine z_if_eq (pc := 24) 29 dX5_by_24 rfl ?_ ?_
    · refine z_aload_n (pc := 29) 0 dX5_by_29 rfl rfl ?_
      refine z_callVv (pc := 30) _ _ 0 5 (ct_X5_laysRounds hG) mv_X5_laysRounds q1945 rfl (zGM_s0 hG) rfl (Nat.le_of_ble_eq_true rfl) (Nat.le_of_ble_eq_true rfl) rfl rfl (Nat.le_of_ble_eq_true rfl) dX5_by_30 (fun _ S7 => ?_)
      refine z_aload_n (pc := 33) 0 dX5_by_33 rfl rfl ?_
      refine gf_X5_M_376_0 hG (pc := 34) dX5_by_34 ?_
      refine z_if_ne (pc := 37) 42 dX5_by_37 rfl ?_ ?_
      · refine z_iconst (pc := 42) (v := 0) dX5_by_42 (by decide) ?_
        refine z_istore_n (pc := 43) 3 dX5_by_43 rfl (Nat.le_of_ble_eq_true rfl) rfl ?_
        refine z_iconst (pc := 44) (v := 0) dX5_by_44 (by decide) ?_
        refine z_istore (pc := 45) dX5_by_45 (Nat.le_of_ble_eq_true rfl) rfl ?_
        refine z_maskk [true, true, false, true, true] ?_
        refine z_loopK (fun j : Int32 → Int32 → zSt → Option (Int32 × zSt) => ∀ (x9 : Int32) (x10 : Int32) (S11 : zSt), Zm X mX5_by zJI G (0, 0) res S11 47 [some (.ref (G.1 0)), some (.int a1), none, some (.int x9), some (.int x10)] [] (j x9 x10 S11)) ?_ ?_ zfuel _ _ _
        · intro x9 x10 S11; exact z_none
        · intro rec8 hrec8 x9 x10 S11
          unfold LB_X5_by_1
          refine z_iload (pc := 47) dX5_by_47 rfl ?_
          refine z_aload_n (pc := 49) 0 dX5_by_49 rfl rfl ?_
          refine z_callVi (pc := 50) _ _ 0 5 (ct_X5_squares hG) mv_X5_squares q1725 rfl (zGM_s0 hG) rfl (Nat.le_of_ble_eq_true rfl) (Nat.le_of_ble_eq_true rfl) rfl rfl (Nat.le_of_ble_eq_true rfl) dX5_by_50 (fun r13 S12 => ?_)
          refine z_icmp_ge (pc := 53) 99 dX5_by_53 rfl ?_ ?_
          · refine z_iload_n (pc := 99) 3 dX5_by_99 rfl rfl ?_
            exact z_iret rfl dX5_by_100 rfl
          · refine z_iload_n (pc := 56) 3 dX5_by_56 rfl rfl ?_
            refine z_aload_n (pc := 57) 0 dX5_by_57 rfl rfl ?_
            refine z_aload_n (pc := 58) 0 dX5_by_58 rfl rfl ?_
            refine gf_X5_M_98_0 hG (pc := 59) dX5_by_59 ?_
            refine z_iload (pc := 62) dX5_by_62 rfl ?_
            refine z_chk (fun h14 => ?_)
            refine z_iaload (pc := 64) 41 16 (zGM_s41 hG) h14 dX5_by_64 ?_
            refine z_aload_n (pc := 65) 0 dX5_by_65 rfl rfl ?_
            refine gf_X5_M_98_0 hG (pc := 66) dX5_by_66 ?_
            refine z_iload (pc := 69) dX5_by_69 rfl ?_
            refine z_iconst (pc := 71) (v := 1) dX5_by_71 (by decide) ?_
            refine z_iadd (pc := 72) dX5_by_72 ?_
            refine z_aload_n (pc := 73) 0 dX5_by_73 rfl rfl ?_
            refine z_callVi (pc := 74) _ _ 0 5 (ct_X5_squares hG) mv_X5_squares q1725 rfl (zGM_s0 hG) rfl (Nat.le_of_ble_eq_true rfl) (Nat.le_of_ble_eq_true rfl) rfl rfl (Nat.le_of_ble_eq_true rfl) dX5_by_74 (fun r16 S15 => ?_)
            refine z_irem (pc := 77) dX5_by_77 ?_
            refine z_letI (fun w17 => ?_)
            refine z_chk (fun h18 => ?_)
            refine z_iaload (pc := 78) 41 16 (zGM_s41 hG) h18 dX5_by_78 ?_
            refine z_callVi (pc := 79) _ _ 0 5 (ct_X5_nameOf hG _ _) mv_X5_nameOf q1803 rfl (zGM_s0 hG) rfl (Nat.le_of_ble_eq_true rfl) (Nat.le_of_ble_eq_true rfl) rfl rfl (Nat.le_of_ble_eq_true rfl) dX5_by_79 (fun r20 S19 => ?_)
            refine z_iload_n (pc := 82) 1 dX5_by_82 rfl rfl ?_
            refine z_pure (st0 := [.int x9]) 91 ((if r20 = a1 then 1 else 0)) ?_ (fun hJ => ?_)
            · refine z_iadd (pc := 91) dX5_by_91 ?_
              refine z_letI (fun w22 => ?_)
              refine z_istore_n (pc := 92) 3 dX5_by_92 rfl (Nat.le_of_ble_eq_true rfl) rfl ?_
              refine z_iinc (pc := 93) (w := x10 + 1) dX5_by_93 rfl (by rw [show Int32.ofInt 1 = 1 from by decide]) (Nat.le_of_ble_eq_true rfl) rfl ?_
              refine z_goto (pc := 96) 47 dX5_by_96 rfl ?_
              exact hrec8 _ _ _
            · refine z_icmpd_ne (pc := 83) 90 dX5_by_83 rfl (fun c23 => ?_) (fun c23 => ?_)
              · refine z_iconst (pc := 90) (v := 0) dX5_by_90 (by decide) ?_
                exact z_leaf hJ (by simp only [if_neg c23])
              · refine z_iconst (pc := 86) (v := 1) dX5_by_86 (by decide) ?_
                refine z_goto (pc := 87) 91 dX5_by_87 rfl ?_
                exact z_leaf hJ (by simp only [if_pos c23])
      · refine z_iconst (pc := 40) (v := (-1)) dX5_by_40 (by decide) ?_
        exact z_iret rfl dX5_by_41 rfl
    · refine z_iload_n (pc := 27) 2 dX5_by_27 rfl rfl ?_
      exact z_iret rfl dX5_by_28 rfl
  · refine z_if_ne (pc := 10) 18 dX5_by_10 rfl ?_ ?_
    · refine z_aload_n (pc := 18) 0 dX5_by_18 rfl rfl ?_
      refine z_callVi (pc := 19) _ _ 0 5 (ct_X5_whyNoRounds hG) mv_X5_whyNoRounds q1941 rfl (zGM_s0 hG) rfl (Nat.le_of_ble_eq_true rfl) (Nat.le_of_ble_eq_true rfl) rfl rfl (Nat.le_of_ble_eq_true rfl) dX5_by_19 (fun r25 S24 => ?_)
      exact hj4 _ _
    · refine z_bipush (pc := 13) (v := (-2)) dX5_by_13 (by decide) ?_
      refine z_goto (pc := 15) 22 dX5_by_15 rfl ?_
      exact hj4 _ _
abbrev mX5_turnsOf : zMr := ("HiddenCubeModel", cX5_turnsOf, 5, (some .int), 3, 0, 0, none)
def LB_X5_turnsOf_1 (a1 : Int32) (a2 : Int32) (rec1 : Int32 → Int32 → zSt → Option (Int32 × zSt)) (x2 : Int32) (x3 : Int32) (S4 : zSt) : Option (Int32 × zSt) :=
zbind (F_X5_squares S4) (fun r6 S5 =>
if r6 ≤ x3 then (some (x2, S5)) else (zbind (F_X5_isBit x3 a2 S5) (fun r8 S7 =>
joinK (fun (v10 : Int32) (S11 : zSt) => rec1 (x2 + v10) (x3 + 1) S11) (fun j9 : Int32 → zSt → Option (Int32 × zSt) =>
joinK (fun  (S13 : zSt) => j9 0 S13) (fun j12 : zSt → Option (Int32 × zSt) =>
if r8 = 0 then (chk ((5 * x3) + a2) 80 (zbind (F_X5_isBit a1 (S7.1 37 ((5 * x3) + a2).toNatClampNeg) S7) (fun r16 S15 =>
if r16 = 0 then (j12 S15) else (j9 1 S15)))) else (j12 S7))))))
def F_X5_turnsOf (a1 : Int32) (a2 : Int32) (S : zSt) : Option (Int32 × zSt) :=
loopK (fun _ _ _ => none) (LB_X5_turnsOf_1 a1 a2) zfuel 0 0 S
theorem mv_X5_turnsOf : ZV mX5_turnsOf yX5_turnsOf 2 := ⟨q1971, qs130, q155, q1972, rfl, by decide, by decide, by decide +kernel⟩
theorem ct_X5_turnsOf {G : zGw} (hG : zGM G) (a1 : Int32) (a2 : Int32) : Zc mX5_turnsOf yX5_turnsOf zJI G [.ref (G.1 0), .int a1, .int a2] (F_X5_turnsOf a1 a2) := by
  refine Zc_of [some (.ref (G.1 0)), some (.int a1), some (.int a2), none, none] (by decide) rfl rfl (Nat.le_of_ble_eq_true rfl) rfl (fun X S res => ?_)
  unfold F_X5_turnsOf
  refine z_iconst (pc := 0) (v := 0) dX5_turnsOf_0 (by decide) ?_
  refine z_istore_n (pc := 1) 3 dX5_turnsOf_1 rfl (Nat.le_of_ble_eq_true rfl) rfl ?_
  refine z_iconst (pc := 2) (v := 0) dX5_turnsOf_2 (by decide) ?_
  refine z_istore (pc := 3) dX5_turnsOf_3 (Nat.le_of_ble_eq_true rfl) rfl ?_
  refine z_loopK (fun j : Int32 → Int32 → zSt → Option (Int32 × zSt) => ∀ (x2 : Int32) (x3 : Int32) (S4 : zSt), Zm X mX5_turnsOf zJI G (0, 0) res S4 5 [some (.ref (G.1 0)), some (.int a1), some (.int a2), some (.int x2), some (.int x3)] [] (j x2 x3 S4)) ?_ ?_ zfuel _ _ _
  · intro x2 x3 S4; exact z_none
  · intro rec1 hrec1 x2 x3 S4
    unfold LB_X5_turnsOf_1
    refine z_iload (pc := 5) dX5_turnsOf_5 rfl ?_
    refine z_aload_n (pc := 7) 0 dX5_turnsOf_7 rfl rfl ?_
    refine z_callVi (pc := 8) _ _ 0 5 (ct_X5_squares hG) mv_X5_squares q1725 rfl (zGM_s0 hG) rfl (Nat.le_of_ble_eq_true rfl) (Nat.le_of_ble_eq_true rfl) rfl rfl (Nat.le_of_ble_eq_true rfl) dX5_turnsOf_8 (fun r6 S5 => ?_)
    refine z_icmp_ge (pc := 11) 55 dX5_turnsOf_11 rfl ?_ ?_
    · refine z_iload_n (pc := 55) 3 dX5_turnsOf_55 rfl rfl ?_
      exact z_iret rfl dX5_turnsOf_56 rfl
    · refine z_iload_n (pc := 14) 3 dX5_turnsOf_14 rfl rfl ?_
      refine z_iload (pc := 15) dX5_turnsOf_15 rfl ?_
      refine z_iload_n (pc := 17) 2 dX5_turnsOf_17 rfl rfl ?_
      refine z_callSi (pc := 18) _ _ (ct_X5_isBit  _ _) mv_X5_isBit q1737 rfl (Nat.le_of_ble_eq_true rfl) (Nat.le_of_ble_eq_true rfl) rfl rfl (Nat.le_of_ble_eq_true rfl) dX5_turnsOf_18 (fun r8 S7 => ?_)
      refine z_join (fun j : Int32 → zSt → Option (Int32 × zSt) => ∀ (v10 : Int32) (S11 : zSt), Zm X mX5_turnsOf zJI G (0, 0) res S11 47 [some (.ref (G.1 0)), some (.int a1), some (.int a2), none, some (.int x3)] [.int v10, .int x2] (j v10 S11)) ?_ (fun j9 hj9 => ?_)
      · intro v10 S11
        refine z_iadd (pc := 47) dX5_turnsOf_47 ?_
        refine z_istore_n (pc := 48) 3 dX5_turnsOf_48 rfl (Nat.le_of_ble_eq_true rfl) rfl ?_
        refine z_iinc (pc := 49) (w := x3 + 1) dX5_turnsOf_49 rfl (by rw [show Int32.ofInt 1 = 1 from by decide]) (Nat.le_of_ble_eq_true rfl) rfl ?_
        refine z_goto (pc := 52) 5 dX5_turnsOf_52 rfl ?_
        exact hrec1 _ _ _
      · refine z_join (fun j : zSt → Option (Int32 × zSt) => ∀  (S13 : zSt), Zm X mX5_turnsOf zJI G (0, 0) res S13 46 [some (.ref (G.1 0)), some (.int a1), some (.int a2), none, some (.int x3)] [.int x2] (j S13)) ?_ (fun j12 hj12 => ?_)
        · intro S13
          refine z_iconst (pc := 46) (v := 0) dX5_turnsOf_46 (by decide) ?_
          exact hj9 _ _
        · refine z_if_ne (pc := 21) 46 dX5_turnsOf_21 rfl ?_ ?_
          · exact z_mask [true, true, true, false, true] (hj12 _) rfl
          · refine z_iload_n (pc := 24) 1 dX5_turnsOf_24 rfl rfl ?_
            refine z_aload_n (pc := 25) 0 dX5_turnsOf_25 rfl rfl ?_
            refine gf_X5_M_89_0 hG (pc := 26) dX5_turnsOf_26 ?_
            refine z_iconst (pc := 29) (v := 5) dX5_turnsOf_29 (by decide) ?_
            refine z_iload (pc := 30) dX5_turnsOf_30 rfl ?_
            refine z_imul (pc := 32) dX5_turnsOf_32 ?_
            refine z_iload_n (pc := 33) 2 dX5_turnsOf_33 rfl rfl ?_
            refine z_iadd (pc := 34) dX5_turnsOf_34 ?_
            refine z_chk (fun h14 => ?_)
            refine z_iaload (pc := 35) 37 80 (zGM_s37 hG) h14 dX5_turnsOf_35 ?_
            refine z_callSi (pc := 36) _ _ (ct_X5_isBit  _ _) mv_X5_isBit q1737 rfl (Nat.le_of_ble_eq_true rfl) (Nat.le_of_ble_eq_true rfl) rfl rfl (Nat.le_of_ble_eq_true rfl) dX5_turnsOf_36 (fun r16 S15 => ?_)
            refine z_if_eq (pc := 39) 46 dX5_turnsOf_39 rfl ?_ ?_
            · exact z_mask [true, true, true, false, true] (hj12 _) rfl
            · refine z_iconst (pc := 42) (v := 1) dX5_turnsOf_42 (by decide) ?_
              refine z_goto (pc := 43) 47 dX5_turnsOf_43 rfl ?_
              exact z_mask [true, true, true, false, true] (hj9 _ _) rfl
abbrev mX5_even : zMr := ("HiddenCubeModel", cX5_even, 6, (some .int), 45, 0, 0, none)
def LB_X5_even_1 (x7 : Int32) (k9 : Int32 → zSt → Option (Int32 × zSt)) (rec15 : Int32 → Int32 → zSt → Option (Int32 × zSt)) (x16 : Int32) (x17 : Int32) (S18 : zSt) : Option (Int32 × zSt) :=
chk 0 15 (if (S18.1 18 (0 : Int32).toNatClampNeg) ≤ x17 then (k9 x16 S18) else (if x16 = 0 then (k9 x16 S18) else (chk x7 1400 (zbind (F_X5_turnsOf (S18.1 38 (x7).toNatClampNeg) x17 S18) (fun r22 S21 =>
chk x7 1400 (zbind (F_X5_turnsOf (S21.1 38 (x7).toNatClampNeg) 0 S21) (fun r25 S24 =>
zlet ((if r22 = r25 then 1 else 0) : Int32) (fun w27 : Int32 =>
rec15 w27 (x17 + 1) S24))))))))
def LB_X5_even_2 (rec5 : Int32 → Int32 → zSt → Option (Int32 × zSt)) (x6 : Int32) (x7 : Int32) (S8 : zSt) : Option (Int32 × zSt) :=
if (S8.1 0 38) ≤ x7 then (some (x6, S8)) else (joinK (fun (x10 : Int32) (S11 : zSt) => zlet (x6 + (if x10 = 0 then 0 else 1) : Int32) (fun w13 : Int32 =>
rec5 w13 (x7 + 1) S11)) (fun k9 : Int32 → zSt → Option (Int32 × zSt) =>
loopK (fun _ _ _ => none) (LB_X5_even_1 x7 k9) zfuel 1 1 S8))
def F_X5_even  (S : zSt) : Option (Int32 × zSt) :=
zlet (sI S 0 0 0 : zSt) (fun S1 : zSt =>
zbind (F_X5_whyNoRounds S1) (fun r3 S2 =>
if r3 = 0 then (zbind (F_X5_laysRounds S2) (fun _ S4 =>
loopK (fun _ _ _ => none) (LB_X5_even_2) zfuel 0 0 S4)) else (some (r3, S2))))
theorem mv_X5_even : ZV mX5_even yX5_even 0 := ⟨q1966, q1967, q155, q1968, rfl, by decide, by decide, by decide +kernel⟩
theorem ct_X5_even {G : zGw} (hG : zGM G)  : Zc mX5_even yX5_even zJI G [.ref (G.1 0)] (F_X5_even) := by
  refine Zc_of [some (.ref (G.1 0)), none, none, none, none, none] (by decide) rfl rfl (Nat.le_of_ble_eq_true rfl) rfl (fun X S res => ?_)
  unfold F_X5_even
  refine z_aload_n (pc := 0) 0 dX5_even_0 rfl rfl ?_
  refine z_iconst (pc := 1) (v := 0) dX5_even_1 (by decide) ?_
  refine pf_X5_M_131_0 hG (pc := 2) dX5_even_2 ?_
  refine z_letS (fun S1 => ?_)
  refine z_aload_n (pc := 5) 0 dX5_even_5 rfl rfl ?_
  refine z_callVi (pc := 6) _ _ 0 5 (ct_X5_whyNoRounds hG) mv_X5_whyNoRounds q1941 rfl (zGM_s0 hG) rfl (Nat.le_of_ble_eq_true rfl) (Nat.le_of_ble_eq_true rfl) rfl rfl (Nat.le_of_ble_eq_true rfl) dX5_even_6 (fun r3 S2 => ?_)
  refine z_istore_n (pc := 9) 1 dX5_even_9 rfl (Nat.le_of_ble_eq_true rfl) rfl ?_
  refine z_iload_n (pc := 10) 1 dX5_even_10 rfl rfl ?_
  refine z_if_eq (pc := 11) 16 dX5_even_11 rfl ?_ ?_
  · refine z_aload_n (pc := 16) 0 dX5_even_16 rfl rfl ?_
    refine z_callVv (pc := 17) _ _ 0 5 (ct_X5_laysRounds hG) mv_X5_laysRounds q1945 rfl (zGM_s0 hG) rfl (Nat.le_of_ble_eq_true rfl) (Nat.le_of_ble_eq_true rfl) rfl rfl (Nat.le_of_ble_eq_true rfl) dX5_even_17 (fun _ S4 => ?_)
    refine z_iconst (pc := 20) (v := 0) dX5_even_20 (by decide) ?_
    refine z_istore_n (pc := 21) 2 dX5_even_21 rfl (Nat.le_of_ble_eq_true rfl) rfl ?_
    refine z_iconst (pc := 22) (v := 0) dX5_even_22 (by decide) ?_
    refine z_istore_n (pc := 23) 3 dX5_even_23 rfl (Nat.le_of_ble_eq_true rfl) rfl ?_
    refine z_maskk [true, false, true, true, false, false] ?_
    refine z_loopK (fun j : Int32 → Int32 → zSt → Option (Int32 × zSt) => ∀ (x6 : Int32) (x7 : Int32) (S8 : zSt), Zm X mX5_even zJI G (0, 0) res S8 24 [some (.ref (G.1 0)), none, some (.int x6), some (.int x7), none, none] [] (j x6 x7 S8)) ?_ ?_ zfuel _ _ _
    · intro x6 x7 S8; exact z_none
    · intro rec5 hrec5 x6 x7 S8
      unfold LB_X5_even_2
      refine z_iload_n (pc := 24) 3 dX5_even_24 rfl rfl ?_
      refine z_aload_n (pc := 25) 0 dX5_even_25 rfl rfl ?_
      refine gf_X5_M_376_0 hG (pc := 26) dX5_even_26 ?_
      refine z_icmp_ge (pc := 29) 112 dX5_even_29 rfl ?_ ?_
      · refine z_iload_n (pc := 112) 2 dX5_even_112 rfl rfl ?_
        exact z_iret rfl dX5_even_113 rfl
      · refine z_iconst (pc := 32) (v := 1) dX5_even_32 (by decide) ?_
        refine z_istore (pc := 33) dX5_even_33 (Nat.le_of_ble_eq_true rfl) rfl ?_
        refine z_iconst (pc := 35) (v := 1) dX5_even_35 (by decide) ?_
        refine z_istore (pc := 36) dX5_even_36 (Nat.le_of_ble_eq_true rfl) rfl ?_
        refine z_join (fun j : Int32 → zSt → Option (Int32 × zSt) => ∀ (x10 : Int32) (S11 : zSt), Zm X mX5_even zJI G (0, 0) res S11 93 [some (.ref (G.1 0)), none, some (.int x6), some (.int x7), some (.int x10), none] [] (j x10 S11)) ?_ (fun k9 hk9 => ?_)
        · intro x10 S11
          refine z_iload_n (pc := 93) 2 dX5_even_93 rfl rfl ?_
          refine z_iload (pc := 94) dX5_even_94 rfl ?_
          refine z_pure (st0 := [.int x6]) 104 ((if x10 = 0 then 0 else 1)) ?_ (fun hJ => ?_)
          · refine z_iadd (pc := 104) dX5_even_104 ?_
            refine z_letI (fun w13 => ?_)
            refine z_istore_n (pc := 105) 2 dX5_even_105 rfl (Nat.le_of_ble_eq_true rfl) rfl ?_
            refine z_iinc (pc := 106) (w := x7 + 1) dX5_even_106 rfl (by rw [show Int32.ofInt 1 = 1 from by decide]) (Nat.le_of_ble_eq_true rfl) rfl ?_
            refine z_goto (pc := 109) 24 dX5_even_109 rfl ?_
            exact z_mask [true, false, true, true, false, false] (hrec5 _ _ _) rfl
          · refine z_ifd_eq (pc := 96) 103 dX5_even_96 rfl (fun c14 => ?_) (fun c14 => ?_)
            · refine z_iconst (pc := 103) (v := 0) dX5_even_103 (by decide) ?_
              exact z_leaf hJ (by simp only [if_pos c14])
            · refine z_iconst (pc := 99) (v := 1) dX5_even_99 (by decide) ?_
              refine z_goto (pc := 100) 104 dX5_even_100 rfl ?_
              exact z_leaf hJ (by simp only [if_neg c14])
        · refine z_loopK (fun j : Int32 → Int32 → zSt → Option (Int32 × zSt) => ∀ (x16 : Int32) (x17 : Int32) (S18 : zSt), Zm X mX5_even zJI G (0, 0) res S18 38 [some (.ref (G.1 0)), none, some (.int x6), some (.int x7), some (.int x16), some (.int x17)] [] (j x16 x17 S18)) ?_ ?_ zfuel _ _ _
          · intro x16 x17 S18; exact z_none
          · intro rec15 hrec15 x16 x17 S18
            unfold LB_X5_even_1
            refine z_iload (pc := 38) dX5_even_38 rfl ?_
            refine z_aload_n (pc := 40) 0 dX5_even_40 rfl rfl ?_
            refine gf_X5_M_34_0 hG (pc := 41) dX5_even_41 ?_
            refine z_iconst (pc := 44) (v := 0) dX5_even_44 (by decide) ?_
            refine z_chk (fun h19 => ?_)
            refine z_iaload (pc := 45) 18 15 (zGM_s18 hG) h19 dX5_even_45 ?_
            refine z_icmp_ge (pc := 46) 93 dX5_even_46 rfl ?_ ?_
            · exact z_mask [true, false, true, true, true, false] (hk9 _ _) rfl
            · refine z_iload (pc := 49) dX5_even_49 rfl ?_
              refine z_if_eq (pc := 51) 93 dX5_even_51 rfl ?_ ?_
              · exact z_mask [true, false, true, true, true, false] (hk9 _ _) rfl
              · refine z_aload_n (pc := 54) 0 dX5_even_54 rfl rfl ?_
                refine z_aload_n (pc := 55) 0 dX5_even_55 rfl rfl ?_
                refine gf_X5_M_92_0 hG (pc := 56) dX5_even_56 ?_
                refine z_iload_n (pc := 59) 3 dX5_even_59 rfl rfl ?_
                refine z_chk (fun h20 => ?_)
                refine z_iaload (pc := 60) 38 1400 (zGM_s38 hG) h20 dX5_even_60 ?_
                refine z_iload (pc := 61) dX5_even_61 rfl ?_
                refine z_callVi (pc := 63) _ _ 0 5 (ct_X5_turnsOf hG _ _) mv_X5_turnsOf q1969 rfl (zGM_s0 hG) rfl (Nat.le_of_ble_eq_true rfl) (Nat.le_of_ble_eq_true rfl) rfl rfl (Nat.le_of_ble_eq_true rfl) dX5_even_63 (fun r22 S21 => ?_)
                refine z_aload_n (pc := 66) 0 dX5_even_66 rfl rfl ?_
                refine z_aload_n (pc := 67) 0 dX5_even_67 rfl rfl ?_
                refine gf_X5_M_92_0 hG (pc := 68) dX5_even_68 ?_
                refine z_iload_n (pc := 71) 3 dX5_even_71 rfl rfl ?_
                refine z_chk (fun h23 => ?_)
                refine z_iaload (pc := 72) 38 1400 (zGM_s38 hG) h23 dX5_even_72 ?_
                refine z_iconst (pc := 73) (v := 0) dX5_even_73 (by decide) ?_
                refine z_callVi (pc := 74) _ _ 0 5 (ct_X5_turnsOf hG _ _) mv_X5_turnsOf q1969 rfl (zGM_s0 hG) rfl (Nat.le_of_ble_eq_true rfl) (Nat.le_of_ble_eq_true rfl) rfl rfl (Nat.le_of_ble_eq_true rfl) dX5_even_74 (fun r25 S24 => ?_)
                refine z_pure (st0 := []) 85 ((if r22 = r25 then 1 else 0)) ?_ (fun hJ => ?_)
                · refine z_letI (fun w27 => ?_)
                  refine z_istore (pc := 85) dX5_even_85 (Nat.le_of_ble_eq_true rfl) rfl ?_
                  refine z_iinc (pc := 87) (w := x17 + 1) dX5_even_87 rfl (by rw [show Int32.ofInt 1 = 1 from by decide]) (Nat.le_of_ble_eq_true rfl) rfl ?_
                  refine z_goto (pc := 90) 38 dX5_even_90 rfl ?_
                  exact hrec15 _ _ _
                · refine z_icmpd_ne (pc := 77) 84 dX5_even_77 rfl (fun c28 => ?_) (fun c28 => ?_)
                  · refine z_iconst (pc := 84) (v := 0) dX5_even_84 (by decide) ?_
                    exact z_leaf hJ (by simp only [if_neg c28])
                  · refine z_iconst (pc := 80) (v := 1) dX5_even_80 (by decide) ?_
                    refine z_goto (pc := 81) 85 dX5_even_81 rfl ?_
                    exact z_leaf hJ (by simp only [if_pos c28])
  · refine z_iload_n (pc := 14) 1 dX5_even_14 rfl rfl ?_
    exact z_iret rfl dX5_even_15 rfl
abbrev mX5_unlike : zMr := ("HiddenCubeModel", cX5_unlike, 7, (some .int), 46, 0, 0, none)
def LB_X5_unlike_1 (x17 : Int32) (k19 : Int32 → zSt → Option (Int32 × zSt)) (rec26 : Int32 → Int32 → zSt → Option (Int32 × zSt)) (x27 : Int32) (x28 : Int32) (S29 : zSt) : Option (Int32 × zSt) :=
if 32 ≤ x28 then (k19 x27 S29) else (chk x17 1400 (zbind (F_X5_isBit (S29.1 38 (x17).toNatClampNeg) x28 S29) (fun r32 S31 =>
joinK (fun (v34 : Int32) => rec26 (x27 ||| v34) (x28 + 1) S31) (fun j33 : Int32 → Option (Int32 × zSt) =>
if r32 = 0 then (j33 0) else (chk x28 32 (j33 ((1 : Int32) <<< ((S31.1 42 (x28).toNatClampNeg) &&& 31))))))))
def LB_X5_unlike_2 (x11 : Int32) (rec9 : Int32 → Int32 → zSt → Option (Int32 × zSt)) (rec15 : Int32 → Int32 → zSt → Option (Int32 × zSt)) (x16 : Int32) (x17 : Int32) (S18 : zSt) : Option (Int32 × zSt) :=
if (S18.1 0 38) ≤ x17 then (rec9 x16 (x11 + 1) S18) else (joinK (fun (x20 : Int32) (S21 : zSt) => chk x17 1400 (zlet (x16 + (if x20 = (S21.1 38 (x17).toNatClampNeg) then 1 else 0) : Int32) (fun w24 : Int32 =>
rec15 w24 (x17 + 1) S21))) (fun k19 : Int32 → zSt → Option (Int32 × zSt) =>
loopK (fun _ _ _ => none) (LB_X5_unlike_1 x17 k19) zfuel 0 0 S18))
def LB_X5_unlike_3 (x11 : Int32) (x37 : Int32) (rec36 : Int32 → zSt → Option (Int32 × zSt)) (rec41 : Int32 → zSt → Option (Int32 × zSt)) (x42 : Int32) (S43 : zSt) : Option (Int32 × zSt) :=
chk 0 15 (if (S43.1 18 (0 : Int32).toNatClampNeg) ≤ x42 then (rec36 (x37 + 1) S43) else (zbind (F_X5_isBit x37 x42 S43) (fun r46 S45 =>
if r46 = 0 then (zlet ((5 * x37) + x42 : Int32) (fun w47 : Int32 =>
chk w47 80 (zbind (F_X5_turnedBy x11 x37 S45) (fun r50 S49 =>
zlet ((5 * x11) + x42 : Int32) (fun w51 : Int32 =>
chk w51 19200 (zlet ((5 * r50) + (S49.1 33 (w51).toNatClampNeg) : Int32) (fun w53 : Int32 =>
chk w53 80 (zlet (S45.1 37 (w47).toNatClampNeg : Int32) (fun w55 : Int32 =>
chk w55 32 (zlet (sI S49 42 (w55).toNatClampNeg (S49.1 37 (w53).toNatClampNeg) : zSt) (fun S57 : zSt =>
rec41 (x42 + 1) S57))))))))))) else (rec41 (x42 + 1) S45))))
def LB_X5_unlike_4 (x11 : Int32) (k13 : zSt → Option (Int32 × zSt)) (rec36 : Int32 → zSt → Option (Int32 × zSt)) (x37 : Int32) (S38 : zSt) : Option (Int32 × zSt) :=
zbind (F_X5_squares S38) (fun r40 S39 =>
if r40 ≤ x37 then (k13 S39) else (loopK (fun _ _ => none) (LB_X5_unlike_3 x11 x37 rec36) zfuel 0 S39))
def LB_X5_unlike_5 (k6 : Int32 → zSt → Option (Int32 × zSt)) (rec9 : Int32 → Int32 → zSt → Option (Int32 × zSt)) (x10 : Int32) (x11 : Int32) (S12 : zSt) : Option (Int32 × zSt) :=
if (S12.1 0 34) ≤ x11 then (k6 x10 S12) else (joinK (fun  (S14 : zSt) => loopK (fun _ _ _ => none) (LB_X5_unlike_2 x11 rec9) zfuel x10 0 S14) (fun k13 : zSt → Option (Int32 × zSt) =>
loopK (fun _ _ => none) (LB_X5_unlike_4 x11 k13) zfuel 0 S12))
def F_X5_unlike  (S : zSt) : Option (Int32 × zSt) :=
zlet (sI S 0 0 0 : zSt) (fun S1 : zSt =>
zbind (F_X5_whyNoRounds S1) (fun r3 S2 =>
if r3 = 0 then (zbind (F_X5_laysRounds S2) (fun _ S4 =>
zbind (F_X5_laysTurnings S4) (fun _ S5 =>
joinK (fun (x7 : Int32) (S8 : zSt) => nz (S8.1 0 34) (some (x7 / (S8.1 0 34), S8))) (fun k6 : Int32 → zSt → Option (Int32 × zSt) =>
loopK (fun _ _ _ => none) (LB_X5_unlike_5 k6) zfuel 0 0 S5)))) else (some (r3, S2))))
theorem mv_X5_unlike : ZV mX5_unlike yX5_unlike 0 := ⟨q1974, q1975, q155, q1976, rfl, by decide, by decide, by decide +kernel⟩
theorem ct_X5_unlike {G : zGw} (hG : zGM G)  : Zc mX5_unlike yX5_unlike zJI G [.ref (G.1 0)] (F_X5_unlike) := by
  refine Zc_of [some (.ref (G.1 0)), none, none, none, none, none, none] (by decide) rfl rfl (Nat.le_of_ble_eq_true rfl) rfl (fun X S res => ?_)
  unfold F_X5_unlike
  refine z_aload_n (pc := 0) 0 dX5_unlike_0 rfl rfl ?_
  refine z_iconst (pc := 1) (v := 0) dX5_unlike_1 (by decide) ?_
  refine pf_X5_M_131_0 hG (pc := 2) dX5_unlike_2 ?_
  refine z_letS (fun S1 => ?_)
  refine z_aload_n (pc := 5) 0 dX5_unlike_5 rfl rfl ?_
  refine z_callVi (pc := 6) _ _ 0 5 (ct_X5_whyNoRounds hG) mv_X5_whyNoRounds q1941 rfl (zGM_s0 hG) rfl (Nat.le_of_ble_eq_true rfl) (Nat.le_of_ble_eq_true rfl) rfl rfl (Nat.le_of_ble_eq_true rfl) dX5_unlike_6 (fun r3 S2 => ?_)
  refine z_istore_n (pc := 9) 1 dX5_unlike_9 rfl (Nat.le_of_ble_eq_true rfl) rfl ?_
  refine z_iload_n (pc := 10) 1 dX5_unlike_10 rfl rfl ?_
  refine z_if_eq (pc := 11) 16 dX5_unlike_11 rfl ?_ ?_
  · refine z_aload_n (pc := 16) 0 dX5_unlike_16 rfl rfl ?_
    refine z_callVv (pc := 17) _ _ 0 5 (ct_X5_laysRounds hG) mv_X5_laysRounds q1945 rfl (zGM_s0 hG) rfl (Nat.le_of_ble_eq_true rfl) (Nat.le_of_ble_eq_true rfl) rfl rfl (Nat.le_of_ble_eq_true rfl) dX5_unlike_17 (fun _ S4 => ?_)
    refine z_aload_n (pc := 20) 0 dX5_unlike_20 rfl rfl ?_
    refine z_callVv (pc := 21) _ _ 0 5 (ct_X5_laysTurnings hG) mv_X5_laysTurnings q1904 rfl (zGM_s0 hG) rfl (Nat.le_of_ble_eq_true rfl) (Nat.le_of_ble_eq_true rfl) rfl rfl (Nat.le_of_ble_eq_true rfl) dX5_unlike_21 (fun _ S5 => ?_)
    refine z_iconst (pc := 24) (v := 0) dX5_unlike_24 (by decide) ?_
    refine z_istore_n (pc := 25) 2 dX5_unlike_25 rfl (Nat.le_of_ble_eq_true rfl) rfl ?_
    refine z_iconst (pc := 26) (v := 0) dX5_unlike_26 (by decide) ?_
    refine z_istore_n (pc := 27) 3 dX5_unlike_27 rfl (Nat.le_of_ble_eq_true rfl) rfl ?_
    refine z_join (fun j : Int32 → zSt → Option (Int32 × zSt) => ∀ (x7 : Int32) (S8 : zSt), Zm X mX5_unlike zJI G (0, 0) res S8 223 [some (.ref (G.1 0)), none, some (.int x7), none, none, none, none] [] (j x7 S8)) ?_ (fun k6 hk6 => ?_)
    · intro x7 S8
      refine z_iload_n (pc := 223) 2 dX5_unlike_223 rfl rfl ?_
      refine z_aload_n (pc := 224) 0 dX5_unlike_224 rfl rfl ?_
      refine gf_X5_M_353_0 hG (pc := 225) dX5_unlike_225 ?_
      refine z_idiv (pc := 228) dX5_unlike_228 ?_
      exact z_iret rfl dX5_unlike_229 rfl
    · refine z_maskk [true, false, true, true, false, false, false] ?_
      refine z_loopK (fun j : Int32 → Int32 → zSt → Option (Int32 × zSt) => ∀ (x10 : Int32) (x11 : Int32) (S12 : zSt), Zm X mX5_unlike zJI G (0, 0) res S12 28 [some (.ref (G.1 0)), none, some (.int x10), some (.int x11), none, none, none] [] (j x10 x11 S12)) ?_ ?_ zfuel _ _ _
      · intro x10 x11 S12; exact z_none
      · intro rec9 hrec9 x10 x11 S12
        unfold LB_X5_unlike_5
        refine z_iload_n (pc := 28) 3 dX5_unlike_28 rfl rfl ?_
        refine z_aload_n (pc := 29) 0 dX5_unlike_29 rfl rfl ?_
        refine gf_X5_M_353_0 hG (pc := 30) dX5_unlike_30 ?_
        refine z_icmp_ge (pc := 33) 223 dX5_unlike_33 rfl ?_ ?_
        · exact z_mask [true, false, true, false, false, false, false] (hk6 _ _) rfl
        · refine z_iconst (pc := 36) (v := 0) dX5_unlike_36 (by decide) ?_
          refine z_istore (pc := 37) dX5_unlike_37 (Nat.le_of_ble_eq_true rfl) rfl ?_
          refine z_join (fun j : zSt → Option (Int32 × zSt) => ∀  (S14 : zSt), Zm X mX5_unlike zJI G (0, 0) res S14 127 [some (.ref (G.1 0)), none, some (.int x10), some (.int x11), none, none, none] [] (j S14)) ?_ (fun k13 hk13 => ?_)
          · intro S14
            refine z_iconst (pc := 127) (v := 0) dX5_unlike_127 (by decide) ?_
            refine z_istore (pc := 128) dX5_unlike_128 (Nat.le_of_ble_eq_true rfl) rfl ?_
            refine z_loopK (fun j : Int32 → Int32 → zSt → Option (Int32 × zSt) => ∀ (x16 : Int32) (x17 : Int32) (S18 : zSt), Zm X mX5_unlike zJI G (0, 0) res S18 130 [some (.ref (G.1 0)), none, some (.int x16), some (.int x11), some (.int x17), none, none] [] (j x16 x17 S18)) ?_ ?_ zfuel _ _ _
            · intro x16 x17 S18; exact z_none
            · intro rec15 hrec15 x16 x17 S18
              unfold LB_X5_unlike_2
              refine z_iload (pc := 130) dX5_unlike_130 rfl ?_
              refine z_aload_n (pc := 132) 0 dX5_unlike_132 rfl rfl ?_
              refine gf_X5_M_376_0 hG (pc := 133) dX5_unlike_133 ?_
              refine z_icmp_ge (pc := 136) 217 dX5_unlike_136 rfl ?_ ?_
              · refine z_iinc (pc := 217) (w := x11 + 1) dX5_unlike_217 rfl (by rw [show Int32.ofInt 1 = 1 from by decide]) (Nat.le_of_ble_eq_true rfl) rfl ?_
                refine z_goto (pc := 220) 28 dX5_unlike_220 rfl ?_
                exact z_mask [true, false, true, true, false, false, false] (hrec9 _ _ _) rfl
              · refine z_iconst (pc := 139) (v := 0) dX5_unlike_139 (by decide) ?_
                refine z_istore (pc := 140) dX5_unlike_140 (Nat.le_of_ble_eq_true rfl) rfl ?_
                refine z_iconst (pc := 142) (v := 0) dX5_unlike_142 (by decide) ?_
                refine z_istore (pc := 143) dX5_unlike_143 (Nat.le_of_ble_eq_true rfl) rfl ?_
                refine z_join (fun j : Int32 → zSt → Option (Int32 × zSt) => ∀ (x20 : Int32) (S21 : zSt), Zm X mX5_unlike zJI G (0, 0) res S21 191 [some (.ref (G.1 0)), none, some (.int x16), some (.int x11), some (.int x17), some (.int x20), none] [] (j x20 S21)) ?_ (fun k19 hk19 => ?_)
                · intro x20 S21
                  refine z_iload_n (pc := 191) 2 dX5_unlike_191 rfl rfl ?_
                  refine z_iload (pc := 192) dX5_unlike_192 rfl ?_
                  refine z_aload_n (pc := 194) 0 dX5_unlike_194 rfl rfl ?_
                  refine gf_X5_M_92_0 hG (pc := 195) dX5_unlike_195 ?_
                  refine z_iload (pc := 198) dX5_unlike_198 rfl ?_
                  refine z_chk (fun h22 => ?_)
                  refine z_iaload (pc := 200) 38 1400 (zGM_s38 hG) h22 dX5_unlike_200 ?_
                  refine z_pure (st0 := [.int x16]) 209 ((if x20 = (S21.1 38 (x17).toNatClampNeg) then 1 else 0)) ?_ (fun hJ => ?_)
                  · refine z_iadd (pc := 209) dX5_unlike_209 ?_
                    refine z_letI (fun w24 => ?_)
                    refine z_istore_n (pc := 210) 2 dX5_unlike_210 rfl (Nat.le_of_ble_eq_true rfl) rfl ?_
                    refine z_iinc (pc := 211) (w := x17 + 1) dX5_unlike_211 rfl (by rw [show Int32.ofInt 1 = 1 from by decide]) (Nat.le_of_ble_eq_true rfl) rfl ?_
                    refine z_goto (pc := 214) 130 dX5_unlike_214 rfl ?_
                    exact z_mask [true, false, true, true, true, false, false] (hrec15 _ _ _) rfl
                  · refine z_icmpd_ne (pc := 201) 208 dX5_unlike_201 rfl (fun c25 => ?_) (fun c25 => ?_)
                    · refine z_iconst (pc := 208) (v := 0) dX5_unlike_208 (by decide) ?_
                      exact z_leaf hJ (by simp only [if_neg c25])
                    · refine z_iconst (pc := 204) (v := 1) dX5_unlike_204 (by decide) ?_
                      refine z_goto (pc := 205) 209 dX5_unlike_205 rfl ?_
                      exact z_leaf hJ (by simp only [if_pos c25])
                · refine z_loopK (fun j : Int32 → Int32 → zSt → Option (Int32 × zSt) => ∀ (x27 : Int32) (x28 : Int32) (S29 : zSt), Zm X mX5_unlike zJI G (0, 0) res S29 145 [some (.ref (G.1 0)), none, some (.int x16), some (.int x11), some (.int x17), some (.int x27), some (.int x28)] [] (j x27 x28 S29)) ?_ ?_ zfuel _ _ _
                  · intro x27 x28 S29; exact z_none
                  · intro rec26 hrec26 x27 x28 S29
                    unfold LB_X5_unlike_1
                    refine z_iload (pc := 145) dX5_unlike_145 rfl ?_
                    refine z_bipush (pc := 147) (v := 32) dX5_unlike_147 (by decide) ?_
                    refine z_icmp_ge (pc := 149) 191 dX5_unlike_149 rfl ?_ ?_
                    · exact z_mask [true, false, true, true, true, true, false] (hk19 _ _) rfl
                    · refine z_iload (pc := 152) dX5_unlike_152 rfl ?_
                      refine z_aload_n (pc := 154) 0 dX5_unlike_154 rfl rfl ?_
                      refine gf_X5_M_92_0 hG (pc := 155) dX5_unlike_155 ?_
                      refine z_iload (pc := 158) dX5_unlike_158 rfl ?_
                      refine z_chk (fun h30 => ?_)
                      refine z_iaload (pc := 160) 38 1400 (zGM_s38 hG) h30 dX5_unlike_160 ?_
                      refine z_iload (pc := 161) dX5_unlike_161 rfl ?_
                      refine z_callSi (pc := 163) _ _ (ct_X5_isBit  _ _) mv_X5_isBit q1737 rfl (Nat.le_of_ble_eq_true rfl) (Nat.le_of_ble_eq_true rfl) rfl rfl (Nat.le_of_ble_eq_true rfl) dX5_unlike_163 (fun r32 S31 => ?_)
                      refine z_join (fun j : Int32 → Option (Int32 × zSt) => ∀ (v34 : Int32), Zm X mX5_unlike zJI G (0, 0) res S31 182 [some (.ref (G.1 0)), none, some (.int x16), some (.int x11), some (.int x17), none, some (.int x28)] [.int v34, .int x27] (j v34)) ?_ (fun j33 hj33 => ?_)
                      · intro v34
                        refine z_ior (pc := 182) dX5_unlike_182 ?_
                        refine z_istore (pc := 183) dX5_unlike_183 (Nat.le_of_ble_eq_true rfl) rfl ?_
                        refine z_iinc (pc := 185) (w := x28 + 1) dX5_unlike_185 rfl (by rw [show Int32.ofInt 1 = 1 from by decide]) (Nat.le_of_ble_eq_true rfl) rfl ?_
                        refine z_goto (pc := 188) 145 dX5_unlike_188 rfl ?_
                        exact hrec26 _ _ _
                      · refine z_if_eq (pc := 166) 181 dX5_unlike_166 rfl ?_ ?_
                        · refine z_iconst (pc := 181) (v := 0) dX5_unlike_181 (by decide) ?_
                          exact z_mask [true, false, true, true, true, false, true] (hj33 _) rfl
                        · refine z_iconst (pc := 169) (v := 1) dX5_unlike_169 (by decide) ?_
                          refine z_aload_n (pc := 170) 0 dX5_unlike_170 rfl rfl ?_
                          refine gf_X5_M_101_0 hG (pc := 171) dX5_unlike_171 ?_
                          refine z_iload (pc := 174) dX5_unlike_174 rfl ?_
                          refine z_chk (fun h35 => ?_)
                          refine z_iaload (pc := 176) 42 32 (zGM_s42 hG) h35 dX5_unlike_176 ?_
                          refine z_ishl (pc := 177) dX5_unlike_177 ?_
                          refine z_goto (pc := 178) 182 dX5_unlike_178 rfl ?_
                          exact z_mask [true, false, true, true, true, false, true] (hj33 _) rfl
          · refine z_loopK (fun j : Int32 → zSt → Option (Int32 × zSt) => ∀ (x37 : Int32) (S38 : zSt), Zm X mX5_unlike zJI G (0, 0) res S38 39 [some (.ref (G.1 0)), none, some (.int x10), some (.int x11), some (.int x37), none, none] [] (j x37 S38)) ?_ ?_ zfuel _ _
            · intro x37 S38; exact z_none
            · intro rec36 hrec36 x37 S38
              unfold LB_X5_unlike_4
              refine z_iload (pc := 39) dX5_unlike_39 rfl ?_
              refine z_aload_n (pc := 41) 0 dX5_unlike_41 rfl rfl ?_
              refine z_callVi (pc := 42) _ _ 0 5 (ct_X5_squares hG) mv_X5_squares q1725 rfl (zGM_s0 hG) rfl (Nat.le_of_ble_eq_true rfl) (Nat.le_of_ble_eq_true rfl) rfl rfl (Nat.le_of_ble_eq_true rfl) dX5_unlike_42 (fun r40 S39 => ?_)
              refine z_icmp_ge (pc := 45) 127 dX5_unlike_45 rfl ?_ ?_
              · exact z_mask [true, false, true, true, false, false, false] (hk13 _) rfl
              · refine z_iconst (pc := 48) (v := 0) dX5_unlike_48 (by decide) ?_
                refine z_istore (pc := 49) dX5_unlike_49 (Nat.le_of_ble_eq_true rfl) rfl ?_
                refine z_loopK (fun j : Int32 → zSt → Option (Int32 × zSt) => ∀ (x42 : Int32) (S43 : zSt), Zm X mX5_unlike zJI G (0, 0) res S43 51 [some (.ref (G.1 0)), none, some (.int x10), some (.int x11), some (.int x37), some (.int x42), none] [] (j x42 S43)) ?_ ?_ zfuel _ _
                · intro x42 S43; exact z_none
                · intro rec41 hrec41 x42 S43
                  unfold LB_X5_unlike_3
                  refine z_iload (pc := 51) dX5_unlike_51 rfl ?_
                  refine z_aload_n (pc := 53) 0 dX5_unlike_53 rfl rfl ?_
                  refine gf_X5_M_34_0 hG (pc := 54) dX5_unlike_54 ?_
                  refine z_iconst (pc := 57) (v := 0) dX5_unlike_57 (by decide) ?_
                  refine z_chk (fun h44 => ?_)
                  refine z_iaload (pc := 58) 18 15 (zGM_s18 hG) h44 dX5_unlike_58 ?_
                  refine z_icmp_ge (pc := 59) 121 dX5_unlike_59 rfl ?_ ?_
                  · refine z_iinc (pc := 121) (w := x37 + 1) dX5_unlike_121 rfl (by rw [show Int32.ofInt 1 = 1 from by decide]) (Nat.le_of_ble_eq_true rfl) rfl ?_
                    refine z_goto (pc := 124) 39 dX5_unlike_124 rfl ?_
                    exact z_mask [true, false, true, true, true, false, false] (hrec36 _ _) rfl
                  · refine z_iload (pc := 62) dX5_unlike_62 rfl ?_
                    refine z_iload (pc := 64) dX5_unlike_64 rfl ?_
                    refine z_callSi (pc := 66) _ _ (ct_X5_isBit  _ _) mv_X5_isBit q1737 rfl (Nat.le_of_ble_eq_true rfl) (Nat.le_of_ble_eq_true rfl) rfl rfl (Nat.le_of_ble_eq_true rfl) dX5_unlike_66 (fun r46 S45 => ?_)
                    refine z_if_ne (pc := 69) 115 dX5_unlike_69 rfl ?_ ?_
                    · refine z_iinc (pc := 115) (w := x42 + 1) dX5_unlike_115 rfl (by rw [show Int32.ofInt 1 = 1 from by decide]) (Nat.le_of_ble_eq_true rfl) rfl ?_
                      refine z_goto (pc := 118) 51 dX5_unlike_118 rfl ?_
                      exact hrec41 _ _
                    · refine z_aload_n (pc := 72) 0 dX5_unlike_72 rfl rfl ?_
                      refine gf_X5_M_101_0 hG (pc := 73) dX5_unlike_73 ?_
                      refine z_aload_n (pc := 76) 0 dX5_unlike_76 rfl rfl ?_
                      refine gf_X5_M_89_0 hG (pc := 77) dX5_unlike_77 ?_
                      refine z_iconst (pc := 80) (v := 5) dX5_unlike_80 (by decide) ?_
                      refine z_iload (pc := 81) dX5_unlike_81 rfl ?_
                      refine z_imul (pc := 83) dX5_unlike_83 ?_
                      refine z_iload (pc := 84) dX5_unlike_84 rfl ?_
                      refine z_iadd (pc := 86) dX5_unlike_86 ?_
                      refine z_letI (fun w47 => ?_)
                      refine z_chk (fun h48 => ?_)
                      refine z_iaload (pc := 87) 37 80 (zGM_s37 hG) h48 dX5_unlike_87 ?_
                      refine z_aload_n (pc := 88) 0 dX5_unlike_88 rfl rfl ?_
                      refine gf_X5_M_89_0 hG (pc := 89) dX5_unlike_89 ?_
                      refine z_iconst (pc := 92) (v := 5) dX5_unlike_92 (by decide) ?_
                      refine z_aload_n (pc := 93) 0 dX5_unlike_93 rfl rfl ?_
                      refine z_iload_n (pc := 94) 3 dX5_unlike_94 rfl rfl ?_
                      refine z_iload (pc := 95) dX5_unlike_95 rfl ?_
                      refine z_callVi (pc := 97) _ _ 0 5 (ct_X5_turnedBy hG _ _) mv_X5_turnedBy q1916 rfl (zGM_s0 hG) rfl (Nat.le_of_ble_eq_true rfl) (Nat.le_of_ble_eq_true rfl) rfl rfl (Nat.le_of_ble_eq_true rfl) dX5_unlike_97 (fun r50 S49 => ?_)
                      refine z_imul (pc := 100) dX5_unlike_100 ?_
                      refine z_aload_n (pc := 101) 0 dX5_unlike_101 rfl rfl ?_
                      refine gf_X5_M_80_0 hG (pc := 102) dX5_unlike_102 ?_
                      refine z_iconst (pc := 105) (v := 5) dX5_unlike_105 (by decide) ?_
                      refine z_iload_n (pc := 106) 3 dX5_unlike_106 rfl rfl ?_
                      refine z_imul (pc := 107) dX5_unlike_107 ?_
                      refine z_iload (pc := 108) dX5_unlike_108 rfl ?_
                      refine z_iadd (pc := 110) dX5_unlike_110 ?_
                      refine z_letI (fun w51 => ?_)
                      refine z_chk (fun h52 => ?_)
                      refine z_iaload (pc := 111) 33 19200 (zGM_s33 hG) h52 dX5_unlike_111 ?_
                      refine z_iadd (pc := 112) dX5_unlike_112 ?_
                      refine z_letI (fun w53 => ?_)
                      refine z_chk (fun h54 => ?_)
                      refine z_iaload (pc := 113) 37 80 (zGM_s37 hG) h54 dX5_unlike_113 ?_
                      refine z_letI2 (fun w55 => ?_)
                      refine z_chk (fun h56 => ?_)
                      refine z_iastore (pc := 114) 42 32 (zGM_s42 hG) h56 dX5_unlike_114 ?_
                      refine z_letS (fun S57 => ?_)
                      refine z_iinc (pc := 115) (w := x42 + 1) dX5_unlike_115 rfl (by rw [show Int32.ofInt 1 = 1 from by decide]) (Nat.le_of_ble_eq_true rfl) rfl ?_
                      refine z_goto (pc := 118) 51 dX5_unlike_118 rfl ?_
                      exact hrec41 _ _
  · refine z_iload_n (pc := 14) 1 dX5_unlike_14 rfl rfl ?_
    exact z_iret rfl dX5_unlike_15 rfl
abbrev mX5_round0 : zMr := ("HiddenCubeModel", cX5_round0, 4, (some .int), 3, 0, 0, none)
def LB_X5_round0_1 (a1 : Int32) (rec2 : Int32 → Int32 → zSt → Option (Int32 × zSt)) (x3 : Int32) (x4 : Int32) (S5 : zSt) : Option (Int32 × zSt) :=
chk 0 15 (if (S5.1 18 (0 : Int32).toNatClampNeg) ≤ x4 then (some (x3, S5)) else (zbind (F_X5_isOpen a1 x4 S5) (fun r8 S7 =>
zlet (x3 ||| (if r8 = 0 then 0 else (1 : Int32) <<< ((a1 ^^^ ((1 : Int32) <<< (x4 &&& 31))) &&& 31)) : Int32) (fun w10 : Int32 =>
rec2 w10 (x4 + 1) S7))))
def F_X5_round0 (a1 : Int32) (S : zSt) : Option (Int32 × zSt) :=
zlet ((1 : Int32) <<< (a1 &&& 31) : Int32) (fun w1 : Int32 =>
loopK (fun _ _ _ => none) (LB_X5_round0_1 a1) zfuel w1 0 S)
theorem mv_X5_round0 : ZV mX5_round0 yX5_round0 1 := ⟨q1987, qs132, q155, q1988, rfl, by decide, by decide, by decide +kernel⟩
theorem ct_X5_round0 {G : zGw} (hG : zGM G) (a1 : Int32) : Zc mX5_round0 yX5_round0 zJI G [.ref (G.1 0), .int a1] (F_X5_round0 a1) := by
  refine Zc_of [some (.ref (G.1 0)), some (.int a1), none, none] (by decide) rfl rfl (Nat.le_of_ble_eq_true rfl) rfl (fun X S res => ?_)
  unfold F_X5_round0
  refine z_iconst (pc := 0) (v := 1) dX5_round0_0 (by decide) ?_
  refine z_iload_n (pc := 1) 1 dX5_round0_1 rfl rfl ?_
  refine z_ishl (pc := 2) dX5_round0_2 ?_
  refine z_letI (fun w1 => ?_)
  refine z_istore_n (pc := 3) 2 dX5_round0_3 rfl (Nat.le_of_ble_eq_true rfl) rfl ?_
  refine z_iconst (pc := 4) (v := 0) dX5_round0_4 (by decide) ?_
  refine z_istore_n (pc := 5) 3 dX5_round0_5 rfl (Nat.le_of_ble_eq_true rfl) rfl ?_
  refine z_loopK (fun j : Int32 → Int32 → zSt → Option (Int32 × zSt) => ∀ (x3 : Int32) (x4 : Int32) (S5 : zSt), Zm X mX5_round0 zJI G (0, 0) res S5 6 [some (.ref (G.1 0)), some (.int a1), some (.int x3), some (.int x4)] [] (j x3 x4 S5)) ?_ ?_ zfuel _ _ _
  · intro x3 x4 S5; exact z_none
  · intro rec2 hrec2 x3 x4 S5
    unfold LB_X5_round0_1
    refine z_iload_n (pc := 6) 3 dX5_round0_6 rfl rfl ?_
    refine z_aload_n (pc := 7) 0 dX5_round0_7 rfl rfl ?_
    refine gf_X5_M_34_0 hG (pc := 8) dX5_round0_8 ?_
    refine z_iconst (pc := 11) (v := 0) dX5_round0_11 (by decide) ?_
    refine z_chk (fun h6 => ?_)
    refine z_iaload (pc := 12) 18 15 (zGM_s18 hG) h6 dX5_round0_12 ?_
    refine z_icmp_ge (pc := 13) 45 dX5_round0_13 rfl ?_ ?_
    · refine z_iload_n (pc := 45) 2 dX5_round0_45 rfl rfl ?_
      exact z_iret rfl dX5_round0_46 rfl
    · refine z_iload_n (pc := 16) 2 dX5_round0_16 rfl rfl ?_
      refine z_aload_n (pc := 17) 0 dX5_round0_17 rfl rfl ?_
      refine z_iload_n (pc := 18) 1 dX5_round0_18 rfl rfl ?_
      refine z_iload_n (pc := 19) 3 dX5_round0_19 rfl rfl ?_
      refine z_callVi (pc := 20) _ _ 0 5 (ct_X5_isOpen hG _ _) mv_X5_isOpen q1733 rfl (zGM_s0 hG) rfl (Nat.le_of_ble_eq_true rfl) (Nat.le_of_ble_eq_true rfl) rfl rfl (Nat.le_of_ble_eq_true rfl) dX5_round0_20 (fun r8 S7 => ?_)
      refine z_pure (st0 := [.int x3]) 37 ((if r8 = 0 then 0 else (1 : Int32) <<< ((a1 ^^^ ((1 : Int32) <<< (x4 &&& 31))) &&& 31))) ?_ (fun hJ => ?_)
      · refine z_ior (pc := 37) dX5_round0_37 ?_
        refine z_letI (fun w10 => ?_)
        refine z_istore_n (pc := 38) 2 dX5_round0_38 rfl (Nat.le_of_ble_eq_true rfl) rfl ?_
        refine z_iinc (pc := 39) (w := x4 + 1) dX5_round0_39 rfl (by rw [show Int32.ofInt 1 = 1 from by decide]) (Nat.le_of_ble_eq_true rfl) rfl ?_
        refine z_goto (pc := 42) 6 dX5_round0_42 rfl ?_
        exact hrec2 _ _ _
      · refine z_ifd_eq (pc := 23) 36 dX5_round0_23 rfl (fun c11 => ?_) (fun c11 => ?_)
        · refine z_iconst (pc := 36) (v := 0) dX5_round0_36 (by decide) ?_
          exact z_leaf hJ (by simp only [if_pos c11])
        · refine z_iconst (pc := 26) (v := 1) dX5_round0_26 (by decide) ?_
          refine z_iload_n (pc := 27) 1 dX5_round0_27 rfl rfl ?_
          refine z_iconst (pc := 28) (v := 1) dX5_round0_28 (by decide) ?_
          refine z_iload_n (pc := 29) 3 dX5_round0_29 rfl rfl ?_
          refine z_ishl (pc := 30) dX5_round0_30 ?_
          refine z_ixor (pc := 31) dX5_round0_31 ?_
          refine z_ishl (pc := 32) dX5_round0_32 ?_
          refine z_goto (pc := 33) 37 dX5_round0_33 rfl ?_
          exact z_leaf hJ (by simp only [if_neg c11])
abbrev mX5_laysNear : zMr := ("HiddenCubeModel", cX5_laysNear, 2, none, 4, 0, 0, none)
def LB_X5_laysNear_1 (rec1 : Int32 → zSt → Option (Unit × zSt)) (x2 : Int32) (S3 : zSt) : Option (Unit × zSt) :=
zbind (F_X5_squares S3) (fun r5 S4 =>
if r5 ≤ x2 then (some ((), S4)) else (zbind (F_X5_round0 x2 S4) (fun r7 S6 =>
chk x2 32 (zlet (sI S6 43 (x2).toNatClampNeg r7 : zSt) (fun S9 : zSt =>
rec1 (x2 + 1) S9)))))
def F_X5_laysNear  (S : zSt) : Option (Unit × zSt) :=
loopK (fun _ _ => none) (LB_X5_laysNear_1) zfuel 0 S
theorem mv_X5_laysNear : ZV mX5_laysNear yX5_laysNear 0 := ⟨q1983, qs131, q155, q1984, rfl, by decide, by decide, by decide +kernel⟩
theorem ct_X5_laysNear {G : zGw} (hG : zGM G)  : Zc mX5_laysNear yX5_laysNear zJV G [.ref (G.1 0)] (F_X5_laysNear) := by
  refine Zc_of [some (.ref (G.1 0)), none] (by decide) rfl rfl (Nat.le_of_ble_eq_true rfl) rfl (fun X S res => ?_)
  unfold F_X5_laysNear
  refine z_iconst (pc := 0) (v := 0) dX5_laysNear_0 (by decide) ?_
  refine z_istore_n (pc := 1) 1 dX5_laysNear_1 rfl (Nat.le_of_ble_eq_true rfl) rfl ?_
  refine z_loopK (fun j : Int32 → zSt → Option (Unit × zSt) => ∀ (x2 : Int32) (S3 : zSt), Zm X mX5_laysNear zJV G (0, 0) res S3 2 [some (.ref (G.1 0)), some (.int x2)] [] (j x2 S3)) ?_ ?_ zfuel _ _
  · intro x2 S3; exact z_none
  · intro rec1 hrec1 x2 S3
    unfold LB_X5_laysNear_1
    refine z_iload_n (pc := 2) 1 dX5_laysNear_2 rfl rfl ?_
    refine z_aload_n (pc := 3) 0 dX5_laysNear_3 rfl rfl ?_
    refine z_callVi (pc := 4) _ _ 0 5 (ct_X5_squares hG) mv_X5_squares q1725 rfl (zGM_s0 hG) rfl (Nat.le_of_ble_eq_true rfl) (Nat.le_of_ble_eq_true rfl) rfl rfl (Nat.le_of_ble_eq_true rfl) dX5_laysNear_4 (fun r5 S4 => ?_)
    refine z_icmp_ge (pc := 7) 27 dX5_laysNear_7 rfl ?_ ?_
    · exact z_vret rfl dX5_laysNear_27 rfl
    · refine z_aload_n (pc := 10) 0 dX5_laysNear_10 rfl rfl ?_
      refine gf_X5_M_104_0 hG (pc := 11) dX5_laysNear_11 ?_
      refine z_iload_n (pc := 14) 1 dX5_laysNear_14 rfl rfl ?_
      refine z_aload_n (pc := 15) 0 dX5_laysNear_15 rfl rfl ?_
      refine z_iload_n (pc := 16) 1 dX5_laysNear_16 rfl rfl ?_
      refine z_callVi (pc := 17) _ _ 0 5 (ct_X5_round0 hG _) mv_X5_round0 q1985 rfl (zGM_s0 hG) rfl (Nat.le_of_ble_eq_true rfl) (Nat.le_of_ble_eq_true rfl) rfl rfl (Nat.le_of_ble_eq_true rfl) dX5_laysNear_17 (fun r7 S6 => ?_)
      refine z_chk (fun h8 => ?_)
      refine z_iastore (pc := 20) 43 32 (zGM_s43 hG) h8 dX5_laysNear_20 ?_
      refine z_letS (fun S9 => ?_)
      refine z_iinc (pc := 21) (w := x2 + 1) dX5_laysNear_21 rfl (by rw [show Int32.ofInt 1 = 1 from by decide]) (Nat.le_of_ble_eq_true rfl) rfl ?_
      refine z_goto (pc := 24) 2 dX5_laysNear_24 rfl ?_
      exact hrec1 _ _
abbrev mX5_bare : zMr := ("HiddenCubeModel", cX5_bare, 3, (some .int), 5, 0, 0, none)
def LB_X5_bare_1 (rec5 : Int32 → Int32 → zSt → Option (Int32 × zSt)) (x6 : Int32) (x7 : Int32) (S8 : zSt) : Option (Int32 × zSt) :=
zbind (F_X5_squares S8) (fun r10 S9 =>
if r10 ≤ x7 then (some (x6, S9)) else (chk x7 32 (chk 0 5 (zlet (x6 + (if ((S9.1 43 (x7).toNatClampNeg) &&& (S9.1 23 (0 : Int32).toNatClampNeg)) = 0 then 1 else 0) : Int32) (fun w14 : Int32 =>
rec5 w14 (x7 + 1) S9)))))
def F_X5_bare  (S : zSt) : Option (Int32 × zSt) :=
zlet (sI S 0 0 0 : zSt) (fun S1 : zSt =>
zbind (F_X5_isTown S1) (fun r3 S2 =>
if r3 = 0 then (some ((-2), S2)) else (zbind (F_X5_laysNear S2) (fun _ S4 =>
loopK (fun _ _ _ => none) (LB_X5_bare_1) zfuel 0 0 S4))))
theorem mv_X5_bare : ZV mX5_bare yX5_bare 0 := ⟨q1978, q1979, q155, q1980, rfl, by decide, by decide, by decide +kernel⟩
theorem ct_X5_bare {G : zGw} (hG : zGM G)  : Zc mX5_bare yX5_bare zJI G [.ref (G.1 0)] (F_X5_bare) := by
  refine Zc_of [some (.ref (G.1 0)), none, none] (by decide) rfl rfl (Nat.le_of_ble_eq_true rfl) rfl (fun X S res => ?_)
  unfold F_X5_bare
  refine z_aload_n (pc := 0) 0 dX5_bare_0 rfl rfl ?_
  refine z_iconst (pc := 1) (v := 0) dX5_bare_1 (by decide) ?_
  refine pf_X5_M_131_0 hG (pc := 2) dX5_bare_2 ?_
  refine z_letS (fun S1 => ?_)
  refine z_aload_n (pc := 5) 0 dX5_bare_5 rfl rfl ?_
  refine z_callVi (pc := 6) _ _ 0 5 (ct_X5_isTown hG) mv_X5_isTown q1729 rfl (zGM_s0 hG) rfl (Nat.le_of_ble_eq_true rfl) (Nat.le_of_ble_eq_true rfl) rfl rfl (Nat.le_of_ble_eq_true rfl) dX5_bare_6 (fun r3 S2 => ?_)
  refine z_if_ne (pc := 9) 15 dX5_bare_9 rfl ?_ ?_
  · refine z_aload_n (pc := 15) 0 dX5_bare_15 rfl rfl ?_
    refine z_callVv (pc := 16) _ _ 0 5 (ct_X5_laysNear hG) mv_X5_laysNear q1981 rfl (zGM_s0 hG) rfl (Nat.le_of_ble_eq_true rfl) (Nat.le_of_ble_eq_true rfl) rfl rfl (Nat.le_of_ble_eq_true rfl) dX5_bare_16 (fun _ S4 => ?_)
    refine z_iconst (pc := 19) (v := 0) dX5_bare_19 (by decide) ?_
    refine z_istore_n (pc := 20) 1 dX5_bare_20 rfl (Nat.le_of_ble_eq_true rfl) rfl ?_
    refine z_iconst (pc := 21) (v := 0) dX5_bare_21 (by decide) ?_
    refine z_istore_n (pc := 22) 2 dX5_bare_22 rfl (Nat.le_of_ble_eq_true rfl) rfl ?_
    refine z_loopK (fun j : Int32 → Int32 → zSt → Option (Int32 × zSt) => ∀ (x6 : Int32) (x7 : Int32) (S8 : zSt), Zm X mX5_bare zJI G (0, 0) res S8 23 [some (.ref (G.1 0)), some (.int x6), some (.int x7)] [] (j x6 x7 S8)) ?_ ?_ zfuel _ _ _
    · intro x6 x7 S8; exact z_none
    · intro rec5 hrec5 x6 x7 S8
      unfold LB_X5_bare_1
      refine z_iload_n (pc := 23) 2 dX5_bare_23 rfl rfl ?_
      refine z_aload_n (pc := 24) 0 dX5_bare_24 rfl rfl ?_
      refine z_callVi (pc := 25) _ _ 0 5 (ct_X5_squares hG) mv_X5_squares q1725 rfl (zGM_s0 hG) rfl (Nat.le_of_ble_eq_true rfl) (Nat.le_of_ble_eq_true rfl) rfl rfl (Nat.le_of_ble_eq_true rfl) dX5_bare_25 (fun r10 S9 => ?_)
      refine z_icmp_ge (pc := 28) 61 dX5_bare_28 rfl ?_ ?_
      · refine z_iload_n (pc := 61) 1 dX5_bare_61 rfl rfl ?_
        exact z_iret rfl dX5_bare_62 rfl
      · refine z_iload_n (pc := 31) 1 dX5_bare_31 rfl rfl ?_
        refine z_aload_n (pc := 32) 0 dX5_bare_32 rfl rfl ?_
        refine gf_X5_M_104_0 hG (pc := 33) dX5_bare_33 ?_
        refine z_iload_n (pc := 36) 2 dX5_bare_36 rfl rfl ?_
        refine z_chk (fun h11 => ?_)
        refine z_iaload (pc := 37) 43 32 (zGM_s43 hG) h11 dX5_bare_37 ?_
        refine z_aload_n (pc := 38) 0 dX5_bare_38 rfl rfl ?_
        refine gf_X5_M_49_0 hG (pc := 39) dX5_bare_39 ?_
        refine z_iconst (pc := 42) (v := 0) dX5_bare_42 (by decide) ?_
        refine z_chk (fun h12 => ?_)
        refine z_iaload (pc := 43) 23 5 (zGM_s23 hG) h12 dX5_bare_43 ?_
        refine z_iand (pc := 44) dX5_bare_44 ?_
        refine z_pure (st0 := [.int x6]) 53 ((if ((S9.1 43 (x7).toNatClampNeg) &&& (S9.1 23 (0 : Int32).toNatClampNeg)) = 0 then 1 else 0)) ?_ (fun hJ => ?_)
        · refine z_iadd (pc := 53) dX5_bare_53 ?_
          refine z_letI (fun w14 => ?_)
          refine z_istore_n (pc := 54) 1 dX5_bare_54 rfl (Nat.le_of_ble_eq_true rfl) rfl ?_
          refine z_iinc (pc := 55) (w := x7 + 1) dX5_bare_55 rfl (by rw [show Int32.ofInt 1 = 1 from by decide]) (Nat.le_of_ble_eq_true rfl) rfl ?_
          refine z_goto (pc := 58) 23 dX5_bare_58 rfl ?_
          exact hrec5 _ _ _
        · refine z_ifd_ne (pc := 45) 52 dX5_bare_45 rfl (fun c15 => ?_) (fun c15 => ?_)
          · refine z_iconst (pc := 52) (v := 0) dX5_bare_52 (by decide) ?_
            exact z_leaf hJ (by simp only [if_neg c15])
          · refine z_iconst (pc := 48) (v := 1) dX5_bare_48 (by decide) ?_
            refine z_goto (pc := 49) 53 dX5_bare_49 rfl ?_
            exact z_leaf hJ (by simp only [if_pos c15])
  · refine z_bipush (pc := 12) (v := (-2)) dX5_bare_12 (by decide) ?_
    exact z_iret rfl dX5_bare_14 rfl
abbrev mX5_warden : zMr := ("HiddenCubeModel", cX5_warden, 4, (some .int), 4, 0, 0, none)
def F_X5_warden (a1 : Int32) (a2 : Int32) (S : zSt) : Option (Int32 × zSt) :=
zlet (sI S 0 0 0 : zSt) (fun S1 : zSt =>
zbind (F_X5_isSquare ((a1).toInt64) S1) (fun r3 S2 =>
if r3 = 0 then (some ((-2), S2)) else (zbind (F_X5_in ((a2).toInt64) 0 1 S2) (fun r5 S4 =>
if r5 = 0 then (some ((-2), S4)) else (chk 0 5 (zlet (((S4.1 23 (0 : Int32).toNatClampNeg) >>> (a1 &&& 31)) &&& 1 : Int32) (fun w7 : Int32 =>
joinK (fun (v9 : Int32) => chk 0 5 (zlet (sI S4 23 (0 : Int32).toNatClampNeg v9 : zSt) (fun S11 : zSt =>
some (w7, S11)))) (fun j8 : Int32 → Option (Int32 × zSt) =>
if a2 = 1 then (chk 0 5 (j8 ((S4.1 23 (0 : Int32).toNatClampNeg) ||| ((1 : Int32) <<< (a1 &&& 31))))) else (chk 0 5 (j8 ((S4.1 23 (0 : Int32).toNatClampNeg) &&& (((1 : Int32) <<< (a1 &&& 31)) ^^^ (-1)))))))))))))
theorem mv_X5_warden : ZV mX5_warden yX5_warden 2 := ⟨q1990, q1991, q155, q1992, rfl, by decide, by decide, by decide +kernel⟩
theorem ct_X5_warden {G : zGw} (hG : zGM G) (a1 : Int32) (a2 : Int32) : Zc mX5_warden yX5_warden zJI G [.ref (G.1 0), .int a1, .int a2] (F_X5_warden a1 a2) := by
  refine Zc_of [some (.ref (G.1 0)), some (.int a1), some (.int a2), none] (by decide) rfl rfl (Nat.le_of_ble_eq_true rfl) rfl (fun X S res => ?_)
  unfold F_X5_warden
  refine z_aload_n (pc := 0) 0 dX5_warden_0 rfl rfl ?_
  refine z_iconst (pc := 1) (v := 0) dX5_warden_1 (by decide) ?_
  refine pf_X5_M_131_0 hG (pc := 2) dX5_warden_2 ?_
  refine z_letS (fun S1 => ?_)
  refine z_aload_n (pc := 5) 0 dX5_warden_5 rfl rfl ?_
  refine z_iload_n (pc := 6) 1 dX5_warden_6 rfl rfl ?_
  refine z_i2l (pc := 7) dX5_warden_7 ?_
  refine z_callVi (pc := 8) _ _ 0 5 (ct_X5_isSquare hG _) mv_X5_isSquare q1721 rfl (zGM_s0 hG) rfl (Nat.le_of_ble_eq_true rfl) (Nat.le_of_ble_eq_true rfl) rfl rfl (Nat.le_of_ble_eq_true rfl) dX5_warden_8 (fun r3 S2 => ?_)
  refine z_if_eq (pc := 11) 24 dX5_warden_11 rfl ?_ ?_
  · refine z_bipush (pc := 24) (v := (-2)) dX5_warden_24 (by decide) ?_
    exact z_iret rfl dX5_warden_26 rfl
  · refine z_iload_n (pc := 14) 2 dX5_warden_14 rfl rfl ?_
    refine z_i2l (pc := 15) dX5_warden_15 ?_
    refine z_lconst (pc := 16) (v := 0) dX5_warden_16 (by decide) ?_
    refine z_lconst (pc := 17) (v := 1) dX5_warden_17 (by decide) ?_
    refine z_callSi (pc := 18) _ _ (ct_X5_in  _ _ _) mv_X5_in q1578 rfl (Nat.le_of_ble_eq_true rfl) (Nat.le_of_ble_eq_true rfl) rfl rfl (Nat.le_of_ble_eq_true rfl) dX5_warden_18 (fun r5 S4 => ?_)
    refine z_if_ne (pc := 21) 27 dX5_warden_21 rfl ?_ ?_
    · refine z_aload_n (pc := 27) 0 dX5_warden_27 rfl rfl ?_
      refine gf_X5_M_49_0 hG (pc := 28) dX5_warden_28 ?_
      refine z_iconst (pc := 31) (v := 0) dX5_warden_31 (by decide) ?_
      refine z_chk (fun h6 => ?_)
      refine z_iaload (pc := 32) 23 5 (zGM_s23 hG) h6 dX5_warden_32 ?_
      refine z_iload_n (pc := 33) 1 dX5_warden_33 rfl rfl ?_
      refine z_ishr (pc := 34) dX5_warden_34 ?_
      refine z_iconst (pc := 35) (v := 1) dX5_warden_35 (by decide) ?_
      refine z_iand (pc := 36) dX5_warden_36 ?_
      refine z_letI (fun w7 => ?_)
      refine z_istore_n (pc := 37) 3 dX5_warden_37 rfl (Nat.le_of_ble_eq_true rfl) rfl ?_
      refine z_aload_n (pc := 38) 0 dX5_warden_38 rfl rfl ?_
      refine gf_X5_M_49_0 hG (pc := 39) dX5_warden_39 ?_
      refine z_iconst (pc := 42) (v := 0) dX5_warden_42 (by decide) ?_
      refine z_iload_n (pc := 43) 2 dX5_warden_43 rfl rfl ?_
      refine z_iconst (pc := 44) (v := 1) dX5_warden_44 (by decide) ?_
      refine z_join (fun j : Int32 → Option (Int32 × zSt) => ∀ (v9 : Int32), Zm X mX5_warden zJI G (0, 0) res S4 73 [none, none, none, some (.int w7)] [.int v9, .int 0, .ref (G.1 23)] (j v9)) ?_ (fun j8 hj8 => ?_)
      · intro v9
        refine z_chk (fun h10 => ?_)
        refine z_iastore (pc := 73) 23 5 (zGM_s23 hG) h10 dX5_warden_73 ?_
        refine z_letS (fun S11 => ?_)
        refine z_iload_n (pc := 74) 3 dX5_warden_74 rfl rfl ?_
        exact z_iret rfl dX5_warden_75 rfl
      · refine z_icmp_ne (pc := 45) 61 dX5_warden_45 rfl ?_ ?_
        · refine z_aload_n (pc := 61) 0 dX5_warden_61 rfl rfl ?_
          refine gf_X5_M_49_0 hG (pc := 62) dX5_warden_62 ?_
          refine z_iconst (pc := 65) (v := 0) dX5_warden_65 (by decide) ?_
          refine z_chk (fun h12 => ?_)
          refine z_iaload (pc := 66) 23 5 (zGM_s23 hG) h12 dX5_warden_66 ?_
          refine z_iconst (pc := 67) (v := 1) dX5_warden_67 (by decide) ?_
          refine z_iload_n (pc := 68) 1 dX5_warden_68 rfl rfl ?_
          refine z_ishl (pc := 69) dX5_warden_69 ?_
          refine z_iconst (pc := 70) (v := (-1)) dX5_warden_70 (by decide) ?_
          refine z_ixor (pc := 71) dX5_warden_71 ?_
          refine z_iand (pc := 72) dX5_warden_72 ?_
          exact z_mask [false, false, false, true] (hj8 _) rfl
        · refine z_aload_n (pc := 48) 0 dX5_warden_48 rfl rfl ?_
          refine gf_X5_M_49_0 hG (pc := 49) dX5_warden_49 ?_
          refine z_iconst (pc := 52) (v := 0) dX5_warden_52 (by decide) ?_
          refine z_chk (fun h13 => ?_)
          refine z_iaload (pc := 53) 23 5 (zGM_s23 hG) h13 dX5_warden_53 ?_
          refine z_iconst (pc := 54) (v := 1) dX5_warden_54 (by decide) ?_
          refine z_iload_n (pc := 55) 1 dX5_warden_55 rfl rfl ?_
          refine z_ishl (pc := 56) dX5_warden_56 ?_
          refine z_ior (pc := 57) dX5_warden_57 ?_
          refine z_goto (pc := 58) 73 dX5_warden_58 rfl ?_
          exact z_mask [false, false, false, true] (hj8 _) rfl
    · refine z_bipush (pc := 24) (v := (-2)) dX5_warden_24 (by decide) ?_
      exact z_iret rfl dX5_warden_26 rfl
