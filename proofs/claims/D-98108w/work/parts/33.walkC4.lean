/-! WALKS (written by gen/mkparts.py) -/
set_option maxRecDepth 100000
abbrev mX0_fewestWith : zMr := ("HiddenCube", cX0_fewestWith, 4, (some .int), 3, 0, 0, none)
def LB_X0_fewestWith_1 (a1 : Int32) (rec1 : Int32 → Int32 → zSt → Option (Int32 × zSt)) (x2 : Int32) (x3 : Int32) (S4 : zSt) : Option (Int32 × zSt) :=
zbind (F_X0_sets S4) (fun r6 S5 =>
if r6 ≤ x3 then (some (x2, S5)) else (if (x3 &&& a1) = a1 then (chk x3 65536 (zbind (F_X0_all S5) (fun r9 S8 =>
if (S5.1 26 (x3).toNatClampNeg) = r9 then (zbind (F_J7_bitCount x3 S8) (fun r11 S10 =>
zbind (F_J0_min x2 r11 S10) (fun r13 S12 =>
rec1 r13 (x3 + 1) S12))) else (rec1 x2 (x3 + 1) S8)))) else (rec1 x2 (x3 + 1) S5)))
def F_X0_fewestWith (a1 : Int32) (S : zSt) : Option (Int32 × zSt) :=
loopK (fun _ _ _ => none) (LB_X0_fewestWith_1 a1) zfuel 32 0 S
theorem mv_X0_fewestWith : ZV mX0_fewestWith yX0_fewestWith 1 := ⟨q1076, qs60, q150, q1077, rfl, by decide, by decide, by decide +kernel⟩
theorem ct_X0_fewestWith {G : zGw} (hG : zGC G) (a1 : Int32) : Zc mX0_fewestWith yX0_fewestWith zJI G [.ref (G.1 0), .int a1] (F_X0_fewestWith a1) := by
  refine Zc_of [some (.ref (G.1 0)), some (.int a1), none, none] (by decide) rfl rfl (Nat.le_of_ble_eq_true rfl) rfl (fun X S res => ?_)
  unfold F_X0_fewestWith
  refine z_bipush (pc := 0) (v := 32) dX0_fewestWith_0 (by decide) ?_
  refine z_istore_n (pc := 2) 2 dX0_fewestWith_2 rfl (Nat.le_of_ble_eq_true rfl) rfl ?_
  refine z_iconst (pc := 3) (v := 0) dX0_fewestWith_3 (by decide) ?_
  refine z_istore_n (pc := 4) 3 dX0_fewestWith_4 rfl (Nat.le_of_ble_eq_true rfl) rfl ?_
  refine z_loopK (fun j : Int32 → Int32 → zSt → Option (Int32 × zSt) => ∀ (x2 : Int32) (x3 : Int32) (S4 : zSt), Zm X mX0_fewestWith zJI G (0, 0) res S4 5 [some (.ref (G.1 0)), some (.int a1), some (.int x2), some (.int x3)] [] (j x2 x3 S4)) ?_ ?_ zfuel _ _ _
  · intro x2 x3 S4; exact z_none
  · intro rec1 hrec1 x2 x3 S4
    unfold LB_X0_fewestWith_1
    refine z_iload_n (pc := 5) 3 dX0_fewestWith_5 rfl rfl ?_
    refine z_aload_n (pc := 6) 0 dX0_fewestWith_6 rfl rfl ?_
    refine z_callVi (pc := 7) _ _ 0 0 (ct_X0_sets hG) mv_X0_sets q1070 rfl (zGC_s0 hG) rfl (Nat.le_of_ble_eq_true rfl) (Nat.le_of_ble_eq_true rfl) rfl rfl (Nat.le_of_ble_eq_true rfl) dX0_fewestWith_7 (fun r6 S5 => ?_)
    refine z_icmp_ge (pc := 10) 48 dX0_fewestWith_10 rfl ?_ ?_
    · refine z_iload_n (pc := 48) 2 dX0_fewestWith_48 rfl rfl ?_
      exact z_iret rfl dX0_fewestWith_49 rfl
    · refine z_iload_n (pc := 13) 3 dX0_fewestWith_13 rfl rfl ?_
      refine z_iload_n (pc := 14) 1 dX0_fewestWith_14 rfl rfl ?_
      refine z_iand (pc := 15) dX0_fewestWith_15 ?_
      refine z_iload_n (pc := 16) 1 dX0_fewestWith_16 rfl rfl ?_
      refine z_icmp_ne (pc := 17) 42 dX0_fewestWith_17 rfl ?_ ?_
      · refine z_iinc (pc := 42) (w := x3 + 1) dX0_fewestWith_42 rfl (by rw [show Int32.ofInt 1 = 1 from by decide]) (Nat.le_of_ble_eq_true rfl) rfl ?_
        refine z_goto (pc := 45) 5 dX0_fewestWith_45 rfl ?_
        exact hrec1 _ _ _
      · refine z_aload_n (pc := 20) 0 dX0_fewestWith_20 rfl rfl ?_
        refine gf_X0_C_81_0 hG (pc := 21) dX0_fewestWith_21 ?_
        refine z_iload_n (pc := 24) 3 dX0_fewestWith_24 rfl rfl ?_
        refine z_chk (fun h7 => ?_)
        refine z_iaload (pc := 25) 26 65536 (zGC_s26 hG) h7 dX0_fewestWith_25 ?_
        refine z_aload_n (pc := 26) 0 dX0_fewestWith_26 rfl rfl ?_
        refine z_callVi (pc := 27) _ _ 0 0 (ct_X0_all hG) mv_X0_all q1050 rfl (zGC_s0 hG) rfl (Nat.le_of_ble_eq_true rfl) (Nat.le_of_ble_eq_true rfl) rfl rfl (Nat.le_of_ble_eq_true rfl) dX0_fewestWith_27 (fun r9 S8 => ?_)
        refine z_icmp_ne (pc := 30) 42 dX0_fewestWith_30 rfl ?_ ?_
        · refine z_iinc (pc := 42) (w := x3 + 1) dX0_fewestWith_42 rfl (by rw [show Int32.ofInt 1 = 1 from by decide]) (Nat.le_of_ble_eq_true rfl) rfl ?_
          refine z_goto (pc := 45) 5 dX0_fewestWith_45 rfl ?_
          exact hrec1 _ _ _
        · refine z_iload_n (pc := 33) 2 dX0_fewestWith_33 rfl rfl ?_
          refine z_iload_n (pc := 34) 3 dX0_fewestWith_34 rfl rfl ?_
          refine z_callSi (pc := 35) _ _ (ct_J7_bitCount  _) mv_J7_bitCount q749 rfl (Nat.le_of_ble_eq_true rfl) (Nat.le_of_ble_eq_true rfl) rfl rfl (Nat.le_of_ble_eq_true rfl) dX0_fewestWith_35 (fun r11 S10 => ?_)
          refine z_callSi (pc := 38) _ _ (ct_J0_min  _ _) mv_J0_min q1015 rfl (Nat.le_of_ble_eq_true rfl) (Nat.le_of_ble_eq_true rfl) rfl rfl (Nat.le_of_ble_eq_true rfl) dX0_fewestWith_38 (fun r13 S12 => ?_)
          refine z_istore_n (pc := 41) 2 dX0_fewestWith_41 rfl (Nat.le_of_ble_eq_true rfl) rfl ?_
          refine z_iinc (pc := 42) (w := x3 + 1) dX0_fewestWith_42 rfl (by rw [show Int32.ofInt 1 = 1 from by decide]) (Nat.le_of_ble_eq_true rfl) rfl ?_
          refine z_goto (pc := 45) 5 dX0_fewestWith_45 rfl ?_
          exact hrec1 _ _ _
abbrev mX0_fewest : zMr := ("HiddenCube", cX0_fewest, 7, (some .int), 6, 0, 0, none)
def LB_X0_fewest_1 (r6 : Int32) (k7 : Int32 → Int32 → zSt → Option (Int32 × zSt)) (rec11 : Int32 → Int32 → Int32 → zSt → Option (Int32 × zSt)) (x12 : Int32) (x13 : Int32) (x14 : Int32) (S15 : zSt) : Option (Int32 × zSt) :=
zbind (F_X0_sets S15) (fun r17 S16 =>
if r17 ≤ x14 then (k7 x12 x13 S16) else (zbind (F_J7_bitCount x14 S16) (fun r19 S18 =>
if r19 = r6 then (chk x14 65536 (zbind (F_X0_all S18) (fun r22 S21 =>
if (S18.1 26 (x14).toNatClampNeg) = r22 then (zlet ((if x13 = (-1) then x14 else x13) : Int32) (fun w24 : Int32 =>
rec11 (x12 + 1) w24 (x14 + 1) S21)) else (rec11 x12 x13 (x14 + 1) S21)))) else (rec11 x12 x13 (x14 + 1) S18))))
def F_X0_fewest (a1 : Int32) (S : zSt) : Option (Int32 × zSt) :=
zbind (F_X0_isOneOf a1 3 S) (fun r2 S1 =>
zbind (F_X0_asksWardens r2 S1) (fun r4 S3 =>
if 0 ≤ r4 then (zbind (F_X0_fewestWith 0 S3) (fun r6 S5 =>
joinK (fun (x8 : Int32) (x9 : Int32) (S10 : zSt) => if a1 = 0 then (some (r6, S10)) else (if a1 = 1 then (some (x8, S10)) else (some (x9, S10)))) (fun k7 : Int32 → Int32 → zSt → Option (Int32 × zSt) =>
loopK (fun _ _ _ _ => none) (LB_X0_fewest_1 r6 k7) zfuel 0 (-1) 0 S5))) else (some (r4, S3))))
theorem mv_X0_fewest : ZV mX0_fewest yX0_fewest 1 := ⟨q1059, q1060, q150, q1061, rfl, by decide, by decide, by decide +kernel⟩
theorem ct_X0_fewest {G : zGw} (hG : zGC G) (a1 : Int32) : Zc mX0_fewest yX0_fewest zJI G [.ref (G.1 0), .int a1] (F_X0_fewest a1) := by
  refine Zc_of [some (.ref (G.1 0)), some (.int a1), none, none, none, none, none] (by decide) rfl rfl (Nat.le_of_ble_eq_true rfl) rfl (fun X S res => ?_)
  unfold F_X0_fewest
  refine z_aload_n (pc := 0) 0 dX0_fewest_0 rfl rfl ?_
  refine z_iload_n (pc := 1) 1 dX0_fewest_1 rfl rfl ?_
  refine z_iconst (pc := 2) (v := 3) dX0_fewest_2 (by decide) ?_
  refine z_callSi (pc := 3) _ _ (ct_X0_isOneOf  _ _) mv_X0_isOneOf q737 rfl (Nat.le_of_ble_eq_true rfl) (Nat.le_of_ble_eq_true rfl) rfl rfl (Nat.le_of_ble_eq_true rfl) dX0_fewest_3 (fun r2 S1 => ?_)
  refine z_callVi (pc := 6) _ _ 0 0 (ct_X0_asksWardens hG _) mv_X0_asksWardens q1062 rfl (zGC_s0 hG) rfl (Nat.le_of_ble_eq_true rfl) (Nat.le_of_ble_eq_true rfl) rfl rfl (Nat.le_of_ble_eq_true rfl) dX0_fewest_6 (fun r4 S3 => ?_)
  refine z_istore_n (pc := 9) 2 dX0_fewest_9 rfl (Nat.le_of_ble_eq_true rfl) rfl ?_
  refine z_iload_n (pc := 10) 2 dX0_fewest_10 rfl rfl ?_
  refine z_if_ge (pc := 11) 16 dX0_fewest_11 rfl ?_ ?_
  · refine z_aload_n (pc := 16) 0 dX0_fewest_16 rfl rfl ?_
    refine z_iconst (pc := 17) (v := 0) dX0_fewest_17 (by decide) ?_
    refine z_callVi (pc := 18) _ _ 0 0 (ct_X0_fewestWith hG _) mv_X0_fewestWith q1074 rfl (zGC_s0 hG) rfl (Nat.le_of_ble_eq_true rfl) (Nat.le_of_ble_eq_true rfl) rfl rfl (Nat.le_of_ble_eq_true rfl) dX0_fewest_18 (fun r6 S5 => ?_)
    refine z_istore_n (pc := 21) 3 dX0_fewest_21 rfl (Nat.le_of_ble_eq_true rfl) rfl ?_
    refine z_iconst (pc := 22) (v := 0) dX0_fewest_22 (by decide) ?_
    refine z_istore (pc := 23) dX0_fewest_23 (Nat.le_of_ble_eq_true rfl) rfl ?_
    refine z_iconst (pc := 25) (v := (-1)) dX0_fewest_25 (by decide) ?_
    refine z_istore (pc := 26) dX0_fewest_26 (Nat.le_of_ble_eq_true rfl) rfl ?_
    refine z_iconst (pc := 28) (v := 0) dX0_fewest_28 (by decide) ?_
    refine z_istore (pc := 29) dX0_fewest_29 (Nat.le_of_ble_eq_true rfl) rfl ?_
    refine z_join (fun j : Int32 → Int32 → zSt → Option (Int32 × zSt) => ∀ (x8 : Int32) (x9 : Int32) (S10 : zSt), Zm X mX0_fewest zJI G (0, 0) res S10 90 [none, some (.int a1), none, some (.int r6), some (.int x8), some (.int x9), none] [] (j x8 x9 S10)) ?_ (fun k7 hk7 => ?_)
    · intro x8 x9 S10
      refine z_iload_n (pc := 90) 1 dX0_fewest_90 rfl rfl ?_
      refine z_if_ne (pc := 91) 98 dX0_fewest_91 rfl ?_ ?_
      · refine z_iload_n (pc := 98) 1 dX0_fewest_98 rfl rfl ?_
        refine z_iconst (pc := 99) (v := 1) dX0_fewest_99 (by decide) ?_
        refine z_icmp_ne (pc := 100) 108 dX0_fewest_100 rfl ?_ ?_
        · refine z_iload (pc := 108) dX0_fewest_108 rfl ?_
          exact z_iret rfl dX0_fewest_110 rfl
        · refine z_iload (pc := 103) dX0_fewest_103 rfl ?_
          refine z_goto (pc := 105) 110 dX0_fewest_105 rfl ?_
          exact z_iret rfl dX0_fewest_110 rfl
      · refine z_iload_n (pc := 94) 3 dX0_fewest_94 rfl rfl ?_
        refine z_goto (pc := 95) 110 dX0_fewest_95 rfl ?_
        exact z_iret rfl dX0_fewest_110 rfl
    · refine z_maskk [true, true, false, true, true, true, true] ?_
      refine z_loopK (fun j : Int32 → Int32 → Int32 → zSt → Option (Int32 × zSt) => ∀ (x12 : Int32) (x13 : Int32) (x14 : Int32) (S15 : zSt), Zm X mX0_fewest zJI G (0, 0) res S15 31 [some (.ref (G.1 0)), some (.int a1), none, some (.int r6), some (.int x12), some (.int x13), some (.int x14)] [] (j x12 x13 x14 S15)) ?_ ?_ zfuel _ _ _ _
      · intro x12 x13 x14 S15; exact z_none
      · intro rec11 hrec11 x12 x13 x14 S15
        unfold LB_X0_fewest_1
        refine z_iload (pc := 31) dX0_fewest_31 rfl ?_
        refine z_aload_n (pc := 33) 0 dX0_fewest_33 rfl rfl ?_
        refine z_callVi (pc := 34) _ _ 0 0 (ct_X0_sets hG) mv_X0_sets q1070 rfl (zGC_s0 hG) rfl (Nat.le_of_ble_eq_true rfl) (Nat.le_of_ble_eq_true rfl) rfl rfl (Nat.le_of_ble_eq_true rfl) dX0_fewest_34 (fun r17 S16 => ?_)
        refine z_icmp_ge (pc := 37) 90 dX0_fewest_37 rfl ?_ ?_
        · exact z_mask [false, true, false, true, true, true, false] (hk7 _ _ _) rfl
        · refine z_iload (pc := 40) dX0_fewest_40 rfl ?_
          refine z_callSi (pc := 42) _ _ (ct_J7_bitCount  _) mv_J7_bitCount q749 rfl (Nat.le_of_ble_eq_true rfl) (Nat.le_of_ble_eq_true rfl) rfl rfl (Nat.le_of_ble_eq_true rfl) dX0_fewest_42 (fun r19 S18 => ?_)
          refine z_iload_n (pc := 45) 3 dX0_fewest_45 rfl rfl ?_
          refine z_icmp_ne (pc := 46) 84 dX0_fewest_46 rfl ?_ ?_
          · refine z_iinc (pc := 84) (w := x14 + 1) dX0_fewest_84 rfl (by rw [show Int32.ofInt 1 = 1 from by decide]) (Nat.le_of_ble_eq_true rfl) rfl ?_
            refine z_goto (pc := 87) 31 dX0_fewest_87 rfl ?_
            exact hrec11 _ _ _ _
          · refine z_aload_n (pc := 49) 0 dX0_fewest_49 rfl rfl ?_
            refine gf_X0_C_81_0 hG (pc := 50) dX0_fewest_50 ?_
            refine z_iload (pc := 53) dX0_fewest_53 rfl ?_
            refine z_chk (fun h20 => ?_)
            refine z_iaload (pc := 55) 26 65536 (zGC_s26 hG) h20 dX0_fewest_55 ?_
            refine z_aload_n (pc := 56) 0 dX0_fewest_56 rfl rfl ?_
            refine z_callVi (pc := 57) _ _ 0 0 (ct_X0_all hG) mv_X0_all q1050 rfl (zGC_s0 hG) rfl (Nat.le_of_ble_eq_true rfl) (Nat.le_of_ble_eq_true rfl) rfl rfl (Nat.le_of_ble_eq_true rfl) dX0_fewest_57 (fun r22 S21 => ?_)
            refine z_icmp_eq (pc := 60) 66 dX0_fewest_60 rfl ?_ ?_
            · refine z_iinc (pc := 66) (w := x12 + 1) dX0_fewest_66 rfl (by rw [show Int32.ofInt 1 = 1 from by decide]) (Nat.le_of_ble_eq_true rfl) rfl ?_
              refine z_iload (pc := 69) dX0_fewest_69 rfl ?_
              refine z_iconst (pc := 71) (v := (-1)) dX0_fewest_71 (by decide) ?_
              refine z_pure (st0 := []) 82 ((if x13 = (-1) then x14 else x13)) ?_ (fun hJ => ?_)
              · refine z_letI (fun w24 => ?_)
                refine z_istore (pc := 82) dX0_fewest_82 (Nat.le_of_ble_eq_true rfl) rfl ?_
                refine z_iinc (pc := 84) (w := x14 + 1) dX0_fewest_84 rfl (by rw [show Int32.ofInt 1 = 1 from by decide]) (Nat.le_of_ble_eq_true rfl) rfl ?_
                refine z_goto (pc := 87) 31 dX0_fewest_87 rfl ?_
                exact hrec11 _ _ _ _
              · refine z_icmpd_ne (pc := 72) 80 dX0_fewest_72 rfl (fun c25 => ?_) (fun c25 => ?_)
                · refine z_iload (pc := 80) dX0_fewest_80 rfl ?_
                  exact z_leaf hJ (by simp only [if_neg c25])
                · refine z_iload (pc := 75) dX0_fewest_75 rfl ?_
                  refine z_goto (pc := 77) 82 dX0_fewest_77 rfl ?_
                  exact z_leaf hJ (by simp only [if_pos c25])
            · refine z_goto (pc := 63) 84 dX0_fewest_63 rfl ?_
              refine z_iinc (pc := 84) (w := x14 + 1) dX0_fewest_84 rfl (by rw [show Int32.ofInt 1 = 1 from by decide]) (Nat.le_of_ble_eq_true rfl) rfl ?_
              refine z_goto (pc := 87) 31 dX0_fewest_87 rfl ?_
              exact hrec11 _ _ _ _
  · refine z_iload_n (pc := 14) 2 dX0_fewest_14 rfl rfl ?_
    exact z_iret rfl dX0_fewest_15 rfl
abbrev mX0_perfect : zMr := ("HiddenCube", cX0_perfect, 4, (some .int), 6, 0, 0, none)
def LB_X0_perfect_1 (rec5 : Int32 → zSt → Option (Int32 × zSt)) (x6 : Int32) (S7 : zSt) : Option (Int32 × zSt) :=
zbind (F_X0_sets S7) (fun r9 S8 =>
if r9 ≤ x6 then (some (0, S8)) else (zbind (F_J7_numberOfTrailingZeros x6 S8) (fun r11 S10 =>
zlet (x6 &&& (x6 - 1) : Int32) (fun w12 : Int32 =>
chk w12 65536 (joinK (fun (v15 : Int32) (S16 : zSt) => chk x6 65536 (zlet (sI S16 27 (x6).toNatClampNeg (v15 &&& 1) : zSt) (fun S18 : zSt =>
chk x6 65536 (if (S18.1 27 (x6).toNatClampNeg) = 0 then (rec5 (x6 + 1) S18) else (chk x6 65536 (zbind (F_X0_all S18) (fun r22 S21 =>
if (S18.1 26 (x6).toNatClampNeg) = r22 then (some (1, S21)) else (rec5 (x6 + 1) S21)))))))) (fun j14 : Int32 → zSt → Option (Int32 × zSt) =>
joinK (fun  (S24 : zSt) => j14 0 S24) (fun j23 : zSt → Option (Int32 × zSt) =>
if (S10.1 27 (w12).toNatClampNeg) = 0 then (j23 S10) else (zlet (x6 &&& (x6 - 1) : Int32) (fun w25 : Int32 =>
chk w25 65536 (zbind (F_X0_watchedBy r11 S10) (fun r28 S27 =>
if ((S10.1 26 (w25).toNatClampNeg) &&& r28) = 0 then (j14 1 S27) else (j23 S27))))))))))))
def F_X0_perfect  (S : zSt) : Option (Int32 × zSt) :=
zbind (F_X0_asksWardens 1 S) (fun r2 S1 =>
if 0 ≤ r2 then (chk 0 65536 (zlet (sI S1 27 (0 : Int32).toNatClampNeg (1 &&& 1) : zSt) (fun S4 : zSt =>
loopK (fun _ _ => none) (LB_X0_perfect_1) zfuel 1 S4))) else (some (r2, S1)))
theorem mv_X0_perfect : ZV mX0_perfect yX0_perfect 0 := ⟨q1079, q1080, q150, q1081, rfl, by decide, by decide, by decide +kernel⟩
theorem ct_X0_perfect {G : zGw} (hG : zGC G)  : Zc mX0_perfect yX0_perfect zJI G [.ref (G.1 0)] (F_X0_perfect) := by
  refine Zc_of [some (.ref (G.1 0)), none, none, none] (by decide) rfl rfl (Nat.le_of_ble_eq_true rfl) rfl (fun X S res => ?_)
  unfold F_X0_perfect
  refine z_aload_n (pc := 0) 0 dX0_perfect_0 rfl rfl ?_
  refine z_iconst (pc := 1) (v := 1) dX0_perfect_1 (by decide) ?_
  refine z_callVi (pc := 2) _ _ 0 0 (ct_X0_asksWardens hG _) mv_X0_asksWardens q1062 rfl (zGC_s0 hG) rfl (Nat.le_of_ble_eq_true rfl) (Nat.le_of_ble_eq_true rfl) rfl rfl (Nat.le_of_ble_eq_true rfl) dX0_perfect_2 (fun r2 S1 => ?_)
  refine z_istore_n (pc := 5) 1 dX0_perfect_5 rfl (Nat.le_of_ble_eq_true rfl) rfl ?_
  refine z_iload_n (pc := 6) 1 dX0_perfect_6 rfl rfl ?_
  refine z_if_ge (pc := 7) 12 dX0_perfect_7 rfl ?_ ?_
  · refine z_aload_n (pc := 12) 0 dX0_perfect_12 rfl rfl ?_
    refine gf_X0_C_84_0 hG (pc := 13) dX0_perfect_13 ?_
    refine z_iconst (pc := 16) (v := 0) dX0_perfect_16 (by decide) ?_
    refine z_iconst (pc := 17) (v := 1) dX0_perfect_17 (by decide) ?_
    refine z_chk (fun h3 => ?_)
    refine z_zastore (pc := 18) 27 65536 (zGC_s27 hG) h3 dX0_perfect_18 ?_
    refine z_letS (fun S4 => ?_)
    refine z_iconst (pc := 19) (v := 1) dX0_perfect_19 (by decide) ?_
    refine z_istore_n (pc := 20) 2 dX0_perfect_20 rfl (Nat.le_of_ble_eq_true rfl) rfl ?_
    refine z_maskk [true, false, true, false] ?_
    refine z_loopK (fun j : Int32 → zSt → Option (Int32 × zSt) => ∀ (x6 : Int32) (S7 : zSt), Zm X mX0_perfect zJI G (0, 0) res S7 21 [some (.ref (G.1 0)), none, some (.int x6), none] [] (j x6 S7)) ?_ ?_ zfuel _ _
    · intro x6 S7; exact z_none
    · intro rec5 hrec5 x6 S7
      unfold LB_X0_perfect_1
      refine z_iload_n (pc := 21) 2 dX0_perfect_21 rfl rfl ?_
      refine z_aload_n (pc := 22) 0 dX0_perfect_22 rfl rfl ?_
      refine z_callVi (pc := 23) _ _ 0 0 (ct_X0_sets hG) mv_X0_sets q1070 rfl (zGC_s0 hG) rfl (Nat.le_of_ble_eq_true rfl) (Nat.le_of_ble_eq_true rfl) rfl rfl (Nat.le_of_ble_eq_true rfl) dX0_perfect_23 (fun r9 S8 => ?_)
      refine z_icmp_ge (pc := 26) 107 dX0_perfect_26 rfl ?_ ?_
      · refine z_iconst (pc := 107) (v := 0) dX0_perfect_107 (by decide) ?_
        exact z_iret rfl dX0_perfect_108 rfl
      · refine z_iload_n (pc := 29) 2 dX0_perfect_29 rfl rfl ?_
        refine z_callSi (pc := 30) _ _ (ct_J7_numberOfTrailingZeros  _) mv_J7_numberOfTrailingZeros q815 rfl (Nat.le_of_ble_eq_true rfl) (Nat.le_of_ble_eq_true rfl) rfl rfl (Nat.le_of_ble_eq_true rfl) dX0_perfect_30 (fun r11 S10 => ?_)
        refine z_istore_n (pc := 33) 3 dX0_perfect_33 rfl (Nat.le_of_ble_eq_true rfl) rfl ?_
        refine z_aload_n (pc := 34) 0 dX0_perfect_34 rfl rfl ?_
        refine gf_X0_C_84_0 hG (pc := 35) dX0_perfect_35 ?_
        refine z_iload_n (pc := 38) 2 dX0_perfect_38 rfl rfl ?_
        refine z_aload_n (pc := 39) 0 dX0_perfect_39 rfl rfl ?_
        refine gf_X0_C_84_0 hG (pc := 40) dX0_perfect_40 ?_
        refine z_iload_n (pc := 43) 2 dX0_perfect_43 rfl rfl ?_
        refine z_iload_n (pc := 44) 2 dX0_perfect_44 rfl rfl ?_
        refine z_iconst (pc := 45) (v := 1) dX0_perfect_45 (by decide) ?_
        refine z_isub (pc := 46) dX0_perfect_46 ?_
        refine z_iand (pc := 47) dX0_perfect_47 ?_
        refine z_letI (fun w12 => ?_)
        refine z_chk (fun h13 => ?_)
        refine z_zaload (pc := 48) 27 65536 (zGC_s27 hG) h13 dX0_perfect_48 ?_
        refine z_join (fun j : Int32 → zSt → Option (Int32 × zSt) => ∀ (v15 : Int32) (S16 : zSt), Zm X mX0_perfect zJI G (0, 0) res S16 76 [some (.ref (G.1 0)), none, some (.int x6), none] [.int v15, .int x6, .ref (G.1 27)] (j v15 S16)) ?_ (fun j14 hj14 => ?_)
        · intro v15 S16
          refine z_chk (fun h17 => ?_)
          refine z_zastore (pc := 76) 27 65536 (zGC_s27 hG) h17 dX0_perfect_76 ?_
          refine z_letS (fun S18 => ?_)
          refine z_aload_n (pc := 77) 0 dX0_perfect_77 rfl rfl ?_
          refine gf_X0_C_84_0 hG (pc := 78) dX0_perfect_78 ?_
          refine z_iload_n (pc := 81) 2 dX0_perfect_81 rfl rfl ?_
          refine z_chk (fun h19 => ?_)
          refine z_zaload (pc := 82) 27 65536 (zGC_s27 hG) h19 dX0_perfect_82 ?_
          refine z_if_eq (pc := 83) 101 dX0_perfect_83 rfl ?_ ?_
          · refine z_iinc (pc := 101) (w := x6 + 1) dX0_perfect_101 rfl (by rw [show Int32.ofInt 1 = 1 from by decide]) (Nat.le_of_ble_eq_true rfl) rfl ?_
            refine z_goto (pc := 104) 21 dX0_perfect_104 rfl ?_
            exact hrec5 _ _
          · refine z_aload_n (pc := 86) 0 dX0_perfect_86 rfl rfl ?_
            refine gf_X0_C_81_0 hG (pc := 87) dX0_perfect_87 ?_
            refine z_iload_n (pc := 90) 2 dX0_perfect_90 rfl rfl ?_
            refine z_chk (fun h20 => ?_)
            refine z_iaload (pc := 91) 26 65536 (zGC_s26 hG) h20 dX0_perfect_91 ?_
            refine z_aload_n (pc := 92) 0 dX0_perfect_92 rfl rfl ?_
            refine z_callVi (pc := 93) _ _ 0 0 (ct_X0_all hG) mv_X0_all q1050 rfl (zGC_s0 hG) rfl (Nat.le_of_ble_eq_true rfl) (Nat.le_of_ble_eq_true rfl) rfl rfl (Nat.le_of_ble_eq_true rfl) dX0_perfect_93 (fun r22 S21 => ?_)
            refine z_icmp_ne (pc := 96) 101 dX0_perfect_96 rfl ?_ ?_
            · refine z_iinc (pc := 101) (w := x6 + 1) dX0_perfect_101 rfl (by rw [show Int32.ofInt 1 = 1 from by decide]) (Nat.le_of_ble_eq_true rfl) rfl ?_
              refine z_goto (pc := 104) 21 dX0_perfect_104 rfl ?_
              exact hrec5 _ _
            · refine z_iconst (pc := 99) (v := 1) dX0_perfect_99 (by decide) ?_
              exact z_iret rfl dX0_perfect_100 rfl
        · refine z_join (fun j : zSt → Option (Int32 × zSt) => ∀  (S24 : zSt), Zm X mX0_perfect zJI G (0, 0) res S24 75 [some (.ref (G.1 0)), none, some (.int x6), none] [.int x6, .ref (G.1 27)] (j S24)) ?_ (fun j23 hj23 => ?_)
          · intro S24
            refine z_iconst (pc := 75) (v := 0) dX0_perfect_75 (by decide) ?_
            exact hj14 _ _
          · refine z_if_eq (pc := 49) 75 dX0_perfect_49 rfl ?_ ?_
            · exact z_mask [true, false, true, false] (hj23 _) rfl
            · refine z_aload_n (pc := 52) 0 dX0_perfect_52 rfl rfl ?_
              refine gf_X0_C_81_0 hG (pc := 53) dX0_perfect_53 ?_
              refine z_iload_n (pc := 56) 2 dX0_perfect_56 rfl rfl ?_
              refine z_iload_n (pc := 57) 2 dX0_perfect_57 rfl rfl ?_
              refine z_iconst (pc := 58) (v := 1) dX0_perfect_58 (by decide) ?_
              refine z_isub (pc := 59) dX0_perfect_59 ?_
              refine z_iand (pc := 60) dX0_perfect_60 ?_
              refine z_letI (fun w25 => ?_)
              refine z_chk (fun h26 => ?_)
              refine z_iaload (pc := 61) 26 65536 (zGC_s26 hG) h26 dX0_perfect_61 ?_
              refine z_aload_n (pc := 62) 0 dX0_perfect_62 rfl rfl ?_
              refine z_iload_n (pc := 63) 3 dX0_perfect_63 rfl rfl ?_
              refine z_callVi (pc := 64) _ _ 0 0 (ct_X0_watchedBy hG _) mv_X0_watchedBy q1046 rfl (zGC_s0 hG) rfl (Nat.le_of_ble_eq_true rfl) (Nat.le_of_ble_eq_true rfl) rfl rfl (Nat.le_of_ble_eq_true rfl) dX0_perfect_64 (fun r28 S27 => ?_)
              refine z_iand (pc := 67) dX0_perfect_67 ?_
              refine z_if_ne (pc := 68) 75 dX0_perfect_68 rfl ?_ ?_
              · exact z_mask [true, false, true, false] (hj23 _) rfl
              · refine z_iconst (pc := 71) (v := 1) dX0_perfect_71 (by decide) ?_
                refine z_goto (pc := 72) 76 dX0_perfect_72 rfl ?_
                exact z_mask [true, false, true, false] (hj14 _ _) rfl
  · refine z_iload_n (pc := 10) 1 dX0_perfect_10 rfl rfl ?_
    exact z_iret rfl dX0_perfect_11 rfl
abbrev mX0_more : zMr := ("HiddenCube", cX0_more, 2, (some .int), 6, 0, 0, none)
def F_X0_more  (S : zSt) : Option (Int32 × zSt) :=
zbind (F_X0_asksWardens 1 S) (fun r2 S1 =>
if 0 ≤ r2 then (zbind (F_X0_fewestWith (S1.1 1 10) S1) (fun r4 S3 =>
zbind (F_J7_bitCount (S3.1 1 10) S3) (fun r6 S5 =>
some (r4 - r6, S5)))) else (some (r2, S1)))
theorem mv_X0_more : ZV mX0_more yX0_more 0 := ⟨q1083, q1084, q150, q1085, rfl, by decide, by decide, by decide +kernel⟩
theorem ct_X0_more {G : zGw} (hG : zGC G)  : Zc mX0_more yX0_more zJI G [.ref (G.1 0)] (F_X0_more) := by
  refine Zc_of [some (.ref (G.1 0)), none] (by decide) rfl rfl (Nat.le_of_ble_eq_true rfl) rfl (fun X S res => ?_)
  unfold F_X0_more
  refine z_aload_n (pc := 0) 0 dX0_more_0 rfl rfl ?_
  refine z_iconst (pc := 1) (v := 1) dX0_more_1 (by decide) ?_
  refine z_callVi (pc := 2) _ _ 0 0 (ct_X0_asksWardens hG _) mv_X0_asksWardens q1062 rfl (zGC_s0 hG) rfl (Nat.le_of_ble_eq_true rfl) (Nat.le_of_ble_eq_true rfl) rfl rfl (Nat.le_of_ble_eq_true rfl) dX0_more_2 (fun r2 S1 => ?_)
  refine z_istore_n (pc := 5) 1 dX0_more_5 rfl (Nat.le_of_ble_eq_true rfl) rfl ?_
  refine z_iload_n (pc := 6) 1 dX0_more_6 rfl rfl ?_
  refine z_if_ge (pc := 7) 14 dX0_more_7 rfl ?_ ?_
  · refine z_aload_n (pc := 14) 0 dX0_more_14 rfl rfl ?_
    refine z_aload_n (pc := 15) 0 dX0_more_15 rfl rfl ?_
    refine gf_X0_C_10_0 hG (pc := 16) dX0_more_16 ?_
    refine gf_X0_C_368_1 hG (pc := 19) dX0_more_19 ?_
    refine z_callVi (pc := 22) _ _ 0 0 (ct_X0_fewestWith hG _) mv_X0_fewestWith q1074 rfl (zGC_s0 hG) rfl (Nat.le_of_ble_eq_true rfl) (Nat.le_of_ble_eq_true rfl) rfl rfl (Nat.le_of_ble_eq_true rfl) dX0_more_22 (fun r4 S3 => ?_)
    refine z_aload_n (pc := 25) 0 dX0_more_25 rfl rfl ?_
    refine gf_X0_C_10_0 hG (pc := 26) dX0_more_26 ?_
    refine gf_X0_C_368_1 hG (pc := 29) dX0_more_29 ?_
    refine z_callSi (pc := 32) _ _ (ct_J7_bitCount  _) mv_J7_bitCount q749 rfl (Nat.le_of_ble_eq_true rfl) (Nat.le_of_ble_eq_true rfl) rfl rfl (Nat.le_of_ble_eq_true rfl) dX0_more_32 (fun r6 S5 => ?_)
    refine z_isub (pc := 35) dX0_more_35 ?_
    exact z_iret rfl dX0_more_36 rfl
  · refine z_iload_n (pc := 10) 1 dX0_more_10 rfl rfl ?_
    refine z_goto (pc := 11) 36 dX0_more_11 rfl ?_
    exact z_iret rfl dX0_more_36 rfl
abbrev mX0_isSlot : zMr := ("HiddenCube", cX0_isSlot, 1, (some .boolean), 2, 0, 0, none)
def F_X0_isSlot (a1 : Int32) (S : zSt) : Option (Int32 × zSt) :=
zbind (F_X0_isIn ((a1).toInt64) 0 3 S) (fun r2 S1 =>
some (r2 &&& 1, S1))
theorem mv_X0_isSlot : ZS mX0_isSlot yX0_isSlot 1 := ⟨q1122, q150, q1123, by decide, by decide, by decide +kernel⟩
theorem ct_X0_isSlot {G : zGw} (a1 : Int32) : Zc mX0_isSlot yX0_isSlot zJI G [.int a1] (F_X0_isSlot a1) := by
  refine Zc_of [some (.int a1)] (by decide) rfl rfl (Nat.le_of_ble_eq_true rfl) rfl (fun X S res => ?_)
  unfold F_X0_isSlot
  refine z_iload_n (pc := 0) 0 dX0_isSlot_0 rfl rfl ?_
  refine z_i2l (pc := 1) dX0_isSlot_1 ?_
  refine z_lconst (pc := 2) (v := 0) dX0_isSlot_2 (by decide) ?_
  refine z_ldc2 (pc := 3) (v := 3) dX0_isSlot_3 q1024 ?_
  refine z_callSi (pc := 6) _ _ (ct_X0_isIn  _ _ _) mv_X0_isIn q429 rfl (Nat.le_of_ble_eq_true rfl) (Nat.le_of_ble_eq_true rfl) rfl rfl (Nat.le_of_ble_eq_true rfl) dX0_isSlot_6 (fun r2 S1 => ?_)
  exact z_zret rfl rfl dX0_isSlot_9 rfl
abbrev mX0_asksSquares : zMr := ("HiddenCube", cX0_asksSquares, 4, (some .int), 171, 1, 8, some [(21, 55, 64, 398), (56, 63, 64, 398)])
def LB_X0_asksSquares_1 (a1 : Int32) (V : zSV) (rec5 : Int32 → zSt → Option (Int32 × zSt)) (x6 : Int32) (S7 : zSt) : Option (Int32 × zSt) :=
chk a1 4 (zcV (V (a1).toNatClampNeg) (some ((-6), S7)) (zbind (F_X4_size V (a1).toNatClampNeg S7) (fun r11 S9 =>
if r11 ≤ x6 then (some (0, S9)) else (chk a1 4 (zbind (F_X4_at V (a1).toNatClampNeg x6 S9) (fun r15 S13 =>
zbind (F_X0_isSquare r15 S13) (fun r17 S16 =>
if r17 = 0 then (some ((-2), S16)) else (rec5 (x6 + 1) S16))))))))
def F_X0_asksSquares (V : zSV) (a1 : Int32) (a2 : Int32) (S : zSt) : Option (Int32 × zSt) :=
zbind (F_X0_isSlot a1 S) (fun r2 S1 =>
if r2 = 0 then (some ((-2), S1)) else (zbind (F_X0_isTown S1) (fun r4 S3 =>
if r4 = 0 then (some ((-2), S3)) else (if a2 = 0 then (some ((-2), S3)) else (loopK (fun _ _ => none) (LB_X0_asksSquares_1 a1 V) zfuel 0 S3)))))
theorem mv_X0_asksSquares : ZVW mX0_asksSquares yX0_asksSquares 2 := ⟨q1092, qs61, q150, q1093, rfl, by decide, by decide, by decide +kernel⟩
theorem ct_X0_asksSquares {G : zGw} (hG : zGC G) {V : zSV} (hV : zGV G V) (a1 : Int32) (a2 : Int32) : Zc mX0_asksSquares yX0_asksSquares zJI G [.ref (G.1 0), .int a1, .int a2] (F_X0_asksSquares V a1 a2) := by
  refine Zc_ofW [some (.ref (G.1 0)), some (.int a1), some (.int a2), none] (by decide) rfl _ rfl (Nat.le_of_ble_eq_true rfl) rfl (fun X S res => ?_)
  unfold F_X0_asksSquares
  refine z_iload_n (pc := 0) 1 dX0_asksSquares_0 rfl rfl ?_
  refine z_callSi (pc := 1) _ _ (ct_X0_isSlot  _) mv_X0_isSlot q1121 rfl (Nat.le_of_ble_eq_true rfl) (Nat.le_of_ble_eq_true rfl) rfl rfl (Nat.le_of_ble_eq_true rfl) dX0_asksSquares_1 (fun r2 S1 => ?_)
  refine z_if_eq (pc := 4) 18 dX0_asksSquares_4 rfl ?_ ?_
  · refine z_bipush (pc := 18) (v := (-2)) dX0_asksSquares_18 (by decide) ?_
    exact z_iret rfl dX0_asksSquares_20 rfl
  · refine z_aload_n (pc := 7) 0 dX0_asksSquares_7 rfl rfl ?_
    refine z_callVi (pc := 8) _ _ 0 0 (ct_X0_isTown hG) mv_X0_isTown q827 rfl (zGC_s0 hG) rfl (Nat.le_of_ble_eq_true rfl) (Nat.le_of_ble_eq_true rfl) rfl rfl (Nat.le_of_ble_eq_true rfl) dX0_asksSquares_8 (fun r4 S3 => ?_)
    refine z_if_eq (pc := 11) 18 dX0_asksSquares_11 rfl ?_ ?_
    · refine z_bipush (pc := 18) (v := (-2)) dX0_asksSquares_18 (by decide) ?_
      exact z_iret rfl dX0_asksSquares_20 rfl
    · refine z_iload_n (pc := 14) 2 dX0_asksSquares_14 rfl rfl ?_
      refine z_if_ne (pc := 15) 21 dX0_asksSquares_15 rfl ?_ ?_
      · refine z_iconst (pc := 21) (v := 0) dX0_asksSquares_21 (by decide) ?_
        refine z_istore_n (pc := 22) 3 dX0_asksSquares_22 rfl (Nat.le_of_ble_eq_true rfl) rfl ?_
        refine z_maskk [true, true, false, true] ?_
        refine z_loopK (fun j : Int32 → zSt → Option (Int32 × zSt) => ∀ (x6 : Int32) (S7 : zSt), Zm X mX0_asksSquares zJI G (0, 0) res S7 23 [some (.ref (G.1 0)), some (.int a1), none, some (.int x6)] [] (j x6 S7)) ?_ ?_ zfuel _ _
        · intro x6 S7; exact z_none
        · intro rec5 hrec5 x6 S7
          unfold LB_X0_asksSquares_1
          refine z_iload_n (pc := 23) 3 dX0_asksSquares_23 rfl rfl ?_
          refine z_aload_n (pc := 24) 0 dX0_asksSquares_24 rfl rfl ?_
          refine gf_X0_C_118_0 hG (pc := 25) dX0_asksSquares_25 ?_
          refine z_iload_n (pc := 28) 1 dX0_asksSquares_28 rfl rfl ?_
          refine z_chk (fun h8 => ?_)
          refine z_aaloadV (pc := 29) hG hV h8 dX0_asksSquares_29 ?_
          refine z_zcV (fun hq10 => (by refine z_callVt (pc := 30) _ _ (40 + (a1).toNatClampNeg) 4 (cx_X4_size hV (Nat.not_le.mp fun q => h8 (Or.inr q)) hq10) rfl mv_X4_sizeT q1124 rfl (hV _ (Nat.not_le.mp fun q => h8 (Or.inr q))).1 rfl (Nat.le_of_ble_eq_true rfl) (Nat.le_of_ble_eq_true rfl) rfl (Nat.le_of_ble_eq_true rfl) (Nat.le_of_ble_eq_true rfl) (Nat.le_of_ble_eq_true rfl) dX0_asksSquares_30 "java/lang/NullPointerException" [] ⟨21, 55, 64, 398⟩ [⟨56, 63, 64, 398⟩] rfl (by intro z hz; cases hz) rfl (by decide) q1094 (by decide) (fun q9 => ?_); refine z_astore_n (pc := 64) 3 dX0_asksSquares_64 rfl (Nat.le_of_ble_eq_true rfl) rfl ?_; refine z_bipush (pc := 65) (v := (-6)) dX0_asksSquares_65 (by decide) ?_; exact z_iret rfl dX0_asksSquares_67 rfl)) (fun q8 hq10 => ?_)
          refine z_callVi (pc := 30) _ _ (40 + (a1).toNatClampNeg) 4 (ct_X4_size hV (Nat.not_le.mp fun q => h8 (Or.inr q))) mv_X4_size q1124 rfl (hV _ (Nat.not_le.mp fun q => h8 (Or.inr q))).1 rfl (Nat.le_of_ble_eq_true rfl) (Nat.le_of_ble_eq_true rfl) rfl rfl (Nat.le_of_ble_eq_true rfl) dX0_asksSquares_30 (fun r11 S9 => ?_)
          refine z_icmp_ge (pc := 33) 62 dX0_asksSquares_33 rfl ?_ ?_
          · refine z_iconst (pc := 62) (v := 0) dX0_asksSquares_62 (by decide) ?_
            exact z_iret rfl dX0_asksSquares_63 rfl
          · refine z_aload_n (pc := 36) 0 dX0_asksSquares_36 rfl rfl ?_
            refine z_aload_n (pc := 37) 0 dX0_asksSquares_37 rfl rfl ?_
            refine gf_X0_C_118_0 hG (pc := 38) dX0_asksSquares_38 ?_
            refine z_iload_n (pc := 41) 1 dX0_asksSquares_41 rfl rfl ?_
            refine z_chk (fun h12 => ?_)
            refine z_aaloadV (pc := 42) hG hV h12 dX0_asksSquares_42 ?_
            refine z_iload_n (pc := 43) 3 dX0_asksSquares_43 rfl rfl ?_
            refine z_callVl (pc := 44) _ _ (40 + (a1).toNatClampNeg) 4 (ct_X4_at hV (Nat.not_le.mp fun q => h12 (Or.inr q)) _) mv_X4_at q1132 rfl (hV _ (Nat.not_le.mp fun q => h12 (Or.inr q))).1 rfl (Nat.le_of_ble_eq_true rfl) (Nat.le_of_ble_eq_true rfl) rfl rfl (Nat.le_of_ble_eq_true rfl) dX0_asksSquares_44 (fun r15 S13 => ?_)
            refine z_callVi (pc := 47) _ _ 0 0 (ct_X0_isSquare hG _) mv_X0_isSquare q723 rfl (zGC_s0 hG) rfl (Nat.le_of_ble_eq_true rfl) (Nat.le_of_ble_eq_true rfl) rfl rfl (Nat.le_of_ble_eq_true rfl) dX0_asksSquares_47 (fun r17 S16 => ?_)
            refine z_if_ne (pc := 50) 56 dX0_asksSquares_50 rfl ?_ ?_
            · refine z_iinc (pc := 56) (w := x6 + 1) dX0_asksSquares_56 rfl (by rw [show Int32.ofInt 1 = 1 from by decide]) (Nat.le_of_ble_eq_true rfl) rfl ?_
              refine z_goto (pc := 59) 23 dX0_asksSquares_59 rfl ?_
              exact hrec5 _ _
            · refine z_bipush (pc := 53) (v := (-2)) dX0_asksSquares_53 (by decide) ?_
              exact z_iret rfl dX0_asksSquares_55 rfl
      · refine z_bipush (pc := 18) (v := (-2)) dX0_asksSquares_18 (by decide) ?_
        exact z_iret rfl dX0_asksSquares_20 rfl
abbrev mX0_squareAt : zMr := ("HiddenCube", cX0_squareAt, 3, (some .int), 2, 0, 0, none)
def F_X0_squareAt (V : zSV) (a1 : Int32) (a2 : Int32) (S : zSt) : Option (Int32 × zSt) :=
chk a1 4 (zbind (F_X4_at V (a1).toNatClampNeg a2 S) (fun r4 S2 =>
some ((r4).toInt32, S2)))
theorem mv_X0_squareAt : ZV mX0_squareAt yX0_squareAt 2 := ⟨q1138, qs62, q150, q1139, rfl, by decide, by decide, by decide +kernel⟩
theorem ct_X0_squareAt {G : zGw} (hG : zGC G) {V : zSV} (hV : zGV G V) (a1 : Int32) (a2 : Int32) : Zc mX0_squareAt yX0_squareAt zJI G [.ref (G.1 0), .int a1, .int a2] (F_X0_squareAt V a1 a2) := by
  refine Zc_of [some (.ref (G.1 0)), some (.int a1), some (.int a2)] (by decide) rfl rfl (Nat.le_of_ble_eq_true rfl) rfl (fun X S res => ?_)
  unfold F_X0_squareAt
  refine z_aload_n (pc := 0) 0 dX0_squareAt_0 rfl rfl ?_
  refine gf_X0_C_118_0 hG (pc := 1) dX0_squareAt_1 ?_
  refine z_iload_n (pc := 4) 1 dX0_squareAt_4 rfl rfl ?_
  refine z_chk (fun h1 => ?_)
  refine z_aaloadV (pc := 5) hG hV h1 dX0_squareAt_5 ?_
  refine z_iload_n (pc := 6) 2 dX0_squareAt_6 rfl rfl ?_
  refine z_callVl (pc := 7) _ _ (40 + (a1).toNatClampNeg) 4 (ct_X4_at hV (Nat.not_le.mp fun q => h1 (Or.inr q)) _) mv_X4_at q1132 rfl (hV _ (Nat.not_le.mp fun q => h1 (Or.inr q))).1 rfl (Nat.le_of_ble_eq_true rfl) (Nat.le_of_ble_eq_true rfl) rfl rfl (Nat.le_of_ble_eq_true rfl) dX0_squareAt_7 (fun r4 S2 => ?_)
  refine z_l2i (pc := 10) dX0_squareAt_10 ?_
  exact z_iret rfl dX0_squareAt_11 rfl
abbrev mX0_code : zMr := ("HiddenCube", cX0_code, 7, (some .int), 172, 1, 8, none)
def LB_X0_code_1 (a1 : Int32) (V : zSV) (x5 : Int32) (rec3 : Int32 → Int32 → zSt → Option (Int32 × zSt)) (rec11 : Int32 → Int32 → zSt → Option (Int32 × zSt)) (x12 : Int32) (x13 : Int32) (S14 : zSt) : Option (Int32 × zSt) :=
if x5 ≤ x13 then (rec3 x12 (x5 + 1) S14) else (zbind (F_X0_squareAt V a1 x5 S14) (fun r16 S15 =>
zbind (F_X0_squareAt V a1 x13 S15) (fun r18 S17 =>
zbind (F_J7_bitCount (r16 ^^^ r18) S17) (fun r20 S19 =>
joinK (fun (v22 : Int32) (S23 : zSt) => rec11 v22 (x13 + 1) S23) (fun j21 : Int32 → zSt → Option (Int32 × zSt) =>
if x12 = (-1) then (j21 r20 S19) else (zbind (F_J0_min x12 r20 S19) (fun r25 S24 =>
j21 r25 S24)))))))
def LB_X0_code_2 (a1 : Int32) (V : zSV) (rec3 : Int32 → Int32 → zSt → Option (Int32 × zSt)) (x4 : Int32) (x5 : Int32) (S6 : zSt) : Option (Int32 × zSt) :=
chk a1 4 (zbind (F_X4_size V (a1).toNatClampNeg S6) (fun r10 S8 =>
if r10 ≤ x5 then (some (x4, S8)) else (loopK (fun _ _ _ => none) (LB_X0_code_1 a1 V x5 rec3) zfuel x4 0 S8)))
def F_X0_code (V : zSV) (a1 : Int32) (S : zSt) : Option (Int32 × zSt) :=
zbind (F_X0_asksSquares V a1 1 S) (fun r2 S1 =>
if 0 ≤ r2 then (loopK (fun _ _ _ => none) (LB_X0_code_2 a1 V) zfuel (-1) 0 S1) else (some (r2, S1)))
theorem mv_X0_code : ZV mX0_code yX0_code 1 := ⟨q1087, q1088, q150, q1089, rfl, by decide, by decide, by decide +kernel⟩
theorem ct_X0_code {G : zGw} (hG : zGC G) {V : zSV} (hV : zGV G V) (a1 : Int32) : Zc mX0_code yX0_code zJI G [.ref (G.1 0), .int a1] (F_X0_code V a1) := by
  refine Zc_of [some (.ref (G.1 0)), some (.int a1), none, none, none, none, none] (by decide) rfl rfl (Nat.le_of_ble_eq_true rfl) rfl (fun X S res => ?_)
  unfold F_X0_code
  refine z_aload_n (pc := 0) 0 dX0_code_0 rfl rfl ?_
  refine z_iload_n (pc := 1) 1 dX0_code_1 rfl rfl ?_
  refine z_iconst (pc := 2) (v := 1) dX0_code_2 (by decide) ?_
  refine z_callVWi (pc := 3) (1, 8) _ _ 0 0 (ct_X0_asksSquares hG hV _ _) mv_X0_asksSquares q1090 rfl (zGC_s0 hG) rfl (Nat.le_of_ble_eq_true rfl) (Nat.le_of_ble_eq_true rfl) ⟨_, rfl⟩ rfl rfl (Nat.le_of_ble_eq_true rfl) dX0_code_3 (fun r2 S1 => ?_)
  refine z_istore_n (pc := 6) 2 dX0_code_6 rfl (Nat.le_of_ble_eq_true rfl) rfl ?_
  refine z_iload_n (pc := 7) 2 dX0_code_7 rfl rfl ?_
  refine z_if_ge (pc := 8) 13 dX0_code_8 rfl ?_ ?_
  · refine z_iconst (pc := 13) (v := (-1)) dX0_code_13 (by decide) ?_
    refine z_istore_n (pc := 14) 3 dX0_code_14 rfl (Nat.le_of_ble_eq_true rfl) rfl ?_
    refine z_iconst (pc := 15) (v := 0) dX0_code_15 (by decide) ?_
    refine z_istore (pc := 16) dX0_code_16 (Nat.le_of_ble_eq_true rfl) rfl ?_
    refine z_maskk [true, true, false, true, true, false, false] ?_
    refine z_loopK (fun j : Int32 → Int32 → zSt → Option (Int32 × zSt) => ∀ (x4 : Int32) (x5 : Int32) (S6 : zSt), Zm X mX0_code zJI G (1, 8) res S6 18 [some (.ref (G.1 0)), some (.int a1), none, some (.int x4), some (.int x5), none, none] [] (j x4 x5 S6)) ?_ ?_ zfuel _ _ _
    · intro x4 x5 S6; exact z_none
    · intro rec3 hrec3 x4 x5 S6
      unfold LB_X0_code_2
      refine z_iload (pc := 18) dX0_code_18 rfl ?_
      refine z_aload_n (pc := 20) 0 dX0_code_20 rfl rfl ?_
      refine gf_X0_C_118_0 hG (pc := 21) dX0_code_21 ?_
      refine z_iload_n (pc := 24) 1 dX0_code_24 rfl rfl ?_
      refine z_chk (fun h7 => ?_)
      refine z_aaloadV (pc := 25) hG hV h7 dX0_code_25 ?_
      refine z_callVi (pc := 26) _ _ (40 + (a1).toNatClampNeg) 4 (ct_X4_size hV (Nat.not_le.mp fun q => h7 (Or.inr q))) mv_X4_size q1124 rfl (hV _ (Nat.not_le.mp fun q => h7 (Or.inr q))).1 rfl (Nat.le_of_ble_eq_true rfl) (Nat.le_of_ble_eq_true rfl) rfl rfl (Nat.le_of_ble_eq_true rfl) dX0_code_26 (fun r10 S8 => ?_)
      refine z_icmp_ge (pc := 29) 91 dX0_code_29 rfl ?_ ?_
      · refine z_iload_n (pc := 91) 3 dX0_code_91 rfl rfl ?_
        exact z_iret rfl dX0_code_92 rfl
      · refine z_iconst (pc := 32) (v := 0) dX0_code_32 (by decide) ?_
        refine z_istore (pc := 33) dX0_code_33 (Nat.le_of_ble_eq_true rfl) rfl ?_
        refine z_loopK (fun j : Int32 → Int32 → zSt → Option (Int32 × zSt) => ∀ (x12 : Int32) (x13 : Int32) (S14 : zSt), Zm X mX0_code zJI G (1, 8) res S14 35 [some (.ref (G.1 0)), some (.int a1), none, some (.int x12), some (.int x5), some (.int x13), none] [] (j x12 x13 S14)) ?_ ?_ zfuel _ _ _
        · intro x12 x13 S14; exact z_none
        · intro rec11 hrec11 x12 x13 S14
          unfold LB_X0_code_1
          refine z_iload (pc := 35) dX0_code_35 rfl ?_
          refine z_iload (pc := 37) dX0_code_37 rfl ?_
          refine z_icmp_ge (pc := 39) 85 dX0_code_39 rfl ?_ ?_
          · refine z_iinc (pc := 85) (w := x5 + 1) dX0_code_85 rfl (by rw [show Int32.ofInt 1 = 1 from by decide]) (Nat.le_of_ble_eq_true rfl) rfl ?_
            refine z_goto (pc := 88) 18 dX0_code_88 rfl ?_
            exact z_mask [true, true, false, true, true, false, false] (hrec3 _ _ _) rfl
          · refine z_aload_n (pc := 42) 0 dX0_code_42 rfl rfl ?_
            refine z_iload_n (pc := 43) 1 dX0_code_43 rfl rfl ?_
            refine z_iload (pc := 44) dX0_code_44 rfl ?_
            refine z_callVi (pc := 46) _ _ 0 0 (ct_X0_squareAt hG hV _ _) mv_X0_squareAt q1136 rfl (zGC_s0 hG) rfl (Nat.le_of_ble_eq_true rfl) (Nat.le_of_ble_eq_true rfl) rfl rfl (Nat.le_of_ble_eq_true rfl) dX0_code_46 (fun r16 S15 => ?_)
            refine z_aload_n (pc := 49) 0 dX0_code_49 rfl rfl ?_
            refine z_iload_n (pc := 50) 1 dX0_code_50 rfl rfl ?_
            refine z_iload (pc := 51) dX0_code_51 rfl ?_
            refine z_callVi (pc := 53) _ _ 0 0 (ct_X0_squareAt hG hV _ _) mv_X0_squareAt q1136 rfl (zGC_s0 hG) rfl (Nat.le_of_ble_eq_true rfl) (Nat.le_of_ble_eq_true rfl) rfl rfl (Nat.le_of_ble_eq_true rfl) dX0_code_53 (fun r18 S17 => ?_)
            refine z_ixor (pc := 56) dX0_code_56 ?_
            refine z_callSi (pc := 57) _ _ (ct_J7_bitCount  _) mv_J7_bitCount q749 rfl (Nat.le_of_ble_eq_true rfl) (Nat.le_of_ble_eq_true rfl) rfl rfl (Nat.le_of_ble_eq_true rfl) dX0_code_57 (fun r20 S19 => ?_)
            refine z_istore (pc := 60) dX0_code_60 (Nat.le_of_ble_eq_true rfl) rfl ?_
            refine z_iload_n (pc := 62) 3 dX0_code_62 rfl rfl ?_
            refine z_iconst (pc := 63) (v := (-1)) dX0_code_63 (by decide) ?_
            refine z_join (fun j : Int32 → zSt → Option (Int32 × zSt) => ∀ (v22 : Int32) (S23 : zSt), Zm X mX0_code zJI G (1, 8) res S23 78 [some (.ref (G.1 0)), some (.int a1), none, none, some (.int x5), some (.int x13), none] [.int v22] (j v22 S23)) ?_ (fun j21 hj21 => ?_)
            · intro v22 S23
              refine z_istore_n (pc := 78) 3 dX0_code_78 rfl (Nat.le_of_ble_eq_true rfl) rfl ?_
              refine z_iinc (pc := 79) (w := x13 + 1) dX0_code_79 rfl (by rw [show Int32.ofInt 1 = 1 from by decide]) (Nat.le_of_ble_eq_true rfl) rfl ?_
              refine z_goto (pc := 82) 35 dX0_code_82 rfl ?_
              exact hrec11 _ _ _
            · refine z_icmp_ne (pc := 64) 72 dX0_code_64 rfl ?_ ?_
              · refine z_iload_n (pc := 72) 3 dX0_code_72 rfl rfl ?_
                refine z_iload (pc := 73) dX0_code_73 rfl ?_
                refine z_callSi (pc := 75) _ _ (ct_J0_min  _ _) mv_J0_min q1015 rfl (Nat.le_of_ble_eq_true rfl) (Nat.le_of_ble_eq_true rfl) rfl rfl (Nat.le_of_ble_eq_true rfl) dX0_code_75 (fun r25 S24 => ?_)
                exact z_mask [true, true, false, false, true, true, false] (hj21 _ _) rfl
              · refine z_iload (pc := 67) dX0_code_67 rfl ?_
                refine z_goto (pc := 69) 78 dX0_code_69 rfl ?_
                exact z_mask [true, true, false, false, true, true, false] (hj21 _ _) rfl
  · refine z_iload_n (pc := 11) 2 dX0_code_11 rfl rfl ?_
    exact z_iret rfl dX0_code_12 rfl
abbrev mX0_heard : zMr := ("HiddenCube", cX0_heard, 8, (some .int), 172, 1, 8, none)
def LB_X0_heard_1 (a1 : Int32) (a2 : Int32) (V : zSV) (rec5 : Int32 → Int32 → Int32 → zSt → Option (Int32 × zSt)) (x6 : Int32) (x7 : Int32) (x8 : Int32) (S9 : zSt) : Option (Int32 × zSt) :=
chk a1 4 (zbind (F_X4_size V (a1).toNatClampNeg S9) (fun r13 S11 =>
if r13 ≤ x8 then (some (x6, S11)) else (zbind (F_X0_squareAt V a1 x8 S11) (fun r15 S14 =>
zbind (F_J7_bitCount (r15 ^^^ a2) S14) (fun r17 S16 =>
if r17 ≤ x7 then (zlet ((if r17 = x7 then (-1) else x8) : Int32) (fun w19 : Int32 =>
rec5 w19 r17 (x8 + 1) S16)) else (rec5 x6 x7 (x8 + 1) S16))))))
def F_X0_heard (V : zSV) (a1 : Int32) (a2 : Int32) (S : zSt) : Option (Int32 × zSt) :=
zbind (F_X0_isSquare ((a2).toInt64) S) (fun r2 S1 =>
zbind (F_X0_asksSquares V a1 r2 S1) (fun r4 S3 =>
if 0 ≤ r4 then (loopK (fun _ _ _ _ => none) (LB_X0_heard_1 a1 a2 V) zfuel (-1) 32 0 S3) else (some (r4, S3))))
theorem mv_X0_heard : ZV mX0_heard yX0_heard 2 := ⟨q1141, q1142, q150, q1143, rfl, by decide, by decide, by decide +kernel⟩
theorem ct_X0_heard {G : zGw} (hG : zGC G) {V : zSV} (hV : zGV G V) (a1 : Int32) (a2 : Int32) : Zc mX0_heard yX0_heard zJI G [.ref (G.1 0), .int a1, .int a2] (F_X0_heard V a1 a2) := by
  refine Zc_of [some (.ref (G.1 0)), some (.int a1), some (.int a2), none, none, none, none, none] (by decide) rfl rfl (Nat.le_of_ble_eq_true rfl) rfl (fun X S res => ?_)
  unfold F_X0_heard
  refine z_aload_n (pc := 0) 0 dX0_heard_0 rfl rfl ?_
  refine z_iload_n (pc := 1) 1 dX0_heard_1 rfl rfl ?_
  refine z_aload_n (pc := 2) 0 dX0_heard_2 rfl rfl ?_
  refine z_iload_n (pc := 3) 2 dX0_heard_3 rfl rfl ?_
  refine z_i2l (pc := 4) dX0_heard_4 ?_
  refine z_callVi (pc := 5) _ _ 0 0 (ct_X0_isSquare hG _) mv_X0_isSquare q723 rfl (zGC_s0 hG) rfl (Nat.le_of_ble_eq_true rfl) (Nat.le_of_ble_eq_true rfl) rfl rfl (Nat.le_of_ble_eq_true rfl) dX0_heard_5 (fun r2 S1 => ?_)
  refine z_callVWi (pc := 8) (1, 8) _ _ 0 0 (ct_X0_asksSquares hG hV _ _) mv_X0_asksSquares q1090 rfl (zGC_s0 hG) rfl (Nat.le_of_ble_eq_true rfl) (Nat.le_of_ble_eq_true rfl) ⟨_, rfl⟩ rfl rfl (Nat.le_of_ble_eq_true rfl) dX0_heard_8 (fun r4 S3 => ?_)
  refine z_istore_n (pc := 11) 3 dX0_heard_11 rfl (Nat.le_of_ble_eq_true rfl) rfl ?_
  refine z_iload_n (pc := 12) 3 dX0_heard_12 rfl rfl ?_
  refine z_if_ge (pc := 13) 18 dX0_heard_13 rfl ?_ ?_
  · refine z_iconst (pc := 18) (v := (-1)) dX0_heard_18 (by decide) ?_
    refine z_istore (pc := 19) dX0_heard_19 (Nat.le_of_ble_eq_true rfl) rfl ?_
    refine z_bipush (pc := 21) (v := 32) dX0_heard_21 (by decide) ?_
    refine z_istore (pc := 23) dX0_heard_23 (Nat.le_of_ble_eq_true rfl) rfl ?_
    refine z_iconst (pc := 25) (v := 0) dX0_heard_25 (by decide) ?_
    refine z_istore (pc := 26) dX0_heard_26 (Nat.le_of_ble_eq_true rfl) rfl ?_
    refine z_maskk [true, true, true, false, true, true, true, false] ?_
    refine z_loopK (fun j : Int32 → Int32 → Int32 → zSt → Option (Int32 × zSt) => ∀ (x6 : Int32) (x7 : Int32) (x8 : Int32) (S9 : zSt), Zm X mX0_heard zJI G (1, 8) res S9 28 [some (.ref (G.1 0)), some (.int a1), some (.int a2), none, some (.int x6), some (.int x7), some (.int x8), none] [] (j x6 x7 x8 S9)) ?_ ?_ zfuel _ _ _ _
    · intro x6 x7 x8 S9; exact z_none
    · intro rec5 hrec5 x6 x7 x8 S9
      unfold LB_X0_heard_1
      refine z_iload (pc := 28) dX0_heard_28 rfl ?_
      refine z_aload_n (pc := 30) 0 dX0_heard_30 rfl rfl ?_
      refine gf_X0_C_118_0 hG (pc := 31) dX0_heard_31 ?_
      refine z_iload_n (pc := 34) 1 dX0_heard_34 rfl rfl ?_
      refine z_chk (fun h10 => ?_)
      refine z_aaloadV (pc := 35) hG hV h10 dX0_heard_35 ?_
      refine z_callVi (pc := 36) _ _ (40 + (a1).toNatClampNeg) 4 (ct_X4_size hV (Nat.not_le.mp fun q => h10 (Or.inr q))) mv_X4_size q1124 rfl (hV _ (Nat.not_le.mp fun q => h10 (Or.inr q))).1 rfl (Nat.le_of_ble_eq_true rfl) (Nat.le_of_ble_eq_true rfl) rfl rfl (Nat.le_of_ble_eq_true rfl) dX0_heard_36 (fun r13 S11 => ?_)
      refine z_icmp_ge (pc := 39) 91 dX0_heard_39 rfl ?_ ?_
      · refine z_iload (pc := 91) dX0_heard_91 rfl ?_
        exact z_iret rfl dX0_heard_93 rfl
      · refine z_aload_n (pc := 42) 0 dX0_heard_42 rfl rfl ?_
        refine z_iload_n (pc := 43) 1 dX0_heard_43 rfl rfl ?_
        refine z_iload (pc := 44) dX0_heard_44 rfl ?_
        refine z_callVi (pc := 46) _ _ 0 0 (ct_X0_squareAt hG hV _ _) mv_X0_squareAt q1136 rfl (zGC_s0 hG) rfl (Nat.le_of_ble_eq_true rfl) (Nat.le_of_ble_eq_true rfl) rfl rfl (Nat.le_of_ble_eq_true rfl) dX0_heard_46 (fun r15 S14 => ?_)
        refine z_iload_n (pc := 49) 2 dX0_heard_49 rfl rfl ?_
        refine z_ixor (pc := 50) dX0_heard_50 ?_
        refine z_callSi (pc := 51) _ _ (ct_J7_bitCount  _) mv_J7_bitCount q749 rfl (Nat.le_of_ble_eq_true rfl) (Nat.le_of_ble_eq_true rfl) rfl rfl (Nat.le_of_ble_eq_true rfl) dX0_heard_51 (fun r17 S16 => ?_)
        refine z_istore (pc := 54) dX0_heard_54 (Nat.le_of_ble_eq_true rfl) rfl ?_
        refine z_iload (pc := 56) dX0_heard_56 rfl ?_
        refine z_iload (pc := 58) dX0_heard_58 rfl ?_
        refine z_icmp_le (pc := 60) 66 dX0_heard_60 rfl ?_ ?_
        · refine z_iload (pc := 66) dX0_heard_66 rfl ?_
          refine z_iload (pc := 68) dX0_heard_68 rfl ?_
          refine z_pure (st0 := []) 79 ((if r17 = x7 then (-1) else x8)) ?_ (fun hJ => ?_)
          · refine z_letI (fun w19 => ?_)
            refine z_istore (pc := 79) dX0_heard_79 (Nat.le_of_ble_eq_true rfl) rfl ?_
            refine z_iload (pc := 81) dX0_heard_81 rfl ?_
            refine z_istore (pc := 83) dX0_heard_83 (Nat.le_of_ble_eq_true rfl) rfl ?_
            refine z_iinc (pc := 85) (w := x8 + 1) dX0_heard_85 rfl (by rw [show Int32.ofInt 1 = 1 from by decide]) (Nat.le_of_ble_eq_true rfl) rfl ?_
            refine z_goto (pc := 88) 28 dX0_heard_88 rfl ?_
            exact z_mask [true, true, true, false, true, true, true, false] (hrec5 _ _ _ _) rfl
          · refine z_icmpd_ne (pc := 70) 77 dX0_heard_70 rfl (fun c20 => ?_) (fun c20 => ?_)
            · refine z_iload (pc := 77) dX0_heard_77 rfl ?_
              exact z_leaf hJ (by simp only [if_neg c20])
            · refine z_iconst (pc := 73) (v := (-1)) dX0_heard_73 (by decide) ?_
              refine z_goto (pc := 74) 79 dX0_heard_74 rfl ?_
              exact z_leaf hJ (by simp only [if_pos c20])
        · refine z_goto (pc := 63) 85 dX0_heard_63 rfl ?_
          refine z_iinc (pc := 85) (w := x8 + 1) dX0_heard_85 rfl (by rw [show Int32.ofInt 1 = 1 from by decide]) (Nat.le_of_ble_eq_true rfl) rfl ?_
          refine z_goto (pc := 88) 28 dX0_heard_88 rfl ?_
          exact z_mask [true, true, true, false, true, true, true, false] (hrec5 _ _ _ _) rfl
  · refine z_iload_n (pc := 16) 3 dX0_heard_16 rfl rfl ?_
    exact z_iret rfl dX0_heard_17 rfl
abbrev mX0_told : zMr := ("HiddenCube", cX0_told, 8, (some .int), 172, 1, 8, none)
def LB_X0_told_1 (a1 : Int32) (a2 : Int32) (V : zSV) (x6 : Int32) (k10 : Int32 → zSt → Option (Int32 × zSt)) (rec16 : Int32 → Int32 → zSt → Option (Int32 × zSt)) (x17 : Int32) (x18 : Int32) (S19 : zSt) : Option (Int32 × zSt) :=
chk a1 4 (zbind (F_X4_size V (a1).toNatClampNeg S19) (fun r23 S21 =>
if r23 ≤ x18 then (k10 x17 S21) else (zbind (F_X0_squareAt V a1 x18 S21) (fun r25 S24 =>
zbind (F_J7_bitCount (r25 ^^^ x6) S24) (fun r27 S26 =>
zlet (x17 + (if a2 < r27 then 0 else 1) : Int32) (fun w29 : Int32 =>
rec16 w29 (x18 + 1) S26))))))
def LB_X0_told_2 (a1 : Int32) (a2 : Int32) (V : zSV) (rec4 : Int32 → Int32 → zSt → Option (Int32 × zSt)) (x5 : Int32) (x6 : Int32) (S7 : zSt) : Option (Int32 × zSt) :=
zbind (F_X1_squares 1 S7) (fun r9 S8 =>
if r9 ≤ x6 then (some (x5, S8)) else (joinK (fun (x11 : Int32) (S12 : zSt) => zlet (x5 + (if x11 = 1 then 1 else 0) : Int32) (fun w14 : Int32 =>
rec4 w14 (x6 + 1) S12)) (fun k10 : Int32 → zSt → Option (Int32 × zSt) =>
loopK (fun _ _ _ => none) (LB_X0_told_1 a1 a2 V x6 k10) zfuel 0 0 S8)))
def F_X0_told (V : zSV) (a1 : Int32) (a2 : Int32) (S : zSt) : Option (Int32 × zSt) :=
zbind (F_X0_asksSquares V a1 (if a2 < 0 then 0 else 1) S) (fun r3 S2 =>
if 0 ≤ r3 then (loopK (fun _ _ _ => none) (LB_X0_told_2 a1 a2 V) zfuel 0 0 S2) else (some (r3, S2)))
theorem mv_X0_told : ZV mX0_told yX0_told 2 := ⟨q1145, q1146, q150, q1147, rfl, by decide, by decide, by decide +kernel⟩
theorem ct_X0_told {G : zGw} (hG : zGC G) {V : zSV} (hV : zGV G V) (a1 : Int32) (a2 : Int32) : Zc mX0_told yX0_told zJI G [.ref (G.1 0), .int a1, .int a2] (F_X0_told V a1 a2) := by
  refine Zc_of [some (.ref (G.1 0)), some (.int a1), some (.int a2), none, none, none, none, none] (by decide) rfl rfl (Nat.le_of_ble_eq_true rfl) rfl (fun X S res => ?_)
  unfold F_X0_told
  refine z_aload_n (pc := 0) 0 dX0_told_0 rfl rfl ?_
  refine z_iload_n (pc := 1) 1 dX0_told_1 rfl rfl ?_
  refine z_iload_n (pc := 2) 2 dX0_told_2 rfl rfl ?_
  refine z_pure (st0 := [.int a1, .ref (G.1 0)]) 11 ((if a2 < 0 then 0 else 1)) ?_ (fun hJ => ?_)
  · refine z_callVWi (pc := 11) (1, 8) _ _ 0 0 (ct_X0_asksSquares hG hV _ _) mv_X0_asksSquares q1090 rfl (zGC_s0 hG) rfl (Nat.le_of_ble_eq_true rfl) (Nat.le_of_ble_eq_true rfl) ⟨_, rfl⟩ rfl rfl (Nat.le_of_ble_eq_true rfl) dX0_told_11 (fun r3 S2 => ?_)
    refine z_istore_n (pc := 14) 3 dX0_told_14 rfl (Nat.le_of_ble_eq_true rfl) rfl ?_
    refine z_iload_n (pc := 15) 3 dX0_told_15 rfl rfl ?_
    refine z_if_ge (pc := 16) 21 dX0_told_16 rfl ?_ ?_
    · refine z_iconst (pc := 21) (v := 0) dX0_told_21 (by decide) ?_
      refine z_istore (pc := 22) dX0_told_22 (Nat.le_of_ble_eq_true rfl) rfl ?_
      refine z_iconst (pc := 24) (v := 0) dX0_told_24 (by decide) ?_
      refine z_istore (pc := 25) dX0_told_25 (Nat.le_of_ble_eq_true rfl) rfl ?_
      refine z_maskk [true, true, true, false, true, true, false, false] ?_
      refine z_loopK (fun j : Int32 → Int32 → zSt → Option (Int32 × zSt) => ∀ (x5 : Int32) (x6 : Int32) (S7 : zSt), Zm X mX0_told zJI G (1, 8) res S7 27 [some (.ref (G.1 0)), some (.int a1), some (.int a2), none, some (.int x5), some (.int x6), none, none] [] (j x5 x6 S7)) ?_ ?_ zfuel _ _ _
      · intro x5 x6 S7; exact z_none
      · intro rec4 hrec4 x5 x6 S7
        unfold LB_X0_told_2
        refine z_iload (pc := 27) dX0_told_27 rfl ?_
        refine z_aload_n (pc := 29) 0 dX0_told_29 rfl rfl ?_
        refine gf_X0_C_10_0 hG (pc := 30) dX0_told_30 ?_
        refine z_callVi (pc := 33) _ _ 1 1 (ct_X1_squares (zGC_T hG)) mv_X1_squares q727 rfl (zGC_s1 hG) rfl (Nat.le_of_ble_eq_true rfl) (Nat.le_of_ble_eq_true rfl) rfl rfl (Nat.le_of_ble_eq_true rfl) dX0_told_33 (fun r9 S8 => ?_)
        refine z_icmp_ge (pc := 36) 114 dX0_told_36 rfl ?_ ?_
        · refine z_iload (pc := 114) dX0_told_114 rfl ?_
          exact z_iret rfl dX0_told_116 rfl
        · refine z_iconst (pc := 39) (v := 0) dX0_told_39 (by decide) ?_
          refine z_istore (pc := 40) dX0_told_40 (Nat.le_of_ble_eq_true rfl) rfl ?_
          refine z_iconst (pc := 42) (v := 0) dX0_told_42 (by decide) ?_
          refine z_istore (pc := 43) dX0_told_43 (Nat.le_of_ble_eq_true rfl) rfl ?_
          refine z_join (fun j : Int32 → zSt → Option (Int32 × zSt) => ∀ (x11 : Int32) (S12 : zSt), Zm X mX0_told zJI G (1, 8) res S12 92 [some (.ref (G.1 0)), some (.int a1), some (.int a2), none, some (.int x5), some (.int x6), some (.int x11), none] [] (j x11 S12)) ?_ (fun k10 hk10 => ?_)
          · intro x11 S12
            refine z_iload (pc := 92) dX0_told_92 rfl ?_
            refine z_iload (pc := 94) dX0_told_94 rfl ?_
            refine z_iconst (pc := 96) (v := 1) dX0_told_96 (by decide) ?_
            refine z_pure (st0 := [.int x5]) 105 ((if x11 = 1 then 1 else 0)) ?_ (fun hJ => ?_)
            · refine z_iadd (pc := 105) dX0_told_105 ?_
              refine z_letI (fun w14 => ?_)
              refine z_istore (pc := 106) dX0_told_106 (Nat.le_of_ble_eq_true rfl) rfl ?_
              refine z_iinc (pc := 108) (w := x6 + 1) dX0_told_108 rfl (by rw [show Int32.ofInt 1 = 1 from by decide]) (Nat.le_of_ble_eq_true rfl) rfl ?_
              refine z_goto (pc := 111) 27 dX0_told_111 rfl ?_
              exact z_mask [true, true, true, false, true, true, false, false] (hrec4 _ _ _) rfl
            · refine z_icmpd_ne (pc := 97) 104 dX0_told_97 rfl (fun c15 => ?_) (fun c15 => ?_)
              · refine z_iconst (pc := 104) (v := 0) dX0_told_104 (by decide) ?_
                exact z_leaf hJ (by simp only [if_neg c15])
              · refine z_iconst (pc := 100) (v := 1) dX0_told_100 (by decide) ?_
                refine z_goto (pc := 101) 105 dX0_told_101 rfl ?_
                exact z_leaf hJ (by simp only [if_pos c15])
          · refine z_loopK (fun j : Int32 → Int32 → zSt → Option (Int32 × zSt) => ∀ (x17 : Int32) (x18 : Int32) (S19 : zSt), Zm X mX0_told zJI G (1, 8) res S19 45 [some (.ref (G.1 0)), some (.int a1), some (.int a2), none, some (.int x5), some (.int x6), some (.int x17), some (.int x18)] [] (j x17 x18 S19)) ?_ ?_ zfuel _ _ _
            · intro x17 x18 S19; exact z_none
            · intro rec16 hrec16 x17 x18 S19
              unfold LB_X0_told_1
              refine z_iload (pc := 45) dX0_told_45 rfl ?_
              refine z_aload_n (pc := 47) 0 dX0_told_47 rfl rfl ?_
              refine gf_X0_C_118_0 hG (pc := 48) dX0_told_48 ?_
              refine z_iload_n (pc := 51) 1 dX0_told_51 rfl rfl ?_
              refine z_chk (fun h20 => ?_)
              refine z_aaloadV (pc := 52) hG hV h20 dX0_told_52 ?_
              refine z_callVi (pc := 53) _ _ (40 + (a1).toNatClampNeg) 4 (ct_X4_size hV (Nat.not_le.mp fun q => h20 (Or.inr q))) mv_X4_size q1124 rfl (hV _ (Nat.not_le.mp fun q => h20 (Or.inr q))).1 rfl (Nat.le_of_ble_eq_true rfl) (Nat.le_of_ble_eq_true rfl) rfl rfl (Nat.le_of_ble_eq_true rfl) dX0_told_53 (fun r23 S21 => ?_)
              refine z_icmp_ge (pc := 56) 92 dX0_told_56 rfl ?_ ?_
              · exact z_mask [true, true, true, false, true, true, true, false] (hk10 _ _) rfl
              · refine z_iload (pc := 59) dX0_told_59 rfl ?_
                refine z_aload_n (pc := 61) 0 dX0_told_61 rfl rfl ?_
                refine z_iload_n (pc := 62) 1 dX0_told_62 rfl rfl ?_
                refine z_iload (pc := 63) dX0_told_63 rfl ?_
                refine z_callVi (pc := 65) _ _ 0 0 (ct_X0_squareAt hG hV _ _) mv_X0_squareAt q1136 rfl (zGC_s0 hG) rfl (Nat.le_of_ble_eq_true rfl) (Nat.le_of_ble_eq_true rfl) rfl rfl (Nat.le_of_ble_eq_true rfl) dX0_told_65 (fun r25 S24 => ?_)
                refine z_iload (pc := 68) dX0_told_68 rfl ?_
                refine z_ixor (pc := 70) dX0_told_70 ?_
                refine z_callSi (pc := 71) _ _ (ct_J7_bitCount  _) mv_J7_bitCount q749 rfl (Nat.le_of_ble_eq_true rfl) (Nat.le_of_ble_eq_true rfl) rfl rfl (Nat.le_of_ble_eq_true rfl) dX0_told_71 (fun r27 S26 => ?_)
                refine z_iload_n (pc := 74) 2 dX0_told_74 rfl rfl ?_
                refine z_pure (st0 := [.int x17]) 83 ((if a2 < r27 then 0 else 1)) ?_ (fun hJ => ?_)
                · refine z_iadd (pc := 83) dX0_told_83 ?_
                  refine z_letI (fun w29 => ?_)
                  refine z_istore (pc := 84) dX0_told_84 (Nat.le_of_ble_eq_true rfl) rfl ?_
                  refine z_iinc (pc := 86) (w := x18 + 1) dX0_told_86 rfl (by rw [show Int32.ofInt 1 = 1 from by decide]) (Nat.le_of_ble_eq_true rfl) rfl ?_
                  refine z_goto (pc := 89) 45 dX0_told_89 rfl ?_
                  exact hrec16 _ _ _
                · refine z_icmpd_gt (pc := 75) 82 dX0_told_75 rfl (fun c30 => ?_) (fun c30 => ?_)
                  · refine z_iconst (pc := 82) (v := 0) dX0_told_82 (by decide) ?_
                    exact z_leaf hJ (by simp only [if_pos c30])
                  · refine z_iconst (pc := 78) (v := 1) dX0_told_78 (by decide) ?_
                    refine z_goto (pc := 79) 83 dX0_told_79 rfl ?_
                    exact z_leaf hJ (by simp only [if_neg c30])
    · refine z_iload_n (pc := 19) 3 dX0_told_19 rfl rfl ?_
      exact z_iret rfl dX0_told_20 rfl
  · refine z_ifd_lt (pc := 3) 10 dX0_told_3 rfl (fun c31 => ?_) (fun c31 => ?_)
    · refine z_iconst (pc := 10) (v := 0) dX0_told_10 (by decide) ?_
      exact z_leaf hJ (by simp only [if_pos c31])
    · refine z_iconst (pc := 6) (v := 1) dX0_told_6 (by decide) ?_
      refine z_goto (pc := 7) 11 dX0_told_7 rfl ?_
      exact z_leaf hJ (by simp only [if_neg c31])
abbrev mX0_biggest : zMr := ("HiddenCube", cX0_biggest, 8, (some .int), 3, 0, 0, none)
def LB_X0_biggest_1 (a1 : Int32) (r14 : Int32) (k18 : Int32 → zSt → Option (Int32 × zSt)) (rec30 : Int32 → Int32 → zSt → Option (Int32 × zSt)) (x31 : Int32) (x32 : Int32) (S33 : zSt) : Option (Int32 × zSt) :=
if x32 = 0 then (k18 x31 S33) else (if x31 = 0 then (k18 x31 S33) else (zbind (F_J7_numberOfTrailingZeros x32 S33) (fun r35 S34 =>
zbind (F_J7_bitCount (r14 ^^^ r35) S34) (fun r37 S36 =>
zlet ((if r37 < a1 then 0 else 1) : Int32) (fun w39 : Int32 =>
zlet (x32 &&& (x32 - 1) : Int32) (fun w40 : Int32 =>
rec30 w39 w40 S36))))))
def LB_X0_biggest_2 (a1 : Int32) (rec7 : Int32 → Int32 → zSt → Option (Int32 × zSt)) (x8 : Int32) (x9 : Int32) (S10 : zSt) : Option (Int32 × zSt) :=
zbind (F_X0_sets S10) (fun r12 S11 =>
if r12 ≤ x9 then (some (x8, S11)) else (zbind (F_J7_numberOfTrailingZeros x9 S11) (fun r14 S13 =>
zlet (x9 &&& (x9 - 1) : Int32) (fun w15 : Int32 =>
chk w15 65536 (zlet (S13.1 27 (w15).toNatClampNeg : Int32) (fun w17 : Int32 =>
joinK (fun (x19 : Int32) (S20 : zSt) => chk x9 65536 (zlet (sI S20 27 (x9).toNatClampNeg (x19 &&& 1) : zSt) (fun S22 : zSt =>
joinK (fun (v24 : Int32) (S25 : zSt) => rec7 v24 (x9 + 1) S25) (fun j23 : Int32 → zSt → Option (Int32 × zSt) =>
if x19 = 0 then (j23 x8 S22) else (zbind (F_J7_bitCount x9 S22) (fun r27 S26 =>
zbind (F_J0_max x8 r27 S26) (fun r29 S28 =>
j23 r29 S28))))))) (fun k18 : Int32 → zSt → Option (Int32 × zSt) =>
loopK (fun _ _ _ => none) (LB_X0_biggest_1 a1 r14 k18) zfuel w17 w15 S13)))))))
def F_X0_biggest (a1 : Int32) (S : zSt) : Option (Int32 × zSt) :=
zbind (F_X0_isTown S) (fun r2 S1 =>
if r2 = 0 then (some ((-2), S1)) else (zbind (F_X0_isIn ((a1).toInt64) 1 5 S1) (fun r4 S3 =>
if r4 = 0 then (some ((-2), S3)) else (if (S3.1 1 0) = 5 then (some ((-9), S3)) else (chk 0 65536 (zlet (sI S3 27 (0 : Int32).toNatClampNeg (1 &&& 1) : zSt) (fun S6 : zSt =>
loopK (fun _ _ _ => none) (LB_X0_biggest_2 a1) zfuel 0 1 S6)))))))
theorem mv_X0_biggest : ZV mX0_biggest yX0_biggest 1 := ⟨q1149, q1150, q150, q1151, rfl, by decide, by decide, by decide +kernel⟩
theorem ct_X0_biggest {G : zGw} (hG : zGC G) (a1 : Int32) : Zc mX0_biggest yX0_biggest zJI G [.ref (G.1 0), .int a1] (F_X0_biggest a1) := by
  refine Zc_of [some (.ref (G.1 0)), some (.int a1), none, none, none, none, none, none] (by decide) rfl rfl (Nat.le_of_ble_eq_true rfl) rfl (fun X S res => ?_)
  unfold F_X0_biggest
  refine z_aload_n (pc := 0) 0 dX0_biggest_0 rfl rfl ?_
  refine z_callVi (pc := 1) _ _ 0 0 (ct_X0_isTown hG) mv_X0_isTown q827 rfl (zGC_s0 hG) rfl (Nat.le_of_ble_eq_true rfl) (Nat.le_of_ble_eq_true rfl) rfl rfl (Nat.le_of_ble_eq_true rfl) dX0_biggest_1 (fun r2 S1 => ?_)
  refine z_if_eq (pc := 4) 19 dX0_biggest_4 rfl ?_ ?_
  · refine z_bipush (pc := 19) (v := (-2)) dX0_biggest_19 (by decide) ?_
    exact z_iret rfl dX0_biggest_21 rfl
  · refine z_iload_n (pc := 7) 1 dX0_biggest_7 rfl rfl ?_
    refine z_i2l (pc := 8) dX0_biggest_8 ?_
    refine z_lconst (pc := 9) (v := 1) dX0_biggest_9 (by decide) ?_
    refine z_ldc2 (pc := 10) (v := 5) dX0_biggest_10 q939 ?_
    refine z_callSi (pc := 13) _ _ (ct_X0_isIn  _ _ _) mv_X0_isIn q429 rfl (Nat.le_of_ble_eq_true rfl) (Nat.le_of_ble_eq_true rfl) rfl rfl (Nat.le_of_ble_eq_true rfl) dX0_biggest_13 (fun r4 S3 => ?_)
    refine z_if_ne (pc := 16) 22 dX0_biggest_16 rfl ?_ ?_
    · refine z_aload_n (pc := 22) 0 dX0_biggest_22 rfl rfl ?_
      refine gf_X0_C_10_0 hG (pc := 23) dX0_biggest_23 ?_
      refine gf_X0_C_158_1 hG (pc := 26) dX0_biggest_26 ?_
      refine z_iconst (pc := 29) (v := 5) dX0_biggest_29 (by decide) ?_
      refine z_icmp_ne (pc := 30) 36 dX0_biggest_30 rfl ?_ ?_
      · refine z_aload_n (pc := 36) 0 dX0_biggest_36 rfl rfl ?_
        refine gf_X0_C_84_0 hG (pc := 37) dX0_biggest_37 ?_
        refine z_iconst (pc := 40) (v := 0) dX0_biggest_40 (by decide) ?_
        refine z_iconst (pc := 41) (v := 1) dX0_biggest_41 (by decide) ?_
        refine z_chk (fun h5 => ?_)
        refine z_zastore (pc := 42) 27 65536 (zGC_s27 hG) h5 dX0_biggest_42 ?_
        refine z_letS (fun S6 => ?_)
        refine z_iconst (pc := 43) (v := 0) dX0_biggest_43 (by decide) ?_
        refine z_istore_n (pc := 44) 2 dX0_biggest_44 rfl (Nat.le_of_ble_eq_true rfl) rfl ?_
        refine z_iconst (pc := 45) (v := 1) dX0_biggest_45 (by decide) ?_
        refine z_istore_n (pc := 46) 3 dX0_biggest_46 rfl (Nat.le_of_ble_eq_true rfl) rfl ?_
        refine z_loopK (fun j : Int32 → Int32 → zSt → Option (Int32 × zSt) => ∀ (x8 : Int32) (x9 : Int32) (S10 : zSt), Zm X mX0_biggest zJI G (0, 0) res S10 47 [some (.ref (G.1 0)), some (.int a1), some (.int x8), some (.int x9), none, none, none, none] [] (j x8 x9 S10)) ?_ ?_ zfuel _ _ _
        · intro x8 x9 S10; exact z_none
        · intro rec7 hrec7 x8 x9 S10
          unfold LB_X0_biggest_2
          refine z_iload_n (pc := 47) 3 dX0_biggest_47 rfl rfl ?_
          refine z_aload_n (pc := 48) 0 dX0_biggest_48 rfl rfl ?_
          refine z_callVi (pc := 49) _ _ 0 0 (ct_X0_sets hG) mv_X0_sets q1070 rfl (zGC_s0 hG) rfl (Nat.le_of_ble_eq_true rfl) (Nat.le_of_ble_eq_true rfl) rfl rfl (Nat.le_of_ble_eq_true rfl) dX0_biggest_49 (fun r12 S11 => ?_)
          refine z_icmp_ge (pc := 52) 157 dX0_biggest_52 rfl ?_ ?_
          · refine z_iload_n (pc := 157) 2 dX0_biggest_157 rfl rfl ?_
            exact z_iret rfl dX0_biggest_158 rfl
          · refine z_iload_n (pc := 55) 3 dX0_biggest_55 rfl rfl ?_
            refine z_callSi (pc := 56) _ _ (ct_J7_numberOfTrailingZeros  _) mv_J7_numberOfTrailingZeros q815 rfl (Nat.le_of_ble_eq_true rfl) (Nat.le_of_ble_eq_true rfl) rfl rfl (Nat.le_of_ble_eq_true rfl) dX0_biggest_56 (fun r14 S13 => ?_)
            refine z_istore (pc := 59) dX0_biggest_59 (Nat.le_of_ble_eq_true rfl) rfl ?_
            refine z_iload_n (pc := 61) 3 dX0_biggest_61 rfl rfl ?_
            refine z_iload_n (pc := 62) 3 dX0_biggest_62 rfl rfl ?_
            refine z_iconst (pc := 63) (v := 1) dX0_biggest_63 (by decide) ?_
            refine z_isub (pc := 64) dX0_biggest_64 ?_
            refine z_iand (pc := 65) dX0_biggest_65 ?_
            refine z_letI (fun w15 => ?_)
            refine z_istore (pc := 66) dX0_biggest_66 (Nat.le_of_ble_eq_true rfl) rfl ?_
            refine z_aload_n (pc := 68) 0 dX0_biggest_68 rfl rfl ?_
            refine gf_X0_C_84_0 hG (pc := 69) dX0_biggest_69 ?_
            refine z_iload (pc := 72) dX0_biggest_72 rfl ?_
            refine z_chk (fun h16 => ?_)
            refine z_zaload (pc := 74) 27 65536 (zGC_s27 hG) h16 dX0_biggest_74 ?_
            refine z_letI (fun w17 => ?_)
            refine z_istore (pc := 75) dX0_biggest_75 (Nat.le_of_ble_eq_true rfl) rfl ?_
            refine z_iload (pc := 77) dX0_biggest_77 rfl ?_
            refine z_istore (pc := 79) dX0_biggest_79 (Nat.le_of_ble_eq_true rfl) rfl ?_
            refine z_join (fun j : Int32 → zSt → Option (Int32 × zSt) => ∀ (x19 : Int32) (S20 : zSt), Zm X mX0_biggest zJI G (0, 0) res S20 125 [some (.ref (G.1 0)), some (.int a1), some (.int x8), some (.int x9), none, none, some (.int x19), none] [] (j x19 S20)) ?_ (fun k18 hk18 => ?_)
            · intro x19 S20
              refine z_aload_n (pc := 125) 0 dX0_biggest_125 rfl rfl ?_
              refine gf_X0_C_84_0 hG (pc := 126) dX0_biggest_126 ?_
              refine z_iload_n (pc := 129) 3 dX0_biggest_129 rfl rfl ?_
              refine z_iload (pc := 130) dX0_biggest_130 rfl ?_
              refine z_chk (fun h21 => ?_)
              refine z_zastore (pc := 132) 27 65536 (zGC_s27 hG) h21 dX0_biggest_132 ?_
              refine z_letS (fun S22 => ?_)
              refine z_iload (pc := 133) dX0_biggest_133 rfl ?_
              refine z_join (fun j : Int32 → zSt → Option (Int32 × zSt) => ∀ (v24 : Int32) (S25 : zSt), Zm X mX0_biggest zJI G (0, 0) res S25 150 [some (.ref (G.1 0)), some (.int a1), none, some (.int x9), none, none, none, none] [.int v24] (j v24 S25)) ?_ (fun j23 hj23 => ?_)
              · intro v24 S25
                refine z_istore_n (pc := 150) 2 dX0_biggest_150 rfl (Nat.le_of_ble_eq_true rfl) rfl ?_
                refine z_iinc (pc := 151) (w := x9 + 1) dX0_biggest_151 rfl (by rw [show Int32.ofInt 1 = 1 from by decide]) (Nat.le_of_ble_eq_true rfl) rfl ?_
                refine z_goto (pc := 154) 47 dX0_biggest_154 rfl ?_
                exact hrec7 _ _ _
              · refine z_if_eq (pc := 135) 149 dX0_biggest_135 rfl ?_ ?_
                · refine z_iload_n (pc := 149) 2 dX0_biggest_149 rfl rfl ?_
                  exact z_mask [true, true, false, true, false, false, false, false] (hj23 _ _) rfl
                · refine z_iload_n (pc := 138) 2 dX0_biggest_138 rfl rfl ?_
                  refine z_iload_n (pc := 139) 3 dX0_biggest_139 rfl rfl ?_
                  refine z_callSi (pc := 140) _ _ (ct_J7_bitCount  _) mv_J7_bitCount q749 rfl (Nat.le_of_ble_eq_true rfl) (Nat.le_of_ble_eq_true rfl) rfl rfl (Nat.le_of_ble_eq_true rfl) dX0_biggest_140 (fun r27 S26 => ?_)
                  refine z_callSi (pc := 143) _ _ (ct_J0_max  _ _) mv_J0_max q832 rfl (Nat.le_of_ble_eq_true rfl) (Nat.le_of_ble_eq_true rfl) rfl rfl (Nat.le_of_ble_eq_true rfl) dX0_biggest_143 (fun r29 S28 => ?_)
                  refine z_goto (pc := 146) 150 dX0_biggest_146 rfl ?_
                  exact z_mask [true, true, false, true, false, false, false, false] (hj23 _ _) rfl
            · refine z_maskk [true, true, true, true, true, false, true, true] ?_
              refine z_loopK (fun j : Int32 → Int32 → zSt → Option (Int32 × zSt) => ∀ (x31 : Int32) (x32 : Int32) (S33 : zSt), Zm X mX0_biggest zJI G (0, 0) res S33 81 [some (.ref (G.1 0)), some (.int a1), some (.int x8), some (.int x9), some (.int r14), none, some (.int x31), some (.int x32)] [] (j x31 x32 S33)) ?_ ?_ zfuel _ _ _
              · intro x31 x32 S33; exact z_none
              · intro rec30 hrec30 x31 x32 S33
                unfold LB_X0_biggest_1
                refine z_iload (pc := 81) dX0_biggest_81 rfl ?_
                refine z_if_eq (pc := 83) 125 dX0_biggest_83 rfl ?_ ?_
                · exact z_mask [true, true, true, true, false, false, true, false] (hk18 _ _) rfl
                · refine z_iload (pc := 86) dX0_biggest_86 rfl ?_
                  refine z_if_eq (pc := 88) 125 dX0_biggest_88 rfl ?_ ?_
                  · exact z_mask [true, true, true, true, false, false, true, false] (hk18 _ _) rfl
                  · refine z_iload (pc := 91) dX0_biggest_91 rfl ?_
                    refine z_iload (pc := 93) dX0_biggest_93 rfl ?_
                    refine z_callSi (pc := 95) _ _ (ct_J7_numberOfTrailingZeros  _) mv_J7_numberOfTrailingZeros q815 rfl (Nat.le_of_ble_eq_true rfl) (Nat.le_of_ble_eq_true rfl) rfl rfl (Nat.le_of_ble_eq_true rfl) dX0_biggest_95 (fun r35 S34 => ?_)
                    refine z_ixor (pc := 98) dX0_biggest_98 ?_
                    refine z_callSi (pc := 99) _ _ (ct_J7_bitCount  _) mv_J7_bitCount q749 rfl (Nat.le_of_ble_eq_true rfl) (Nat.le_of_ble_eq_true rfl) rfl rfl (Nat.le_of_ble_eq_true rfl) dX0_biggest_99 (fun r37 S36 => ?_)
                    refine z_iload_n (pc := 102) 1 dX0_biggest_102 rfl rfl ?_
                    refine z_pure (st0 := []) 111 ((if r37 < a1 then 0 else 1)) ?_ (fun hJ => ?_)
                    · refine z_letI (fun w39 => ?_)
                      refine z_istore (pc := 111) dX0_biggest_111 (Nat.le_of_ble_eq_true rfl) rfl ?_
                      refine z_iload (pc := 113) dX0_biggest_113 rfl ?_
                      refine z_iload (pc := 115) dX0_biggest_115 rfl ?_
                      refine z_iconst (pc := 117) (v := 1) dX0_biggest_117 (by decide) ?_
                      refine z_isub (pc := 118) dX0_biggest_118 ?_
                      refine z_iand (pc := 119) dX0_biggest_119 ?_
                      refine z_letI (fun w40 => ?_)
                      refine z_istore (pc := 120) dX0_biggest_120 (Nat.le_of_ble_eq_true rfl) rfl ?_
                      refine z_goto (pc := 122) 81 dX0_biggest_122 rfl ?_
                      exact hrec30 _ _ _
                    · refine z_icmpd_lt (pc := 103) 110 dX0_biggest_103 rfl (fun c41 => ?_) (fun c41 => ?_)
                      · refine z_iconst (pc := 110) (v := 0) dX0_biggest_110 (by decide) ?_
                        exact z_leaf hJ (by simp only [if_pos c41])
                      · refine z_iconst (pc := 106) (v := 1) dX0_biggest_106 (by decide) ?_
                        refine z_goto (pc := 107) 111 dX0_biggest_107 rfl ?_
                        exact z_leaf hJ (by simp only [if_neg c41])
      · refine z_bipush (pc := 33) (v := (-9)) dX0_biggest_33 (by decide) ?_
        exact z_iret rfl dX0_biggest_35 rfl
    · refine z_bipush (pc := 19) (v := (-2)) dX0_biggest_19 (by decide) ?_
      exact z_iret rfl dX0_biggest_21 rfl
abbrev mX0_shadow : zMr := ("HiddenCube", cX0_shadow, 3, (some .int), 3, 0, 0, none)
def F_X0_shadow (a1 : Int32) (a2 : Int32) (S : zSt) : Option (Int32 × zSt) :=
zbind (F_X0_isSquare ((a1).toInt64) S) (fun r2 S1 =>
if r2 = 0 then (some ((-2), S1)) else (zbind (F_X0_isName a2 S1) (fun r4 S3 =>
if r4 = 0 then (some ((-2), S3)) else (some ((a1 &&& (((1 : Int32) <<< (a2 &&& 31)) - 1)) ||| ((a1 >>> ((a2 + 1) &&& 31)) <<< (a2 &&& 31)), S3)))))
theorem mv_X0_shadow : ZV mX0_shadow yX0_shadow 2 := ⟨q1153, q1154, q150, q1155, rfl, by decide, by decide, by decide +kernel⟩
theorem ct_X0_shadow {G : zGw} (hG : zGC G) (a1 : Int32) (a2 : Int32) : Zc mX0_shadow yX0_shadow zJI G [.ref (G.1 0), .int a1, .int a2] (F_X0_shadow a1 a2) := by
  refine Zc_of [some (.ref (G.1 0)), some (.int a1), some (.int a2)] (by decide) rfl rfl (Nat.le_of_ble_eq_true rfl) rfl (fun X S res => ?_)
  unfold F_X0_shadow
  refine z_aload_n (pc := 0) 0 dX0_shadow_0 rfl rfl ?_
  refine z_iload_n (pc := 1) 1 dX0_shadow_1 rfl rfl ?_
  refine z_i2l (pc := 2) dX0_shadow_2 ?_
  refine z_callVi (pc := 3) _ _ 0 0 (ct_X0_isSquare hG _) mv_X0_isSquare q723 rfl (zGC_s0 hG) rfl (Nat.le_of_ble_eq_true rfl) (Nat.le_of_ble_eq_true rfl) rfl rfl (Nat.le_of_ble_eq_true rfl) dX0_shadow_3 (fun r2 S1 => ?_)
  refine z_if_eq (pc := 6) 17 dX0_shadow_6 rfl ?_ ?_
  · refine z_bipush (pc := 17) (v := (-2)) dX0_shadow_17 (by decide) ?_
    exact z_iret rfl dX0_shadow_19 rfl
  · refine z_aload_n (pc := 9) 0 dX0_shadow_9 rfl rfl ?_
    refine z_iload_n (pc := 10) 2 dX0_shadow_10 rfl rfl ?_
    refine z_callVi (pc := 11) _ _ 0 0 (ct_X0_isName hG _) mv_X0_isName q715 rfl (zGC_s0 hG) rfl (Nat.le_of_ble_eq_true rfl) (Nat.le_of_ble_eq_true rfl) rfl rfl (Nat.le_of_ble_eq_true rfl) dX0_shadow_11 (fun r4 S3 => ?_)
    refine z_if_ne (pc := 14) 20 dX0_shadow_14 rfl ?_ ?_
    · refine z_iload_n (pc := 20) 1 dX0_shadow_20 rfl rfl ?_
      refine z_iconst (pc := 21) (v := 1) dX0_shadow_21 (by decide) ?_
      refine z_iload_n (pc := 22) 2 dX0_shadow_22 rfl rfl ?_
      refine z_ishl (pc := 23) dX0_shadow_23 ?_
      refine z_iconst (pc := 24) (v := 1) dX0_shadow_24 (by decide) ?_
      refine z_isub (pc := 25) dX0_shadow_25 ?_
      refine z_iand (pc := 26) dX0_shadow_26 ?_
      refine z_iload_n (pc := 27) 1 dX0_shadow_27 rfl rfl ?_
      refine z_iload_n (pc := 28) 2 dX0_shadow_28 rfl rfl ?_
      refine z_iconst (pc := 29) (v := 1) dX0_shadow_29 (by decide) ?_
      refine z_iadd (pc := 30) dX0_shadow_30 ?_
      refine z_ishr (pc := 31) dX0_shadow_31 ?_
      refine z_iload_n (pc := 32) 2 dX0_shadow_32 rfl rfl ?_
      refine z_ishl (pc := 33) dX0_shadow_33 ?_
      refine z_ior (pc := 34) dX0_shadow_34 ?_
      exact z_iret rfl dX0_shadow_35 rfl
    · refine z_bipush (pc := 17) (v := (-2)) dX0_shadow_17 (by decide) ?_
      exact z_iret rfl dX0_shadow_19 rfl
abbrev mX0_crossedBy : zMr := ("HiddenCube", cX0_crossedBy, 9, (some .int), 3, 0, 0, none)
def LB_X0_crossedBy_1 (r4 : Int32) (r8 : Int32) (x11 : Int32) (rec9 : Int32 → Int32 → zSt → Option (Int32 × zSt)) (rec17 : Int32 → Int32 → zSt → Option (Int32 × zSt)) (x18 : Int32) (x19 : Int32) (S20 : zSt) : Option (Int32 × zSt) :=
if (S20.1 1 0) ≤ x19 then (rec9 x18 (x11 + 1) S20) else (zlet (x11 ^^^ ((1 : Int32) <<< (x19 &&& 31)) : Int32) (fun w21 : Int32 =>
chk w21 32 (zlet (S20.1 28 (w21).toNatClampNeg : Int32) (fun w23 : Int32 =>
zbind (F_X1_isOpen 1 x11 x19 S20) (fun r25 S24 =>
zlet (x18 + (if r25 = 0 then 0 else (if w23 < r4 then 1 else (if w23 ≤ r8 then 0 else 1))) : Int32) (fun w27 : Int32 =>
rec17 w27 (x19 + 1) S24))))))
def LB_X0_crossedBy_2 (r4 : Int32) (r8 : Int32) (rec9 : Int32 → Int32 → zSt → Option (Int32 × zSt)) (x10 : Int32) (x11 : Int32) (S12 : zSt) : Option (Int32 × zSt) :=
zbind (F_X1_squares 1 S12) (fun r14 S13 =>
if r14 ≤ x11 then (some (x10, S13)) else (chk x11 32 (if (S13.1 28 (x11).toNatClampNeg) ≤ r4 then (rec9 x10 (x11 + 1) S13) else (chk x11 32 (if (S13.1 28 (x11).toNatClampNeg) < r8 then (loopK (fun _ _ _ => none) (LB_X0_crossedBy_1 r4 r8 x11 rec9) zfuel x10 0 S13) else (rec9 x10 (x11 + 1) S13))))))
def F_X0_crossedBy (a1 : Int32) (a2 : Int32) (S : zSt) : Option (Int32 × zSt) :=
chk a1 32 (chk a2 32 (zbind (F_J0_min (S.1 28 (a1).toNatClampNeg) (S.1 28 (a2).toNatClampNeg) S) (fun r4 S3 =>
chk a1 32 (chk a2 32 (zbind (F_J0_max (S3.1 28 (a1).toNatClampNeg) (S3.1 28 (a2).toNatClampNeg) S3) (fun r8 S7 =>
loopK (fun _ _ _ => none) (LB_X0_crossedBy_2 r4 r8) zfuel 0 0 S7))))))
theorem mv_X0_crossedBy : ZV mX0_crossedBy yX0_crossedBy 2 := ⟨q1166, qs64, q150, q1167, rfl, by decide, by decide, by decide +kernel⟩
theorem ct_X0_crossedBy {G : zGw} (hG : zGC G) (a1 : Int32) (a2 : Int32) : Zc mX0_crossedBy yX0_crossedBy zJI G [.ref (G.1 0), .int a1, .int a2] (F_X0_crossedBy a1 a2) := by
  refine Zc_of [some (.ref (G.1 0)), some (.int a1), some (.int a2), none, none, none, none, none, none] (by decide) rfl rfl (Nat.le_of_ble_eq_true rfl) rfl (fun X S res => ?_)
  unfold F_X0_crossedBy
  refine z_aload_n (pc := 0) 0 dX0_crossedBy_0 rfl rfl ?_
  refine gf_X0_C_88_0 hG (pc := 1) dX0_crossedBy_1 ?_
  refine z_iload_n (pc := 4) 1 dX0_crossedBy_4 rfl rfl ?_
  refine z_chk (fun h1 => ?_)
  refine z_iaload (pc := 5) 28 32 (zGC_s28 hG) h1 dX0_crossedBy_5 ?_
  refine z_aload_n (pc := 6) 0 dX0_crossedBy_6 rfl rfl ?_
  refine gf_X0_C_88_0 hG (pc := 7) dX0_crossedBy_7 ?_
  refine z_iload_n (pc := 10) 2 dX0_crossedBy_10 rfl rfl ?_
  refine z_chk (fun h2 => ?_)
  refine z_iaload (pc := 11) 28 32 (zGC_s28 hG) h2 dX0_crossedBy_11 ?_
  refine z_callSi (pc := 12) _ _ (ct_J0_min  _ _) mv_J0_min q1015 rfl (Nat.le_of_ble_eq_true rfl) (Nat.le_of_ble_eq_true rfl) rfl rfl (Nat.le_of_ble_eq_true rfl) dX0_crossedBy_12 (fun r4 S3 => ?_)
  refine z_istore_n (pc := 15) 3 dX0_crossedBy_15 rfl (Nat.le_of_ble_eq_true rfl) rfl ?_
  refine z_aload_n (pc := 16) 0 dX0_crossedBy_16 rfl rfl ?_
  refine gf_X0_C_88_0 hG (pc := 17) dX0_crossedBy_17 ?_
  refine z_iload_n (pc := 20) 1 dX0_crossedBy_20 rfl rfl ?_
  refine z_chk (fun h5 => ?_)
  refine z_iaload (pc := 21) 28 32 (zGC_s28 hG) h5 dX0_crossedBy_21 ?_
  refine z_aload_n (pc := 22) 0 dX0_crossedBy_22 rfl rfl ?_
  refine gf_X0_C_88_0 hG (pc := 23) dX0_crossedBy_23 ?_
  refine z_iload_n (pc := 26) 2 dX0_crossedBy_26 rfl rfl ?_
  refine z_chk (fun h6 => ?_)
  refine z_iaload (pc := 27) 28 32 (zGC_s28 hG) h6 dX0_crossedBy_27 ?_
  refine z_callSi (pc := 28) _ _ (ct_J0_max  _ _) mv_J0_max q832 rfl (Nat.le_of_ble_eq_true rfl) (Nat.le_of_ble_eq_true rfl) rfl rfl (Nat.le_of_ble_eq_true rfl) dX0_crossedBy_28 (fun r8 S7 => ?_)
  refine z_istore (pc := 31) dX0_crossedBy_31 (Nat.le_of_ble_eq_true rfl) rfl ?_
  refine z_iconst (pc := 33) (v := 0) dX0_crossedBy_33 (by decide) ?_
  refine z_istore (pc := 34) dX0_crossedBy_34 (Nat.le_of_ble_eq_true rfl) rfl ?_
  refine z_iconst (pc := 36) (v := 0) dX0_crossedBy_36 (by decide) ?_
  refine z_istore (pc := 37) dX0_crossedBy_37 (Nat.le_of_ble_eq_true rfl) rfl ?_
  refine z_maskk [true, false, false, true, true, true, true, false, false] ?_
  refine z_loopK (fun j : Int32 → Int32 → zSt → Option (Int32 × zSt) => ∀ (x10 : Int32) (x11 : Int32) (S12 : zSt), Zm X mX0_crossedBy zJI G (0, 0) res S12 39 [some (.ref (G.1 0)), none, none, some (.int r4), some (.int r8), some (.int x10), some (.int x11), none, none] [] (j x10 x11 S12)) ?_ ?_ zfuel _ _ _
  · intro x10 x11 S12; exact z_none
  · intro rec9 hrec9 x10 x11 S12
    unfold LB_X0_crossedBy_2
    refine z_iload (pc := 39) dX0_crossedBy_39 rfl ?_
    refine z_aload_n (pc := 41) 0 dX0_crossedBy_41 rfl rfl ?_
    refine gf_X0_C_10_0 hG (pc := 42) dX0_crossedBy_42 ?_
    refine z_callVi (pc := 45) _ _ 1 1 (ct_X1_squares (zGC_T hG)) mv_X1_squares q727 rfl (zGC_s1 hG) rfl (Nat.le_of_ble_eq_true rfl) (Nat.le_of_ble_eq_true rfl) rfl rfl (Nat.le_of_ble_eq_true rfl) dX0_crossedBy_45 (fun r14 S13 => ?_)
    refine z_icmp_ge (pc := 48) 155 dX0_crossedBy_48 rfl ?_ ?_
    · refine z_iload (pc := 155) dX0_crossedBy_155 rfl ?_
      exact z_iret rfl dX0_crossedBy_157 rfl
    · refine z_aload_n (pc := 51) 0 dX0_crossedBy_51 rfl rfl ?_
      refine gf_X0_C_88_0 hG (pc := 52) dX0_crossedBy_52 ?_
      refine z_iload (pc := 55) dX0_crossedBy_55 rfl ?_
      refine z_chk (fun h15 => ?_)
      refine z_iaload (pc := 57) 28 32 (zGC_s28 hG) h15 dX0_crossedBy_57 ?_
      refine z_iload_n (pc := 58) 3 dX0_crossedBy_58 rfl rfl ?_
      refine z_icmp_le (pc := 59) 149 dX0_crossedBy_59 rfl ?_ ?_
      · refine z_iinc (pc := 149) (w := x11 + 1) dX0_crossedBy_149 rfl (by rw [show Int32.ofInt 1 = 1 from by decide]) (Nat.le_of_ble_eq_true rfl) rfl ?_
        refine z_goto (pc := 152) 39 dX0_crossedBy_152 rfl ?_
        exact hrec9 _ _ _
      · refine z_aload_n (pc := 62) 0 dX0_crossedBy_62 rfl rfl ?_
        refine gf_X0_C_88_0 hG (pc := 63) dX0_crossedBy_63 ?_
        refine z_iload (pc := 66) dX0_crossedBy_66 rfl ?_
        refine z_chk (fun h16 => ?_)
        refine z_iaload (pc := 68) 28 32 (zGC_s28 hG) h16 dX0_crossedBy_68 ?_
        refine z_iload (pc := 69) dX0_crossedBy_69 rfl ?_
        refine z_icmp_lt (pc := 71) 77 dX0_crossedBy_71 rfl ?_ ?_
        · refine z_iconst (pc := 77) (v := 0) dX0_crossedBy_77 (by decide) ?_
          refine z_istore (pc := 78) dX0_crossedBy_78 (Nat.le_of_ble_eq_true rfl) rfl ?_
          refine z_loopK (fun j : Int32 → Int32 → zSt → Option (Int32 × zSt) => ∀ (x18 : Int32) (x19 : Int32) (S20 : zSt), Zm X mX0_crossedBy zJI G (0, 0) res S20 80 [some (.ref (G.1 0)), none, none, some (.int r4), some (.int r8), some (.int x18), some (.int x11), some (.int x19), none] [] (j x18 x19 S20)) ?_ ?_ zfuel _ _ _
          · intro x18 x19 S20; exact z_none
          · intro rec17 hrec17 x18 x19 S20
            unfold LB_X0_crossedBy_1
            refine z_iload (pc := 80) dX0_crossedBy_80 rfl ?_
            refine z_aload_n (pc := 82) 0 dX0_crossedBy_82 rfl rfl ?_
            refine gf_X0_C_10_0 hG (pc := 83) dX0_crossedBy_83 ?_
            refine gf_X0_C_158_1 hG (pc := 86) dX0_crossedBy_86 ?_
            refine z_icmp_ge (pc := 89) 149 dX0_crossedBy_89 rfl ?_ ?_
            · refine z_iinc (pc := 149) (w := x11 + 1) dX0_crossedBy_149 rfl (by rw [show Int32.ofInt 1 = 1 from by decide]) (Nat.le_of_ble_eq_true rfl) rfl ?_
              refine z_goto (pc := 152) 39 dX0_crossedBy_152 rfl ?_
              exact z_mask [true, false, false, true, true, true, true, false, false] (hrec9 _ _ _) rfl
            · refine z_aload_n (pc := 92) 0 dX0_crossedBy_92 rfl rfl ?_
              refine gf_X0_C_88_0 hG (pc := 93) dX0_crossedBy_93 ?_
              refine z_iload (pc := 96) dX0_crossedBy_96 rfl ?_
              refine z_iconst (pc := 98) (v := 1) dX0_crossedBy_98 (by decide) ?_
              refine z_iload (pc := 99) dX0_crossedBy_99 rfl ?_
              refine z_ishl (pc := 101) dX0_crossedBy_101 ?_
              refine z_ixor (pc := 102) dX0_crossedBy_102 ?_
              refine z_letI (fun w21 => ?_)
              refine z_chk (fun h22 => ?_)
              refine z_iaload (pc := 103) 28 32 (zGC_s28 hG) h22 dX0_crossedBy_103 ?_
              refine z_letI (fun w23 => ?_)
              refine z_istore (pc := 104) dX0_crossedBy_104 (Nat.le_of_ble_eq_true rfl) rfl ?_
              refine z_iload (pc := 106) dX0_crossedBy_106 rfl ?_
              refine z_aload_n (pc := 108) 0 dX0_crossedBy_108 rfl rfl ?_
              refine gf_X0_C_10_0 hG (pc := 109) dX0_crossedBy_109 ?_
              refine z_iload (pc := 112) dX0_crossedBy_112 rfl ?_
              refine z_iload (pc := 114) dX0_crossedBy_114 rfl ?_
              refine z_callVi (pc := 116) _ _ 1 1 (ct_X1_isOpen (zGC_T hG) _ _) mv_X1_isOpen q728 rfl (zGC_s1 hG) rfl (Nat.le_of_ble_eq_true rfl) (Nat.le_of_ble_eq_true rfl) rfl rfl (Nat.le_of_ble_eq_true rfl) dX0_crossedBy_116 (fun r25 S24 => ?_)
              refine z_pure (st0 := [.int x18]) 140 ((if r25 = 0 then 0 else (if w23 < r4 then 1 else (if w23 ≤ r8 then 0 else 1)))) ?_ (fun hJ => ?_)
              · refine z_iadd (pc := 140) dX0_crossedBy_140 ?_
                refine z_letI (fun w27 => ?_)
                refine z_istore (pc := 141) dX0_crossedBy_141 (Nat.le_of_ble_eq_true rfl) rfl ?_
                refine z_iinc (pc := 143) (w := x19 + 1) dX0_crossedBy_143 rfl (by rw [show Int32.ofInt 1 = 1 from by decide]) (Nat.le_of_ble_eq_true rfl) rfl ?_
                refine z_goto (pc := 146) 80 dX0_crossedBy_146 rfl ?_
                exact z_mask [true, false, false, true, true, true, true, true, false] (hrec17 _ _ _) rfl
              · refine z_ifd_eq (pc := 119) 139 dX0_crossedBy_119 rfl (fun c28 => ?_) (fun c28 => ?_)
                · refine z_iconst (pc := 139) (v := 0) dX0_crossedBy_139 (by decide) ?_
                  exact z_leaf hJ (by simp only [if_pos c28])
                · refine z_iload (pc := 122) dX0_crossedBy_122 rfl ?_
                  refine z_iload_n (pc := 124) 3 dX0_crossedBy_124 rfl rfl ?_
                  refine z_icmpd_lt (pc := 125) 135 dX0_crossedBy_125 rfl (fun c29 => ?_) (fun c29 => ?_)
                  · refine z_iconst (pc := 135) (v := 1) dX0_crossedBy_135 (by decide) ?_
                    refine z_goto (pc := 136) 140 dX0_crossedBy_136 rfl ?_
                    exact z_leaf hJ (by simp only [if_neg c28, if_pos c29])
                  · refine z_iload (pc := 128) dX0_crossedBy_128 rfl ?_
                    refine z_iload (pc := 130) dX0_crossedBy_130 rfl ?_
                    refine z_icmpd_le (pc := 132) 139 dX0_crossedBy_132 rfl (fun c30 => ?_) (fun c30 => ?_)
                    · refine z_iconst (pc := 139) (v := 0) dX0_crossedBy_139 (by decide) ?_
                      exact z_leaf hJ (by simp only [if_neg c28, if_neg c29, if_pos c30])
                    · refine z_iconst (pc := 135) (v := 1) dX0_crossedBy_135 (by decide) ?_
                      refine z_goto (pc := 136) 140 dX0_crossedBy_136 rfl ?_
                      exact z_leaf hJ (by simp only [if_neg c28, if_neg c29, if_neg c30])
        · refine z_goto (pc := 74) 149 dX0_crossedBy_74 rfl ?_
          refine z_iinc (pc := 149) (w := x11 + 1) dX0_crossedBy_149 rfl (by rw [show Int32.ofInt 1 = 1 from by decide]) (Nat.le_of_ble_eq_true rfl) rfl ?_
          refine z_goto (pc := 152) 39 dX0_crossedBy_152 rfl ?_
          exact hrec9 _ _ _
abbrev mX0_crossingsNow : zMr := ("HiddenCube", cX0_crossingsNow, 4, (some .int), 4, 0, 0, none)
def LB_X0_crossingsNow_1 (x6 : Int32) (rec4 : Int32 → Int32 → zSt → Option (Int32 × zSt)) (rec10 : Int32 → Int32 → zSt → Option (Int32 × zSt)) (x11 : Int32) (x12 : Int32) (S13 : zSt) : Option (Int32 × zSt) :=
if (S13.1 1 0) ≤ x12 then (rec4 x11 (x6 + 1) S13) else (zbind (F_X0_has x6 x12 S13) (fun r15 S14 =>
if r15 = 0 then (zbind (F_X1_isOpen 1 x6 x12 S14) (fun r17 S16 =>
if r17 = 0 then (rec10 x11 (x12 + 1) S16) else (zbind (F_X0_crossedBy x6 (x6 ^^^ ((1 : Int32) <<< (x12 &&& 31))) S16) (fun r19 S18 =>
rec10 (x11 + r19) (x12 + 1) S18)))) else (rec10 x11 (x12 + 1) S14)))
def LB_X0_crossingsNow_2 (k1 : Int32 → zSt → Option (Int32 × zSt)) (rec4 : Int32 → Int32 → zSt → Option (Int32 × zSt)) (x5 : Int32) (x6 : Int32) (S7 : zSt) : Option (Int32 × zSt) :=
zbind (F_X1_squares 1 S7) (fun r9 S8 =>
if r9 ≤ x6 then (k1 x5 S8) else (loopK (fun _ _ _ => none) (LB_X0_crossingsNow_1 x6 rec4) zfuel x5 0 S8))
def F_X0_crossingsNow  (S : zSt) : Option (Int32 × zSt) :=
joinK (fun (x2 : Int32) (S3 : zSt) => some (x2 / 2, S3)) (fun k1 : Int32 → zSt → Option (Int32 × zSt) =>
loopK (fun _ _ _ => none) (LB_X0_crossingsNow_2 k1) zfuel 0 0 S)
theorem mv_X0_crossingsNow : ZV mX0_crossingsNow yX0_crossingsNow 0 := ⟨q1162, qs63, q150, q1163, rfl, by decide, by decide, by decide +kernel⟩
theorem ct_X0_crossingsNow {G : zGw} (hG : zGC G)  : Zc mX0_crossingsNow yX0_crossingsNow zJI G [.ref (G.1 0)] (F_X0_crossingsNow) := by
  refine Zc_of [some (.ref (G.1 0)), none, none, none] (by decide) rfl rfl (Nat.le_of_ble_eq_true rfl) rfl (fun X S res => ?_)
  unfold F_X0_crossingsNow
  refine z_iconst (pc := 0) (v := 0) dX0_crossingsNow_0 (by decide) ?_
  refine z_istore_n (pc := 1) 1 dX0_crossingsNow_1 rfl (Nat.le_of_ble_eq_true rfl) rfl ?_
  refine z_iconst (pc := 2) (v := 0) dX0_crossingsNow_2 (by decide) ?_
  refine z_istore_n (pc := 3) 2 dX0_crossingsNow_3 rfl (Nat.le_of_ble_eq_true rfl) rfl ?_
  refine z_join (fun j : Int32 → zSt → Option (Int32 × zSt) => ∀ (x2 : Int32) (S3 : zSt), Zm X mX0_crossingsNow zJI G (0, 0) res S3 76 [none, some (.int x2), none, none] [] (j x2 S3)) ?_ (fun k1 hk1 => ?_)
  · intro x2 S3
    refine z_iload_n (pc := 76) 1 dX0_crossingsNow_76 rfl rfl ?_
    refine z_iconst (pc := 77) (v := 2) dX0_crossingsNow_77 (by decide) ?_
    refine z_idivc (pc := 78) dX0_crossingsNow_78 (by decide) ?_
    exact z_iret rfl dX0_crossingsNow_79 rfl
  · refine z_loopK (fun j : Int32 → Int32 → zSt → Option (Int32 × zSt) => ∀ (x5 : Int32) (x6 : Int32) (S7 : zSt), Zm X mX0_crossingsNow zJI G (0, 0) res S7 4 [some (.ref (G.1 0)), some (.int x5), some (.int x6), none] [] (j x5 x6 S7)) ?_ ?_ zfuel _ _ _
    · intro x5 x6 S7; exact z_none
    · intro rec4 hrec4 x5 x6 S7
      unfold LB_X0_crossingsNow_2
      refine z_iload_n (pc := 4) 2 dX0_crossingsNow_4 rfl rfl ?_
      refine z_aload_n (pc := 5) 0 dX0_crossingsNow_5 rfl rfl ?_
      refine gf_X0_C_10_0 hG (pc := 6) dX0_crossingsNow_6 ?_
      refine z_callVi (pc := 9) _ _ 1 1 (ct_X1_squares (zGC_T hG)) mv_X1_squares q727 rfl (zGC_s1 hG) rfl (Nat.le_of_ble_eq_true rfl) (Nat.le_of_ble_eq_true rfl) rfl rfl (Nat.le_of_ble_eq_true rfl) dX0_crossingsNow_9 (fun r9 S8 => ?_)
      refine z_icmp_ge (pc := 12) 76 dX0_crossingsNow_12 rfl ?_ ?_
      · exact z_mask [false, true, false, false] (hk1 _ _) rfl
      · refine z_iconst (pc := 15) (v := 0) dX0_crossingsNow_15 (by decide) ?_
        refine z_istore_n (pc := 16) 3 dX0_crossingsNow_16 rfl (Nat.le_of_ble_eq_true rfl) rfl ?_
        refine z_loopK (fun j : Int32 → Int32 → zSt → Option (Int32 × zSt) => ∀ (x11 : Int32) (x12 : Int32) (S13 : zSt), Zm X mX0_crossingsNow zJI G (0, 0) res S13 17 [some (.ref (G.1 0)), some (.int x11), some (.int x6), some (.int x12)] [] (j x11 x12 S13)) ?_ ?_ zfuel _ _ _
        · intro x11 x12 S13; exact z_none
        · intro rec10 hrec10 x11 x12 S13
          unfold LB_X0_crossingsNow_1
          refine z_iload_n (pc := 17) 3 dX0_crossingsNow_17 rfl rfl ?_
          refine z_aload_n (pc := 18) 0 dX0_crossingsNow_18 rfl rfl ?_
          refine gf_X0_C_10_0 hG (pc := 19) dX0_crossingsNow_19 ?_
          refine gf_X0_C_158_1 hG (pc := 22) dX0_crossingsNow_22 ?_
          refine z_icmp_ge (pc := 25) 70 dX0_crossingsNow_25 rfl ?_ ?_
          · refine z_iinc (pc := 70) (w := x6 + 1) dX0_crossingsNow_70 rfl (by rw [show Int32.ofInt 1 = 1 from by decide]) (Nat.le_of_ble_eq_true rfl) rfl ?_
            refine z_goto (pc := 73) 4 dX0_crossingsNow_73 rfl ?_
            exact z_mask [true, true, true, false] (hrec4 _ _ _) rfl
          · refine z_iload_n (pc := 28) 2 dX0_crossingsNow_28 rfl rfl ?_
            refine z_iload_n (pc := 29) 3 dX0_crossingsNow_29 rfl rfl ?_
            refine z_callSi (pc := 30) _ _ (ct_X0_has  _ _) mv_X0_has q767 rfl (Nat.le_of_ble_eq_true rfl) (Nat.le_of_ble_eq_true rfl) rfl rfl (Nat.le_of_ble_eq_true rfl) dX0_crossingsNow_30 (fun r15 S14 => ?_)
            refine z_if_ne (pc := 33) 64 dX0_crossingsNow_33 rfl ?_ ?_
            · refine z_iinc (pc := 64) (w := x12 + 1) dX0_crossingsNow_64 rfl (by rw [show Int32.ofInt 1 = 1 from by decide]) (Nat.le_of_ble_eq_true rfl) rfl ?_
              refine z_goto (pc := 67) 17 dX0_crossingsNow_67 rfl ?_
              exact hrec10 _ _ _
            · refine z_aload_n (pc := 36) 0 dX0_crossingsNow_36 rfl rfl ?_
              refine gf_X0_C_10_0 hG (pc := 37) dX0_crossingsNow_37 ?_
              refine z_iload_n (pc := 40) 2 dX0_crossingsNow_40 rfl rfl ?_
              refine z_iload_n (pc := 41) 3 dX0_crossingsNow_41 rfl rfl ?_
              refine z_callVi (pc := 42) _ _ 1 1 (ct_X1_isOpen (zGC_T hG) _ _) mv_X1_isOpen q728 rfl (zGC_s1 hG) rfl (Nat.le_of_ble_eq_true rfl) (Nat.le_of_ble_eq_true rfl) rfl rfl (Nat.le_of_ble_eq_true rfl) dX0_crossingsNow_42 (fun r17 S16 => ?_)
              refine z_if_ne (pc := 45) 51 dX0_crossingsNow_45 rfl ?_ ?_
              · refine z_iload_n (pc := 51) 1 dX0_crossingsNow_51 rfl rfl ?_
                refine z_aload_n (pc := 52) 0 dX0_crossingsNow_52 rfl rfl ?_
                refine z_iload_n (pc := 53) 2 dX0_crossingsNow_53 rfl rfl ?_
                refine z_iload_n (pc := 54) 2 dX0_crossingsNow_54 rfl rfl ?_
                refine z_iconst (pc := 55) (v := 1) dX0_crossingsNow_55 (by decide) ?_
                refine z_iload_n (pc := 56) 3 dX0_crossingsNow_56 rfl rfl ?_
                refine z_ishl (pc := 57) dX0_crossingsNow_57 ?_
                refine z_ixor (pc := 58) dX0_crossingsNow_58 ?_
                refine z_callVi (pc := 59) _ _ 0 0 (ct_X0_crossedBy hG _ _) mv_X0_crossedBy q1164 rfl (zGC_s0 hG) rfl (Nat.le_of_ble_eq_true rfl) (Nat.le_of_ble_eq_true rfl) rfl rfl (Nat.le_of_ble_eq_true rfl) dX0_crossingsNow_59 (fun r19 S18 => ?_)
                refine z_iadd (pc := 62) dX0_crossingsNow_62 ?_
                refine z_istore_n (pc := 63) 1 dX0_crossingsNow_63 rfl (Nat.le_of_ble_eq_true rfl) rfl ?_
                refine z_iinc (pc := 64) (w := x12 + 1) dX0_crossingsNow_64 rfl (by rw [show Int32.ofInt 1 = 1 from by decide]) (Nat.le_of_ble_eq_true rfl) rfl ?_
                refine z_goto (pc := 67) 17 dX0_crossingsNow_67 rfl ?_
                exact hrec10 _ _ _
              · refine z_goto (pc := 48) 64 dX0_crossingsNow_48 rfl ?_
                refine z_iinc (pc := 64) (w := x12 + 1) dX0_crossingsNow_64 rfl (by rw [show Int32.ofInt 1 = 1 from by decide]) (Nat.le_of_ble_eq_true rfl) rfl ?_
                refine z_goto (pc := 67) 17 dX0_crossingsNow_67 rfl ?_
                exact hrec10 _ _ _
abbrev mX0_crossings : zMr := ("HiddenCube", cX0_crossings, 4, (some .int), 171, 1, 8, some [(17, 38, 121, 398), (39, 86, 121, 398), (87, 120, 121, 398)])
def LB_X0_crossings_1 (a1 : Int32) (V : zSV) (k11 : zSt → Option (Int32 × zSt)) (rec15 : Int32 → Int32 → zSt → Option (Int32 × zSt)) (x16 : Int32) (x17 : Int32) (S18 : zSt) : Option (Int32 × zSt) :=
zbind (F_X1_squares 1 S18) (fun r20 S19 =>
if r20 ≤ x17 then (k11 S19) else (chk a1 4 (zbind (F_X4_at V (a1).toNatClampNeg x17 S19) (fun r24 S22 =>
zbind (F_X0_isSquare r24 S22) (fun r26 S25 =>
if r26 = 0 then (some ((-2), S25)) else (zbind (F_X0_squareAt V a1 x17 S25) (fun r28 S27 =>
zbind (F_X0_has x16 r28 S27) (fun r30 S29 =>
if r30 = 0 then (zbind (F_X0_squareAt V a1 x17 S29) (fun r32 S31 =>
zlet (x16 ||| ((1 : Int32) <<< (r32 &&& 31)) : Int32) (fun w33 : Int32 =>
zbind (F_X0_squareAt V a1 x17 S31) (fun r35 S34 =>
chk r35 32 (zlet (sI S34 28 (r35).toNatClampNeg x17 : zSt) (fun S37 : zSt =>
rec15 w33 (x17 + 1) S37)))))) else (some ((-2), S29))))))))))
def F_X0_crossings (V : zSV) (a1 : Int32) (S : zSt) : Option (Int32 × zSt) :=
zbind (F_X0_isSlot a1 S) (fun r2 S1 =>
if r2 = 0 then (some ((-2), S1)) else (zbind (F_X0_isTown S1) (fun r4 S3 =>
if r4 = 0 then (some ((-2), S3)) else (chk a1 4 (zcV (V (a1).toNatClampNeg) (some ((-6), S3)) (zbind (F_X4_size V (a1).toNatClampNeg S3) (fun r8 S6 =>
zbind (F_X1_squares 1 S6) (fun r10 S9 =>
if r8 = r10 then (joinK (fun  (S12 : zSt) => zbind (F_X0_crossingsNow S12) (fun r14 S13 =>
some (r14, S13))) (fun k11 : zSt → Option (Int32 × zSt) =>
loopK (fun _ _ _ => none) (LB_X0_crossings_1 a1 V k11) zfuel 0 0 S9)) else (some ((-7), S9))))))))))
theorem mv_X0_crossings : ZVW mX0_crossings yX0_crossings 1 := ⟨q1157, q1158, q150, q1159, rfl, by decide, by decide, by decide +kernel⟩
theorem ct_X0_crossings {G : zGw} (hG : zGC G) {V : zSV} (hV : zGV G V) (a1 : Int32) : Zc mX0_crossings yX0_crossings zJI G [.ref (G.1 0), .int a1] (F_X0_crossings V a1) := by
  refine Zc_ofW [some (.ref (G.1 0)), some (.int a1), none, none] (by decide) rfl _ rfl (Nat.le_of_ble_eq_true rfl) rfl (fun X S res => ?_)
  unfold F_X0_crossings
  refine z_iload_n (pc := 0) 1 dX0_crossings_0 rfl rfl ?_
  refine z_callSi (pc := 1) _ _ (ct_X0_isSlot  _) mv_X0_isSlot q1121 rfl (Nat.le_of_ble_eq_true rfl) (Nat.le_of_ble_eq_true rfl) rfl rfl (Nat.le_of_ble_eq_true rfl) dX0_crossings_1 (fun r2 S1 => ?_)
  refine z_if_eq (pc := 4) 14 dX0_crossings_4 rfl ?_ ?_
  · refine z_bipush (pc := 14) (v := (-2)) dX0_crossings_14 (by decide) ?_
    exact z_iret rfl dX0_crossings_16 rfl
  · refine z_aload_n (pc := 7) 0 dX0_crossings_7 rfl rfl ?_
    refine z_callVi (pc := 8) _ _ 0 0 (ct_X0_isTown hG) mv_X0_isTown q827 rfl (zGC_s0 hG) rfl (Nat.le_of_ble_eq_true rfl) (Nat.le_of_ble_eq_true rfl) rfl rfl (Nat.le_of_ble_eq_true rfl) dX0_crossings_8 (fun r4 S3 => ?_)
    refine z_if_ne (pc := 11) 17 dX0_crossings_11 rfl ?_ ?_
    · refine z_aload_n (pc := 17) 0 dX0_crossings_17 rfl rfl ?_
      refine gf_X0_C_118_0 hG (pc := 18) dX0_crossings_18 ?_
      refine z_iload_n (pc := 21) 1 dX0_crossings_21 rfl rfl ?_
      refine z_chk (fun h5 => ?_)
      refine z_aaloadV (pc := 22) hG hV h5 dX0_crossings_22 ?_
      refine z_zcV (fun hq7 => (by refine z_callVt (pc := 23) _ _ (40 + (a1).toNatClampNeg) 4 (cx_X4_size hV (Nat.not_le.mp fun q => h5 (Or.inr q)) hq7) rfl mv_X4_sizeT q1124 rfl (hV _ (Nat.not_le.mp fun q => h5 (Or.inr q))).1 rfl (Nat.le_of_ble_eq_true rfl) (Nat.le_of_ble_eq_true rfl) rfl (Nat.le_of_ble_eq_true rfl) (Nat.le_of_ble_eq_true rfl) (Nat.le_of_ble_eq_true rfl) dX0_crossings_23 "java/lang/NullPointerException" [] ⟨17, 38, 121, 398⟩ [⟨39, 86, 121, 398⟩, ⟨87, 120, 121, 398⟩] rfl (by intro z hz; cases hz) rfl (by decide) q1094 (by decide) (fun q9 => ?_); refine z_astore_n (pc := 121) 2 dX0_crossings_121 rfl (Nat.le_of_ble_eq_true rfl) rfl ?_; refine z_bipush (pc := 122) (v := (-6)) dX0_crossings_122 (by decide) ?_; exact z_iret rfl dX0_crossings_124 rfl)) (fun q8 hq7 => ?_)
      refine z_callVi (pc := 23) _ _ (40 + (a1).toNatClampNeg) 4 (ct_X4_size hV (Nat.not_le.mp fun q => h5 (Or.inr q))) mv_X4_size q1124 rfl (hV _ (Nat.not_le.mp fun q => h5 (Or.inr q))).1 rfl (Nat.le_of_ble_eq_true rfl) (Nat.le_of_ble_eq_true rfl) rfl rfl (Nat.le_of_ble_eq_true rfl) dX0_crossings_23 (fun r8 S6 => ?_)
      refine z_aload_n (pc := 26) 0 dX0_crossings_26 rfl rfl ?_
      refine gf_X0_C_10_0 hG (pc := 27) dX0_crossings_27 ?_
      refine z_callVi (pc := 30) _ _ 1 1 (ct_X1_squares (zGC_T hG)) mv_X1_squares q727 rfl (zGC_s1 hG) rfl (Nat.le_of_ble_eq_true rfl) (Nat.le_of_ble_eq_true rfl) rfl rfl (Nat.le_of_ble_eq_true rfl) dX0_crossings_30 (fun r10 S9 => ?_)
      refine z_icmp_eq (pc := 33) 39 dX0_crossings_33 rfl ?_ ?_
      · refine z_iconst (pc := 39) (v := 0) dX0_crossings_39 (by decide) ?_
        refine z_istore_n (pc := 40) 2 dX0_crossings_40 rfl (Nat.le_of_ble_eq_true rfl) rfl ?_
        refine z_iconst (pc := 41) (v := 0) dX0_crossings_41 (by decide) ?_
        refine z_istore_n (pc := 42) 3 dX0_crossings_42 rfl (Nat.le_of_ble_eq_true rfl) rfl ?_
        refine z_join (fun j : zSt → Option (Int32 × zSt) => ∀  (S12 : zSt), Zm X mX0_crossings zJI G (0, 0) res S12 116 [some (.ref (G.1 0)), none, none, none] [] (j S12)) ?_ (fun k11 hk11 => ?_)
        · intro S12
          refine z_aload_n (pc := 116) 0 dX0_crossings_116 rfl rfl ?_
          refine z_callVi (pc := 117) _ _ 0 0 (ct_X0_crossingsNow hG) mv_X0_crossingsNow q1160 rfl (zGC_s0 hG) rfl (Nat.le_of_ble_eq_true rfl) (Nat.le_of_ble_eq_true rfl) rfl rfl (Nat.le_of_ble_eq_true rfl) dX0_crossings_117 (fun r14 S13 => ?_)
          exact z_iret rfl dX0_crossings_120 rfl
        · refine z_loopK (fun j : Int32 → Int32 → zSt → Option (Int32 × zSt) => ∀ (x16 : Int32) (x17 : Int32) (S18 : zSt), Zm X mX0_crossings zJI G (0, 0) res S18 43 [some (.ref (G.1 0)), some (.int a1), some (.int x16), some (.int x17)] [] (j x16 x17 S18)) ?_ ?_ zfuel _ _ _
          · intro x16 x17 S18; exact z_none
          · intro rec15 hrec15 x16 x17 S18
            unfold LB_X0_crossings_1
            refine z_iload_n (pc := 43) 3 dX0_crossings_43 rfl rfl ?_
            refine z_aload_n (pc := 44) 0 dX0_crossings_44 rfl rfl ?_
            refine gf_X0_C_10_0 hG (pc := 45) dX0_crossings_45 ?_
            refine z_callVi (pc := 48) _ _ 1 1 (ct_X1_squares (zGC_T hG)) mv_X1_squares q727 rfl (zGC_s1 hG) rfl (Nat.le_of_ble_eq_true rfl) (Nat.le_of_ble_eq_true rfl) rfl rfl (Nat.le_of_ble_eq_true rfl) dX0_crossings_48 (fun r20 S19 => ?_)
            refine z_icmp_ge (pc := 51) 116 dX0_crossings_51 rfl ?_ ?_
            · exact z_mask [true, false, false, false] (hk11 _) rfl
            · refine z_aload_n (pc := 54) 0 dX0_crossings_54 rfl rfl ?_
              refine z_aload_n (pc := 55) 0 dX0_crossings_55 rfl rfl ?_
              refine gf_X0_C_118_0 hG (pc := 56) dX0_crossings_56 ?_
              refine z_iload_n (pc := 59) 1 dX0_crossings_59 rfl rfl ?_
              refine z_chk (fun h21 => ?_)
              refine z_aaloadV (pc := 60) hG hV h21 dX0_crossings_60 ?_
              refine z_iload_n (pc := 61) 3 dX0_crossings_61 rfl rfl ?_
              refine z_callVl (pc := 62) _ _ (40 + (a1).toNatClampNeg) 4 (ct_X4_at hV (Nat.not_le.mp fun q => h21 (Or.inr q)) _) mv_X4_at q1132 rfl (hV _ (Nat.not_le.mp fun q => h21 (Or.inr q))).1 rfl (Nat.le_of_ble_eq_true rfl) (Nat.le_of_ble_eq_true rfl) rfl rfl (Nat.le_of_ble_eq_true rfl) dX0_crossings_62 (fun r24 S22 => ?_)
              refine z_callVi (pc := 65) _ _ 0 0 (ct_X0_isSquare hG _) mv_X0_isSquare q723 rfl (zGC_s0 hG) rfl (Nat.le_of_ble_eq_true rfl) (Nat.le_of_ble_eq_true rfl) rfl rfl (Nat.le_of_ble_eq_true rfl) dX0_crossings_65 (fun r26 S25 => ?_)
              refine z_if_eq (pc := 68) 84 dX0_crossings_68 rfl ?_ ?_
              · refine z_bipush (pc := 84) (v := (-2)) dX0_crossings_84 (by decide) ?_
                exact z_iret rfl dX0_crossings_86 rfl
              · refine z_iload_n (pc := 71) 2 dX0_crossings_71 rfl rfl ?_
                refine z_aload_n (pc := 72) 0 dX0_crossings_72 rfl rfl ?_
                refine z_iload_n (pc := 73) 1 dX0_crossings_73 rfl rfl ?_
                refine z_iload_n (pc := 74) 3 dX0_crossings_74 rfl rfl ?_
                refine z_callVi (pc := 75) _ _ 0 0 (ct_X0_squareAt hG hV _ _) mv_X0_squareAt q1136 rfl (zGC_s0 hG) rfl (Nat.le_of_ble_eq_true rfl) (Nat.le_of_ble_eq_true rfl) rfl rfl (Nat.le_of_ble_eq_true rfl) dX0_crossings_75 (fun r28 S27 => ?_)
                refine z_callSi (pc := 78) _ _ (ct_X0_has  _ _) mv_X0_has q767 rfl (Nat.le_of_ble_eq_true rfl) (Nat.le_of_ble_eq_true rfl) rfl rfl (Nat.le_of_ble_eq_true rfl) dX0_crossings_78 (fun r30 S29 => ?_)
                refine z_if_eq (pc := 81) 87 dX0_crossings_81 rfl ?_ ?_
                · refine z_iload_n (pc := 87) 2 dX0_crossings_87 rfl rfl ?_
                  refine z_iconst (pc := 88) (v := 1) dX0_crossings_88 (by decide) ?_
                  refine z_aload_n (pc := 89) 0 dX0_crossings_89 rfl rfl ?_
                  refine z_iload_n (pc := 90) 1 dX0_crossings_90 rfl rfl ?_
                  refine z_iload_n (pc := 91) 3 dX0_crossings_91 rfl rfl ?_
                  refine z_callVi (pc := 92) _ _ 0 0 (ct_X0_squareAt hG hV _ _) mv_X0_squareAt q1136 rfl (zGC_s0 hG) rfl (Nat.le_of_ble_eq_true rfl) (Nat.le_of_ble_eq_true rfl) rfl rfl (Nat.le_of_ble_eq_true rfl) dX0_crossings_92 (fun r32 S31 => ?_)
                  refine z_ishl (pc := 95) dX0_crossings_95 ?_
                  refine z_ior (pc := 96) dX0_crossings_96 ?_
                  refine z_letI (fun w33 => ?_)
                  refine z_istore_n (pc := 97) 2 dX0_crossings_97 rfl (Nat.le_of_ble_eq_true rfl) rfl ?_
                  refine z_aload_n (pc := 98) 0 dX0_crossings_98 rfl rfl ?_
                  refine gf_X0_C_88_0 hG (pc := 99) dX0_crossings_99 ?_
                  refine z_aload_n (pc := 102) 0 dX0_crossings_102 rfl rfl ?_
                  refine z_iload_n (pc := 103) 1 dX0_crossings_103 rfl rfl ?_
                  refine z_iload_n (pc := 104) 3 dX0_crossings_104 rfl rfl ?_
                  refine z_callVi (pc := 105) _ _ 0 0 (ct_X0_squareAt hG hV _ _) mv_X0_squareAt q1136 rfl (zGC_s0 hG) rfl (Nat.le_of_ble_eq_true rfl) (Nat.le_of_ble_eq_true rfl) rfl rfl (Nat.le_of_ble_eq_true rfl) dX0_crossings_105 (fun r35 S34 => ?_)
                  refine z_iload_n (pc := 108) 3 dX0_crossings_108 rfl rfl ?_
                  refine z_chk (fun h36 => ?_)
                  refine z_iastore (pc := 109) 28 32 (zGC_s28 hG) h36 dX0_crossings_109 ?_
                  refine z_letS (fun S37 => ?_)
                  refine z_iinc (pc := 110) (w := x17 + 1) dX0_crossings_110 rfl (by rw [show Int32.ofInt 1 = 1 from by decide]) (Nat.le_of_ble_eq_true rfl) rfl ?_
                  refine z_goto (pc := 113) 43 dX0_crossings_113 rfl ?_
                  exact hrec15 _ _ _
                · refine z_bipush (pc := 84) (v := (-2)) dX0_crossings_84 (by decide) ?_
                  exact z_iret rfl dX0_crossings_86 rfl
      · refine z_bipush (pc := 36) (v := (-7)) dX0_crossings_36 (by decide) ?_
        exact z_iret rfl dX0_crossings_38 rfl
    · refine z_bipush (pc := 14) (v := (-2)) dX0_crossings_14 (by decide) ?_
      exact z_iret rfl dX0_crossings_16 rfl
abbrev mX0_trades : zMr := ("HiddenCube", cX0_trades, 4, none, 1, 0, 0, none)
def F_X0_trades (a1 : Int32) (a2 : Int32) (S : zSt) : Option (Unit × zSt) :=
chk a1 32 (zlet (S.1 29 (a1).toNatClampNeg : Int32) (fun w2 : Int32 =>
chk a2 32 (chk a1 32 (zlet (sI S 29 (a1).toNatClampNeg (S.1 29 (a2).toNatClampNeg) : zSt) (fun S5 : zSt =>
chk a2 32 (zlet (sI S5 29 (a2).toNatClampNeg w2 : zSt) (fun S7 : zSt =>
some ((), S7))))))))
theorem mv_X0_trades : ZV mX0_trades yX0_trades 2 := ⟨q1178, qs66, q150, q1179, rfl, by decide, by decide, by decide +kernel⟩
theorem ct_X0_trades {G : zGw} (hG : zGC G) (a1 : Int32) (a2 : Int32) : Zc mX0_trades yX0_trades zJV G [.ref (G.1 0), .int a1, .int a2] (F_X0_trades a1 a2) := by
  refine Zc_of [some (.ref (G.1 0)), some (.int a1), some (.int a2), none] (by decide) rfl rfl (Nat.le_of_ble_eq_true rfl) rfl (fun X S res => ?_)
  unfold F_X0_trades
  refine z_aload_n (pc := 0) 0 dX0_trades_0 rfl rfl ?_
  refine gf_X0_C_91_0 hG (pc := 1) dX0_trades_1 ?_
  refine z_iload_n (pc := 4) 1 dX0_trades_4 rfl rfl ?_
  refine z_chk (fun h1 => ?_)
  refine z_iaload (pc := 5) 29 32 (zGC_s29 hG) h1 dX0_trades_5 ?_
  refine z_letI (fun w2 => ?_)
  refine z_istore_n (pc := 6) 3 dX0_trades_6 rfl (Nat.le_of_ble_eq_true rfl) rfl ?_
  refine z_aload_n (pc := 7) 0 dX0_trades_7 rfl rfl ?_
  refine gf_X0_C_91_0 hG (pc := 8) dX0_trades_8 ?_
  refine z_iload_n (pc := 11) 1 dX0_trades_11 rfl rfl ?_
  refine z_aload_n (pc := 12) 0 dX0_trades_12 rfl rfl ?_
  refine gf_X0_C_91_0 hG (pc := 13) dX0_trades_13 ?_
  refine z_iload_n (pc := 16) 2 dX0_trades_16 rfl rfl ?_
  refine z_chk (fun h3 => ?_)
  refine z_iaload (pc := 17) 29 32 (zGC_s29 hG) h3 dX0_trades_17 ?_
  refine z_chk (fun h4 => ?_)
  refine z_iastore (pc := 18) 29 32 (zGC_s29 hG) h4 dX0_trades_18 ?_
  refine z_letS (fun S5 => ?_)
  refine z_aload_n (pc := 19) 0 dX0_trades_19 rfl rfl ?_
  refine gf_X0_C_91_0 hG (pc := 20) dX0_trades_20 ?_
  refine z_iload_n (pc := 23) 2 dX0_trades_23 rfl rfl ?_
  refine z_iload_n (pc := 24) 3 dX0_trades_24 rfl rfl ?_
  refine z_chk (fun h6 => ?_)
  refine z_iastore (pc := 25) 29 32 (zGC_s29 hG) h6 dX0_trades_25 ?_
  refine z_letS (fun S7 => ?_)
  exact z_vret rfl dX0_trades_26 rfl
