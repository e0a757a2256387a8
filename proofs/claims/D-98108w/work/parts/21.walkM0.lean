/-! WALKS (written by gen/mkparts.py) -/
set_option maxRecDepth 100000
abbrev mX5_in : zMr := ("HiddenCubeModel", cX5_in, 6, (some .boolean), 1, 0, 0, none)
def F_X5_in (a1 : Int64) (a2 : Int64) (a3 : Int64) (S : zSt) : Option (Int32 × zSt) :=
if (lg_cmp a1 a2) < 0 then (some (0, S)) else (if 0 < (lg_cmp a1 a3) then (some (0, S)) else (some (1, S)))
theorem mv_X5_in : ZS mX5_in yX5_in 3 := ⟨q1579, q155, q1580, by decide, by decide, by decide +kernel⟩
theorem ct_X5_in {G : zGw} (a1 : Int64) (a2 : Int64) (a3 : Int64) : Zc mX5_in yX5_in zJI G [.long a1, .long a2, .long a3] (F_X5_in a1 a2 a3) := by
  refine Zc_of [some (.long a1), none, some (.long a2), none, some (.long a3), none] (by decide) rfl rfl (Nat.le_of_ble_eq_true rfl) rfl (fun X S res => ?_)
  unfold F_X5_in
  refine z_lload_n (pc := 0) 0 dX5_in_0 rfl rfl ?_
  refine z_lload_n (pc := 1) 2 dX5_in_1 rfl rfl ?_
  refine z_lcmp (pc := 2) dX5_in_2 ?_
  refine z_if_lt (pc := 3) 17 dX5_in_3 rfl ?_ ?_
  · refine z_iconst (pc := 17) (v := 0) dX5_in_17 (by decide) ?_
    exact z_zret0 rfl dX5_in_18 rfl
  · refine z_lload_n (pc := 6) 0 dX5_in_6 rfl rfl ?_
    refine z_lload (pc := 7) dX5_in_7 rfl ?_
    refine z_lcmp (pc := 9) dX5_in_9 ?_
    refine z_if_gt (pc := 10) 17 dX5_in_10 rfl ?_ ?_
    · refine z_iconst (pc := 17) (v := 0) dX5_in_17 (by decide) ?_
      exact z_zret0 rfl dX5_in_18 rfl
    · refine z_iconst (pc := 13) (v := 1) dX5_in_13 (by decide) ?_
      refine z_goto (pc := 14) 18 dX5_in_14 rfl ?_
      exact z_zret1 rfl dX5_in_18 rfl
abbrev mX5_isSlot : zMr := ("HiddenCubeModel", cX5_isSlot, 1, (some .boolean), 2, 0, 0, none)
def F_X5_isSlot (a1 : Int32) (S : zSt) : Option (Int32 × zSt) :=
zbind (F_X5_in ((a1).toInt64) 0 3 S) (fun r2 S1 =>
some (r2 &&& 1, S1))
theorem mv_X5_isSlot : ZS mX5_isSlot yX5_isSlot 1 := ⟨q1575, q155, q1576, by decide, by decide, by decide +kernel⟩
theorem ct_X5_isSlot {G : zGw} (a1 : Int32) : Zc mX5_isSlot yX5_isSlot zJI G [.int a1] (F_X5_isSlot a1) := by
  refine Zc_of [some (.int a1)] (by decide) rfl rfl (Nat.le_of_ble_eq_true rfl) rfl (fun X S res => ?_)
  unfold F_X5_isSlot
  refine z_iload_n (pc := 0) 0 dX5_isSlot_0 rfl rfl ?_
  refine z_i2l (pc := 1) dX5_isSlot_1 ?_
  refine z_lconst (pc := 2) (v := 0) dX5_isSlot_2 (by decide) ?_
  refine z_ldc2 (pc := 3) (v := 3) dX5_isSlot_3 q1577 ?_
  refine z_callSi (pc := 6) _ _ (ct_X5_in  _ _ _) mv_X5_in q1578 rfl (Nat.le_of_ble_eq_true rfl) (Nat.le_of_ble_eq_true rfl) rfl rfl (Nat.le_of_ble_eq_true rfl) dX5_isSlot_6 (fun r2 S1 => ?_)
  exact z_zret rfl rfl dX5_isSlot_9 rfl
abbrev mX5_row : zMr := ("HiddenCubeModel", cX5_row, 5, (some .int), 3, 0, 0, none)
def LB_X5_row_1 (a1 : Int32) (a3 : Int32) (rec10 : Int32 → zSt → Option (Int32 × zSt)) (x11 : Int32) (S12 : zSt) : Option (Int32 × zSt) :=
if a3 ≤ x11 then (some (0, S12)) else (zlet ((60 * a1) + x11 : Int32) (fun w13 : Int32 =>
chk w13 240 (zlet (sL S12 4 (w13).toNatClampNeg 0 : zSt) (fun S15 : zSt =>
rec10 (x11 + 1) S15))))
def F_X5_row (a1 : Int32) (a2 : Int32) (a3 : Int32) (S : zSt) : Option (Int32 × zSt) :=
zlet (sI S 0 0 0 : zSt) (fun S1 : zSt =>
zbind (F_X5_isSlot a1 S1) (fun r3 S2 =>
if r3 = 0 then (some ((-2), S2)) else (zbind (F_X5_in ((a2).toInt64) 0 3 S2) (fun r5 S4 =>
if r5 = 0 then (some ((-2), S4)) else (if a3 ≤ 60 then (if 0 ≤ a3 then (chk a1 4 (zlet (sI S4 2 (a1).toNatClampNeg a2 : zSt) (fun S7 : zSt =>
chk a1 4 (zlet (sI S7 3 (a1).toNatClampNeg a3 : zSt) (fun S9 : zSt =>
loopK (fun _ _ => none) (LB_X5_row_1 a1 a3) zfuel 0 S9))))) else (some ((-3), S4))) else (some ((-2), S4)))))))
theorem mv_X5_row : ZV mX5_row yX5_row 3 := ⟨q1571, q1572, q155, q1573, rfl, by decide, by decide, by decide +kernel⟩
theorem ct_X5_row {G : zGw} (hG : zGM G) (a1 : Int32) (a2 : Int32) (a3 : Int32) : Zc mX5_row yX5_row zJI G [.ref (G.1 0), .int a1, .int a2, .int a3] (F_X5_row a1 a2 a3) := by
  refine Zc_of [some (.ref (G.1 0)), some (.int a1), some (.int a2), some (.int a3), none] (by decide) rfl rfl (Nat.le_of_ble_eq_true rfl) rfl (fun X S res => ?_)
  unfold F_X5_row
  refine z_aload_n (pc := 0) 0 dX5_row_0 rfl rfl ?_
  refine z_iconst (pc := 1) (v := 0) dX5_row_1 (by decide) ?_
  refine pf_X5_M_131_0 hG (pc := 2) dX5_row_2 ?_
  refine z_letS (fun S1 => ?_)
  refine z_iload_n (pc := 5) 1 dX5_row_5 rfl rfl ?_
  refine z_callSi (pc := 6) _ _ (ct_X5_isSlot  _) mv_X5_isSlot q1574 rfl (Nat.le_of_ble_eq_true rfl) (Nat.le_of_ble_eq_true rfl) rfl rfl (Nat.le_of_ble_eq_true rfl) dX5_row_6 (fun r3 S2 => ?_)
  refine z_if_eq (pc := 9) 30 dX5_row_9 rfl ?_ ?_
  · refine z_bipush (pc := 30) (v := (-2)) dX5_row_30 (by decide) ?_
    exact z_iret rfl dX5_row_32 rfl
  · refine z_iload_n (pc := 12) 2 dX5_row_12 rfl rfl ?_
    refine z_i2l (pc := 13) dX5_row_13 ?_
    refine z_lconst (pc := 14) (v := 0) dX5_row_14 (by decide) ?_
    refine z_ldc2 (pc := 15) (v := 3) dX5_row_15 q1577 ?_
    refine z_callSi (pc := 18) _ _ (ct_X5_in  _ _ _) mv_X5_in q1578 rfl (Nat.le_of_ble_eq_true rfl) (Nat.le_of_ble_eq_true rfl) rfl rfl (Nat.le_of_ble_eq_true rfl) dX5_row_18 (fun r5 S4 => ?_)
    refine z_if_eq (pc := 21) 30 dX5_row_21 rfl ?_ ?_
    · refine z_bipush (pc := 30) (v := (-2)) dX5_row_30 (by decide) ?_
      exact z_iret rfl dX5_row_32 rfl
    · refine z_iload_n (pc := 24) 3 dX5_row_24 rfl rfl ?_
      refine z_bipush (pc := 25) (v := 60) dX5_row_25 (by decide) ?_
      refine z_icmp_le (pc := 27) 33 dX5_row_27 rfl ?_ ?_
      · refine z_iload_n (pc := 33) 3 dX5_row_33 rfl rfl ?_
        refine z_if_ge (pc := 34) 40 dX5_row_34 rfl ?_ ?_
        · refine z_aload_n (pc := 40) 0 dX5_row_40 rfl rfl ?_
          refine gf_X5_M_7_0 hG (pc := 41) dX5_row_41 ?_
          refine z_iload_n (pc := 44) 1 dX5_row_44 rfl rfl ?_
          refine z_iload_n (pc := 45) 2 dX5_row_45 rfl rfl ?_
          refine z_chk (fun h6 => ?_)
          refine z_iastore (pc := 46) 2 4 (zGM_s2 hG) h6 dX5_row_46 ?_
          refine z_letS (fun S7 => ?_)
          refine z_aload_n (pc := 47) 0 dX5_row_47 rfl rfl ?_
          refine gf_X5_M_13_0 hG (pc := 48) dX5_row_48 ?_
          refine z_iload_n (pc := 51) 1 dX5_row_51 rfl rfl ?_
          refine z_iload_n (pc := 52) 3 dX5_row_52 rfl rfl ?_
          refine z_chk (fun h8 => ?_)
          refine z_iastore (pc := 53) 3 4 (zGM_s3 hG) h8 dX5_row_53 ?_
          refine z_letS (fun S9 => ?_)
          refine z_iconst (pc := 54) (v := 0) dX5_row_54 (by decide) ?_
          refine z_istore (pc := 55) dX5_row_55 (Nat.le_of_ble_eq_true rfl) rfl ?_
          refine z_maskk [true, true, false, true, true] ?_
          refine z_loopK (fun j : Int32 → zSt → Option (Int32 × zSt) => ∀ (x11 : Int32) (S12 : zSt), Zm X mX5_row zJI G (0, 0) res S12 57 [some (.ref (G.1 0)), some (.int a1), none, some (.int a3), some (.int x11)] [] (j x11 S12)) ?_ ?_ zfuel _ _
          · intro x11 S12; exact z_none
          · intro rec10 hrec10 x11 S12
            unfold LB_X5_row_1
            refine z_iload (pc := 57) dX5_row_57 rfl ?_
            refine z_iload_n (pc := 59) 3 dX5_row_59 rfl rfl ?_
            refine z_icmp_ge (pc := 60) 82 dX5_row_60 rfl ?_ ?_
            · refine z_iconst (pc := 82) (v := 0) dX5_row_82 (by decide) ?_
              exact z_iret rfl dX5_row_83 rfl
            · refine z_aload_n (pc := 63) 0 dX5_row_63 rfl rfl ?_
              refine gf_X5_M_16_0 hG (pc := 64) dX5_row_64 ?_
              refine z_bipush (pc := 67) (v := 60) dX5_row_67 (by decide) ?_
              refine z_iload_n (pc := 69) 1 dX5_row_69 rfl rfl ?_
              refine z_imul (pc := 70) dX5_row_70 ?_
              refine z_iload (pc := 71) dX5_row_71 rfl ?_
              refine z_iadd (pc := 73) dX5_row_73 ?_
              refine z_lconst (pc := 74) (v := 0) dX5_row_74 (by decide) ?_
              refine z_letI2 (fun w13 => ?_)
              refine z_chk (fun h14 => ?_)
              refine z_lastore (pc := 75) 4 240 (zGM_s4 hG) h14 dX5_row_75 ?_
              refine z_letS (fun S15 => ?_)
              refine z_iinc (pc := 76) (w := x11 + 1) dX5_row_76 rfl (by rw [show Int32.ofInt 1 = 1 from by decide]) (Nat.le_of_ble_eq_true rfl) rfl ?_
              refine z_goto (pc := 79) 57 dX5_row_79 rfl ?_
              exact hrec10 _ _
        · refine z_bipush (pc := 37) (v := (-3)) dX5_row_37 (by decide) ?_
          exact z_iret rfl dX5_row_39 rfl
      · refine z_bipush (pc := 30) (v := (-2)) dX5_row_30 (by decide) ?_
        exact z_iret rfl dX5_row_32 rfl
abbrev mX5_cut : zMr := ("HiddenCubeModel", cX5_cut, 3, (some .long), 1, 0, 0, none)
def F_X5_cut (a1 : Int64) (a2 : Int32) (S : zSt) : Option (Int64 × zSt) :=
if a2 = 0 then (some ((((a1).toInt32).toInt8.toInt32).toInt64, S)) else (if a2 = 1 then (some ((((a1).toInt32).toInt16.toInt32).toInt64, S)) else (if a2 = 2 then (some (((a1).toInt32).toInt64, S)) else (some (a1, S))))
theorem mv_X5_cut : ZS mX5_cut yX5_cut 2 := ⟨q1586, q155, q1587, by decide, by decide, by decide +kernel⟩
theorem ct_X5_cut {G : zGw} (a1 : Int64) (a2 : Int32) : Zc mX5_cut yX5_cut zJL G [.long a1, .int a2] (F_X5_cut a1 a2) := by
  refine Zc_of [some (.long a1), none, some (.int a2)] (by decide) rfl rfl (Nat.le_of_ble_eq_true rfl) rfl (fun X S res => ?_)
  unfold F_X5_cut
  refine z_iload_n (pc := 0) 2 dX5_cut_0 rfl rfl ?_
  refine z_if_ne (pc := 1) 11 dX5_cut_1 rfl ?_ ?_
  · refine z_iload_n (pc := 11) 2 dX5_cut_11 rfl rfl ?_
    refine z_iconst (pc := 12) (v := 1) dX5_cut_12 (by decide) ?_
    refine z_icmp_ne (pc := 13) 23 dX5_cut_13 rfl ?_ ?_
    · refine z_iload_n (pc := 23) 2 dX5_cut_23 rfl rfl ?_
      refine z_iconst (pc := 24) (v := 2) dX5_cut_24 (by decide) ?_
      refine z_icmp_ne (pc := 25) 34 dX5_cut_25 rfl ?_ ?_
      · refine z_lload_n (pc := 34) 0 dX5_cut_34 rfl rfl ?_
        exact z_lret rfl dX5_cut_35 rfl
      · refine z_lload_n (pc := 28) 0 dX5_cut_28 rfl rfl ?_
        refine z_l2i (pc := 29) dX5_cut_29 ?_
        refine z_i2l (pc := 30) dX5_cut_30 ?_
        refine z_goto (pc := 31) 35 dX5_cut_31 rfl ?_
        exact z_lret rfl dX5_cut_35 rfl
    · refine z_lload_n (pc := 16) 0 dX5_cut_16 rfl rfl ?_
      refine z_l2i (pc := 17) dX5_cut_17 ?_
      refine z_i2s (pc := 18) dX5_cut_18 ?_
      refine z_i2l (pc := 19) dX5_cut_19 ?_
      refine z_goto (pc := 20) 35 dX5_cut_20 rfl ?_
      exact z_lret rfl dX5_cut_35 rfl
  · refine z_lload_n (pc := 4) 0 dX5_cut_4 rfl rfl ?_
    refine z_l2i (pc := 5) dX5_cut_5 ?_
    refine z_i2b (pc := 6) dX5_cut_6 ?_
    refine z_i2l (pc := 7) dX5_cut_7 ?_
    refine z_goto (pc := 8) 35 dX5_cut_8 rfl ?_
    exact z_lret rfl dX5_cut_35 rfl
abbrev mX5_write : zMr := ("HiddenCubeModel", cX5_write, 5, (some .int), 3, 0, 0, none)
def F_X5_write (a1 : Int32) (a2 : Int32) (a3 : Int64) (S : zSt) : Option (Int32 × zSt) :=
zlet (sI S 0 0 0 : zSt) (fun S1 : zSt =>
zbind (F_X5_isSlot a1 S1) (fun r3 S2 =>
if r3 = 0 then (some ((-2), S2)) else (chk a1 4 (if (S2.1 2 (a1).toNatClampNeg) = (-1) then (some ((-6), S2)) else (chk a1 4 (zbind (F_X5_in ((a2).toInt64) 0 (((S2.1 3 (a1).toNatClampNeg) - 1).toInt64) S2) (fun r7 S6 =>
if r7 = 0 then (some ((-7), S6)) else (chk a1 4 (zbind (F_X5_cut a3 (S6.1 2 (a1).toNatClampNeg) S6) (fun r10 S9 =>
zlet ((60 * a1) + a2 : Int32) (fun w11 : Int32 =>
chk w11 240 (zlet (sL S9 4 (w11).toNatClampNeg r10 : zSt) (fun S13 : zSt =>
some (0, S13))))))))))))))
theorem mv_X5_write : ZV mX5_write yX5_write 3 := ⟨q1582, q1583, q155, q1584, rfl, by decide, by decide, by decide +kernel⟩
theorem ct_X5_write {G : zGw} (hG : zGM G) (a1 : Int32) (a2 : Int32) (a3 : Int64) : Zc mX5_write yX5_write zJI G [.ref (G.1 0), .int a1, .int a2, .long a3] (F_X5_write a1 a2 a3) := by
  refine Zc_of [some (.ref (G.1 0)), some (.int a1), some (.int a2), some (.long a3), none] (by decide) rfl rfl (Nat.le_of_ble_eq_true rfl) rfl (fun X S res => ?_)
  unfold F_X5_write
  refine z_aload_n (pc := 0) 0 dX5_write_0 rfl rfl ?_
  refine z_iconst (pc := 1) (v := 0) dX5_write_1 (by decide) ?_
  refine pf_X5_M_131_0 hG (pc := 2) dX5_write_2 ?_
  refine z_letS (fun S1 => ?_)
  refine z_iload_n (pc := 5) 1 dX5_write_5 rfl rfl ?_
  refine z_callSi (pc := 6) _ _ (ct_X5_isSlot  _) mv_X5_isSlot q1574 rfl (Nat.le_of_ble_eq_true rfl) (Nat.le_of_ble_eq_true rfl) rfl rfl (Nat.le_of_ble_eq_true rfl) dX5_write_6 (fun r3 S2 => ?_)
  refine z_if_ne (pc := 9) 15 dX5_write_9 rfl ?_ ?_
  · refine z_aload_n (pc := 15) 0 dX5_write_15 rfl rfl ?_
    refine gf_X5_M_7_0 hG (pc := 16) dX5_write_16 ?_
    refine z_iload_n (pc := 19) 1 dX5_write_19 rfl rfl ?_
    refine z_chk (fun h4 => ?_)
    refine z_iaload (pc := 20) 2 4 (zGM_s2 hG) h4 dX5_write_20 ?_
    refine z_iconst (pc := 21) (v := (-1)) dX5_write_21 (by decide) ?_
    refine z_icmp_ne (pc := 22) 28 dX5_write_22 rfl ?_ ?_
    · refine z_iload_n (pc := 28) 2 dX5_write_28 rfl rfl ?_
      refine z_i2l (pc := 29) dX5_write_29 ?_
      refine z_lconst (pc := 30) (v := 0) dX5_write_30 (by decide) ?_
      refine z_aload_n (pc := 31) 0 dX5_write_31 rfl rfl ?_
      refine gf_X5_M_13_0 hG (pc := 32) dX5_write_32 ?_
      refine z_iload_n (pc := 35) 1 dX5_write_35 rfl rfl ?_
      refine z_chk (fun h5 => ?_)
      refine z_iaload (pc := 36) 3 4 (zGM_s3 hG) h5 dX5_write_36 ?_
      refine z_iconst (pc := 37) (v := 1) dX5_write_37 (by decide) ?_
      refine z_isub (pc := 38) dX5_write_38 ?_
      refine z_i2l (pc := 39) dX5_write_39 ?_
      refine z_callSi (pc := 40) _ _ (ct_X5_in  _ _ _) mv_X5_in q1578 rfl (Nat.le_of_ble_eq_true rfl) (Nat.le_of_ble_eq_true rfl) rfl rfl (Nat.le_of_ble_eq_true rfl) dX5_write_40 (fun r7 S6 => ?_)
      refine z_if_ne (pc := 43) 49 dX5_write_43 rfl ?_ ?_
      · refine z_aload_n (pc := 49) 0 dX5_write_49 rfl rfl ?_
        refine gf_X5_M_16_0 hG (pc := 50) dX5_write_50 ?_
        refine z_bipush (pc := 53) (v := 60) dX5_write_53 (by decide) ?_
        refine z_iload_n (pc := 55) 1 dX5_write_55 rfl rfl ?_
        refine z_imul (pc := 56) dX5_write_56 ?_
        refine z_iload_n (pc := 57) 2 dX5_write_57 rfl rfl ?_
        refine z_iadd (pc := 58) dX5_write_58 ?_
        refine z_lload_n (pc := 59) 3 dX5_write_59 rfl rfl ?_
        refine z_aload_n (pc := 60) 0 dX5_write_60 rfl rfl ?_
        refine gf_X5_M_7_0 hG (pc := 61) dX5_write_61 ?_
        refine z_iload_n (pc := 64) 1 dX5_write_64 rfl rfl ?_
        refine z_chk (fun h8 => ?_)
        refine z_iaload (pc := 65) 2 4 (zGM_s2 hG) h8 dX5_write_65 ?_
        refine z_callSl (pc := 66) _ _ (ct_X5_cut  _ _) mv_X5_cut q1585 rfl (Nat.le_of_ble_eq_true rfl) (Nat.le_of_ble_eq_true rfl) rfl rfl (Nat.le_of_ble_eq_true rfl) dX5_write_66 (fun r10 S9 => ?_)
        refine z_letI2 (fun w11 => ?_)
        refine z_chk (fun h12 => ?_)
        refine z_lastore (pc := 69) 4 240 (zGM_s4 hG) h12 dX5_write_69 ?_
        refine z_letS (fun S13 => ?_)
        refine z_iconst (pc := 70) (v := 0) dX5_write_70 (by decide) ?_
        exact z_iret rfl dX5_write_71 rfl
      · refine z_bipush (pc := 46) (v := (-7)) dX5_write_46 (by decide) ?_
        exact z_iret rfl dX5_write_48 rfl
    · refine z_bipush (pc := 25) (v := (-6)) dX5_write_25 (by decide) ?_
      exact z_iret rfl dX5_write_27 rfl
  · refine z_bipush (pc := 12) (v := (-2)) dX5_write_12 (by decide) ?_
    exact z_iret rfl dX5_write_14 rfl
abbrev mX5_paste : zMr := ("HiddenCubeModel", cX5_paste, 7, (some .int), 3, 0, 0, none)
def LB_X5_paste_1 (a3 : Int32) (a4 : Int32) (a5 : Int32) (rec14 : Int32 → zSt → Option (Int32 × zSt)) (x15 : Int32) (S16 : zSt) : Option (Int32 × zSt) :=
if a5 ≤ x15 then (some (0, S16)) else (chk x15 60 (zlet (((60 * a3) + a4) + x15 : Int32) (fun w18 : Int32 =>
chk w18 240 (zlet (sL S16 4 (w18).toNatClampNeg (S16.2 5 (x15).toNatClampNeg) : zSt) (fun S20 : zSt =>
rec14 (x15 + 1) S20)))))
def LB_X5_paste_2 (a1 : Int32) (a2 : Int32) (a5 : Int32) (k12 : zSt → Option (Int32 × zSt)) (rec21 : Int32 → zSt → Option (Int32 × zSt)) (x22 : Int32) (S23 : zSt) : Option (Int32 × zSt) :=
if a5 ≤ x22 then (k12 S23) else (zlet (((60 * a1) + a2) + x22 : Int32) (fun w24 : Int32 =>
chk w24 240 (chk x22 60 (zlet (sL S23 5 (x22).toNatClampNeg (S23.2 4 (w24).toNatClampNeg) : zSt) (fun S27 : zSt =>
rec21 (x22 + 1) S27)))))
def F_X5_paste (a1 : Int32) (a2 : Int32) (a3 : Int32) (a4 : Int32) (a5 : Int32) (S : zSt) : Option (Int32 × zSt) :=
zlet (sI S 0 0 0 : zSt) (fun S1 : zSt =>
zbind (F_X5_isSlot a1 S1) (fun r3 S2 =>
if r3 = 0 then (some ((-2), S2)) else (zbind (F_X5_isSlot a3 S2) (fun r5 S4 =>
if r5 = 0 then (some ((-2), S4)) else (chk a1 4 (if (S4.1 2 (a1).toNatClampNeg) = (-1) then (some ((-6), S4)) else (chk a3 4 (if (S4.1 2 (a3).toNatClampNeg) = (-1) then (some ((-6), S4)) else (chk a1 4 (chk a3 4 (if (S4.1 2 (a1).toNatClampNeg) = (S4.1 2 (a3).toNatClampNeg) then (if a2 < 0 then (some ((-7), S4)) else (if a4 < 0 then (some ((-7), S4)) else (if a5 < 0 then (some ((-7), S4)) else (chk a1 4 (if 0 < (lg_cmp (((a2).toInt64) + ((a5).toInt64)) ((S4.1 3 (a1).toNatClampNeg).toInt64)) then (some ((-7), S4)) else (chk a3 4 (if (lg_cmp (((a4).toInt64) + ((a5).toInt64)) ((S4.1 3 (a3).toNatClampNeg).toInt64)) ≤ 0 then (joinK (fun  (S13 : zSt) => loopK (fun _ _ => none) (LB_X5_paste_1 a3 a4 a5) zfuel 0 S13) (fun k12 : zSt → Option (Int32 × zSt) =>
loopK (fun _ _ => none) (LB_X5_paste_2 a1 a2 a5 k12) zfuel 0 S4)) else (some ((-7), S4))))))))) else (some ((-8), S4)))))))))))))
theorem mv_X5_paste : ZV mX5_paste yX5_paste 5 := ⟨q1589, q1590, q155, q1591, rfl, by decide, by decide, by decide +kernel⟩
theorem ct_X5_paste {G : zGw} (hG : zGM G) (a1 : Int32) (a2 : Int32) (a3 : Int32) (a4 : Int32) (a5 : Int32) : Zc mX5_paste yX5_paste zJI G [.ref (G.1 0), .int a1, .int a2, .int a3, .int a4, .int a5] (F_X5_paste a1 a2 a3 a4 a5) := by
  refine Zc_of [some (.ref (G.1 0)), some (.int a1), some (.int a2), some (.int a3), some (.int a4), some (.int a5), none] (by decide) rfl rfl (Nat.le_of_ble_eq_true rfl) rfl (fun X S res => ?_)
  unfold F_X5_paste
  refine z_aload_n (pc := 0) 0 dX5_paste_0 rfl rfl ?_
  refine z_iconst (pc := 1) (v := 0) dX5_paste_1 (by decide) ?_
  refine pf_X5_M_131_0 hG (pc := 2) dX5_paste_2 ?_
  refine z_letS (fun S1 => ?_)
  refine z_iload_n (pc := 5) 1 dX5_paste_5 rfl rfl ?_
  refine z_callSi (pc := 6) _ _ (ct_X5_isSlot  _) mv_X5_isSlot q1574 rfl (Nat.le_of_ble_eq_true rfl) (Nat.le_of_ble_eq_true rfl) rfl rfl (Nat.le_of_ble_eq_true rfl) dX5_paste_6 (fun r3 S2 => ?_)
  refine z_if_eq (pc := 9) 19 dX5_paste_9 rfl ?_ ?_
  · refine z_bipush (pc := 19) (v := (-2)) dX5_paste_19 (by decide) ?_
    exact z_iret rfl dX5_paste_21 rfl
  · refine z_iload_n (pc := 12) 3 dX5_paste_12 rfl rfl ?_
    refine z_callSi (pc := 13) _ _ (ct_X5_isSlot  _) mv_X5_isSlot q1574 rfl (Nat.le_of_ble_eq_true rfl) (Nat.le_of_ble_eq_true rfl) rfl rfl (Nat.le_of_ble_eq_true rfl) dX5_paste_13 (fun r5 S4 => ?_)
    refine z_if_ne (pc := 16) 22 dX5_paste_16 rfl ?_ ?_
    · refine z_aload_n (pc := 22) 0 dX5_paste_22 rfl rfl ?_
      refine gf_X5_M_7_0 hG (pc := 23) dX5_paste_23 ?_
      refine z_iload_n (pc := 26) 1 dX5_paste_26 rfl rfl ?_
      refine z_chk (fun h6 => ?_)
      refine z_iaload (pc := 27) 2 4 (zGM_s2 hG) h6 dX5_paste_27 ?_
      refine z_iconst (pc := 28) (v := (-1)) dX5_paste_28 (by decide) ?_
      refine z_icmp_eq (pc := 29) 42 dX5_paste_29 rfl ?_ ?_
      · refine z_bipush (pc := 42) (v := (-6)) dX5_paste_42 (by decide) ?_
        exact z_iret rfl dX5_paste_44 rfl
      · refine z_aload_n (pc := 32) 0 dX5_paste_32 rfl rfl ?_
        refine gf_X5_M_7_0 hG (pc := 33) dX5_paste_33 ?_
        refine z_iload_n (pc := 36) 3 dX5_paste_36 rfl rfl ?_
        refine z_chk (fun h7 => ?_)
        refine z_iaload (pc := 37) 2 4 (zGM_s2 hG) h7 dX5_paste_37 ?_
        refine z_iconst (pc := 38) (v := (-1)) dX5_paste_38 (by decide) ?_
        refine z_icmp_ne (pc := 39) 45 dX5_paste_39 rfl ?_ ?_
        · refine z_aload_n (pc := 45) 0 dX5_paste_45 rfl rfl ?_
          refine gf_X5_M_7_0 hG (pc := 46) dX5_paste_46 ?_
          refine z_iload_n (pc := 49) 1 dX5_paste_49 rfl rfl ?_
          refine z_chk (fun h8 => ?_)
          refine z_iaload (pc := 50) 2 4 (zGM_s2 hG) h8 dX5_paste_50 ?_
          refine z_aload_n (pc := 51) 0 dX5_paste_51 rfl rfl ?_
          refine gf_X5_M_7_0 hG (pc := 52) dX5_paste_52 ?_
          refine z_iload_n (pc := 55) 3 dX5_paste_55 rfl rfl ?_
          refine z_chk (fun h9 => ?_)
          refine z_iaload (pc := 56) 2 4 (zGM_s2 hG) h9 dX5_paste_56 ?_
          refine z_icmp_eq (pc := 57) 63 dX5_paste_57 rfl ?_ ?_
          · refine z_iload_n (pc := 63) 2 dX5_paste_63 rfl rfl ?_
            refine z_if_lt (pc := 64) 112 dX5_paste_64 rfl ?_ ?_
            · refine z_bipush (pc := 112) (v := (-7)) dX5_paste_112 (by decide) ?_
              exact z_iret rfl dX5_paste_114 rfl
            · refine z_iload (pc := 67) dX5_paste_67 rfl ?_
              refine z_if_lt (pc := 69) 112 dX5_paste_69 rfl ?_ ?_
              · refine z_bipush (pc := 112) (v := (-7)) dX5_paste_112 (by decide) ?_
                exact z_iret rfl dX5_paste_114 rfl
              · refine z_iload (pc := 72) dX5_paste_72 rfl ?_
                refine z_if_lt (pc := 74) 112 dX5_paste_74 rfl ?_ ?_
                · refine z_bipush (pc := 112) (v := (-7)) dX5_paste_112 (by decide) ?_
                  exact z_iret rfl dX5_paste_114 rfl
                · refine z_iload_n (pc := 77) 2 dX5_paste_77 rfl rfl ?_
                  refine z_i2l (pc := 78) dX5_paste_78 ?_
                  refine z_iload (pc := 79) dX5_paste_79 rfl ?_
                  refine z_i2l (pc := 81) dX5_paste_81 ?_
                  refine z_ladd (pc := 82) dX5_paste_82 ?_
                  refine z_aload_n (pc := 83) 0 dX5_paste_83 rfl rfl ?_
                  refine gf_X5_M_13_0 hG (pc := 84) dX5_paste_84 ?_
                  refine z_iload_n (pc := 87) 1 dX5_paste_87 rfl rfl ?_
                  refine z_chk (fun h10 => ?_)
                  refine z_iaload (pc := 88) 3 4 (zGM_s3 hG) h10 dX5_paste_88 ?_
                  refine z_i2l (pc := 89) dX5_paste_89 ?_
                  refine z_lcmp (pc := 90) dX5_paste_90 ?_
                  refine z_if_gt (pc := 91) 112 dX5_paste_91 rfl ?_ ?_
                  · refine z_bipush (pc := 112) (v := (-7)) dX5_paste_112 (by decide) ?_
                    exact z_iret rfl dX5_paste_114 rfl
                  · refine z_iload (pc := 94) dX5_paste_94 rfl ?_
                    refine z_i2l (pc := 96) dX5_paste_96 ?_
                    refine z_iload (pc := 97) dX5_paste_97 rfl ?_
                    refine z_i2l (pc := 99) dX5_paste_99 ?_
                    refine z_ladd (pc := 100) dX5_paste_100 ?_
                    refine z_aload_n (pc := 101) 0 dX5_paste_101 rfl rfl ?_
                    refine gf_X5_M_13_0 hG (pc := 102) dX5_paste_102 ?_
                    refine z_iload_n (pc := 105) 3 dX5_paste_105 rfl rfl ?_
                    refine z_chk (fun h11 => ?_)
                    refine z_iaload (pc := 106) 3 4 (zGM_s3 hG) h11 dX5_paste_106 ?_
                    refine z_i2l (pc := 107) dX5_paste_107 ?_
                    refine z_lcmp (pc := 108) dX5_paste_108 ?_
                    refine z_if_le (pc := 109) 115 dX5_paste_109 rfl ?_ ?_
                    · refine z_iconst (pc := 115) (v := 0) dX5_paste_115 (by decide) ?_
                      refine z_istore (pc := 116) dX5_paste_116 (Nat.le_of_ble_eq_true rfl) rfl ?_
                      refine z_join (fun j : zSt → Option (Int32 × zSt) => ∀  (S13 : zSt), Zm X mX5_paste zJI G (0, 0) res S13 152 [some (.ref (G.1 0)), none, none, some (.int a3), some (.int a4), some (.int a5), none] [] (j S13)) ?_ (fun k12 hk12 => ?_)
                      · intro S13
                        refine z_iconst (pc := 152) (v := 0) dX5_paste_152 (by decide) ?_
                        refine z_istore (pc := 153) dX5_paste_153 (Nat.le_of_ble_eq_true rfl) rfl ?_
                        refine z_loopK (fun j : Int32 → zSt → Option (Int32 × zSt) => ∀ (x15 : Int32) (S16 : zSt), Zm X mX5_paste zJI G (0, 0) res S16 155 [some (.ref (G.1 0)), none, none, some (.int a3), some (.int a4), some (.int a5), some (.int x15)] [] (j x15 S16)) ?_ ?_ zfuel _ _
                        · intro x15 S16; exact z_none
                        · intro rec14 hrec14 x15 S16
                          unfold LB_X5_paste_1
                          refine z_iload (pc := 155) dX5_paste_155 rfl ?_
                          refine z_iload (pc := 157) dX5_paste_157 rfl ?_
                          refine z_icmp_ge (pc := 159) 190 dX5_paste_159 rfl ?_ ?_
                          · refine z_iconst (pc := 190) (v := 0) dX5_paste_190 (by decide) ?_
                            exact z_iret rfl dX5_paste_191 rfl
                          · refine z_aload_n (pc := 162) 0 dX5_paste_162 rfl rfl ?_
                            refine gf_X5_M_16_0 hG (pc := 163) dX5_paste_163 ?_
                            refine z_bipush (pc := 166) (v := 60) dX5_paste_166 (by decide) ?_
                            refine z_iload_n (pc := 168) 3 dX5_paste_168 rfl rfl ?_
                            refine z_imul (pc := 169) dX5_paste_169 ?_
                            refine z_iload (pc := 170) dX5_paste_170 rfl ?_
                            refine z_iadd (pc := 172) dX5_paste_172 ?_
                            refine z_iload (pc := 173) dX5_paste_173 rfl ?_
                            refine z_iadd (pc := 175) dX5_paste_175 ?_
                            refine z_aload_n (pc := 176) 0 dX5_paste_176 rfl rfl ?_
                            refine gf_X5_M_20_0 hG (pc := 177) dX5_paste_177 ?_
                            refine z_iload (pc := 180) dX5_paste_180 rfl ?_
                            refine z_chk (fun h17 => ?_)
                            refine z_laload (pc := 182) 5 60 (zGM_s5 hG) h17 dX5_paste_182 ?_
                            refine z_letI2 (fun w18 => ?_)
                            refine z_chk (fun h19 => ?_)
                            refine z_lastore (pc := 183) 4 240 (zGM_s4 hG) h19 dX5_paste_183 ?_
                            refine z_letS (fun S20 => ?_)
                            refine z_iinc (pc := 184) (w := x15 + 1) dX5_paste_184 rfl (by rw [show Int32.ofInt 1 = 1 from by decide]) (Nat.le_of_ble_eq_true rfl) rfl ?_
                            refine z_goto (pc := 187) 155 dX5_paste_187 rfl ?_
                            exact hrec14 _ _
                      · refine z_loopK (fun j : Int32 → zSt → Option (Int32 × zSt) => ∀ (x22 : Int32) (S23 : zSt), Zm X mX5_paste zJI G (0, 0) res S23 118 [some (.ref (G.1 0)), some (.int a1), some (.int a2), some (.int a3), some (.int a4), some (.int a5), some (.int x22)] [] (j x22 S23)) ?_ ?_ zfuel _ _
                        · intro x22 S23; exact z_none
                        · intro rec21 hrec21 x22 S23
                          unfold LB_X5_paste_2
                          refine z_iload (pc := 118) dX5_paste_118 rfl ?_
                          refine z_iload (pc := 120) dX5_paste_120 rfl ?_
                          refine z_icmp_ge (pc := 122) 152 dX5_paste_122 rfl ?_ ?_
                          · exact z_mask [true, false, false, true, true, true, false] (hk12 _) rfl
                          · refine z_aload_n (pc := 125) 0 dX5_paste_125 rfl rfl ?_
                            refine gf_X5_M_20_0 hG (pc := 126) dX5_paste_126 ?_
                            refine z_iload (pc := 129) dX5_paste_129 rfl ?_
                            refine z_aload_n (pc := 131) 0 dX5_paste_131 rfl rfl ?_
                            refine gf_X5_M_16_0 hG (pc := 132) dX5_paste_132 ?_
                            refine z_bipush (pc := 135) (v := 60) dX5_paste_135 (by decide) ?_
                            refine z_iload_n (pc := 137) 1 dX5_paste_137 rfl rfl ?_
                            refine z_imul (pc := 138) dX5_paste_138 ?_
                            refine z_iload_n (pc := 139) 2 dX5_paste_139 rfl rfl ?_
                            refine z_iadd (pc := 140) dX5_paste_140 ?_
                            refine z_iload (pc := 141) dX5_paste_141 rfl ?_
                            refine z_iadd (pc := 143) dX5_paste_143 ?_
                            refine z_letI (fun w24 => ?_)
                            refine z_chk (fun h25 => ?_)
                            refine z_laload (pc := 144) 4 240 (zGM_s4 hG) h25 dX5_paste_144 ?_
                            refine z_chk (fun h26 => ?_)
                            refine z_lastore (pc := 145) 5 60 (zGM_s5 hG) h26 dX5_paste_145 ?_
                            refine z_letS (fun S27 => ?_)
                            refine z_iinc (pc := 146) (w := x22 + 1) dX5_paste_146 rfl (by rw [show Int32.ofInt 1 = 1 from by decide]) (Nat.le_of_ble_eq_true rfl) rfl ?_
                            refine z_goto (pc := 149) 118 dX5_paste_149 rfl ?_
                            exact hrec21 _ _
                    · refine z_bipush (pc := 112) (v := (-7)) dX5_paste_112 (by decide) ?_
                      exact z_iret rfl dX5_paste_114 rfl
          · refine z_bipush (pc := 60) (v := (-8)) dX5_paste_60 (by decide) ?_
            exact z_iret rfl dX5_paste_62 rfl
        · refine z_bipush (pc := 42) (v := (-6)) dX5_paste_42 (by decide) ?_
          exact z_iret rfl dX5_paste_44 rfl
    · refine z_bipush (pc := 19) (v := (-2)) dX5_paste_19 (by decide) ?_
      exact z_iret rfl dX5_paste_21 rfl
abbrev mX5_four : zMr := ("HiddenCubeModel", cX5_four, 3, none, 1, 0, 0, none)
def LB_X5_four_1 (a1 : Int32) (rec1 : Int32 → zSt → Option (Unit × zSt)) (x2 : Int32) (S3 : zSt) : Option (Unit × zSt) :=
if x2 < 0 then (some ((), S3)) else (chk (S3.1 0 6) 1400 (zlet (sI S3 6 (S3.1 0 6).toNatClampNeg (((a1 >>> (x2 &&& 31)).toInt8.toInt32).toInt8.toInt32) : zSt) (fun S5 : zSt =>
zlet (sI S5 0 6 ((S5.1 0 6) + 1) : zSt) (fun S6 : zSt =>
rec1 (x2 + (-8)) S6))))
def F_X5_four (a1 : Int32) (S : zSt) : Option (Unit × zSt) :=
loopK (fun _ _ => none) (LB_X5_four_1 a1) zfuel 24 S
theorem mv_X5_four : ZV mX5_four yX5_four 1 := ⟨q1598, qs79, q155, q1599, rfl, by decide, by decide, by decide +kernel⟩
theorem ct_X5_four {G : zGw} (hG : zGM G) (a1 : Int32) : Zc mX5_four yX5_four zJV G [.ref (G.1 0), .int a1] (F_X5_four a1) := by
  refine Zc_of [some (.ref (G.1 0)), some (.int a1), none] (by decide) rfl rfl (Nat.le_of_ble_eq_true rfl) rfl (fun X S res => ?_)
  unfold F_X5_four
  refine z_bipush (pc := 0) (v := 24) dX5_four_0 (by decide) ?_
  refine z_istore_n (pc := 2) 2 dX5_four_2 rfl (Nat.le_of_ble_eq_true rfl) rfl ?_
  refine z_loopK (fun j : Int32 → zSt → Option (Unit × zSt) => ∀ (x2 : Int32) (S3 : zSt), Zm X mX5_four zJV G (0, 0) res S3 3 [some (.ref (G.1 0)), some (.int a1), some (.int x2)] [] (j x2 S3)) ?_ ?_ zfuel _ _
  · intro x2 S3; exact z_none
  · intro rec1 hrec1 x2 S3
    unfold LB_X5_four_1
    refine z_iload_n (pc := 3) 2 dX5_four_3 rfl rfl ?_
    refine z_if_lt (pc := 4) 36 dX5_four_4 rfl ?_ ?_
    · exact z_vret rfl dX5_four_36 rfl
    · refine z_aload_n (pc := 7) 0 dX5_four_7 rfl rfl ?_
      refine gf_X5_M_23_0 hG (pc := 8) dX5_four_8 ?_
      refine z_aload_n (pc := 11) 0 dX5_four_11 rfl rfl ?_
      refine gf_X5_M_148_0 hG (pc := 12) dX5_four_12 ?_
      refine z_iload_n (pc := 15) 1 dX5_four_15 rfl rfl ?_
      refine z_iload_n (pc := 16) 2 dX5_four_16 rfl rfl ?_
      refine z_ishr (pc := 17) dX5_four_17 ?_
      refine z_i2b (pc := 18) dX5_four_18 ?_
      refine z_chk (fun h4 => ?_)
      refine z_bastore (pc := 19) 6 1400 (zGM_s6 hG) h4 dX5_four_19 ?_
      refine z_letS (fun S5 => ?_)
      refine z_aload_n (pc := 20) 0 dX5_four_20 rfl rfl ?_
      refine z_dup (pc := 21) dX5_four_21 rfl ?_
      refine gf_X5_M_148_0 hG (pc := 22) dX5_four_22 ?_
      refine z_iconst (pc := 25) (v := 1) dX5_four_25 (by decide) ?_
      refine z_iadd (pc := 26) dX5_four_26 ?_
      refine pf_X5_M_148_0 hG (pc := 27) dX5_four_27 ?_
      refine z_letS (fun S6 => ?_)
      refine z_iinc (pc := 30) (w := x2 + (-8)) dX5_four_30 rfl (by rw [show Int32.ofInt (-8) = (-8) from by decide]) (Nat.le_of_ble_eq_true rfl) rfl ?_
      refine z_goto (pc := 33) 3 dX5_four_33 rfl ?_
      exact hrec1 _ _
abbrev mX5_feed : zMr := ("HiddenCubeModel", cX5_feed, 6, (some .int), 2, 0, 0, none)
def F_X5_feed (a1 : Int32) (a2 : Int32) (a3 : Int32) (a4 : Int32) (a5 : Int32) (S : zSt) : Option (Int32 × zSt) :=
zlet (sI S 0 0 0 : zSt) (fun S1 : zSt =>
if ((S1.1 0 6) + 20) ≤ 1400 then (zbind (F_X5_four a1 S1) (fun _ S2 =>
zbind (F_X5_four a2 S2) (fun _ S3 =>
zbind (F_X5_four a3 S3) (fun _ S4 =>
zbind (F_X5_four a4 S4) (fun _ S5 =>
zbind (F_X5_four a5 S5) (fun _ S6 =>
some (S6.1 0 6, S6))))))) else (some ((-1), S1)))
theorem mv_X5_feed : ZV mX5_feed yX5_feed 5 := ⟨q1593, q1594, q155, q1595, rfl, by decide, by decide, by decide +kernel⟩
theorem ct_X5_feed {G : zGw} (hG : zGM G) (a1 : Int32) (a2 : Int32) (a3 : Int32) (a4 : Int32) (a5 : Int32) : Zc mX5_feed yX5_feed zJI G [.ref (G.1 0), .int a1, .int a2, .int a3, .int a4, .int a5] (F_X5_feed a1 a2 a3 a4 a5) := by
  refine Zc_of [some (.ref (G.1 0)), some (.int a1), some (.int a2), some (.int a3), some (.int a4), some (.int a5)] (by decide) rfl rfl (Nat.le_of_ble_eq_true rfl) rfl (fun X S res => ?_)
  unfold F_X5_feed
  refine z_aload_n (pc := 0) 0 dX5_feed_0 rfl rfl ?_
  refine z_iconst (pc := 1) (v := 0) dX5_feed_1 (by decide) ?_
  refine pf_X5_M_131_0 hG (pc := 2) dX5_feed_2 ?_
  refine z_letS (fun S1 => ?_)
  refine z_aload_n (pc := 5) 0 dX5_feed_5 rfl rfl ?_
  refine gf_X5_M_148_0 hG (pc := 6) dX5_feed_6 ?_
  refine z_bipush (pc := 9) (v := 20) dX5_feed_9 (by decide) ?_
  refine z_iadd (pc := 11) dX5_feed_11 ?_
  refine z_sipush (pc := 12) (v := 1400) dX5_feed_12 (by decide) ?_
  refine z_icmp_le (pc := 15) 20 dX5_feed_15 rfl ?_ ?_
  · refine z_aload_n (pc := 20) 0 dX5_feed_20 rfl rfl ?_
    refine z_iload_n (pc := 21) 1 dX5_feed_21 rfl rfl ?_
    refine z_callVv (pc := 22) _ _ 0 5 (ct_X5_four hG _) mv_X5_four q1596 rfl (zGM_s0 hG) rfl (Nat.le_of_ble_eq_true rfl) (Nat.le_of_ble_eq_true rfl) rfl rfl (Nat.le_of_ble_eq_true rfl) dX5_feed_22 (fun _ S2 => ?_)
    refine z_aload_n (pc := 25) 0 dX5_feed_25 rfl rfl ?_
    refine z_iload_n (pc := 26) 2 dX5_feed_26 rfl rfl ?_
    refine z_callVv (pc := 27) _ _ 0 5 (ct_X5_four hG _) mv_X5_four q1596 rfl (zGM_s0 hG) rfl (Nat.le_of_ble_eq_true rfl) (Nat.le_of_ble_eq_true rfl) rfl rfl (Nat.le_of_ble_eq_true rfl) dX5_feed_27 (fun _ S3 => ?_)
    refine z_aload_n (pc := 30) 0 dX5_feed_30 rfl rfl ?_
    refine z_iload_n (pc := 31) 3 dX5_feed_31 rfl rfl ?_
    refine z_callVv (pc := 32) _ _ 0 5 (ct_X5_four hG _) mv_X5_four q1596 rfl (zGM_s0 hG) rfl (Nat.le_of_ble_eq_true rfl) (Nat.le_of_ble_eq_true rfl) rfl rfl (Nat.le_of_ble_eq_true rfl) dX5_feed_32 (fun _ S4 => ?_)
    refine z_aload_n (pc := 35) 0 dX5_feed_35 rfl rfl ?_
    refine z_iload (pc := 36) dX5_feed_36 rfl ?_
    refine z_callVv (pc := 38) _ _ 0 5 (ct_X5_four hG _) mv_X5_four q1596 rfl (zGM_s0 hG) rfl (Nat.le_of_ble_eq_true rfl) (Nat.le_of_ble_eq_true rfl) rfl rfl (Nat.le_of_ble_eq_true rfl) dX5_feed_38 (fun _ S5 => ?_)
    refine z_aload_n (pc := 41) 0 dX5_feed_41 rfl rfl ?_
    refine z_iload (pc := 42) dX5_feed_42 rfl ?_
    refine z_callVv (pc := 44) _ _ 0 5 (ct_X5_four hG _) mv_X5_four q1596 rfl (zGM_s0 hG) rfl (Nat.le_of_ble_eq_true rfl) (Nat.le_of_ble_eq_true rfl) rfl rfl (Nat.le_of_ble_eq_true rfl) dX5_feed_44 (fun _ S6 => ?_)
    refine z_aload_n (pc := 47) 0 dX5_feed_47 rfl rfl ?_
    refine gf_X5_M_148_0 hG (pc := 48) dX5_feed_48 ?_
    exact z_iret rfl dX5_feed_51 rfl
  · refine z_iconst (pc := 18) (v := (-1)) dX5_feed_18 (by decide) ?_
    exact z_iret rfl dX5_feed_19 rfl
abbrev mX5_end : zMr := ("HiddenCubeModel", cX5_end, 2, (some .int), 2, 0, 0, none)
def F_X5_end (a1 : Int32) (S : zSt) : Option (Int32 × zSt) :=
zlet (sI S 0 0 0 : zSt) (fun S1 : zSt =>
zbind (F_X5_in ((a1).toInt64) 0 ((S1.1 0 6).toInt64) S1) (fun r3 S2 =>
if r3 = 0 then (some ((-1), S2)) else (zlet (sI S2 0 6 a1 : zSt) (fun S4 : zSt =>
some (a1, S4)))))
theorem mv_X5_end : ZV mX5_end yX5_end 1 := ⟨q1601, q1602, q155, q1603, rfl, by decide, by decide, by decide +kernel⟩
theorem ct_X5_end {G : zGw} (hG : zGM G) (a1 : Int32) : Zc mX5_end yX5_end zJI G [.ref (G.1 0), .int a1] (F_X5_end a1) := by
  refine Zc_of [some (.ref (G.1 0)), some (.int a1)] (by decide) rfl rfl (Nat.le_of_ble_eq_true rfl) rfl (fun X S res => ?_)
  unfold F_X5_end
  refine z_aload_n (pc := 0) 0 dX5_end_0 rfl rfl ?_
  refine z_iconst (pc := 1) (v := 0) dX5_end_1 (by decide) ?_
  refine pf_X5_M_131_0 hG (pc := 2) dX5_end_2 ?_
  refine z_letS (fun S1 => ?_)
  refine z_iload_n (pc := 5) 1 dX5_end_5 rfl rfl ?_
  refine z_i2l (pc := 6) dX5_end_6 ?_
  refine z_lconst (pc := 7) (v := 0) dX5_end_7 (by decide) ?_
  refine z_aload_n (pc := 8) 0 dX5_end_8 rfl rfl ?_
  refine gf_X5_M_148_0 hG (pc := 9) dX5_end_9 ?_
  refine z_i2l (pc := 12) dX5_end_12 ?_
  refine z_callSi (pc := 13) _ _ (ct_X5_in  _ _ _) mv_X5_in q1578 rfl (Nat.le_of_ble_eq_true rfl) (Nat.le_of_ble_eq_true rfl) rfl rfl (Nat.le_of_ble_eq_true rfl) dX5_end_13 (fun r3 S2 => ?_)
  refine z_if_ne (pc := 16) 21 dX5_end_16 rfl ?_ ?_
  · refine z_aload_n (pc := 21) 0 dX5_end_21 rfl rfl ?_
    refine z_iload_n (pc := 22) 1 dX5_end_22 rfl rfl ?_
    refine pf_X5_M_148_0 hG (pc := 23) dX5_end_23 ?_
    refine z_letS (fun S4 => ?_)
    refine z_iload_n (pc := 26) 1 dX5_end_26 rfl rfl ?_
    exact z_iret rfl dX5_end_27 rfl
  · refine z_iconst (pc := 19) (v := (-1)) dX5_end_19 (by decide) ?_
    exact z_iret rfl dX5_end_20 rfl
abbrev mX5_fault : zMr := ("HiddenCubeModel", cX5_fault, 2, (some .int), 1, 0, 0, none)
def F_X5_fault (a1 : Int32) (S : zSt) : Option (Int32 × zSt) :=
zlet (sI S 0 0 0 : zSt) (fun S1 : zSt =>
if a1 = 0 then (some (S1.1 0 14, S1)) else (if a1 = 1 then (some (S1.1 0 15, S1)) else (some ((-1), S1))))
theorem mv_X5_fault : ZV mX5_fault yX5_fault 1 := ⟨q1605, q1606, q155, q1607, rfl, by decide, by decide, by decide +kernel⟩
theorem ct_X5_fault {G : zGw} (hG : zGM G) (a1 : Int32) : Zc mX5_fault yX5_fault zJI G [.ref (G.1 0), .int a1] (F_X5_fault a1) := by
  refine Zc_of [some (.ref (G.1 0)), some (.int a1)] (by decide) rfl rfl (Nat.le_of_ble_eq_true rfl) rfl (fun X S res => ?_)
  unfold F_X5_fault
  refine z_aload_n (pc := 0) 0 dX5_fault_0 rfl rfl ?_
  refine z_iconst (pc := 1) (v := 0) dX5_fault_1 (by decide) ?_
  refine pf_X5_M_131_0 hG (pc := 2) dX5_fault_2 ?_
  refine z_letS (fun S1 => ?_)
  refine z_iload_n (pc := 5) 1 dX5_fault_5 rfl rfl ?_
  refine z_if_ne (pc := 6) 16 dX5_fault_6 rfl ?_ ?_
  · refine z_iload_n (pc := 16) 1 dX5_fault_16 rfl rfl ?_
    refine z_iconst (pc := 17) (v := 1) dX5_fault_17 (by decide) ?_
    refine z_icmp_ne (pc := 18) 28 dX5_fault_18 rfl ?_ ?_
    · refine z_iconst (pc := 28) (v := (-1)) dX5_fault_28 (by decide) ?_
      exact z_iret rfl dX5_fault_29 rfl
    · refine z_aload_n (pc := 21) 0 dX5_fault_21 rfl rfl ?_
      refine gf_X5_M_27_0 hG (pc := 22) dX5_fault_22 ?_
      refine z_goto (pc := 25) 29 dX5_fault_25 rfl ?_
      exact z_iret rfl dX5_fault_29 rfl
  · refine z_aload_n (pc := 9) 0 dX5_fault_9 rfl rfl ?_
    refine gf_X5_M_210_0 hG (pc := 10) dX5_fault_10 ?_
    refine z_goto (pc := 13) 29 dX5_fault_13 rfl ?_
    exact z_iret rfl dX5_fault_29 rfl
abbrev mX5_clears : zMr := ("HiddenCubeModel", cX5_clears, 2, none, 1, 0, 0, none)
def LB_X5_clears_1 (k5 : zSt → Option (Unit × zSt)) (rec9 : Int32 → zSt → Option (Unit × zSt)) (x10 : Int32) (S11 : zSt) : Option (Unit × zSt) :=
if 32 ≤ x10 then (k5 S11) else (chk (128 + x10) 160 (zlet (sI S11 22 (128 + x10).toNatClampNeg 0 : zSt) (fun S13 : zSt =>
rec9 (x10 + 1) S13)))
def LB_X5_clears_2 (k3 : zSt → Option (Unit × zSt)) (rec14 : Int32 → zSt → Option (Unit × zSt)) (x15 : Int32) (S16 : zSt) : Option (Unit × zSt) :=
if 3 ≤ x15 then (k3 S16) else (chk (12 + x15) 15 (zlet (sI S16 18 (12 + x15).toNatClampNeg 0 : zSt) (fun S18 : zSt =>
rec14 (x15 + 1) S18)))
def F_X5_clears  (S : zSt) : Option (Unit × zSt) :=
chk 4 5 (zlet (sI S 17 (4 : Int32).toNatClampNeg 0 : zSt) (fun S2 : zSt =>
joinK (fun  (S4 : zSt) => joinK (fun  (S6 : zSt) => chk 4 5 (zlet (sI S6 23 (4 : Int32).toNatClampNeg 0 : zSt) (fun S8 : zSt =>
some ((), S8)))) (fun k5 : zSt → Option (Unit × zSt) =>
loopK (fun _ _ => none) (LB_X5_clears_1 k5) zfuel 0 S4)) (fun k3 : zSt → Option (Unit × zSt) =>
loopK (fun _ _ => none) (LB_X5_clears_2 k3) zfuel 0 S2)))
theorem mv_X5_clears : ZV mX5_clears yX5_clears 0 := ⟨q1614, qs80, q155, q1615, rfl, by decide, by decide, by decide +kernel⟩
theorem ct_X5_clears {G : zGw} (hG : zGM G)  : Zc mX5_clears yX5_clears zJV G [.ref (G.1 0)] (F_X5_clears) := by
  refine Zc_of [some (.ref (G.1 0)), none] (by decide) rfl rfl (Nat.le_of_ble_eq_true rfl) rfl (fun X S res => ?_)
  unfold F_X5_clears
  refine z_aload_n (pc := 0) 0 dX5_clears_0 rfl rfl ?_
  refine gf_X5_M_31_0 hG (pc := 1) dX5_clears_1 ?_
  refine z_iconst (pc := 4) (v := 4) dX5_clears_4 (by decide) ?_
  refine z_iconst (pc := 5) (v := 0) dX5_clears_5 (by decide) ?_
  refine z_chk (fun h1 => ?_)
  refine z_iastore (pc := 6) 17 5 (zGM_s17 hG) h1 dX5_clears_6 ?_
  refine z_letS (fun S2 => ?_)
  refine z_iconst (pc := 7) (v := 0) dX5_clears_7 (by decide) ?_
  refine z_istore_n (pc := 8) 1 dX5_clears_8 rfl (Nat.le_of_ble_eq_true rfl) rfl ?_
  refine z_join (fun j : zSt → Option (Unit × zSt) => ∀  (S4 : zSt), Zm X mX5_clears zJV G (0, 0) res S4 30 [some (.ref (G.1 0)), none] [] (j S4)) ?_ (fun k3 hk3 => ?_)
  · intro S4
    refine z_iconst (pc := 30) (v := 0) dX5_clears_30 (by decide) ?_
    refine z_istore_n (pc := 31) 1 dX5_clears_31 rfl (Nat.le_of_ble_eq_true rfl) rfl ?_
    refine z_join (fun j : zSt → Option (Unit × zSt) => ∀  (S6 : zSt), Zm X mX5_clears zJV G (0, 0) res S6 55 [some (.ref (G.1 0)), none] [] (j S6)) ?_ (fun k5 hk5 => ?_)
    · intro S6
      refine z_aload_n (pc := 55) 0 dX5_clears_55 rfl rfl ?_
      refine gf_X5_M_49_0 hG (pc := 56) dX5_clears_56 ?_
      refine z_iconst (pc := 59) (v := 4) dX5_clears_59 (by decide) ?_
      refine z_iconst (pc := 60) (v := 0) dX5_clears_60 (by decide) ?_
      refine z_chk (fun h7 => ?_)
      refine z_iastore (pc := 61) 23 5 (zGM_s23 hG) h7 dX5_clears_61 ?_
      refine z_letS (fun S8 => ?_)
      exact z_vret rfl dX5_clears_62 rfl
    · refine z_loopK (fun j : Int32 → zSt → Option (Unit × zSt) => ∀ (x10 : Int32) (S11 : zSt), Zm X mX5_clears zJV G (0, 0) res S11 32 [some (.ref (G.1 0)), some (.int x10)] [] (j x10 S11)) ?_ ?_ zfuel _ _
      · intro x10 S11; exact z_none
      · intro rec9 hrec9 x10 S11
        unfold LB_X5_clears_1
        refine z_iload_n (pc := 32) 1 dX5_clears_32 rfl rfl ?_
        refine z_bipush (pc := 33) (v := 32) dX5_clears_33 (by decide) ?_
        refine z_icmp_ge (pc := 35) 55 dX5_clears_35 rfl ?_ ?_
        · exact z_mask [true, false] (hk5 _) rfl
        · refine z_aload_n (pc := 38) 0 dX5_clears_38 rfl rfl ?_
          refine gf_X5_M_46_0 hG (pc := 39) dX5_clears_39 ?_
          refine z_sipush (pc := 42) (v := 128) dX5_clears_42 (by decide) ?_
          refine z_iload_n (pc := 45) 1 dX5_clears_45 rfl rfl ?_
          refine z_iadd (pc := 46) dX5_clears_46 ?_
          refine z_iconst (pc := 47) (v := 0) dX5_clears_47 (by decide) ?_
          refine z_chk (fun h12 => ?_)
          refine z_iastore (pc := 48) 22 160 (zGM_s22 hG) h12 dX5_clears_48 ?_
          refine z_letS (fun S13 => ?_)
          refine z_iinc (pc := 49) (w := x10 + 1) dX5_clears_49 rfl (by rw [show Int32.ofInt 1 = 1 from by decide]) (Nat.le_of_ble_eq_true rfl) rfl ?_
          refine z_goto (pc := 52) 32 dX5_clears_52 rfl ?_
          exact hrec9 _ _
  · refine z_loopK (fun j : Int32 → zSt → Option (Unit × zSt) => ∀ (x15 : Int32) (S16 : zSt), Zm X mX5_clears zJV G (0, 0) res S16 9 [some (.ref (G.1 0)), some (.int x15)] [] (j x15 S16)) ?_ ?_ zfuel _ _
    · intro x15 S16; exact z_none
    · intro rec14 hrec14 x15 S16
      unfold LB_X5_clears_2
      refine z_iload_n (pc := 9) 1 dX5_clears_9 rfl rfl ?_
      refine z_iconst (pc := 10) (v := 3) dX5_clears_10 (by decide) ?_
      refine z_icmp_ge (pc := 11) 30 dX5_clears_11 rfl ?_ ?_
      · exact z_mask [true, false] (hk3 _) rfl
      · refine z_aload_n (pc := 14) 0 dX5_clears_14 rfl rfl ?_
        refine gf_X5_M_34_0 hG (pc := 15) dX5_clears_15 ?_
        refine z_bipush (pc := 18) (v := 12) dX5_clears_18 (by decide) ?_
        refine z_iload_n (pc := 20) 1 dX5_clears_20 rfl rfl ?_
        refine z_iadd (pc := 21) dX5_clears_21 ?_
        refine z_iconst (pc := 22) (v := 0) dX5_clears_22 (by decide) ?_
        refine z_chk (fun h17 => ?_)
        refine z_iastore (pc := 23) 18 15 (zGM_s18 hG) h17 dX5_clears_23 ?_
        refine z_letS (fun S18 => ?_)
        refine z_iinc (pc := 24) (w := x15 + 1) dX5_clears_24 rfl (by rw [show Int32.ofInt 1 = 1 from by decide]) (Nat.le_of_ble_eq_true rfl) rfl ?_
        refine z_goto (pc := 27) 9 dX5_clears_27 rfl ?_
        exact hrec14 _ _
abbrev mX5_isByte : zMr := ("HiddenCubeModel", cX5_isByte, 4, (some .boolean), 1, 0, 0, none)
def F_X5_isByte (a1 : Int32) (a2 : Int32) (a3 : Int32) (S : zSt) : Option (Int32 × zSt) :=
if (S.1 0 6) ≤ a1 then (some (0, S)) else (chk a1 1400 (if (S.1 6 (a1).toNatClampNeg) < a2 then (some (0, S)) else (chk a1 1400 (if a3 < (S.1 6 (a1).toNatClampNeg) then (some (0, S)) else (some (1, S))))))
theorem mv_X5_isByte : ZV mX5_isByte yX5_isByte 3 := ⟨q1626, qs83, q155, q1627, rfl, by decide, by decide, by decide +kernel⟩
theorem ct_X5_isByte {G : zGw} (hG : zGM G) (a1 : Int32) (a2 : Int32) (a3 : Int32) : Zc mX5_isByte yX5_isByte zJI G [.ref (G.1 0), .int a1, .int a2, .int a3] (F_X5_isByte a1 a2 a3) := by
  refine Zc_of [some (.ref (G.1 0)), some (.int a1), some (.int a2), some (.int a3)] (by decide) rfl rfl (Nat.le_of_ble_eq_true rfl) rfl (fun X S res => ?_)
  unfold F_X5_isByte
  refine z_iload_n (pc := 0) 1 dX5_isByte_0 rfl rfl ?_
  refine z_aload_n (pc := 1) 0 dX5_isByte_1 rfl rfl ?_
  refine gf_X5_M_148_0 hG (pc := 2) dX5_isByte_2 ?_
  refine z_icmp_ge (pc := 5) 32 dX5_isByte_5 rfl ?_ ?_
  · refine z_iconst (pc := 32) (v := 0) dX5_isByte_32 (by decide) ?_
    exact z_zret0 rfl dX5_isByte_33 rfl
  · refine z_aload_n (pc := 8) 0 dX5_isByte_8 rfl rfl ?_
    refine gf_X5_M_23_0 hG (pc := 9) dX5_isByte_9 ?_
    refine z_iload_n (pc := 12) 1 dX5_isByte_12 rfl rfl ?_
    refine z_chk (fun h1 => ?_)
    refine z_baload (pc := 13) 6 1400 (zGM_s6 hG) h1 dX5_isByte_13 ?_
    refine z_iload_n (pc := 14) 2 dX5_isByte_14 rfl rfl ?_
    refine z_icmp_lt (pc := 15) 32 dX5_isByte_15 rfl ?_ ?_
    · refine z_iconst (pc := 32) (v := 0) dX5_isByte_32 (by decide) ?_
      exact z_zret0 rfl dX5_isByte_33 rfl
    · refine z_aload_n (pc := 18) 0 dX5_isByte_18 rfl rfl ?_
      refine gf_X5_M_23_0 hG (pc := 19) dX5_isByte_19 ?_
      refine z_iload_n (pc := 22) 1 dX5_isByte_22 rfl rfl ?_
      refine z_chk (fun h2 => ?_)
      refine z_baload (pc := 23) 6 1400 (zGM_s6 hG) h2 dX5_isByte_23 ?_
      refine z_iload_n (pc := 24) 3 dX5_isByte_24 rfl rfl ?_
      refine z_icmp_gt (pc := 25) 32 dX5_isByte_25 rfl ?_ ?_
      · refine z_iconst (pc := 32) (v := 0) dX5_isByte_32 (by decide) ?_
        exact z_zret0 rfl dX5_isByte_33 rfl
      · refine z_iconst (pc := 28) (v := 1) dX5_isByte_28 (by decide) ?_
        refine z_goto (pc := 29) 33 dX5_isByte_29 rfl ?_
        exact z_zret1 rfl dX5_isByte_33 rfl
abbrev mX5_next : zMr := ("HiddenCubeModel", cX5_next, 2, none, 2, 0, 0, none)
def LB_X5_next_1 (rec16 : zSt → Option (Unit × zSt))  (S17 : zSt) : Option (Unit × zSt) :=
zbind (F_X5_isByte (S17.1 0 7) 48 57 S17) (fun r19 S18 =>
if r19 = 0 then (some ((), S18)) else (joinK (fun (v21 : Int32) => zlet (sI S18 0 10 v21 : zSt) (fun S22 : zSt =>
zlet (sI S22 0 7 ((S22.1 0 7) + 1) : zSt) (fun S23 : zSt =>
rec16 S23))) (fun j20 : Int32 → Option (Unit × zSt) =>
if (S18.1 0 10) ≤ 100000 then (chk (S18.1 0 7) 1400 (j20 (((10 * (S18.1 0 10)) + (S18.1 6 (S18.1 0 7).toNatClampNeg)) - 48))) else (j20 1000000))))
def LB_X5_next_2 (rec26 : Int32 → zSt → Option (Unit × zSt)) (x27 : Int32) (S28 : zSt) : Option (Unit × zSt) :=
zbind (F_X5_isByte (S28.1 0 7) 97 122 S28) (fun r30 S29 =>
if r30 = 0 then (some ((), S29)) else (joinK (fun (v32 : Int64) => zlet (sL S29 0 11 v32 : zSt) (fun S33 : zSt =>
joinK (fun  (S35 : zSt) => zlet (sI S35 0 7 ((S35.1 0 7) + 1) : zSt) (fun S36 : zSt =>
rec26 (x27 + 1) S36)) (fun j34 : zSt → Option (Unit × zSt) =>
if x27 ≤ 11 then (j34 S33) else (zlet (sL S33 0 11 (-1) : zSt) (fun S37 : zSt =>
j34 S37))))) (fun j31 : Int64 → Option (Unit × zSt) =>
if x27 ≤ 11 then (chk (S29.1 0 7) 1400 (j31 (((27 * (S29.2 0 11)) + ((S29.1 6 (S29.1 0 7).toNatClampNeg).toInt64)) - 96))) else (j31 (-1)))))
def LB_X5_next_3 (k1 : zSt → Option (Unit × zSt)) (rec40 : zSt → Option (Unit × zSt))  (S41 : zSt) : Option (Unit × zSt) :=
zbind (F_X5_isByte (S41.1 0 7) 32 32 S41) (fun r43 S42 =>
joinK (fun  (S45 : zSt) => zlet (sI S45 0 7 ((S45.1 0 7) + 1) : zSt) (fun S46 : zSt =>
rec40 S46)) (fun j44 : zSt → Option (Unit × zSt) =>
if r43 = 0 then (zbind (F_X5_isByte (S42.1 0 7) 10 10 S42) (fun r48 S47 =>
if r48 = 0 then (k1 S47) else (j44 S47))) else (j44 S42)))
def F_X5_next  (S : zSt) : Option (Unit × zSt) :=
joinK (fun  (S2 : zSt) => zlet (sI S2 0 9 (S2.1 0 7) : zSt) (fun S3 : zSt =>
zlet (sI S3 0 10 0 : zSt) (fun S4 : zSt =>
zlet (sL S4 0 11 0 : zSt) (fun S5 : zSt =>
if (S5.1 0 7) = (S5.1 0 6) then (zlet (sI S5 0 8 0 : zSt) (fun S39 : zSt =>
some ((), S39))) else (zbind (F_X5_isByte (S5.1 0 7) 97 122 S5) (fun r7 S6 =>
if r7 = 0 then (zbind (F_X5_isByte (S6.1 0 7) 48 57 S6) (fun r9 S8 =>
if r9 = 0 then (chk (S8.1 0 7) 1400 (zlet (sI S8 0 8 (if (S8.1 6 (S8.1 0 7).toNatClampNeg) = 59 then 3 else 4) : zSt) (fun S12 : zSt =>
zlet (sI S12 0 7 ((S12.1 0 7) + 1) : zSt) (fun S13 : zSt =>
some ((), S13))))) else (zlet (sI S8 0 8 2 : zSt) (fun S15 : zSt =>
loopK (fun _ => none) (LB_X5_next_1) zfuel S15)))) else (zlet (sI S6 0 8 1 : zSt) (fun S25 : zSt =>
loopK (fun _ _ => none) (LB_X5_next_2) zfuel 0 S25)))))))) (fun k1 : zSt → Option (Unit × zSt) =>
loopK (fun _ => none) (LB_X5_next_3 k1) zfuel S)
theorem mv_X5_next : ZV mX5_next yX5_next 0 := ⟨q1622, qs82, q155, q1623, rfl, by decide, by decide, by decide +kernel⟩
theorem ct_X5_next {G : zGw} (hG : zGM G)  : Zc mX5_next yX5_next zJV G [.ref (G.1 0)] (F_X5_next) := by
  refine Zc_of [some (.ref (G.1 0)), none] (by decide) rfl rfl (Nat.le_of_ble_eq_true rfl) rfl (fun X S res => ?_)
  unfold F_X5_next
  refine z_join (fun j : zSt → Option (Unit × zSt) => ∀  (S2 : zSt), Zm X mX5_next zJV G (0, 0) res S2 43 [some (.ref (G.1 0)), none] [] (j S2)) ?_ (fun k1 hk1 => ?_)
  · intro S2
    refine z_aload_n (pc := 43) 0 dX5_next_43 rfl rfl ?_
    refine z_aload_n (pc := 44) 0 dX5_next_44 rfl rfl ?_
    refine gf_X5_M_155_0 hG (pc := 45) dX5_next_45 ?_
    refine pf_X5_M_162_0 hG (pc := 48) dX5_next_48 ?_
    refine z_letS (fun S3 => ?_)
    refine z_aload_n (pc := 51) 0 dX5_next_51 rfl rfl ?_
    refine z_iconst (pc := 52) (v := 0) dX5_next_52 (by decide) ?_
    refine pf_X5_M_165_0 hG (pc := 53) dX5_next_53 ?_
    refine z_letS (fun S4 => ?_)
    refine z_aload_n (pc := 56) 0 dX5_next_56 rfl rfl ?_
    refine z_lconst (pc := 57) (v := 0) dX5_next_57 (by decide) ?_
    refine pf_X5_M_168_0 hG (pc := 58) dX5_next_58 ?_
    refine z_letS (fun S5 => ?_)
    refine z_aload_n (pc := 61) 0 dX5_next_61 rfl rfl ?_
    refine gf_X5_M_155_0 hG (pc := 62) dX5_next_62 ?_
    refine z_aload_n (pc := 65) 0 dX5_next_65 rfl rfl ?_
    refine gf_X5_M_148_0 hG (pc := 66) dX5_next_66 ?_
    refine z_icmp_ne (pc := 69) 80 dX5_next_69 rfl ?_ ?_
    · refine z_aload_n (pc := 80) 0 dX5_next_80 rfl rfl ?_
      refine z_aload_n (pc := 81) 0 dX5_next_81 rfl rfl ?_
      refine gf_X5_M_155_0 hG (pc := 82) dX5_next_82 ?_
      refine z_bipush (pc := 85) (v := 97) dX5_next_85 (by decide) ?_
      refine z_bipush (pc := 87) (v := 122) dX5_next_87 (by decide) ?_
      refine z_callVi (pc := 89) _ _ 0 5 (ct_X5_isByte hG _ _ _) mv_X5_isByte q1624 rfl (zGM_s0 hG) rfl (Nat.le_of_ble_eq_true rfl) (Nat.le_of_ble_eq_true rfl) rfl rfl (Nat.le_of_ble_eq_true rfl) dX5_next_89 (fun r7 S6 => ?_)
      refine z_if_eq (pc := 92) 188 dX5_next_92 rfl ?_ ?_
      · refine z_aload_n (pc := 188) 0 dX5_next_188 rfl rfl ?_
        refine z_aload_n (pc := 189) 0 dX5_next_189 rfl rfl ?_
        refine gf_X5_M_155_0 hG (pc := 190) dX5_next_190 ?_
        refine z_bipush (pc := 193) (v := 48) dX5_next_193 (by decide) ?_
        refine z_bipush (pc := 195) (v := 57) dX5_next_195 (by decide) ?_
        refine z_callVi (pc := 197) _ _ 0 5 (ct_X5_isByte hG _ _ _) mv_X5_isByte q1624 rfl (zGM_s0 hG) rfl (Nat.le_of_ble_eq_true rfl) (Nat.le_of_ble_eq_true rfl) rfl rfl (Nat.le_of_ble_eq_true rfl) dX5_next_197 (fun r9 S8 => ?_)
        refine z_if_eq (pc := 200) 274 dX5_next_200 rfl ?_ ?_
        · refine z_aload_n (pc := 274) 0 dX5_next_274 rfl rfl ?_
          refine z_aload_n (pc := 275) 0 dX5_next_275 rfl rfl ?_
          refine gf_X5_M_23_0 hG (pc := 276) dX5_next_276 ?_
          refine z_aload_n (pc := 279) 0 dX5_next_279 rfl rfl ?_
          refine gf_X5_M_155_0 hG (pc := 280) dX5_next_280 ?_
          refine z_chk (fun h10 => ?_)
          refine z_baload (pc := 283) 6 1400 (zGM_s6 hG) h10 dX5_next_283 ?_
          refine z_bipush (pc := 284) (v := 59) dX5_next_284 (by decide) ?_
          refine z_pure (st0 := [.ref (G.1 0)]) 294 ((if (S8.1 6 (S8.1 0 7).toNatClampNeg) = 59 then 3 else 4)) ?_ (fun hJ => ?_)
          · refine pf_X5_M_172_0 hG (pc := 294) dX5_next_294 ?_
            refine z_letS (fun S12 => ?_)
            refine z_aload_n (pc := 297) 0 dX5_next_297 rfl rfl ?_
            refine z_dup (pc := 298) dX5_next_298 rfl ?_
            refine gf_X5_M_155_0 hG (pc := 299) dX5_next_299 ?_
            refine z_iconst (pc := 302) (v := 1) dX5_next_302 (by decide) ?_
            refine z_iadd (pc := 303) dX5_next_303 ?_
            refine pf_X5_M_155_0 hG (pc := 304) dX5_next_304 ?_
            refine z_letS (fun S13 => ?_)
            exact z_vret rfl dX5_next_307 rfl
          · refine z_icmpd_ne (pc := 286) 293 dX5_next_286 rfl (fun c14 => ?_) (fun c14 => ?_)
            · refine z_iconst (pc := 293) (v := 4) dX5_next_293 (by decide) ?_
              exact z_leaf hJ (by simp only [if_neg c14])
            · refine z_iconst (pc := 289) (v := 3) dX5_next_289 (by decide) ?_
              refine z_goto (pc := 290) 294 dX5_next_290 rfl ?_
              exact z_leaf hJ (by simp only [if_pos c14])
        · refine z_aload_n (pc := 203) 0 dX5_next_203 rfl rfl ?_
          refine z_iconst (pc := 204) (v := 2) dX5_next_204 (by decide) ?_
          refine pf_X5_M_172_0 hG (pc := 205) dX5_next_205 ?_
          refine z_letS (fun S15 => ?_)
          refine z_loopK (fun j : zSt → Option (Unit × zSt) => ∀  (S17 : zSt), Zm X mX5_next zJV G (0, 0) res S17 208 [some (.ref (G.1 0)), none] [] (j S17)) ?_ ?_ zfuel _
          · intro S17; exact z_none
          · intro rec16 hrec16 S17
            unfold LB_X5_next_1
            refine z_aload_n (pc := 208) 0 dX5_next_208 rfl rfl ?_
            refine z_aload_n (pc := 209) 0 dX5_next_209 rfl rfl ?_
            refine gf_X5_M_155_0 hG (pc := 210) dX5_next_210 ?_
            refine z_bipush (pc := 213) (v := 48) dX5_next_213 (by decide) ?_
            refine z_bipush (pc := 215) (v := 57) dX5_next_215 (by decide) ?_
            refine z_callVi (pc := 217) _ _ 0 5 (ct_X5_isByte hG _ _ _) mv_X5_isByte q1624 rfl (zGM_s0 hG) rfl (Nat.le_of_ble_eq_true rfl) (Nat.le_of_ble_eq_true rfl) rfl rfl (Nat.le_of_ble_eq_true rfl) dX5_next_217 (fun r19 S18 => ?_)
            refine z_if_eq (pc := 220) 307 dX5_next_220 rfl ?_ ?_
            · exact z_vret rfl dX5_next_307 rfl
            · refine z_aload_n (pc := 223) 0 dX5_next_223 rfl rfl ?_
              refine z_aload_n (pc := 224) 0 dX5_next_224 rfl rfl ?_
              refine gf_X5_M_165_0 hG (pc := 225) dX5_next_225 ?_
              refine z_ldc (pc := 228) (v := 100000) dX5_next_228 q1631 ?_
              refine z_join (fun j : Int32 → Option (Unit × zSt) => ∀ (v21 : Int32), Zm X mX5_next zJV G (0, 0) res S18 258 [some (.ref (G.1 0)), none] [.int v21, .ref (G.1 0)] (j v21)) ?_ (fun j20 hj20 => ?_)
              · intro v21
                refine pf_X5_M_165_0 hG (pc := 258) dX5_next_258 ?_
                refine z_letS (fun S22 => ?_)
                refine z_aload_n (pc := 261) 0 dX5_next_261 rfl rfl ?_
                refine z_dup (pc := 262) dX5_next_262 rfl ?_
                refine gf_X5_M_155_0 hG (pc := 263) dX5_next_263 ?_
                refine z_iconst (pc := 266) (v := 1) dX5_next_266 (by decide) ?_
                refine z_iadd (pc := 267) dX5_next_267 ?_
                refine pf_X5_M_155_0 hG (pc := 268) dX5_next_268 ?_
                refine z_letS (fun S23 => ?_)
                refine z_goto (pc := 271) 208 dX5_next_271 rfl ?_
                exact hrec16 _
              · refine z_icmp_le (pc := 230) 238 dX5_next_230 rfl ?_ ?_
                · refine z_bipush (pc := 238) (v := 10) dX5_next_238 (by decide) ?_
                  refine z_aload_n (pc := 240) 0 dX5_next_240 rfl rfl ?_
                  refine gf_X5_M_165_0 hG (pc := 241) dX5_next_241 ?_
                  refine z_imul (pc := 244) dX5_next_244 ?_
                  refine z_aload_n (pc := 245) 0 dX5_next_245 rfl rfl ?_
                  refine gf_X5_M_23_0 hG (pc := 246) dX5_next_246 ?_
                  refine z_aload_n (pc := 249) 0 dX5_next_249 rfl rfl ?_
                  refine gf_X5_M_155_0 hG (pc := 250) dX5_next_250 ?_
                  refine z_chk (fun h24 => ?_)
                  refine z_baload (pc := 253) 6 1400 (zGM_s6 hG) h24 dX5_next_253 ?_
                  refine z_iadd (pc := 254) dX5_next_254 ?_
                  refine z_bipush (pc := 255) (v := 48) dX5_next_255 (by decide) ?_
                  refine z_isub (pc := 257) dX5_next_257 ?_
                  exact hj20 _
                · refine z_ldc (pc := 233) (v := 1000000) dX5_next_233 q1632 ?_
                  refine z_goto (pc := 235) 258 dX5_next_235 rfl ?_
                  exact hj20 _
      · refine z_aload_n (pc := 95) 0 dX5_next_95 rfl rfl ?_
        refine z_iconst (pc := 96) (v := 1) dX5_next_96 (by decide) ?_
        refine pf_X5_M_172_0 hG (pc := 97) dX5_next_97 ?_
        refine z_letS (fun S25 => ?_)
        refine z_iconst (pc := 100) (v := 0) dX5_next_100 (by decide) ?_
        refine z_istore_n (pc := 101) 1 dX5_next_101 rfl (Nat.le_of_ble_eq_true rfl) rfl ?_
        refine z_loopK (fun j : Int32 → zSt → Option (Unit × zSt) => ∀ (x27 : Int32) (S28 : zSt), Zm X mX5_next zJV G (0, 0) res S28 102 [some (.ref (G.1 0)), some (.int x27)] [] (j x27 S28)) ?_ ?_ zfuel _ _
        · intro x27 S28; exact z_none
        · intro rec26 hrec26 x27 S28
          unfold LB_X5_next_2
          refine z_aload_n (pc := 102) 0 dX5_next_102 rfl rfl ?_
          refine z_aload_n (pc := 103) 0 dX5_next_103 rfl rfl ?_
          refine gf_X5_M_155_0 hG (pc := 104) dX5_next_104 ?_
          refine z_bipush (pc := 107) (v := 97) dX5_next_107 (by decide) ?_
          refine z_bipush (pc := 109) (v := 122) dX5_next_109 (by decide) ?_
          refine z_callVi (pc := 111) _ _ 0 5 (ct_X5_isByte hG _ _ _) mv_X5_isByte q1624 rfl (zGM_s0 hG) rfl (Nat.le_of_ble_eq_true rfl) (Nat.le_of_ble_eq_true rfl) rfl rfl (Nat.le_of_ble_eq_true rfl) dX5_next_111 (fun r30 S29 => ?_)
          refine z_if_eq (pc := 114) 185 dX5_next_114 rfl ?_ ?_
          · refine z_goto (pc := 185) 307 dX5_next_185 rfl ?_
            exact z_vret rfl dX5_next_307 rfl
          · refine z_aload_n (pc := 117) 0 dX5_next_117 rfl rfl ?_
            refine z_iload_n (pc := 118) 1 dX5_next_118 rfl rfl ?_
            refine z_bipush (pc := 119) (v := 11) dX5_next_119 (by decide) ?_
            refine z_join (fun j : Int64 → Option (Unit × zSt) => ∀ (v32 : Int64), Zm X mX5_next zJV G (0, 0) res S29 153 [some (.ref (G.1 0)), some (.int x27)] [.long v32, .ref (G.1 0)] (j v32)) ?_ (fun j31 hj31 => ?_)
            · intro v32
              refine pf_X5_M_168_0 hG (pc := 153) dX5_next_153 ?_
              refine z_letS (fun S33 => ?_)
              refine z_iload_n (pc := 156) 1 dX5_next_156 rfl rfl ?_
              refine z_bipush (pc := 157) (v := 11) dX5_next_157 (by decide) ?_
              refine z_join (fun j : zSt → Option (Unit × zSt) => ∀  (S35 : zSt), Zm X mX5_next zJV G (0, 0) res S35 169 [some (.ref (G.1 0)), some (.int x27)] [] (j S35)) ?_ (fun j34 hj34 => ?_)
              · intro S35
                refine z_aload_n (pc := 169) 0 dX5_next_169 rfl rfl ?_
                refine z_dup (pc := 170) dX5_next_170 rfl ?_
                refine gf_X5_M_155_0 hG (pc := 171) dX5_next_171 ?_
                refine z_iconst (pc := 174) (v := 1) dX5_next_174 (by decide) ?_
                refine z_iadd (pc := 175) dX5_next_175 ?_
                refine pf_X5_M_155_0 hG (pc := 176) dX5_next_176 ?_
                refine z_letS (fun S36 => ?_)
                refine z_iinc (pc := 179) (w := x27 + 1) dX5_next_179 rfl (by rw [show Int32.ofInt 1 = 1 from by decide]) (Nat.le_of_ble_eq_true rfl) rfl ?_
                refine z_goto (pc := 182) 102 dX5_next_182 rfl ?_
                exact hrec26 _ _
              · refine z_icmp_le (pc := 159) 169 dX5_next_159 rfl ?_ ?_
                · exact hj34 _
                · refine z_aload_n (pc := 162) 0 dX5_next_162 rfl rfl ?_
                  refine z_ldc2 (pc := 163) (v := (-1)) dX5_next_163 q1628 ?_
                  refine pf_X5_M_168_0 hG (pc := 166) dX5_next_166 ?_
                  refine z_letS (fun S37 => ?_)
                  exact hj34 _
            · refine z_icmp_le (pc := 121) 130 dX5_next_121 rfl ?_ ?_
              · refine z_ldc2 (pc := 130) (v := 27) dX5_next_130 q1629 ?_
                refine z_aload_n (pc := 133) 0 dX5_next_133 rfl rfl ?_
                refine gf_X5_M_168_0 hG (pc := 134) dX5_next_134 ?_
                refine z_lmul (pc := 137) dX5_next_137 ?_
                refine z_aload_n (pc := 138) 0 dX5_next_138 rfl rfl ?_
                refine gf_X5_M_23_0 hG (pc := 139) dX5_next_139 ?_
                refine z_aload_n (pc := 142) 0 dX5_next_142 rfl rfl ?_
                refine gf_X5_M_155_0 hG (pc := 143) dX5_next_143 ?_
                refine z_chk (fun h38 => ?_)
                refine z_baload (pc := 146) 6 1400 (zGM_s6 hG) h38 dX5_next_146 ?_
                refine z_i2l (pc := 147) dX5_next_147 ?_
                refine z_ladd (pc := 148) dX5_next_148 ?_
                refine z_ldc2 (pc := 149) (v := 96) dX5_next_149 q1630 ?_
                refine z_lsub (pc := 152) dX5_next_152 ?_
                exact hj31 _
              · refine z_ldc2 (pc := 124) (v := (-1)) dX5_next_124 q1628 ?_
                refine z_goto (pc := 127) 153 dX5_next_127 rfl ?_
                exact hj31 _
    · refine z_aload_n (pc := 72) 0 dX5_next_72 rfl rfl ?_
      refine z_iconst (pc := 73) (v := 0) dX5_next_73 (by decide) ?_
      refine pf_X5_M_172_0 hG (pc := 74) dX5_next_74 ?_
      refine z_letS (fun S39 => ?_)
      refine z_goto (pc := 77) 307 dX5_next_77 rfl ?_
      exact z_vret rfl dX5_next_307 rfl
  · refine z_loopK (fun j : zSt → Option (Unit × zSt) => ∀  (S41 : zSt), Zm X mX5_next zJV G (0, 0) res S41 0 [some (.ref (G.1 0)), none] [] (j S41)) ?_ ?_ zfuel _
    · intro S41; exact z_none
    · intro rec40 hrec40 S41
      unfold LB_X5_next_3
      refine z_aload_n (pc := 0) 0 dX5_next_0 rfl rfl ?_
      refine z_aload_n (pc := 1) 0 dX5_next_1 rfl rfl ?_
      refine gf_X5_M_155_0 hG (pc := 2) dX5_next_2 ?_
      refine z_bipush (pc := 5) (v := 32) dX5_next_5 (by decide) ?_
      refine z_bipush (pc := 7) (v := 32) dX5_next_7 (by decide) ?_
      refine z_callVi (pc := 9) _ _ 0 5 (ct_X5_isByte hG _ _ _) mv_X5_isByte q1624 rfl (zGM_s0 hG) rfl (Nat.le_of_ble_eq_true rfl) (Nat.le_of_ble_eq_true rfl) rfl rfl (Nat.le_of_ble_eq_true rfl) dX5_next_9 (fun r43 S42 => ?_)
      refine z_join (fun j : zSt → Option (Unit × zSt) => ∀  (S45 : zSt), Zm X mX5_next zJV G (0, 0) res S45 30 [some (.ref (G.1 0)), none] [] (j S45)) ?_ (fun j44 hj44 => ?_)
      · intro S45
        refine z_aload_n (pc := 30) 0 dX5_next_30 rfl rfl ?_
        refine z_dup (pc := 31) dX5_next_31 rfl ?_
        refine gf_X5_M_155_0 hG (pc := 32) dX5_next_32 ?_
        refine z_iconst (pc := 35) (v := 1) dX5_next_35 (by decide) ?_
        refine z_iadd (pc := 36) dX5_next_36 ?_
        refine pf_X5_M_155_0 hG (pc := 37) dX5_next_37 ?_
        refine z_letS (fun S46 => ?_)
        refine z_goto (pc := 40) 0 dX5_next_40 rfl ?_
        exact hrec40 _
      · refine z_if_ne (pc := 12) 30 dX5_next_12 rfl ?_ ?_
        · exact hj44 _
        · refine z_aload_n (pc := 15) 0 dX5_next_15 rfl rfl ?_
          refine z_aload_n (pc := 16) 0 dX5_next_16 rfl rfl ?_
          refine gf_X5_M_155_0 hG (pc := 17) dX5_next_17 ?_
          refine z_bipush (pc := 20) (v := 10) dX5_next_20 (by decide) ?_
          refine z_bipush (pc := 22) (v := 10) dX5_next_22 (by decide) ?_
          refine z_callVi (pc := 24) _ _ 0 5 (ct_X5_isByte hG _ _ _) mv_X5_isByte q1624 rfl (zGM_s0 hG) rfl (Nat.le_of_ble_eq_true rfl) (Nat.le_of_ble_eq_true rfl) rfl rfl (Nat.le_of_ble_eq_true rfl) dX5_next_24 (fun r48 S47 => ?_)
          refine z_if_eq (pc := 27) 43 dX5_next_27 rfl ?_ ?_
          · exact hk1 _
          · exact hj44 _
abbrev mX5_begins : zMr := ("HiddenCubeModel", cX5_begins, 1, none, 3, 0, 0, none)
def F_X5_begins  (S : zSt) : Option (Unit × zSt) :=
zlet (sI S 0 12 0 : zSt) (fun S1 : zSt =>
zlet (sI S1 0 13 (-1) : zSt) (fun S2 : zSt =>
zlet (sI S2 0 7 0 : zSt) (fun S3 : zSt =>
zbind (F_X5_next S3) (fun _ S4 =>
some ((), S4)))))
theorem mv_X5_begins : ZV mX5_begins yX5_begins 0 := ⟨q1618, qs81, q155, q1619, rfl, by decide, by decide, by decide +kernel⟩
theorem ct_X5_begins {G : zGw} (hG : zGM G)  : Zc mX5_begins yX5_begins zJV G [.ref (G.1 0)] (F_X5_begins) := by
  refine Zc_of [some (.ref (G.1 0))] (by decide) rfl rfl (Nat.le_of_ble_eq_true rfl) rfl (fun X S res => ?_)
  unfold F_X5_begins
  refine z_aload_n (pc := 0) 0 dX5_begins_0 rfl rfl ?_
  refine z_iconst (pc := 1) (v := 0) dX5_begins_1 (by decide) ?_
  refine pf_X5_M_183_0 hG (pc := 2) dX5_begins_2 ?_
  refine z_letS (fun S1 => ?_)
  refine z_aload_n (pc := 5) 0 dX5_begins_5 rfl rfl ?_
  refine z_iconst (pc := 6) (v := (-1)) dX5_begins_6 (by decide) ?_
  refine pf_X5_M_186_0 hG (pc := 7) dX5_begins_7 ?_
  refine z_letS (fun S2 => ?_)
  refine z_aload_n (pc := 10) 0 dX5_begins_10 rfl rfl ?_
  refine z_iconst (pc := 11) (v := 0) dX5_begins_11 (by decide) ?_
  refine pf_X5_M_155_0 hG (pc := 12) dX5_begins_12 ?_
  refine z_letS (fun S3 => ?_)
  refine z_aload_n (pc := 15) 0 dX5_begins_15 rfl rfl ?_
  refine z_callVv (pc := 16) _ _ 0 5 (ct_X5_next hG) mv_X5_next q1620 rfl (zGM_s0 hG) rfl (Nat.le_of_ble_eq_true rfl) (Nat.le_of_ble_eq_true rfl) rfl rfl (Nat.le_of_ble_eq_true rfl) dX5_begins_16 (fun _ S4 => ?_)
  exact z_vret rfl dX5_begins_19 rfl
abbrev mX5_isOver : zMr := ("HiddenCubeModel", cX5_isOver, 1, none, 1, 0, 0, none)
def F_X5_isOver  (S : zSt) : Option (Unit × zSt) :=
zlet (sI S 0 6 0 : zSt) (fun S1 : zSt =>
zlet (sI S1 0 14 (S1.1 0 12) : zSt) (fun S2 : zSt =>
zlet (sI S2 0 15 (if (S2.1 0 12) = 0 then (-1) else S2.1 0 13) : zSt) (fun S4 : zSt =>
some ((), S4))))
theorem mv_X5_isOver : ZV mX5_isOver yX5_isOver 0 := ⟨q1700, qs98, q155, q1701, rfl, by decide, by decide, by decide +kernel⟩
theorem ct_X5_isOver {G : zGw} (hG : zGM G)  : Zc mX5_isOver yX5_isOver zJV G [.ref (G.1 0)] (F_X5_isOver) := by
  refine Zc_of [some (.ref (G.1 0))] (by decide) rfl rfl (Nat.le_of_ble_eq_true rfl) rfl (fun X S res => ?_)
  unfold F_X5_isOver
  refine z_aload_n (pc := 0) 0 dX5_isOver_0 rfl rfl ?_
  refine z_iconst (pc := 1) (v := 0) dX5_isOver_1 (by decide) ?_
  refine pf_X5_M_148_0 hG (pc := 2) dX5_isOver_2 ?_
  refine z_letS (fun S1 => ?_)
  refine z_aload_n (pc := 5) 0 dX5_isOver_5 rfl rfl ?_
  refine z_aload_n (pc := 6) 0 dX5_isOver_6 rfl rfl ?_
  refine gf_X5_M_183_0 hG (pc := 7) dX5_isOver_7 ?_
  refine pf_X5_M_210_0 hG (pc := 10) dX5_isOver_10 ?_
  refine z_letS (fun S2 => ?_)
  refine z_aload_n (pc := 13) 0 dX5_isOver_13 rfl rfl ?_
  refine z_aload_n (pc := 14) 0 dX5_isOver_14 rfl rfl ?_
  refine gf_X5_M_183_0 hG (pc := 15) dX5_isOver_15 ?_
  refine z_pure (st0 := [.ref (G.1 0)]) 29 ((if (S2.1 0 12) = 0 then (-1) else S2.1 0 13)) ?_ (fun hJ => ?_)
  · refine pf_X5_M_27_0 hG (pc := 29) dX5_isOver_29 ?_
    refine z_letS (fun S4 => ?_)
    exact z_vret rfl dX5_isOver_32 rfl
  · refine z_ifd_ne (pc := 18) 25 dX5_isOver_18 rfl (fun c5 => ?_) (fun c5 => ?_)
    · refine z_aload_n (pc := 25) 0 dX5_isOver_25 rfl rfl ?_
      refine gf_X5_M_186_0 hG (pc := 26) dX5_isOver_26 ?_
      exact z_leaf hJ (by simp only [if_neg c5])
    · refine z_iconst (pc := 21) (v := (-1)) dX5_isOver_21 (by decide) ?_
      refine z_goto (pc := 22) 29 dX5_isOver_22 rfl ?_
      exact z_leaf hJ (by simp only [if_pos c5])
abbrev mX5_copyRow_p17 : zMr := ("HiddenCubeModel", cX5_copyRow, 5, none, 1, 0, 0, none)
def LB_X5_copyRow_p17_1 (a1 : Int32) (a2 : Int32) (a3 : Int32) (rec1 : Int32 → zSt → Option (Unit × zSt)) (x2 : Int32) (S3 : zSt) : Option (Unit × zSt) :=
if a1 ≤ x2 then (some ((), S3)) else (zlet ((a1 * a2) + x2 : Int32) (fun w4 : Int32 =>
chk w4 5 (zlet ((a1 * a3) + x2 : Int32) (fun w6 : Int32 =>
chk w6 5 (zlet (sI S3 17 (w6).toNatClampNeg (S3.1 17 (w4).toNatClampNeg) : zSt) (fun S8 : zSt =>
rec1 (x2 + 1) S8))))))
def F_X5_copyRow_p17 (a1 : Int32) (a2 : Int32) (a3 : Int32) (S : zSt) : Option (Unit × zSt) :=
loopK (fun _ _ => none) (LB_X5_copyRow_p17_1 a1 a2 a3) zfuel 0 S
theorem mv_X5_copyRow_p17 : ZS mX5_copyRow_p17 yX5_copyRow 4 := ⟨q1707, q155, q1708, by decide, by decide, by decide +kernel⟩
theorem ct_X5_copyRow_p17 {G : zGw} (hG : zGM G) (a1 : Int32) (a2 : Int32) (a3 : Int32) : Zc mX5_copyRow_p17 yX5_copyRow zJV G [.ref (G.1 17), .int a1, .int a2, .int a3] (F_X5_copyRow_p17 a1 a2 a3) := by
  refine Zc_of [some (.ref (G.1 17)), some (.int a1), some (.int a2), some (.int a3), none] (by decide) rfl rfl (Nat.le_of_ble_eq_true rfl) rfl (fun X S res => ?_)
  unfold F_X5_copyRow_p17
  refine z_iconst (pc := 0) (v := 0) dX5_copyRow_0 (by decide) ?_
  refine z_istore (pc := 1) dX5_copyRow_1 (Nat.le_of_ble_eq_true rfl) rfl ?_
  refine z_loopK (fun j : Int32 → zSt → Option (Unit × zSt) => ∀ (x2 : Int32) (S3 : zSt), Zm X mX5_copyRow_p17 zJV G (0, 0) res S3 3 [some (.ref (G.1 17)), some (.int a1), some (.int a2), some (.int a3), some (.int x2)] [] (j x2 S3)) ?_ ?_ zfuel _ _
  · intro x2 S3; exact z_none
  · intro rec1 hrec1 x2 S3
    unfold LB_X5_copyRow_p17_1
    refine z_iload (pc := 3) dX5_copyRow_3 rfl ?_
    refine z_iload_n (pc := 5) 1 dX5_copyRow_5 rfl rfl ?_
    refine z_icmp_ge (pc := 6) 31 dX5_copyRow_6 rfl ?_ ?_
    · exact z_vret rfl dX5_copyRow_31 rfl
    · refine z_aload_n (pc := 9) 0 dX5_copyRow_9 rfl rfl ?_
      refine z_iload_n (pc := 10) 1 dX5_copyRow_10 rfl rfl ?_
      refine z_iload_n (pc := 11) 3 dX5_copyRow_11 rfl rfl ?_
      refine z_imul (pc := 12) dX5_copyRow_12 ?_
      refine z_iload (pc := 13) dX5_copyRow_13 rfl ?_
      refine z_iadd (pc := 15) dX5_copyRow_15 ?_
      refine z_aload_n (pc := 16) 0 dX5_copyRow_16 rfl rfl ?_
      refine z_iload_n (pc := 17) 1 dX5_copyRow_17 rfl rfl ?_
      refine z_iload_n (pc := 18) 2 dX5_copyRow_18 rfl rfl ?_
      refine z_imul (pc := 19) dX5_copyRow_19 ?_
      refine z_iload (pc := 20) dX5_copyRow_20 rfl ?_
      refine z_iadd (pc := 22) dX5_copyRow_22 ?_
      refine z_letI (fun w4 => ?_)
      refine z_chk (fun h5 => ?_)
      refine z_iaload (pc := 23) 17 5 (zGM_s17 hG) h5 dX5_copyRow_23 ?_
      refine z_letI2 (fun w6 => ?_)
      refine z_chk (fun h7 => ?_)
      refine z_iastore (pc := 24) 17 5 (zGM_s17 hG) h7 dX5_copyRow_24 ?_
      refine z_letS (fun S8 => ?_)
      refine z_iinc (pc := 25) (w := x2 + 1) dX5_copyRow_25 rfl (by rw [show Int32.ofInt 1 = 1 from by decide]) (Nat.le_of_ble_eq_true rfl) rfl ?_
      refine z_goto (pc := 28) 3 dX5_copyRow_28 rfl ?_
      exact hrec1 _ _
abbrev mX5_copyRow_p18 : zMr := ("HiddenCubeModel", cX5_copyRow, 5, none, 1, 0, 0, none)
def LB_X5_copyRow_p18_1 (a1 : Int32) (a2 : Int32) (a3 : Int32) (rec1 : Int32 → zSt → Option (Unit × zSt)) (x2 : Int32) (S3 : zSt) : Option (Unit × zSt) :=
if a1 ≤ x2 then (some ((), S3)) else (zlet ((a1 * a2) + x2 : Int32) (fun w4 : Int32 =>
chk w4 15 (zlet ((a1 * a3) + x2 : Int32) (fun w6 : Int32 =>
chk w6 15 (zlet (sI S3 18 (w6).toNatClampNeg (S3.1 18 (w4).toNatClampNeg) : zSt) (fun S8 : zSt =>
rec1 (x2 + 1) S8))))))
def F_X5_copyRow_p18 (a1 : Int32) (a2 : Int32) (a3 : Int32) (S : zSt) : Option (Unit × zSt) :=
loopK (fun _ _ => none) (LB_X5_copyRow_p18_1 a1 a2 a3) zfuel 0 S
theorem mv_X5_copyRow_p18 : ZS mX5_copyRow_p18 yX5_copyRow 4 := ⟨q1707, q155, q1708, by decide, by decide, by decide +kernel⟩
theorem ct_X5_copyRow_p18 {G : zGw} (hG : zGM G) (a1 : Int32) (a2 : Int32) (a3 : Int32) : Zc mX5_copyRow_p18 yX5_copyRow zJV G [.ref (G.1 18), .int a1, .int a2, .int a3] (F_X5_copyRow_p18 a1 a2 a3) := by
  refine Zc_of [some (.ref (G.1 18)), some (.int a1), some (.int a2), some (.int a3), none] (by decide) rfl rfl (Nat.le_of_ble_eq_true rfl) rfl (fun X S res => ?_)
  unfold F_X5_copyRow_p18
  refine z_iconst (pc := 0) (v := 0) dX5_copyRow_0 (by decide) ?_
  refine z_istore (pc := 1) dX5_copyRow_1 (Nat.le_of_ble_eq_true rfl) rfl ?_
  refine z_loopK (fun j : Int32 → zSt → Option (Unit × zSt) => ∀ (x2 : Int32) (S3 : zSt), Zm X mX5_copyRow_p18 zJV G (0, 0) res S3 3 [some (.ref (G.1 18)), some (.int a1), some (.int a2), some (.int a3), some (.int x2)] [] (j x2 S3)) ?_ ?_ zfuel _ _
  · intro x2 S3; exact z_none
  · intro rec1 hrec1 x2 S3
    unfold LB_X5_copyRow_p18_1
    refine z_iload (pc := 3) dX5_copyRow_3 rfl ?_
    refine z_iload_n (pc := 5) 1 dX5_copyRow_5 rfl rfl ?_
    refine z_icmp_ge (pc := 6) 31 dX5_copyRow_6 rfl ?_ ?_
    · exact z_vret rfl dX5_copyRow_31 rfl
    · refine z_aload_n (pc := 9) 0 dX5_copyRow_9 rfl rfl ?_
      refine z_iload_n (pc := 10) 1 dX5_copyRow_10 rfl rfl ?_
      refine z_iload_n (pc := 11) 3 dX5_copyRow_11 rfl rfl ?_
      refine z_imul (pc := 12) dX5_copyRow_12 ?_
      refine z_iload (pc := 13) dX5_copyRow_13 rfl ?_
      refine z_iadd (pc := 15) dX5_copyRow_15 ?_
      refine z_aload_n (pc := 16) 0 dX5_copyRow_16 rfl rfl ?_
      refine z_iload_n (pc := 17) 1 dX5_copyRow_17 rfl rfl ?_
      refine z_iload_n (pc := 18) 2 dX5_copyRow_18 rfl rfl ?_
      refine z_imul (pc := 19) dX5_copyRow_19 ?_
      refine z_iload (pc := 20) dX5_copyRow_20 rfl ?_
      refine z_iadd (pc := 22) dX5_copyRow_22 ?_
      refine z_letI (fun w4 => ?_)
      refine z_chk (fun h5 => ?_)
      refine z_iaload (pc := 23) 18 15 (zGM_s18 hG) h5 dX5_copyRow_23 ?_
      refine z_letI2 (fun w6 => ?_)
      refine z_chk (fun h7 => ?_)
      refine z_iastore (pc := 24) 18 15 (zGM_s18 hG) h7 dX5_copyRow_24 ?_
      refine z_letS (fun S8 => ?_)
      refine z_iinc (pc := 25) (w := x2 + 1) dX5_copyRow_25 rfl (by rw [show Int32.ofInt 1 = 1 from by decide]) (Nat.le_of_ble_eq_true rfl) rfl ?_
      refine z_goto (pc := 28) 3 dX5_copyRow_28 rfl ?_
      exact hrec1 _ _
abbrev mX5_copyRow_p20 : zMr := ("HiddenCubeModel", cX5_copyRow, 5, none, 1, 0, 0, none)
def LB_X5_copyRow_p20_1 (a1 : Int32) (a2 : Int32) (a3 : Int32) (rec1 : Int32 → zSt → Option (Unit × zSt)) (x2 : Int32) (S3 : zSt) : Option (Unit × zSt) :=
if a1 ≤ x2 then (some ((), S3)) else (zlet ((a1 * a2) + x2 : Int32) (fun w4 : Int32 =>
chk w4 25 (zlet ((a1 * a3) + x2 : Int32) (fun w6 : Int32 =>
chk w6 25 (zlet (sI S3 20 (w6).toNatClampNeg (S3.1 20 (w4).toNatClampNeg) : zSt) (fun S8 : zSt =>
rec1 (x2 + 1) S8))))))
def F_X5_copyRow_p20 (a1 : Int32) (a2 : Int32) (a3 : Int32) (S : zSt) : Option (Unit × zSt) :=
loopK (fun _ _ => none) (LB_X5_copyRow_p20_1 a1 a2 a3) zfuel 0 S
theorem mv_X5_copyRow_p20 : ZS mX5_copyRow_p20 yX5_copyRow 4 := ⟨q1707, q155, q1708, by decide, by decide, by decide +kernel⟩
theorem ct_X5_copyRow_p20 {G : zGw} (hG : zGM G) (a1 : Int32) (a2 : Int32) (a3 : Int32) : Zc mX5_copyRow_p20 yX5_copyRow zJV G [.ref (G.1 20), .int a1, .int a2, .int a3] (F_X5_copyRow_p20 a1 a2 a3) := by
  refine Zc_of [some (.ref (G.1 20)), some (.int a1), some (.int a2), some (.int a3), none] (by decide) rfl rfl (Nat.le_of_ble_eq_true rfl) rfl (fun X S res => ?_)
  unfold F_X5_copyRow_p20
  refine z_iconst (pc := 0) (v := 0) dX5_copyRow_0 (by decide) ?_
  refine z_istore (pc := 1) dX5_copyRow_1 (Nat.le_of_ble_eq_true rfl) rfl ?_
  refine z_loopK (fun j : Int32 → zSt → Option (Unit × zSt) => ∀ (x2 : Int32) (S3 : zSt), Zm X mX5_copyRow_p20 zJV G (0, 0) res S3 3 [some (.ref (G.1 20)), some (.int a1), some (.int a2), some (.int a3), some (.int x2)] [] (j x2 S3)) ?_ ?_ zfuel _ _
  · intro x2 S3; exact z_none
  · intro rec1 hrec1 x2 S3
    unfold LB_X5_copyRow_p20_1
    refine z_iload (pc := 3) dX5_copyRow_3 rfl ?_
    refine z_iload_n (pc := 5) 1 dX5_copyRow_5 rfl rfl ?_
    refine z_icmp_ge (pc := 6) 31 dX5_copyRow_6 rfl ?_ ?_
    · exact z_vret rfl dX5_copyRow_31 rfl
    · refine z_aload_n (pc := 9) 0 dX5_copyRow_9 rfl rfl ?_
      refine z_iload_n (pc := 10) 1 dX5_copyRow_10 rfl rfl ?_
      refine z_iload_n (pc := 11) 3 dX5_copyRow_11 rfl rfl ?_
      refine z_imul (pc := 12) dX5_copyRow_12 ?_
      refine z_iload (pc := 13) dX5_copyRow_13 rfl ?_
      refine z_iadd (pc := 15) dX5_copyRow_15 ?_
      refine z_aload_n (pc := 16) 0 dX5_copyRow_16 rfl rfl ?_
      refine z_iload_n (pc := 17) 1 dX5_copyRow_17 rfl rfl ?_
      refine z_iload_n (pc := 18) 2 dX5_copyRow_18 rfl rfl ?_
      refine z_imul (pc := 19) dX5_copyRow_19 ?_
      refine z_iload (pc := 20) dX5_copyRow_20 rfl ?_
      refine z_iadd (pc := 22) dX5_copyRow_22 ?_
      refine z_letI (fun w4 => ?_)
      refine z_chk (fun h5 => ?_)
      refine z_iaload (pc := 23) 20 25 (zGM_s20 hG) h5 dX5_copyRow_23 ?_
      refine z_letI2 (fun w6 => ?_)
      refine z_chk (fun h7 => ?_)
      refine z_iastore (pc := 24) 20 25 (zGM_s20 hG) h7 dX5_copyRow_24 ?_
      refine z_letS (fun S8 => ?_)
      refine z_iinc (pc := 25) (w := x2 + 1) dX5_copyRow_25 rfl (by rw [show Int32.ofInt 1 = 1 from by decide]) (Nat.le_of_ble_eq_true rfl) rfl ?_
      refine z_goto (pc := 28) 3 dX5_copyRow_28 rfl ?_
      exact hrec1 _ _
abbrev mX5_copyRow_p21 : zMr := ("HiddenCubeModel", cX5_copyRow, 5, none, 1, 0, 0, none)
def LB_X5_copyRow_p21_1 (a1 : Int32) (a2 : Int32) (a3 : Int32) (rec1 : Int32 → zSt → Option (Unit × zSt)) (x2 : Int32) (S3 : zSt) : Option (Unit × zSt) :=
if a1 ≤ x2 then (some ((), S3)) else (zlet ((a1 * a2) + x2 : Int32) (fun w4 : Int32 =>
chk w4 200 (zlet ((a1 * a3) + x2 : Int32) (fun w6 : Int32 =>
chk w6 200 (zlet (sI S3 21 (w6).toNatClampNeg (S3.1 21 (w4).toNatClampNeg) : zSt) (fun S8 : zSt =>
rec1 (x2 + 1) S8))))))
def F_X5_copyRow_p21 (a1 : Int32) (a2 : Int32) (a3 : Int32) (S : zSt) : Option (Unit × zSt) :=
loopK (fun _ _ => none) (LB_X5_copyRow_p21_1 a1 a2 a3) zfuel 0 S
theorem mv_X5_copyRow_p21 : ZS mX5_copyRow_p21 yX5_copyRow 4 := ⟨q1707, q155, q1708, by decide, by decide, by decide +kernel⟩
theorem ct_X5_copyRow_p21 {G : zGw} (hG : zGM G) (a1 : Int32) (a2 : Int32) (a3 : Int32) : Zc mX5_copyRow_p21 yX5_copyRow zJV G [.ref (G.1 21), .int a1, .int a2, .int a3] (F_X5_copyRow_p21 a1 a2 a3) := by
  refine Zc_of [some (.ref (G.1 21)), some (.int a1), some (.int a2), some (.int a3), none] (by decide) rfl rfl (Nat.le_of_ble_eq_true rfl) rfl (fun X S res => ?_)
  unfold F_X5_copyRow_p21
  refine z_iconst (pc := 0) (v := 0) dX5_copyRow_0 (by decide) ?_
  refine z_istore (pc := 1) dX5_copyRow_1 (Nat.le_of_ble_eq_true rfl) rfl ?_
  refine z_loopK (fun j : Int32 → zSt → Option (Unit × zSt) => ∀ (x2 : Int32) (S3 : zSt), Zm X mX5_copyRow_p21 zJV G (0, 0) res S3 3 [some (.ref (G.1 21)), some (.int a1), some (.int a2), some (.int a3), some (.int x2)] [] (j x2 S3)) ?_ ?_ zfuel _ _
  · intro x2 S3; exact z_none
  · intro rec1 hrec1 x2 S3
    unfold LB_X5_copyRow_p21_1
    refine z_iload (pc := 3) dX5_copyRow_3 rfl ?_
    refine z_iload_n (pc := 5) 1 dX5_copyRow_5 rfl rfl ?_
    refine z_icmp_ge (pc := 6) 31 dX5_copyRow_6 rfl ?_ ?_
    · exact z_vret rfl dX5_copyRow_31 rfl
    · refine z_aload_n (pc := 9) 0 dX5_copyRow_9 rfl rfl ?_
      refine z_iload_n (pc := 10) 1 dX5_copyRow_10 rfl rfl ?_
      refine z_iload_n (pc := 11) 3 dX5_copyRow_11 rfl rfl ?_
      refine z_imul (pc := 12) dX5_copyRow_12 ?_
      refine z_iload (pc := 13) dX5_copyRow_13 rfl ?_
      refine z_iadd (pc := 15) dX5_copyRow_15 ?_
      refine z_aload_n (pc := 16) 0 dX5_copyRow_16 rfl rfl ?_
      refine z_iload_n (pc := 17) 1 dX5_copyRow_17 rfl rfl ?_
      refine z_iload_n (pc := 18) 2 dX5_copyRow_18 rfl rfl ?_
      refine z_imul (pc := 19) dX5_copyRow_19 ?_
      refine z_iload (pc := 20) dX5_copyRow_20 rfl ?_
      refine z_iadd (pc := 22) dX5_copyRow_22 ?_
      refine z_letI (fun w4 => ?_)
      refine z_chk (fun h5 => ?_)
      refine z_iaload (pc := 23) 21 200 (zGM_s21 hG) h5 dX5_copyRow_23 ?_
      refine z_letI2 (fun w6 => ?_)
      refine z_chk (fun h7 => ?_)
      refine z_iastore (pc := 24) 21 200 (zGM_s21 hG) h7 dX5_copyRow_24 ?_
      refine z_letS (fun S8 => ?_)
      refine z_iinc (pc := 25) (w := x2 + 1) dX5_copyRow_25 rfl (by rw [show Int32.ofInt 1 = 1 from by decide]) (Nat.le_of_ble_eq_true rfl) rfl ?_
      refine z_goto (pc := 28) 3 dX5_copyRow_28 rfl ?_
      exact hrec1 _ _
abbrev mX5_copyRow_p22 : zMr := ("HiddenCubeModel", cX5_copyRow, 5, none, 1, 0, 0, none)
def LB_X5_copyRow_p22_1 (a1 : Int32) (a2 : Int32) (a3 : Int32) (rec1 : Int32 → zSt → Option (Unit × zSt)) (x2 : Int32) (S3 : zSt) : Option (Unit × zSt) :=
if a1 ≤ x2 then (some ((), S3)) else (zlet ((a1 * a2) + x2 : Int32) (fun w4 : Int32 =>
chk w4 160 (zlet ((a1 * a3) + x2 : Int32) (fun w6 : Int32 =>
chk w6 160 (zlet (sI S3 22 (w6).toNatClampNeg (S3.1 22 (w4).toNatClampNeg) : zSt) (fun S8 : zSt =>
rec1 (x2 + 1) S8))))))
def F_X5_copyRow_p22 (a1 : Int32) (a2 : Int32) (a3 : Int32) (S : zSt) : Option (Unit × zSt) :=
loopK (fun _ _ => none) (LB_X5_copyRow_p22_1 a1 a2 a3) zfuel 0 S
theorem mv_X5_copyRow_p22 : ZS mX5_copyRow_p22 yX5_copyRow 4 := ⟨q1707, q155, q1708, by decide, by decide, by decide +kernel⟩
theorem ct_X5_copyRow_p22 {G : zGw} (hG : zGM G) (a1 : Int32) (a2 : Int32) (a3 : Int32) : Zc mX5_copyRow_p22 yX5_copyRow zJV G [.ref (G.1 22), .int a1, .int a2, .int a3] (F_X5_copyRow_p22 a1 a2 a3) := by
  refine Zc_of [some (.ref (G.1 22)), some (.int a1), some (.int a2), some (.int a3), none] (by decide) rfl rfl (Nat.le_of_ble_eq_true rfl) rfl (fun X S res => ?_)
  unfold F_X5_copyRow_p22
  refine z_iconst (pc := 0) (v := 0) dX5_copyRow_0 (by decide) ?_
  refine z_istore (pc := 1) dX5_copyRow_1 (Nat.le_of_ble_eq_true rfl) rfl ?_
  refine z_loopK (fun j : Int32 → zSt → Option (Unit × zSt) => ∀ (x2 : Int32) (S3 : zSt), Zm X mX5_copyRow_p22 zJV G (0, 0) res S3 3 [some (.ref (G.1 22)), some (.int a1), some (.int a2), some (.int a3), some (.int x2)] [] (j x2 S3)) ?_ ?_ zfuel _ _
  · intro x2 S3; exact z_none
  · intro rec1 hrec1 x2 S3
    unfold LB_X5_copyRow_p22_1
    refine z_iload (pc := 3) dX5_copyRow_3 rfl ?_
    refine z_iload_n (pc := 5) 1 dX5_copyRow_5 rfl rfl ?_
    refine z_icmp_ge (pc := 6) 31 dX5_copyRow_6 rfl ?_ ?_
    · exact z_vret rfl dX5_copyRow_31 rfl
    · refine z_aload_n (pc := 9) 0 dX5_copyRow_9 rfl rfl ?_
      refine z_iload_n (pc := 10) 1 dX5_copyRow_10 rfl rfl ?_
      refine z_iload_n (pc := 11) 3 dX5_copyRow_11 rfl rfl ?_
      refine z_imul (pc := 12) dX5_copyRow_12 ?_
      refine z_iload (pc := 13) dX5_copyRow_13 rfl ?_
      refine z_iadd (pc := 15) dX5_copyRow_15 ?_
      refine z_aload_n (pc := 16) 0 dX5_copyRow_16 rfl rfl ?_
      refine z_iload_n (pc := 17) 1 dX5_copyRow_17 rfl rfl ?_
      refine z_iload_n (pc := 18) 2 dX5_copyRow_18 rfl rfl ?_
      refine z_imul (pc := 19) dX5_copyRow_19 ?_
      refine z_iload (pc := 20) dX5_copyRow_20 rfl ?_
      refine z_iadd (pc := 22) dX5_copyRow_22 ?_
      refine z_letI (fun w4 => ?_)
      refine z_chk (fun h5 => ?_)
      refine z_iaload (pc := 23) 22 160 (zGM_s22 hG) h5 dX5_copyRow_23 ?_
      refine z_letI2 (fun w6 => ?_)
      refine z_chk (fun h7 => ?_)
      refine z_iastore (pc := 24) 22 160 (zGM_s22 hG) h7 dX5_copyRow_24 ?_
      refine z_letS (fun S8 => ?_)
      refine z_iinc (pc := 25) (w := x2 + 1) dX5_copyRow_25 rfl (by rw [show Int32.ofInt 1 = 1 from by decide]) (Nat.le_of_ble_eq_true rfl) rfl ?_
      refine z_goto (pc := 28) 3 dX5_copyRow_28 rfl ?_
      exact hrec1 _ _
abbrev mX5_copyRow_p23 : zMr := ("HiddenCubeModel", cX5_copyRow, 5, none, 1, 0, 0, none)
def LB_X5_copyRow_p23_1 (a1 : Int32) (a2 : Int32) (a3 : Int32) (rec1 : Int32 → zSt → Option (Unit × zSt)) (x2 : Int32) (S3 : zSt) : Option (Unit × zSt) :=
if a1 ≤ x2 then (some ((), S3)) else (zlet ((a1 * a2) + x2 : Int32) (fun w4 : Int32 =>
chk w4 5 (zlet ((a1 * a3) + x2 : Int32) (fun w6 : Int32 =>
chk w6 5 (zlet (sI S3 23 (w6).toNatClampNeg (S3.1 23 (w4).toNatClampNeg) : zSt) (fun S8 : zSt =>
rec1 (x2 + 1) S8))))))
def F_X5_copyRow_p23 (a1 : Int32) (a2 : Int32) (a3 : Int32) (S : zSt) : Option (Unit × zSt) :=
loopK (fun _ _ => none) (LB_X5_copyRow_p23_1 a1 a2 a3) zfuel 0 S
theorem mv_X5_copyRow_p23 : ZS mX5_copyRow_p23 yX5_copyRow 4 := ⟨q1707, q155, q1708, by decide, by decide, by decide +kernel⟩
theorem ct_X5_copyRow_p23 {G : zGw} (hG : zGM G) (a1 : Int32) (a2 : Int32) (a3 : Int32) : Zc mX5_copyRow_p23 yX5_copyRow zJV G [.ref (G.1 23), .int a1, .int a2, .int a3] (F_X5_copyRow_p23 a1 a2 a3) := by
  refine Zc_of [some (.ref (G.1 23)), some (.int a1), some (.int a2), some (.int a3), none] (by decide) rfl rfl (Nat.le_of_ble_eq_true rfl) rfl (fun X S res => ?_)
  unfold F_X5_copyRow_p23
  refine z_iconst (pc := 0) (v := 0) dX5_copyRow_0 (by decide) ?_
  refine z_istore (pc := 1) dX5_copyRow_1 (Nat.le_of_ble_eq_true rfl) rfl ?_
  refine z_loopK (fun j : Int32 → zSt → Option (Unit × zSt) => ∀ (x2 : Int32) (S3 : zSt), Zm X mX5_copyRow_p23 zJV G (0, 0) res S3 3 [some (.ref (G.1 23)), some (.int a1), some (.int a2), some (.int a3), some (.int x2)] [] (j x2 S3)) ?_ ?_ zfuel _ _
  · intro x2 S3; exact z_none
  · intro rec1 hrec1 x2 S3
    unfold LB_X5_copyRow_p23_1
    refine z_iload (pc := 3) dX5_copyRow_3 rfl ?_
    refine z_iload_n (pc := 5) 1 dX5_copyRow_5 rfl rfl ?_
    refine z_icmp_ge (pc := 6) 31 dX5_copyRow_6 rfl ?_ ?_
    · exact z_vret rfl dX5_copyRow_31 rfl
    · refine z_aload_n (pc := 9) 0 dX5_copyRow_9 rfl rfl ?_
      refine z_iload_n (pc := 10) 1 dX5_copyRow_10 rfl rfl ?_
      refine z_iload_n (pc := 11) 3 dX5_copyRow_11 rfl rfl ?_
      refine z_imul (pc := 12) dX5_copyRow_12 ?_
      refine z_iload (pc := 13) dX5_copyRow_13 rfl ?_
      refine z_iadd (pc := 15) dX5_copyRow_15 ?_
      refine z_aload_n (pc := 16) 0 dX5_copyRow_16 rfl rfl ?_
      refine z_iload_n (pc := 17) 1 dX5_copyRow_17 rfl rfl ?_
      refine z_iload_n (pc := 18) 2 dX5_copyRow_18 rfl rfl ?_
      refine z_imul (pc := 19) dX5_copyRow_19 ?_
      refine z_iload (pc := 20) dX5_copyRow_20 rfl ?_
      refine z_iadd (pc := 22) dX5_copyRow_22 ?_
      refine z_letI (fun w4 => ?_)
      refine z_chk (fun h5 => ?_)
      refine z_iaload (pc := 23) 23 5 (zGM_s23 hG) h5 dX5_copyRow_23 ?_
      refine z_letI2 (fun w6 => ?_)
      refine z_chk (fun h7 => ?_)
      refine z_iastore (pc := 24) 23 5 (zGM_s23 hG) h7 dX5_copyRow_24 ?_
      refine z_letS (fun S8 => ?_)
      refine z_iinc (pc := 25) (w := x2 + 1) dX5_copyRow_25 rfl (by rw [show Int32.ofInt 1 = 1 from by decide]) (Nat.le_of_ble_eq_true rfl) rfl ?_
      refine z_goto (pc := 28) 3 dX5_copyRow_28 rfl ?_
      exact hrec1 _ _
abbrev mX5_copyRow_p24 : zMr := ("HiddenCubeModel", cX5_copyRow, 5, none, 1, 0, 0, none)
def LB_X5_copyRow_p24_1 (a1 : Int32) (a2 : Int32) (a3 : Int32) (rec1 : Int32 → zSt → Option (Unit × zSt)) (x2 : Int32) (S3 : zSt) : Option (Unit × zSt) :=
if a1 ≤ x2 then (some ((), S3)) else (zlet ((a1 * a2) + x2 : Int32) (fun w4 : Int32 =>
chk w4 30 (zlet ((a1 * a3) + x2 : Int32) (fun w6 : Int32 =>
chk w6 30 (zlet (sI S3 24 (w6).toNatClampNeg (S3.1 24 (w4).toNatClampNeg) : zSt) (fun S8 : zSt =>
rec1 (x2 + 1) S8))))))
def F_X5_copyRow_p24 (a1 : Int32) (a2 : Int32) (a3 : Int32) (S : zSt) : Option (Unit × zSt) :=
loopK (fun _ _ => none) (LB_X5_copyRow_p24_1 a1 a2 a3) zfuel 0 S
theorem mv_X5_copyRow_p24 : ZS mX5_copyRow_p24 yX5_copyRow 4 := ⟨q1707, q155, q1708, by decide, by decide, by decide +kernel⟩
theorem ct_X5_copyRow_p24 {G : zGw} (hG : zGM G) (a1 : Int32) (a2 : Int32) (a3 : Int32) : Zc mX5_copyRow_p24 yX5_copyRow zJV G [.ref (G.1 24), .int a1, .int a2, .int a3] (F_X5_copyRow_p24 a1 a2 a3) := by
  refine Zc_of [some (.ref (G.1 24)), some (.int a1), some (.int a2), some (.int a3), none] (by decide) rfl rfl (Nat.le_of_ble_eq_true rfl) rfl (fun X S res => ?_)
  unfold F_X5_copyRow_p24
  refine z_iconst (pc := 0) (v := 0) dX5_copyRow_0 (by decide) ?_
  refine z_istore (pc := 1) dX5_copyRow_1 (Nat.le_of_ble_eq_true rfl) rfl ?_
  refine z_loopK (fun j : Int32 → zSt → Option (Unit × zSt) => ∀ (x2 : Int32) (S3 : zSt), Zm X mX5_copyRow_p24 zJV G (0, 0) res S3 3 [some (.ref (G.1 24)), some (.int a1), some (.int a2), some (.int a3), some (.int x2)] [] (j x2 S3)) ?_ ?_ zfuel _ _
  · intro x2 S3; exact z_none
  · intro rec1 hrec1 x2 S3
    unfold LB_X5_copyRow_p24_1
    refine z_iload (pc := 3) dX5_copyRow_3 rfl ?_
    refine z_iload_n (pc := 5) 1 dX5_copyRow_5 rfl rfl ?_
    refine z_icmp_ge (pc := 6) 31 dX5_copyRow_6 rfl ?_ ?_
    · exact z_vret rfl dX5_copyRow_31 rfl
    · refine z_aload_n (pc := 9) 0 dX5_copyRow_9 rfl rfl ?_
      refine z_iload_n (pc := 10) 1 dX5_copyRow_10 rfl rfl ?_
      refine z_iload_n (pc := 11) 3 dX5_copyRow_11 rfl rfl ?_
      refine z_imul (pc := 12) dX5_copyRow_12 ?_
      refine z_iload (pc := 13) dX5_copyRow_13 rfl ?_
      refine z_iadd (pc := 15) dX5_copyRow_15 ?_
      refine z_aload_n (pc := 16) 0 dX5_copyRow_16 rfl rfl ?_
      refine z_iload_n (pc := 17) 1 dX5_copyRow_17 rfl rfl ?_
      refine z_iload_n (pc := 18) 2 dX5_copyRow_18 rfl rfl ?_
      refine z_imul (pc := 19) dX5_copyRow_19 ?_
      refine z_iload (pc := 20) dX5_copyRow_20 rfl ?_
      refine z_iadd (pc := 22) dX5_copyRow_22 ?_
      refine z_letI (fun w4 => ?_)
      refine z_chk (fun h5 => ?_)
      refine z_iaload (pc := 23) 24 30 (zGM_s24 hG) h5 dX5_copyRow_23 ?_
      refine z_letI2 (fun w6 => ?_)
      refine z_chk (fun h7 => ?_)
      refine z_iastore (pc := 24) 24 30 (zGM_s24 hG) h7 dX5_copyRow_24 ?_
      refine z_letS (fun S8 => ?_)
      refine z_iinc (pc := 25) (w := x2 + 1) dX5_copyRow_25 rfl (by rw [show Int32.ofInt 1 = 1 from by decide]) (Nat.le_of_ble_eq_true rfl) rfl ?_
      refine z_goto (pc := 28) 3 dX5_copyRow_28 rfl ?_
      exact hrec1 _ _
abbrev mX5_copyRow_p25 : zMr := ("HiddenCubeModel", cX5_copyRow, 5, none, 1, 0, 0, none)
def LB_X5_copyRow_p25_1 (a1 : Int32) (a2 : Int32) (a3 : Int32) (rec1 : Int32 → zSt → Option (Unit × zSt)) (x2 : Int32) (S3 : zSt) : Option (Unit × zSt) :=
if a1 ≤ x2 then (some ((), S3)) else (zlet ((a1 * a2) + x2 : Int32) (fun w4 : Int32 =>
chk w4 60 (zlet ((a1 * a3) + x2 : Int32) (fun w6 : Int32 =>
chk w6 60 (zlet (sI S3 25 (w6).toNatClampNeg (S3.1 25 (w4).toNatClampNeg) : zSt) (fun S8 : zSt =>
rec1 (x2 + 1) S8))))))
def F_X5_copyRow_p25 (a1 : Int32) (a2 : Int32) (a3 : Int32) (S : zSt) : Option (Unit × zSt) :=
loopK (fun _ _ => none) (LB_X5_copyRow_p25_1 a1 a2 a3) zfuel 0 S
theorem mv_X5_copyRow_p25 : ZS mX5_copyRow_p25 yX5_copyRow 4 := ⟨q1707, q155, q1708, by decide, by decide, by decide +kernel⟩
theorem ct_X5_copyRow_p25 {G : zGw} (hG : zGM G) (a1 : Int32) (a2 : Int32) (a3 : Int32) : Zc mX5_copyRow_p25 yX5_copyRow zJV G [.ref (G.1 25), .int a1, .int a2, .int a3] (F_X5_copyRow_p25 a1 a2 a3) := by
  refine Zc_of [some (.ref (G.1 25)), some (.int a1), some (.int a2), some (.int a3), none] (by decide) rfl rfl (Nat.le_of_ble_eq_true rfl) rfl (fun X S res => ?_)
  unfold F_X5_copyRow_p25
  refine z_iconst (pc := 0) (v := 0) dX5_copyRow_0 (by decide) ?_
  refine z_istore (pc := 1) dX5_copyRow_1 (Nat.le_of_ble_eq_true rfl) rfl ?_
  refine z_loopK (fun j : Int32 → zSt → Option (Unit × zSt) => ∀ (x2 : Int32) (S3 : zSt), Zm X mX5_copyRow_p25 zJV G (0, 0) res S3 3 [some (.ref (G.1 25)), some (.int a1), some (.int a2), some (.int a3), some (.int x2)] [] (j x2 S3)) ?_ ?_ zfuel _ _
  · intro x2 S3; exact z_none
  · intro rec1 hrec1 x2 S3
    unfold LB_X5_copyRow_p25_1
    refine z_iload (pc := 3) dX5_copyRow_3 rfl ?_
    refine z_iload_n (pc := 5) 1 dX5_copyRow_5 rfl rfl ?_
    refine z_icmp_ge (pc := 6) 31 dX5_copyRow_6 rfl ?_ ?_
    · exact z_vret rfl dX5_copyRow_31 rfl
    · refine z_aload_n (pc := 9) 0 dX5_copyRow_9 rfl rfl ?_
      refine z_iload_n (pc := 10) 1 dX5_copyRow_10 rfl rfl ?_
      refine z_iload_n (pc := 11) 3 dX5_copyRow_11 rfl rfl ?_
      refine z_imul (pc := 12) dX5_copyRow_12 ?_
      refine z_iload (pc := 13) dX5_copyRow_13 rfl ?_
      refine z_iadd (pc := 15) dX5_copyRow_15 ?_
      refine z_aload_n (pc := 16) 0 dX5_copyRow_16 rfl rfl ?_
      refine z_iload_n (pc := 17) 1 dX5_copyRow_17 rfl rfl ?_
      refine z_iload_n (pc := 18) 2 dX5_copyRow_18 rfl rfl ?_
      refine z_imul (pc := 19) dX5_copyRow_19 ?_
      refine z_iload (pc := 20) dX5_copyRow_20 rfl ?_
      refine z_iadd (pc := 22) dX5_copyRow_22 ?_
      refine z_letI (fun w4 => ?_)
      refine z_chk (fun h5 => ?_)
      refine z_iaload (pc := 23) 25 60 (zGM_s25 hG) h5 dX5_copyRow_23 ?_
      refine z_letI2 (fun w6 => ?_)
      refine z_chk (fun h7 => ?_)
      refine z_iastore (pc := 24) 25 60 (zGM_s25 hG) h7 dX5_copyRow_24 ?_
      refine z_letS (fun S8 => ?_)
      refine z_iinc (pc := 25) (w := x2 + 1) dX5_copyRow_25 rfl (by rw [show Int32.ofInt 1 = 1 from by decide]) (Nat.le_of_ble_eq_true rfl) rfl ?_
      refine z_goto (pc := 28) 3 dX5_copyRow_28 rfl ?_
      exact hrec1 _ _
abbrev mX5_copyTown : zMr := ("HiddenCubeModel", cX5_copyTown, 4, none, 2, 0, 0, none)
def LB_X5_copyTown_1 (a1 : Int32) (a2 : Int32) (k3 : zSt → Option (Unit × zSt)) (rec11 : Int32 → zSt → Option (Unit × zSt)) (x12 : Int32) (S13 : zSt) : Option (Unit × zSt) :=
if 5 ≤ x12 then (k3 S13) else (zlet ((5 * a1) + x12 : Int32) (fun w14 : Int32 =>
chk w14 25 (zlet ((5 * a2) + x12 : Int32) (fun w16 : Int32 =>
chk w16 25 (zlet (sL S13 19 (w16).toNatClampNeg (S13.2 19 (w14).toNatClampNeg) : zSt) (fun S18 : zSt =>
rec11 (x12 + 1) S18))))))
def F_X5_copyTown (a1 : Int32) (a2 : Int32) (S : zSt) : Option (Unit × zSt) :=
zbind (F_X5_copyRow_p17 1 a1 a2 S) (fun _ S1 =>
zbind (F_X5_copyRow_p18 3 a1 a2 S1) (fun _ S2 =>
joinK (fun  (S4 : zSt) => zbind (F_X5_copyRow_p20 5 a1 a2 S4) (fun _ S5 =>
zbind (F_X5_copyRow_p21 40 a1 a2 S5) (fun _ S6 =>
zbind (F_X5_copyRow_p22 32 a1 a2 S6) (fun _ S7 =>
zbind (F_X5_copyRow_p23 1 a1 a2 S7) (fun _ S8 =>
zbind (F_X5_copyRow_p24 6 a1 a2 S8) (fun _ S9 =>
zbind (F_X5_copyRow_p25 12 a1 a2 S9) (fun _ S10 =>
some ((), S10)))))))) (fun k3 : zSt → Option (Unit × zSt) =>
loopK (fun _ _ => none) (LB_X5_copyTown_1 a1 a2 k3) zfuel 0 S2)))
theorem mv_X5_copyTown : ZV mX5_copyTown yX5_copyTown 2 := ⟨q1704, qs99, q155, q1705, rfl, by decide, by decide, by decide +kernel⟩
theorem ct_X5_copyTown {G : zGw} (hG : zGM G) (a1 : Int32) (a2 : Int32) : Zc mX5_copyTown yX5_copyTown zJV G [.ref (G.1 0), .int a1, .int a2] (F_X5_copyTown a1 a2) := by
  refine Zc_of [some (.ref (G.1 0)), some (.int a1), some (.int a2), none] (by decide) rfl rfl (Nat.le_of_ble_eq_true rfl) rfl (fun X S res => ?_)
  unfold F_X5_copyTown
  refine z_aload_n (pc := 0) 0 dX5_copyTown_0 rfl rfl ?_
  refine gf_X5_M_31_0 hG (pc := 1) dX5_copyTown_1 ?_
  refine z_iconst (pc := 4) (v := 1) dX5_copyTown_4 (by decide) ?_
  refine z_iload_n (pc := 5) 1 dX5_copyTown_5 rfl rfl ?_
  refine z_iload_n (pc := 6) 2 dX5_copyTown_6 rfl rfl ?_
  refine z_callSv (pc := 7) _ _ (ct_X5_copyRow_p17 hG _ _ _) mv_X5_copyRow_p17 q1706 rfl (Nat.le_of_ble_eq_true rfl) (Nat.le_of_ble_eq_true rfl) rfl rfl (Nat.le_of_ble_eq_true rfl) dX5_copyTown_7 (fun _ S1 => ?_)
  refine z_aload_n (pc := 10) 0 dX5_copyTown_10 rfl rfl ?_
  refine gf_X5_M_34_0 hG (pc := 11) dX5_copyTown_11 ?_
  refine z_iconst (pc := 14) (v := 3) dX5_copyTown_14 (by decide) ?_
  refine z_iload_n (pc := 15) 1 dX5_copyTown_15 rfl rfl ?_
  refine z_iload_n (pc := 16) 2 dX5_copyTown_16 rfl rfl ?_
  refine z_callSv (pc := 17) _ _ (ct_X5_copyRow_p18 hG _ _ _) mv_X5_copyRow_p18 q1706 rfl (Nat.le_of_ble_eq_true rfl) (Nat.le_of_ble_eq_true rfl) rfl rfl (Nat.le_of_ble_eq_true rfl) dX5_copyTown_17 (fun _ S2 => ?_)
  refine z_iconst (pc := 20) (v := 0) dX5_copyTown_20 (by decide) ?_
  refine z_istore_n (pc := 21) 3 dX5_copyTown_21 rfl (Nat.le_of_ble_eq_true rfl) rfl ?_
  refine z_join (fun j : zSt → Option (Unit × zSt) => ∀  (S4 : zSt), Zm X mX5_copyTown zJV G (0, 0) res S4 53 [some (.ref (G.1 0)), some (.int a1), some (.int a2), none] [] (j S4)) ?_ (fun k3 hk3 => ?_)
  · intro S4
    refine z_aload_n (pc := 53) 0 dX5_copyTown_53 rfl rfl ?_
    refine gf_X5_M_40_0 hG (pc := 54) dX5_copyTown_54 ?_
    refine z_iconst (pc := 57) (v := 5) dX5_copyTown_57 (by decide) ?_
    refine z_iload_n (pc := 58) 1 dX5_copyTown_58 rfl rfl ?_
    refine z_iload_n (pc := 59) 2 dX5_copyTown_59 rfl rfl ?_
    refine z_callSv (pc := 60) _ _ (ct_X5_copyRow_p20 hG _ _ _) mv_X5_copyRow_p20 q1706 rfl (Nat.le_of_ble_eq_true rfl) (Nat.le_of_ble_eq_true rfl) rfl rfl (Nat.le_of_ble_eq_true rfl) dX5_copyTown_60 (fun _ S5 => ?_)
    refine z_aload_n (pc := 63) 0 dX5_copyTown_63 rfl rfl ?_
    refine gf_X5_M_43_0 hG (pc := 64) dX5_copyTown_64 ?_
    refine z_bipush (pc := 67) (v := 40) dX5_copyTown_67 (by decide) ?_
    refine z_iload_n (pc := 69) 1 dX5_copyTown_69 rfl rfl ?_
    refine z_iload_n (pc := 70) 2 dX5_copyTown_70 rfl rfl ?_
    refine z_callSv (pc := 71) _ _ (ct_X5_copyRow_p21 hG _ _ _) mv_X5_copyRow_p21 q1706 rfl (Nat.le_of_ble_eq_true rfl) (Nat.le_of_ble_eq_true rfl) rfl rfl (Nat.le_of_ble_eq_true rfl) dX5_copyTown_71 (fun _ S6 => ?_)
    refine z_aload_n (pc := 74) 0 dX5_copyTown_74 rfl rfl ?_
    refine gf_X5_M_46_0 hG (pc := 75) dX5_copyTown_75 ?_
    refine z_bipush (pc := 78) (v := 32) dX5_copyTown_78 (by decide) ?_
    refine z_iload_n (pc := 80) 1 dX5_copyTown_80 rfl rfl ?_
    refine z_iload_n (pc := 81) 2 dX5_copyTown_81 rfl rfl ?_
    refine z_callSv (pc := 82) _ _ (ct_X5_copyRow_p22 hG _ _ _) mv_X5_copyRow_p22 q1706 rfl (Nat.le_of_ble_eq_true rfl) (Nat.le_of_ble_eq_true rfl) rfl rfl (Nat.le_of_ble_eq_true rfl) dX5_copyTown_82 (fun _ S7 => ?_)
    refine z_aload_n (pc := 85) 0 dX5_copyTown_85 rfl rfl ?_
    refine gf_X5_M_49_0 hG (pc := 86) dX5_copyTown_86 ?_
    refine z_iconst (pc := 89) (v := 1) dX5_copyTown_89 (by decide) ?_
    refine z_iload_n (pc := 90) 1 dX5_copyTown_90 rfl rfl ?_
    refine z_iload_n (pc := 91) 2 dX5_copyTown_91 rfl rfl ?_
    refine z_callSv (pc := 92) _ _ (ct_X5_copyRow_p23 hG _ _ _) mv_X5_copyRow_p23 q1706 rfl (Nat.le_of_ble_eq_true rfl) (Nat.le_of_ble_eq_true rfl) rfl rfl (Nat.le_of_ble_eq_true rfl) dX5_copyTown_92 (fun _ S8 => ?_)
    refine z_aload_n (pc := 95) 0 dX5_copyTown_95 rfl rfl ?_
    refine gf_X5_M_52_0 hG (pc := 96) dX5_copyTown_96 ?_
    refine z_bipush (pc := 99) (v := 6) dX5_copyTown_99 (by decide) ?_
    refine z_iload_n (pc := 101) 1 dX5_copyTown_101 rfl rfl ?_
    refine z_iload_n (pc := 102) 2 dX5_copyTown_102 rfl rfl ?_
    refine z_callSv (pc := 103) _ _ (ct_X5_copyRow_p24 hG _ _ _) mv_X5_copyRow_p24 q1706 rfl (Nat.le_of_ble_eq_true rfl) (Nat.le_of_ble_eq_true rfl) rfl rfl (Nat.le_of_ble_eq_true rfl) dX5_copyTown_103 (fun _ S9 => ?_)
    refine z_aload_n (pc := 106) 0 dX5_copyTown_106 rfl rfl ?_
    refine gf_X5_M_55_0 hG (pc := 107) dX5_copyTown_107 ?_
    refine z_bipush (pc := 110) (v := 12) dX5_copyTown_110 (by decide) ?_
    refine z_iload_n (pc := 112) 1 dX5_copyTown_112 rfl rfl ?_
    refine z_iload_n (pc := 113) 2 dX5_copyTown_113 rfl rfl ?_
    refine z_callSv (pc := 114) _ _ (ct_X5_copyRow_p25 hG _ _ _) mv_X5_copyRow_p25 q1706 rfl (Nat.le_of_ble_eq_true rfl) (Nat.le_of_ble_eq_true rfl) rfl rfl (Nat.le_of_ble_eq_true rfl) dX5_copyTown_114 (fun _ S10 => ?_)
    exact z_vret rfl dX5_copyTown_117 rfl
  · refine z_loopK (fun j : Int32 → zSt → Option (Unit × zSt) => ∀ (x12 : Int32) (S13 : zSt), Zm X mX5_copyTown zJV G (0, 0) res S13 22 [some (.ref (G.1 0)), some (.int a1), some (.int a2), some (.int x12)] [] (j x12 S13)) ?_ ?_ zfuel _ _
    · intro x12 S13; exact z_none
    · intro rec11 hrec11 x12 S13
      unfold LB_X5_copyTown_1
      refine z_iload_n (pc := 22) 3 dX5_copyTown_22 rfl rfl ?_
      refine z_iconst (pc := 23) (v := 5) dX5_copyTown_23 (by decide) ?_
      refine z_icmp_ge (pc := 24) 53 dX5_copyTown_24 rfl ?_ ?_
      · exact z_mask [true, true, true, false] (hk3 _) rfl
      · refine z_aload_n (pc := 27) 0 dX5_copyTown_27 rfl rfl ?_
        refine gf_X5_M_37_0 hG (pc := 28) dX5_copyTown_28 ?_
        refine z_iconst (pc := 31) (v := 5) dX5_copyTown_31 (by decide) ?_
        refine z_iload_n (pc := 32) 2 dX5_copyTown_32 rfl rfl ?_
        refine z_imul (pc := 33) dX5_copyTown_33 ?_
        refine z_iload_n (pc := 34) 3 dX5_copyTown_34 rfl rfl ?_
        refine z_iadd (pc := 35) dX5_copyTown_35 ?_
        refine z_aload_n (pc := 36) 0 dX5_copyTown_36 rfl rfl ?_
        refine gf_X5_M_37_0 hG (pc := 37) dX5_copyTown_37 ?_
        refine z_iconst (pc := 40) (v := 5) dX5_copyTown_40 (by decide) ?_
        refine z_iload_n (pc := 41) 1 dX5_copyTown_41 rfl rfl ?_
        refine z_imul (pc := 42) dX5_copyTown_42 ?_
        refine z_iload_n (pc := 43) 3 dX5_copyTown_43 rfl rfl ?_
        refine z_iadd (pc := 44) dX5_copyTown_44 ?_
        refine z_letI (fun w14 => ?_)
        refine z_chk (fun h15 => ?_)
        refine z_laload (pc := 45) 19 25 (zGM_s19 hG) h15 dX5_copyTown_45 ?_
        refine z_letI2 (fun w16 => ?_)
        refine z_chk (fun h17 => ?_)
        refine z_lastore (pc := 46) 19 25 (zGM_s19 hG) h17 dX5_copyTown_46 ?_
        refine z_letS (fun S18 => ?_)
        refine z_iinc (pc := 47) (w := x12 + 1) dX5_copyTown_47 rfl (by rw [show Int32.ofInt 1 = 1 from by decide]) (Nat.le_of_ble_eq_true rfl) rfl ?_
        refine z_goto (pc := 50) 22 dX5_copyTown_50 rfl ?_
        exact hrec11 _ _
abbrev mX5_isGood : zMr := ("HiddenCubeModel", cX5_isGood, 1, (some .boolean), 1, 0, 0, none)
def F_X5_isGood  (S : zSt) : Option (Int32 × zSt) :=
if (S.1 0 12) = 0 then (some (1, S)) else (some (0, S))
theorem mv_X5_isGood : ZV mX5_isGood yX5_isGood 0 := ⟨q1635, qs84, q155, q1636, rfl, by decide, by decide, by decide +kernel⟩
theorem ct_X5_isGood {G : zGw} (hG : zGM G)  : Zc mX5_isGood yX5_isGood zJI G [.ref (G.1 0)] (F_X5_isGood) := by
  refine Zc_of [some (.ref (G.1 0))] (by decide) rfl rfl (Nat.le_of_ble_eq_true rfl) rfl (fun X S res => ?_)
  unfold F_X5_isGood
  refine z_aload_n (pc := 0) 0 dX5_isGood_0 rfl rfl ?_
  refine gf_X5_M_183_0 hG (pc := 1) dX5_isGood_1 ?_
  refine z_if_ne (pc := 4) 11 dX5_isGood_4 rfl ?_ ?_
  · refine z_iconst (pc := 11) (v := 0) dX5_isGood_11 (by decide) ?_
    exact z_zret0 rfl dX5_isGood_12 rfl
  · refine z_iconst (pc := 7) (v := 1) dX5_isGood_7 (by decide) ?_
    refine z_goto (pc := 8) 12 dX5_isGood_8 rfl ?_
    exact z_zret1 rfl dX5_isGood_12 rfl
abbrev mX5_fails : zMr := ("HiddenCubeModel", cX5_fails, 2, none, 1, 0, 0, none)
def F_X5_fails (a1 : Int32) (S : zSt) : Option (Unit × zSt) :=
if (S.1 0 12) = 0 then (zlet (sI S 0 12 a1 : zSt) (fun S1 : zSt =>
zlet (sI S1 0 13 (S1.1 0 9) : zSt) (fun S2 : zSt =>
some ((), S2)))) else (some ((), S))
theorem mv_X5_fails : ZV mX5_fails yX5_fails 1 := ⟨q1656, qs89, q155, q1657, rfl, by decide, by decide, by decide +kernel⟩
theorem ct_X5_fails {G : zGw} (hG : zGM G) (a1 : Int32) : Zc mX5_fails yX5_fails zJV G [.ref (G.1 0), .int a1] (F_X5_fails a1) := by
  refine Zc_of [some (.ref (G.1 0)), some (.int a1)] (by decide) rfl rfl (Nat.le_of_ble_eq_true rfl) rfl (fun X S res => ?_)
  unfold F_X5_fails
  refine z_aload_n (pc := 0) 0 dX5_fails_0 rfl rfl ?_
  refine gf_X5_M_183_0 hG (pc := 1) dX5_fails_1 ?_
  refine z_if_eq (pc := 4) 8 dX5_fails_4 rfl ?_ ?_
  · refine z_aload_n (pc := 8) 0 dX5_fails_8 rfl rfl ?_
    refine z_iload_n (pc := 9) 1 dX5_fails_9 rfl rfl ?_
    refine pf_X5_M_183_0 hG (pc := 10) dX5_fails_10 ?_
    refine z_letS (fun S1 => ?_)
    refine z_aload_n (pc := 13) 0 dX5_fails_13 rfl rfl ?_
    refine z_aload_n (pc := 14) 0 dX5_fails_14 rfl rfl ?_
    refine gf_X5_M_162_0 hG (pc := 15) dX5_fails_15 ?_
    refine pf_X5_M_186_0 hG (pc := 18) dX5_fails_18 ?_
    refine z_letS (fun S2 => ?_)
    exact z_vret rfl dX5_fails_21 rfl
  · exact z_vret rfl dX5_fails_7 rfl
abbrev mX5_ends : zMr := ("HiddenCubeModel", cX5_ends, 1, none, 3, 0, 0, none)
def F_X5_ends  (S : zSt) : Option (Unit × zSt) :=
joinK (fun  (S2 : zSt) => if (S2.1 0 12) = 0 then (zbind (F_X5_next S2) (fun _ S3 =>
some ((), S3))) else (some ((), S2))) (fun j1 : zSt → Option (Unit × zSt) =>
if (S.1 0 8) = 3 then (j1 S) else (zbind (F_X5_fails 1 S) (fun _ S4 =>
j1 S4)))
theorem mv_X5_ends : ZV mX5_ends yX5_ends 0 := ⟨q1696, qs97, q155, q1697, rfl, by decide, by decide, by decide +kernel⟩
theorem ct_X5_ends {G : zGw} (hG : zGM G)  : Zc mX5_ends yX5_ends zJV G [.ref (G.1 0)] (F_X5_ends) := by
  refine Zc_of [some (.ref (G.1 0))] (by decide) rfl rfl (Nat.le_of_ble_eq_true rfl) rfl (fun X S res => ?_)
  unfold F_X5_ends
  refine z_aload_n (pc := 0) 0 dX5_ends_0 rfl rfl ?_
  refine gf_X5_M_172_0 hG (pc := 1) dX5_ends_1 ?_
  refine z_iconst (pc := 4) (v := 3) dX5_ends_4 (by decide) ?_
  refine z_join (fun j : zSt → Option (Unit × zSt) => ∀  (S2 : zSt), Zm X mX5_ends zJV G (0, 0) res S2 13 [some (.ref (G.1 0))] [] (j S2)) ?_ (fun j1 hj1 => ?_)
  · intro S2
    refine z_aload_n (pc := 13) 0 dX5_ends_13 rfl rfl ?_
    refine gf_X5_M_183_0 hG (pc := 14) dX5_ends_14 ?_
    refine z_if_ne (pc := 17) 24 dX5_ends_17 rfl ?_ ?_
    · exact z_vret rfl dX5_ends_24 rfl
    · refine z_aload_n (pc := 20) 0 dX5_ends_20 rfl rfl ?_
      refine z_callVv (pc := 21) _ _ 0 5 (ct_X5_next hG) mv_X5_next q1620 rfl (zGM_s0 hG) rfl (Nat.le_of_ble_eq_true rfl) (Nat.le_of_ble_eq_true rfl) rfl rfl (Nat.le_of_ble_eq_true rfl) dX5_ends_21 (fun _ S3 => ?_)
      exact z_vret rfl dX5_ends_24 rfl
  · refine z_icmp_eq (pc := 5) 13 dX5_ends_5 rfl ?_ ?_
    · exact hj1 _
    · refine z_aload_n (pc := 8) 0 dX5_ends_8 rfl rfl ?_
      refine z_iconst (pc := 9) (v := 1) dX5_ends_9 (by decide) ?_
      refine z_callVv (pc := 10) _ _ 0 5 (ct_X5_fails hG _) mv_X5_fails q1654 rfl (zGM_s0 hG) rfl (Nat.le_of_ble_eq_true rfl) (Nat.le_of_ble_eq_true rfl) rfl rfl (Nat.le_of_ble_eq_true rfl) dX5_ends_10 (fun _ S4 => ?_)
      exact hj1 _
abbrev mX5_is : zMr := ("HiddenCubeModel", cX5_is, 3, (some .boolean), 1, 0, 0, none)
def F_X5_is (a1 : Int64) (S : zSt) : Option (Int32 × zSt) :=
if (S.1 0 12) = 0 then (if (S.1 0 8) = 1 then (if (lg_cmp (S.2 0 11) a1) = 0 then (some (1, S)) else (some (0, S))) else (some (0, S))) else (some (0, S))
theorem mv_X5_is : ZV mX5_is yX5_is 1 := ⟨q1652, qs88, q155, q1653, rfl, by decide, by decide, by decide +kernel⟩
theorem ct_X5_is {G : zGw} (hG : zGM G) (a1 : Int64) : Zc mX5_is yX5_is zJI G [.ref (G.1 0), .long a1] (F_X5_is a1) := by
  refine Zc_of [some (.ref (G.1 0)), some (.long a1), none] (by decide) rfl rfl (Nat.le_of_ble_eq_true rfl) rfl (fun X S res => ?_)
  unfold F_X5_is
  refine z_aload_n (pc := 0) 0 dX5_is_0 rfl rfl ?_
  refine gf_X5_M_183_0 hG (pc := 1) dX5_is_1 ?_
  refine z_if_ne (pc := 4) 28 dX5_is_4 rfl ?_ ?_
  · refine z_iconst (pc := 28) (v := 0) dX5_is_28 (by decide) ?_
    exact z_zret0 rfl dX5_is_29 rfl
  · refine z_aload_n (pc := 7) 0 dX5_is_7 rfl rfl ?_
    refine gf_X5_M_172_0 hG (pc := 8) dX5_is_8 ?_
    refine z_iconst (pc := 11) (v := 1) dX5_is_11 (by decide) ?_
    refine z_icmp_ne (pc := 12) 28 dX5_is_12 rfl ?_ ?_
    · refine z_iconst (pc := 28) (v := 0) dX5_is_28 (by decide) ?_
      exact z_zret0 rfl dX5_is_29 rfl
    · refine z_aload_n (pc := 15) 0 dX5_is_15 rfl rfl ?_
      refine gf_X5_M_168_0 hG (pc := 16) dX5_is_16 ?_
      refine z_lload_n (pc := 19) 1 dX5_is_19 rfl rfl ?_
      refine z_lcmp (pc := 20) dX5_is_20 ?_
      refine z_if_ne (pc := 21) 28 dX5_is_21 rfl ?_ ?_
      · refine z_iconst (pc := 28) (v := 0) dX5_is_28 (by decide) ?_
        exact z_zret0 rfl dX5_is_29 rfl
      · refine z_iconst (pc := 24) (v := 1) dX5_is_24 (by decide) ?_
        refine z_goto (pc := 25) 29 dX5_is_25 rfl ?_
        exact z_zret1 rfl dX5_is_29 rfl
abbrev mX5_takes : zMr := ("HiddenCubeModel", cX5_takes, 3, (some .boolean), 3, 0, 0, none)
def F_X5_takes (a1 : Int64) (S : zSt) : Option (Int32 × zSt) :=
zbind (F_X5_is a1 S) (fun r2 S1 =>
if r2 = 0 then (some (0, S1)) else (zbind (F_X5_next S1) (fun _ S3 =>
some (1, S3))))
theorem mv_X5_takes : ZV mX5_takes yX5_takes 1 := ⟨q1648, qs87, q155, q1649, rfl, by decide, by decide, by decide +kernel⟩
theorem ct_X5_takes {G : zGw} (hG : zGM G) (a1 : Int64) : Zc mX5_takes yX5_takes zJI G [.ref (G.1 0), .long a1] (F_X5_takes a1) := by
  refine Zc_of [some (.ref (G.1 0)), some (.long a1), none] (by decide) rfl rfl (Nat.le_of_ble_eq_true rfl) rfl (fun X S res => ?_)
  unfold F_X5_takes
  refine z_aload_n (pc := 0) 0 dX5_takes_0 rfl rfl ?_
  refine z_lload_n (pc := 1) 1 dX5_takes_1 rfl rfl ?_
  refine z_callVi (pc := 2) _ _ 0 5 (ct_X5_is hG _) mv_X5_is q1650 rfl (zGM_s0 hG) rfl (Nat.le_of_ble_eq_true rfl) (Nat.le_of_ble_eq_true rfl) rfl rfl (Nat.le_of_ble_eq_true rfl) dX5_takes_2 (fun r2 S1 => ?_)
  refine z_if_ne (pc := 5) 10 dX5_takes_5 rfl ?_ ?_
  · refine z_aload_n (pc := 10) 0 dX5_takes_10 rfl rfl ?_
    refine z_callVv (pc := 11) _ _ 0 5 (ct_X5_next hG) mv_X5_next q1620 rfl (zGM_s0 hG) rfl (Nat.le_of_ble_eq_true rfl) (Nat.le_of_ble_eq_true rfl) rfl rfl (Nat.le_of_ble_eq_true rfl) dX5_takes_11 (fun _ S3 => ?_)
    refine z_iconst (pc := 14) (v := 1) dX5_takes_14 (by decide) ?_
    exact z_zret1 rfl dX5_takes_15 rfl
  · refine z_iconst (pc := 8) (v := 0) dX5_takes_8 (by decide) ?_
    exact z_zret0 rfl dX5_takes_9 rfl
