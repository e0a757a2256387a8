/-! WALKS (written by gen/mkparts.py) -/
set_option maxRecDepth 100000
abbrev mX0_parts : zMr := ("HiddenCube", cX0_parts, 1, (some .int), 6, 0, 0, none)
def F_X0_parts  (S : zSt) : Option (Int32 × zSt) :=
zbind (F_X0_isTown S) (fun r2 S1 =>
if r2 = 0 then (some ((-2), S1)) else (zbind (F_X0_partsBy_p8 S1) (fun r4 S3 =>
some (r4, S3))))
theorem mv_X0_parts : ZV mX0_parts yX0_parts 0 := ⟨q896, q897, q150, q898, rfl, by decide, by decide, by decide +kernel⟩
theorem ct_X0_parts {G : zGw} (hG : zGC G)  : Zc mX0_parts yX0_parts zJI G [.ref (G.1 0)] (F_X0_parts) := by
  refine Zc_of [some (.ref (G.1 0))] (by decide) rfl rfl (Nat.le_of_ble_eq_true rfl) rfl (fun X S res => ?_)
  unfold F_X0_parts
  refine z_aload_n (pc := 0) 0 dX0_parts_0 rfl rfl ?_
  refine z_callVi (pc := 1) _ _ 0 0 (ct_X0_isTown hG) mv_X0_isTown q827 rfl (zGC_s0 hG) rfl (Nat.le_of_ble_eq_true rfl) (Nat.le_of_ble_eq_true rfl) rfl rfl (Nat.le_of_ble_eq_true rfl) dX0_parts_1 (fun r2 S1 => ?_)
  refine z_if_eq (pc := 4) 18 dX0_parts_4 rfl ?_ ?_
  · refine z_bipush (pc := 18) (v := (-2)) dX0_parts_18 (by decide) ?_
    exact z_iret rfl dX0_parts_20 rfl
  · refine z_aload_n (pc := 7) 0 dX0_parts_7 rfl rfl ?_
    refine z_aload_n (pc := 8) 0 dX0_parts_8 rfl rfl ?_
    refine gf_X0_C_29_0 hG (pc := 9) dX0_parts_9 ?_
    refine z_callVi (pc := 12) _ _ 0 0 (ct_X0_partsBy_p8 hG) mv_X0_partsBy_p8 q899 rfl (zGC_s0 hG) rfl (Nat.le_of_ble_eq_true rfl) (Nat.le_of_ble_eq_true rfl) rfl rfl (Nat.le_of_ble_eq_true rfl) dX0_parts_12 (fun r4 S3 => ?_)
    refine z_goto (pc := 15) 20 dX0_parts_15 rfl ?_
    exact z_iret rfl dX0_parts_20 rfl
abbrev mX0_part : zMr := ("HiddenCube", cX0_part, 3, (some .int), 5, 0, 0, none)
def LB_X0_part_1 (S3 : zSt) (rec4 : Int32 → Option (Int32 × zSt)) (x5 : Int32) : Option (Int32 × zSt) :=
chk x5 32 (if (S3.1 9 (x5).toNatClampNeg) = (-1) then (rec4 (x5 + 1)) else (some (x5, S3)))
def F_X0_part (a1 : Int32) (S : zSt) : Option (Int32 × zSt) :=
zbind (F_X0_isSquare ((a1).toInt64) S) (fun r2 S1 =>
if r2 = 0 then (some ((-2), S1)) else (zbind (F_X2_spreads_w8 a1 S1) (fun _ S3 =>
loopK (fun _ => none) (LB_X0_part_1 S3) zfuel 0)))
theorem mv_X0_part : ZV mX0_part yX0_part 1 := ⟨q904, q905, q150, q906, rfl, by decide, by decide, by decide +kernel⟩
theorem ct_X0_part {G : zGw} (hG : zGC G) (a1 : Int32) : Zc mX0_part yX0_part zJI G [.ref (G.1 0), .int a1] (F_X0_part a1) := by
  refine Zc_of [some (.ref (G.1 0)), some (.int a1), none] (by decide) rfl rfl (Nat.le_of_ble_eq_true rfl) rfl (fun X S res => ?_)
  unfold F_X0_part
  refine z_aload_n (pc := 0) 0 dX0_part_0 rfl rfl ?_
  refine z_iload_n (pc := 1) 1 dX0_part_1 rfl rfl ?_
  refine z_i2l (pc := 2) dX0_part_2 ?_
  refine z_callVi (pc := 3) _ _ 0 0 (ct_X0_isSquare hG _) mv_X0_isSquare q723 rfl (zGC_s0 hG) rfl (Nat.le_of_ble_eq_true rfl) (Nat.le_of_ble_eq_true rfl) rfl rfl (Nat.le_of_ble_eq_true rfl) dX0_part_3 (fun r2 S1 => ?_)
  refine z_if_ne (pc := 6) 12 dX0_part_6 rfl ?_ ?_
  · refine z_aload_n (pc := 12) 0 dX0_part_12 rfl rfl ?_
    refine gf_X0_C_29_0 hG (pc := 13) dX0_part_13 ?_
    refine z_iload_n (pc := 16) 1 dX0_part_16 rfl rfl ?_
    refine z_callVv (pc := 17) _ _ 8 2 (ct_X2_spreads_w8 hG _) mv_X2_spreads_w8 q776 rfl (zGC_s8 hG) rfl (Nat.le_of_ble_eq_true rfl) (Nat.le_of_ble_eq_true rfl) rfl rfl (Nat.le_of_ble_eq_true rfl) dX0_part_17 (fun _ S3 => ?_)
    refine z_iconst (pc := 20) (v := 0) dX0_part_20 (by decide) ?_
    refine z_istore_n (pc := 21) 2 dX0_part_21 rfl (Nat.le_of_ble_eq_true rfl) rfl ?_
    refine z_maskk [true, false, true] ?_
    refine z_loopK (fun j : Int32 → Option (Int32 × zSt) => ∀ (x5 : Int32), Zm X mX0_part zJI G (0, 0) res S3 22 [some (.ref (G.1 0)), none, some (.int x5)] [] (j x5)) ?_ ?_ zfuel _
    · intro x5; exact z_none
    · intro rec4 hrec4 x5
      unfold LB_X0_part_1
      refine z_aload_n (pc := 22) 0 dX0_part_22 rfl rfl ?_
      refine gf_X0_C_29_0 hG (pc := 23) dX0_part_23 ?_
      refine gf_X0_C_210_8 hG (pc := 26) dX0_part_26 ?_
      refine z_iload_n (pc := 29) 2 dX0_part_29 rfl rfl ?_
      refine z_chk (fun h6 => ?_)
      refine z_iaload (pc := 30) 9 32 (zGC_s9 hG) h6 dX0_part_30 ?_
      refine z_iconst (pc := 31) (v := (-1)) dX0_part_31 (by decide) ?_
      refine z_icmp_ne (pc := 32) 41 dX0_part_32 rfl ?_ ?_
      · refine z_iload_n (pc := 41) 2 dX0_part_41 rfl rfl ?_
        exact z_iret rfl dX0_part_42 rfl
      · refine z_iinc (pc := 35) (w := x5 + 1) dX0_part_35 rfl (by rw [show Int32.ofInt 1 = 1 from by decide]) (Nat.le_of_ble_eq_true rfl) rfl ?_
        refine z_goto (pc := 38) 22 dX0_part_38 rfl ?_
        exact hrec4 _
  · refine z_bipush (pc := 9) (v := (-2)) dX0_part_9 (by decide) ?_
    exact z_iret rfl dX0_part_11 rfl
abbrev mX2_goes_w10 : zMr := ("HiddenCube$Walk", cX2_goes, 3, (some .boolean), 3, 0, 0, none)
def F_X2_goes_w10 (a1 : Int32) (a2 : Int32) (S : zSt) : Option (Int32 × zSt) :=
zbind (F_X1_isOpen 1 a1 a2 S) (fun r2 S1 =>
some (r2 &&& 1, S1))
theorem mv_X2_goes_w10 : ZV mX2_goes_w10 yX2_goes 2 := ⟨q784, q785, q152, q791, rfl, by decide, by decide, by decide +kernel⟩
theorem ct_X2_goes_w10 {G : zGw} (hG : zGC G) (a1 : Int32) (a2 : Int32) : Zc mX2_goes_w10 yX2_goes zJI G [.ref (G.1 10), .int a1, .int a2] (F_X2_goes_w10 a1 a2) := by
  refine Zc_of [some (.ref (G.1 10)), some (.int a1), some (.int a2)] (by decide) rfl rfl (Nat.le_of_ble_eq_true rfl) rfl (fun X S res => ?_)
  unfold F_X2_goes_w10
  refine z_aload_n (pc := 0) 0 dX2_goes_0 rfl rfl ?_
  refine gf_X2_C_3_10 hG (pc := 1) dX2_goes_1 ?_
  refine gf_X2_C_19_0 hG (pc := 4) dX2_goes_4 ?_
  refine z_iload_n (pc := 7) 1 dX2_goes_7 rfl rfl ?_
  refine z_iload_n (pc := 8) 2 dX2_goes_8 rfl rfl ?_
  refine z_callVi (pc := 9) _ _ 1 1 (ct_X1_isOpen (zGC_T hG) _ _) mv_X1_isOpen q792 rfl (zGC_s1 hG) rfl (Nat.le_of_ble_eq_true rfl) (Nat.le_of_ble_eq_true rfl) rfl rfl (Nat.le_of_ble_eq_true rfl) dX2_goes_9 (fun r2 S1 => ?_)
  exact z_zret rfl rfl dX2_goes_12 rfl
abbrev mX3_goes_w10 : zMr := ("HiddenCube$Without", cX3_goes, 3, (some .boolean), 4, 0, 0, none)
def F_X3_goes_w10 (a1 : Int32) (a2 : Int32) (S : zSt) : Option (Int32 × zSt) :=
zbind (F_X2_goes_w10 a1 a2 S) (fun r2 S1 =>
if r2 = 0 then (some (0, S1)) else (if a2 = (S1.1 10 3) then (if a1 = (S1.1 10 2) then (some (0, S1)) else (if (a1 ^^^ ((1 : Int32) <<< (a2 &&& 31))) = (S1.1 10 2) then (some (0, S1)) else (some (1, S1)))) else (some (1, S1))))
theorem ct_X3_goes_w10 {G : zGw} (hG : zGC G) (a1 : Int32) (a2 : Int32) : Zc mX3_goes_w10 yX3_goes zJI G [.ref (G.1 10), .int a1, .int a2] (F_X3_goes_w10 a1 a2) := by
  refine Zc_of [some (.ref (G.1 10)), some (.int a1), some (.int a2)] (by decide) rfl rfl (Nat.le_of_ble_eq_true rfl) rfl (fun X S res => ?_)
  unfold F_X3_goes_w10
  refine z_aload_n (pc := 0) 0 dX3_goes_0 rfl rfl ?_
  refine z_iload_n (pc := 1) 1 dX3_goes_1 rfl rfl ?_
  refine z_iload_n (pc := 2) 2 dX3_goes_2 rfl rfl ?_
  refine z_callSU (pc := 3) _ _ 10 3 (ct_X2_goes_w10 hG _ _) zw_super q791 ⟨by decide, zd_goes⟩ rfl (zGC_s10 hG) ⟨_, _, rfl⟩ (Nat.le_of_ble_eq_true rfl) (Nat.le_of_ble_eq_true rfl) rfl rfl (Nat.le_of_ble_eq_true rfl) dX3_goes_3 (fun r2 S1 => ?_)
  refine z_if_eq (pc := 6) 41 dX3_goes_6 rfl ?_ ?_
  · refine z_iconst (pc := 41) (v := 0) dX3_goes_41 (by decide) ?_
    exact z_zret0 rfl dX3_goes_42 rfl
  · refine z_iload_n (pc := 9) 2 dX3_goes_9 rfl rfl ?_
    refine z_aload_n (pc := 10) 0 dX3_goes_10 rfl rfl ?_
    refine gf_X3_C_17_10 hG (pc := 11) dX3_goes_11 ?_
    refine z_icmp_ne (pc := 14) 37 dX3_goes_14 rfl ?_ ?_
    · refine z_iconst (pc := 37) (v := 1) dX3_goes_37 (by decide) ?_
      refine z_goto (pc := 38) 42 dX3_goes_38 rfl ?_
      exact z_zret1 rfl dX3_goes_42 rfl
    · refine z_iload_n (pc := 17) 1 dX3_goes_17 rfl rfl ?_
      refine z_aload_n (pc := 18) 0 dX3_goes_18 rfl rfl ?_
      refine gf_X3_C_21_10 hG (pc := 19) dX3_goes_19 ?_
      refine z_icmp_eq (pc := 22) 41 dX3_goes_22 rfl ?_ ?_
      · refine z_iconst (pc := 41) (v := 0) dX3_goes_41 (by decide) ?_
        exact z_zret0 rfl dX3_goes_42 rfl
      · refine z_iload_n (pc := 25) 1 dX3_goes_25 rfl rfl ?_
        refine z_iconst (pc := 26) (v := 1) dX3_goes_26 (by decide) ?_
        refine z_iload_n (pc := 27) 2 dX3_goes_27 rfl rfl ?_
        refine z_ishl (pc := 28) dX3_goes_28 ?_
        refine z_ixor (pc := 29) dX3_goes_29 ?_
        refine z_aload_n (pc := 30) 0 dX3_goes_30 rfl rfl ?_
        refine gf_X3_C_21_10 hG (pc := 31) dX3_goes_31 ?_
        refine z_icmp_eq (pc := 34) 41 dX3_goes_34 rfl ?_ ?_
        · refine z_iconst (pc := 41) (v := 0) dX3_goes_41 (by decide) ?_
          exact z_zret0 rfl dX3_goes_42 rfl
        · refine z_iconst (pc := 37) (v := 1) dX3_goes_37 (by decide) ?_
          refine z_goto (pc := 38) 42 dX3_goes_38 rfl ?_
          exact z_zret1 rfl dX3_goes_42 rfl
abbrev mX2_spreads_w10 : zMr := ("HiddenCube$Walk", cX2_spreads, 6, none, 5, 0, 0, none)
def LB_X2_spreads_w10_1 (x6 : Int32) (x11 : Int32) (rec10 : Int32 → zSt → Option (Unit × zSt)) (rec16 : Int32 → zSt → Option (Unit × zSt)) (x17 : Int32) (S18 : zSt) : Option (Unit × zSt) :=
if (S18.1 1 0) ≤ x17 then (rec10 (x11 + 1) S18) else (zlet (x11 ^^^ ((1 : Int32) <<< (x17 &&& 31)) : Int32) (fun w19 : Int32 =>
zbind (F_X3_goes_w10 x11 x17 S18) (fun r21 S20 =>
if r21 = 0 then (rec16 (x17 + 1) S20) else (chk w19 32 (if (S20.1 11 (w19).toNatClampNeg) = (-1) then (chk w19 32 (zlet (sI S20 11 (w19).toNatClampNeg (x6 + 1) : zSt) (fun S24 : zSt =>
rec16 (x17 + 1) S24))) else (rec16 (x17 + 1) S20))))))
def LB_X2_spreads_w10_2 (x6 : Int32) (rec5 : Int32 → zSt → Option (Unit × zSt)) (rec10 : Int32 → zSt → Option (Unit × zSt)) (x11 : Int32) (S12 : zSt) : Option (Unit × zSt) :=
zbind (F_X1_squares 1 S12) (fun r14 S13 =>
if r14 ≤ x11 then (rec5 (x6 + 1) S13) else (chk x11 32 (if (S13.1 11 (x11).toNatClampNeg) = x6 then (loopK (fun _ _ => none) (LB_X2_spreads_w10_1 x6 x11 rec10) zfuel 0 S13) else (rec10 (x11 + 1) S13))))
def LB_X2_spreads_w10_3 (rec5 : Int32 → zSt → Option (Unit × zSt)) (x6 : Int32) (S7 : zSt) : Option (Unit × zSt) :=
zbind (F_X1_squares 1 S7) (fun r9 S8 =>
if r9 ≤ x6 then (some ((), S8)) else (loopK (fun _ _ => none) (LB_X2_spreads_w10_2 x6 rec5) zfuel 0 S8))
def LB_X2_spreads_w10_4 (k1 : zSt → Option (Unit × zSt)) (rec25 : Int32 → zSt → Option (Unit × zSt)) (x26 : Int32) (S27 : zSt) : Option (Unit × zSt) :=
if 32 ≤ x26 then (k1 S27) else (chk x26 32 (zlet (sI S27 11 (x26).toNatClampNeg (-1) : zSt) (fun S29 : zSt =>
rec25 (x26 + 1) S29)))
def F_X2_spreads_w10 (a1 : Int32) (S : zSt) : Option (Unit × zSt) :=
joinK (fun  (S2 : zSt) => chk a1 32 (zlet (sI S2 11 (a1).toNatClampNeg 0 : zSt) (fun S4 : zSt =>
loopK (fun _ _ => none) (LB_X2_spreads_w10_3) zfuel 0 S4))) (fun k1 : zSt → Option (Unit × zSt) =>
loopK (fun _ _ => none) (LB_X2_spreads_w10_4 k1) zfuel 0 S)
theorem mv_X2_spreads_w10 : ZV mX2_spreads_w10 yX2_spreads 1 := ⟨q777, q778, q152, q781, rfl, by decide, by decide, by decide +kernel⟩
theorem ct_X2_spreads_w10 {G : zGw} (hG : zGC G) (a1 : Int32) : Zc mX2_spreads_w10 yX2_spreads zJV G [.ref (G.1 10), .int a1] (F_X2_spreads_w10 a1) := by
  refine Zc_of [some (.ref (G.1 10)), some (.int a1), none, none, none, none] (by decide) rfl rfl (Nat.le_of_ble_eq_true rfl) rfl (fun X S res => ?_)
  unfold F_X2_spreads_w10
  refine z_iconst (pc := 0) (v := 0) dX2_spreads_0 (by decide) ?_
  refine z_istore_n (pc := 1) 2 dX2_spreads_1 rfl (Nat.le_of_ble_eq_true rfl) rfl ?_
  refine z_join (fun j : zSt → Option (Unit × zSt) => ∀  (S2 : zSt), Zm X mX2_spreads_w10 zJV G (0, 0) res S2 21 [some (.ref (G.1 10)), some (.int a1), none, none, none, none] [] (j S2)) ?_ (fun k1 hk1 => ?_)
  · intro S2
    refine z_aload_n (pc := 21) 0 dX2_spreads_21 rfl rfl ?_
    refine gf_X2_C_15_10 hG (pc := 22) dX2_spreads_22 ?_
    refine z_iload_n (pc := 25) 1 dX2_spreads_25 rfl rfl ?_
    refine z_iconst (pc := 26) (v := 0) dX2_spreads_26 (by decide) ?_
    refine z_chk (fun h3 => ?_)
    refine z_iastore (pc := 27) 11 32 (zGC_s11 hG) h3 dX2_spreads_27 ?_
    refine z_letS (fun S4 => ?_)
    refine z_iconst (pc := 28) (v := 0) dX2_spreads_28 (by decide) ?_
    refine z_istore_n (pc := 29) 2 dX2_spreads_29 rfl (Nat.le_of_ble_eq_true rfl) rfl ?_
    refine z_maskk [true, false, true, false, false, false] ?_
    refine z_loopK (fun j : Int32 → zSt → Option (Unit × zSt) => ∀ (x6 : Int32) (S7 : zSt), Zm X mX2_spreads_w10 zJV G (0, 0) res S7 30 [some (.ref (G.1 10)), none, some (.int x6), none, none, none] [] (j x6 S7)) ?_ ?_ zfuel _ _
    · intro x6 S7; exact z_none
    · intro rec5 hrec5 x6 S7
      unfold LB_X2_spreads_w10_3
      refine z_iload_n (pc := 30) 2 dX2_spreads_30 rfl rfl ?_
      refine z_aload_n (pc := 31) 0 dX2_spreads_31 rfl rfl ?_
      refine gf_X2_C_3_10 hG (pc := 32) dX2_spreads_32 ?_
      refine gf_X2_C_19_0 hG (pc := 35) dX2_spreads_35 ?_
      refine z_callVi (pc := 38) _ _ 1 1 (ct_X1_squares (zGC_T hG)) mv_X1_squares q782 rfl (zGC_s1 hG) rfl (Nat.le_of_ble_eq_true rfl) (Nat.le_of_ble_eq_true rfl) rfl rfl (Nat.le_of_ble_eq_true rfl) dX2_spreads_38 (fun r9 S8 => ?_)
      refine z_icmp_ge (pc := 41) 148 dX2_spreads_41 rfl ?_ ?_
      · exact z_vret rfl dX2_spreads_148 rfl
      · refine z_iconst (pc := 44) (v := 0) dX2_spreads_44 (by decide) ?_
        refine z_istore_n (pc := 45) 3 dX2_spreads_45 rfl (Nat.le_of_ble_eq_true rfl) rfl ?_
        refine z_loopK (fun j : Int32 → zSt → Option (Unit × zSt) => ∀ (x11 : Int32) (S12 : zSt), Zm X mX2_spreads_w10 zJV G (0, 0) res S12 46 [some (.ref (G.1 10)), none, some (.int x6), some (.int x11), none, none] [] (j x11 S12)) ?_ ?_ zfuel _ _
        · intro x11 S12; exact z_none
        · intro rec10 hrec10 x11 S12
          unfold LB_X2_spreads_w10_2
          refine z_iload_n (pc := 46) 3 dX2_spreads_46 rfl rfl ?_
          refine z_aload_n (pc := 47) 0 dX2_spreads_47 rfl rfl ?_
          refine gf_X2_C_3_10 hG (pc := 48) dX2_spreads_48 ?_
          refine gf_X2_C_19_0 hG (pc := 51) dX2_spreads_51 ?_
          refine z_callVi (pc := 54) _ _ 1 1 (ct_X1_squares (zGC_T hG)) mv_X1_squares q782 rfl (zGC_s1 hG) rfl (Nat.le_of_ble_eq_true rfl) (Nat.le_of_ble_eq_true rfl) rfl rfl (Nat.le_of_ble_eq_true rfl) dX2_spreads_54 (fun r14 S13 => ?_)
          refine z_icmp_ge (pc := 57) 142 dX2_spreads_57 rfl ?_ ?_
          · refine z_iinc (pc := 142) (w := x6 + 1) dX2_spreads_142 rfl (by rw [show Int32.ofInt 1 = 1 from by decide]) (Nat.le_of_ble_eq_true rfl) rfl ?_
            refine z_goto (pc := 145) 30 dX2_spreads_145 rfl ?_
            exact z_mask [true, false, true, false, false, false] (hrec5 _ _) rfl
          · refine z_aload_n (pc := 60) 0 dX2_spreads_60 rfl rfl ?_
            refine gf_X2_C_15_10 hG (pc := 61) dX2_spreads_61 ?_
            refine z_iload_n (pc := 64) 3 dX2_spreads_64 rfl rfl ?_
            refine z_chk (fun h15 => ?_)
            refine z_iaload (pc := 65) 11 32 (zGC_s11 hG) h15 dX2_spreads_65 ?_
            refine z_iload_n (pc := 66) 2 dX2_spreads_66 rfl rfl ?_
            refine z_icmp_eq (pc := 67) 73 dX2_spreads_67 rfl ?_ ?_
            · refine z_iconst (pc := 73) (v := 0) dX2_spreads_73 (by decide) ?_
              refine z_istore (pc := 74) dX2_spreads_74 (Nat.le_of_ble_eq_true rfl) rfl ?_
              refine z_loopK (fun j : Int32 → zSt → Option (Unit × zSt) => ∀ (x17 : Int32) (S18 : zSt), Zm X mX2_spreads_w10 zJV G (0, 0) res S18 76 [some (.ref (G.1 10)), none, some (.int x6), some (.int x11), some (.int x17), none] [] (j x17 S18)) ?_ ?_ zfuel _ _
              · intro x17 S18; exact z_none
              · intro rec16 hrec16 x17 S18
                unfold LB_X2_spreads_w10_1
                refine z_iload (pc := 76) dX2_spreads_76 rfl ?_
                refine z_aload_n (pc := 78) 0 dX2_spreads_78 rfl rfl ?_
                refine gf_X2_C_3_10 hG (pc := 79) dX2_spreads_79 ?_
                refine gf_X2_C_19_0 hG (pc := 82) dX2_spreads_82 ?_
                refine gf_X2_C_33_1 hG (pc := 85) dX2_spreads_85 ?_
                refine z_icmp_ge (pc := 88) 136 dX2_spreads_88 rfl ?_ ?_
                · refine z_iinc (pc := 136) (w := x11 + 1) dX2_spreads_136 rfl (by rw [show Int32.ofInt 1 = 1 from by decide]) (Nat.le_of_ble_eq_true rfl) rfl ?_
                  refine z_goto (pc := 139) 46 dX2_spreads_139 rfl ?_
                  exact z_mask [true, false, true, true, false, false] (hrec10 _ _) rfl
                · refine z_iload_n (pc := 91) 3 dX2_spreads_91 rfl rfl ?_
                  refine z_iconst (pc := 92) (v := 1) dX2_spreads_92 (by decide) ?_
                  refine z_iload (pc := 93) dX2_spreads_93 rfl ?_
                  refine z_ishl (pc := 95) dX2_spreads_95 ?_
                  refine z_ixor (pc := 96) dX2_spreads_96 ?_
                  refine z_letI (fun w19 => ?_)
                  refine z_istore (pc := 97) dX2_spreads_97 (Nat.le_of_ble_eq_true rfl) rfl ?_
                  refine z_aload_n (pc := 99) 0 dX2_spreads_99 rfl rfl ?_
                  refine z_iload_n (pc := 100) 3 dX2_spreads_100 rfl rfl ?_
                  refine z_iload (pc := 101) dX2_spreads_101 rfl ?_
                  refine z_callO (pc := 103) _ _ 10 3 (ct_X3_goes_w10 hG _ _) zw_goes q789 q791 ⟨by decide, by decide, zd_goes⟩ rfl (zGC_s10 hG) ⟨_, _, rfl⟩ (Nat.le_of_ble_eq_true rfl) (Nat.le_of_ble_eq_true rfl) rfl rfl (Nat.le_of_ble_eq_true rfl) dX2_spreads_103 (fun r21 S20 => ?_)
                  refine z_if_eq (pc := 106) 130 dX2_spreads_106 rfl ?_ ?_
                  · refine z_iinc (pc := 130) (w := x17 + 1) dX2_spreads_130 rfl (by rw [show Int32.ofInt 1 = 1 from by decide]) (Nat.le_of_ble_eq_true rfl) rfl ?_
                    refine z_goto (pc := 133) 76 dX2_spreads_133 rfl ?_
                    exact z_mask [true, false, true, true, true, false] (hrec16 _ _) rfl
                  · refine z_aload_n (pc := 109) 0 dX2_spreads_109 rfl rfl ?_
                    refine gf_X2_C_15_10 hG (pc := 110) dX2_spreads_110 ?_
                    refine z_iload (pc := 113) dX2_spreads_113 rfl ?_
                    refine z_chk (fun h22 => ?_)
                    refine z_iaload (pc := 115) 11 32 (zGC_s11 hG) h22 dX2_spreads_115 ?_
                    refine z_iconst (pc := 116) (v := (-1)) dX2_spreads_116 (by decide) ?_
                    refine z_icmp_ne (pc := 117) 130 dX2_spreads_117 rfl ?_ ?_
                    · refine z_iinc (pc := 130) (w := x17 + 1) dX2_spreads_130 rfl (by rw [show Int32.ofInt 1 = 1 from by decide]) (Nat.le_of_ble_eq_true rfl) rfl ?_
                      refine z_goto (pc := 133) 76 dX2_spreads_133 rfl ?_
                      exact z_mask [true, false, true, true, true, false] (hrec16 _ _) rfl
                    · refine z_aload_n (pc := 120) 0 dX2_spreads_120 rfl rfl ?_
                      refine gf_X2_C_15_10 hG (pc := 121) dX2_spreads_121 ?_
                      refine z_iload (pc := 124) dX2_spreads_124 rfl ?_
                      refine z_iload_n (pc := 126) 2 dX2_spreads_126 rfl rfl ?_
                      refine z_iconst (pc := 127) (v := 1) dX2_spreads_127 (by decide) ?_
                      refine z_iadd (pc := 128) dX2_spreads_128 ?_
                      refine z_chk (fun h23 => ?_)
                      refine z_iastore (pc := 129) 11 32 (zGC_s11 hG) h23 dX2_spreads_129 ?_
                      refine z_letS (fun S24 => ?_)
                      refine z_iinc (pc := 130) (w := x17 + 1) dX2_spreads_130 rfl (by rw [show Int32.ofInt 1 = 1 from by decide]) (Nat.le_of_ble_eq_true rfl) rfl ?_
                      refine z_goto (pc := 133) 76 dX2_spreads_133 rfl ?_
                      exact z_mask [true, false, true, true, true, false] (hrec16 _ _) rfl
            · refine z_goto (pc := 70) 136 dX2_spreads_70 rfl ?_
              refine z_iinc (pc := 136) (w := x11 + 1) dX2_spreads_136 rfl (by rw [show Int32.ofInt 1 = 1 from by decide]) (Nat.le_of_ble_eq_true rfl) rfl ?_
              refine z_goto (pc := 139) 46 dX2_spreads_139 rfl ?_
              exact hrec10 _ _
  · refine z_loopK (fun j : Int32 → zSt → Option (Unit × zSt) => ∀ (x26 : Int32) (S27 : zSt), Zm X mX2_spreads_w10 zJV G (0, 0) res S27 2 [some (.ref (G.1 10)), some (.int a1), some (.int x26), none, none, none] [] (j x26 S27)) ?_ ?_ zfuel _ _
    · intro x26 S27; exact z_none
    · intro rec25 hrec25 x26 S27
      unfold LB_X2_spreads_w10_4
      refine z_iload_n (pc := 2) 2 dX2_spreads_2 rfl rfl ?_
      refine z_bipush (pc := 3) (v := 32) dX2_spreads_3 (by decide) ?_
      refine z_icmp_ge (pc := 5) 21 dX2_spreads_5 rfl ?_ ?_
      · exact z_mask [true, true, false, false, false, false] (hk1 _) rfl
      · refine z_aload_n (pc := 8) 0 dX2_spreads_8 rfl rfl ?_
        refine gf_X2_C_15_10 hG (pc := 9) dX2_spreads_9 ?_
        refine z_iload_n (pc := 12) 2 dX2_spreads_12 rfl rfl ?_
        refine z_iconst (pc := 13) (v := (-1)) dX2_spreads_13 (by decide) ?_
        refine z_chk (fun h28 => ?_)
        refine z_iastore (pc := 14) 11 32 (zGC_s11 hG) h28 dX2_spreads_14 ?_
        refine z_letS (fun S29 => ?_)
        refine z_iinc (pc := 15) (w := x26 + 1) dX2_spreads_15 rfl (by rw [show Int32.ofInt 1 = 1 from by decide]) (Nat.le_of_ble_eq_true rfl) rfl ?_
        refine z_goto (pc := 18) 2 dX2_spreads_18 rfl ?_
        exact hrec25 _ _
abbrev mX0_partsBy_p10 : zMr := ("HiddenCube", cX0_partsBy, 6, (some .int), 6, 0, 0, none)
def LB_X0_partsBy_p10_1 (x3 : Int32) (x4 : Int32) (rec1 : Int32 → Int32 → Int32 → zSt → Option (Int32 × zSt)) (rec11 : Int32 → Int32 → zSt → Option (Int32 × zSt)) (x12 : Int32) (x13 : Int32) (S14 : zSt) : Option (Int32 × zSt) :=
zbind (F_X1_squares 1 S14) (fun r16 S15 =>
if r16 ≤ x13 then (rec1 x12 (x3 + 1) (x4 + 1) S15) else (chk x13 32 (zlet (x12 ||| (if (S15.1 11 (x13).toNatClampNeg) = (-1) then 0 else (1 : Int32) <<< (x13 &&& 31)) : Int32) (fun w19 : Int32 =>
rec11 w19 (x13 + 1) S15))))
def LB_X0_partsBy_p10_2 (rec1 : Int32 → Int32 → Int32 → zSt → Option (Int32 × zSt)) (x2 : Int32) (x3 : Int32) (x4 : Int32) (S5 : zSt) : Option (Int32 × zSt) :=
zbind (F_X1_squares 1 S5) (fun r7 S6 =>
if r7 ≤ x4 then (some (x3, S6)) else (zbind (F_X0_has x2 x4 S6) (fun r9 S8 =>
if r9 = 0 then (zbind (F_X2_spreads_w10 x4 S8) (fun _ S10 =>
loopK (fun _ _ _ => none) (LB_X0_partsBy_p10_1 x3 x4 rec1) zfuel x2 0 S10)) else (rec1 x2 x3 (x4 + 1) S8))))
def F_X0_partsBy_p10  (S : zSt) : Option (Int32 × zSt) :=
loopK (fun _ _ _ _ => none) (LB_X0_partsBy_p10_2) zfuel 0 0 0 S
theorem mv_X0_partsBy_p10 : ZV mX0_partsBy_p10 yX0_partsBy 1 := ⟨q901, qs37, q150, q902, rfl, by decide, by decide, by decide +kernel⟩
theorem ct_X0_partsBy_p10 {G : zGw} (hG : zGC G)  : Zc mX0_partsBy_p10 yX0_partsBy zJI G [.ref (G.1 0), .ref (G.1 10)] (F_X0_partsBy_p10) := by
  refine Zc_of [some (.ref (G.1 0)), some (.ref (G.1 10)), none, none, none, none] (by decide) rfl rfl (Nat.le_of_ble_eq_true rfl) rfl (fun X S res => ?_)
  unfold F_X0_partsBy_p10
  refine z_iconst (pc := 0) (v := 0) dX0_partsBy_0 (by decide) ?_
  refine z_istore_n (pc := 1) 2 dX0_partsBy_1 rfl (Nat.le_of_ble_eq_true rfl) rfl ?_
  refine z_iconst (pc := 2) (v := 0) dX0_partsBy_2 (by decide) ?_
  refine z_istore_n (pc := 3) 3 dX0_partsBy_3 rfl (Nat.le_of_ble_eq_true rfl) rfl ?_
  refine z_iconst (pc := 4) (v := 0) dX0_partsBy_4 (by decide) ?_
  refine z_istore (pc := 5) dX0_partsBy_5 (Nat.le_of_ble_eq_true rfl) rfl ?_
  refine z_loopK (fun j : Int32 → Int32 → Int32 → zSt → Option (Int32 × zSt) => ∀ (x2 : Int32) (x3 : Int32) (x4 : Int32) (S5 : zSt), Zm X mX0_partsBy_p10 zJI G (0, 0) res S5 7 [some (.ref (G.1 0)), some (.ref (G.1 10)), some (.int x2), some (.int x3), some (.int x4), none] [] (j x2 x3 x4 S5)) ?_ ?_ zfuel _ _ _ _
  · intro x2 x3 x4 S5; exact z_none
  · intro rec1 hrec1 x2 x3 x4 S5
    unfold LB_X0_partsBy_p10_2
    refine z_iload (pc := 7) dX0_partsBy_7 rfl ?_
    refine z_aload_n (pc := 9) 0 dX0_partsBy_9 rfl rfl ?_
    refine gf_X0_C_10_0 hG (pc := 10) dX0_partsBy_10 ?_
    refine z_callVi (pc := 13) _ _ 1 1 (ct_X1_squares (zGC_T hG)) mv_X1_squares q727 rfl (zGC_s1 hG) rfl (Nat.le_of_ble_eq_true rfl) (Nat.le_of_ble_eq_true rfl) rfl rfl (Nat.le_of_ble_eq_true rfl) dX0_partsBy_13 (fun r7 S6 => ?_)
    refine z_icmp_ge (pc := 16) 89 dX0_partsBy_16 rfl ?_ ?_
    · refine z_iload_n (pc := 89) 3 dX0_partsBy_89 rfl rfl ?_
      exact z_iret rfl dX0_partsBy_90 rfl
    · refine z_iload_n (pc := 19) 2 dX0_partsBy_19 rfl rfl ?_
      refine z_iload (pc := 20) dX0_partsBy_20 rfl ?_
      refine z_callSi (pc := 22) _ _ (ct_X0_has  _ _) mv_X0_has q767 rfl (Nat.le_of_ble_eq_true rfl) (Nat.le_of_ble_eq_true rfl) rfl rfl (Nat.le_of_ble_eq_true rfl) dX0_partsBy_22 (fun r9 S8 => ?_)
      refine z_if_eq (pc := 25) 31 dX0_partsBy_25 rfl ?_ ?_
      · refine z_iinc (pc := 31) (w := x3 + 1) dX0_partsBy_31 rfl (by rw [show Int32.ofInt 1 = 1 from by decide]) (Nat.le_of_ble_eq_true rfl) rfl ?_
        refine z_aload_n (pc := 34) 1 dX0_partsBy_34 rfl rfl ?_
        refine z_iload (pc := 35) dX0_partsBy_35 rfl ?_
        refine z_callU (pc := 37) _ _ 10 3 (ct_X2_spreads_w10 hG _) zw_spreads q781 rfl ⟨by decide, by decide, zd_spreads⟩ rfl (zGC_s10 hG) ⟨_, _, rfl⟩ (Nat.le_of_ble_eq_true rfl) (Nat.le_of_ble_eq_true rfl) rfl rfl (Nat.le_of_ble_eq_true rfl) dX0_partsBy_37 (fun _ S10 => ?_)
        refine z_iconst (pc := 40) (v := 0) dX0_partsBy_40 (by decide) ?_
        refine z_istore (pc := 41) dX0_partsBy_41 (Nat.le_of_ble_eq_true rfl) rfl ?_
        refine z_loopK (fun j : Int32 → Int32 → zSt → Option (Int32 × zSt) => ∀ (x12 : Int32) (x13 : Int32) (S14 : zSt), Zm X mX0_partsBy_p10 zJI G (0, 0) res S14 43 [some (.ref (G.1 0)), some (.ref (G.1 10)), some (.int x12), some (.int (x3 + 1)), some (.int x4), some (.int x13)] [] (j x12 x13 S14)) ?_ ?_ zfuel _ _ _
        · intro x12 x13 S14; exact z_none
        · intro rec11 hrec11 x12 x13 S14
          unfold LB_X0_partsBy_p10_1
          refine z_iload (pc := 43) dX0_partsBy_43 rfl ?_
          refine z_aload_n (pc := 45) 0 dX0_partsBy_45 rfl rfl ?_
          refine gf_X0_C_10_0 hG (pc := 46) dX0_partsBy_46 ?_
          refine z_callVi (pc := 49) _ _ 1 1 (ct_X1_squares (zGC_T hG)) mv_X1_squares q727 rfl (zGC_s1 hG) rfl (Nat.le_of_ble_eq_true rfl) (Nat.le_of_ble_eq_true rfl) rfl rfl (Nat.le_of_ble_eq_true rfl) dX0_partsBy_49 (fun r16 S15 => ?_)
          refine z_icmp_ge (pc := 52) 83 dX0_partsBy_52 rfl ?_ ?_
          · refine z_iinc (pc := 83) (w := x4 + 1) dX0_partsBy_83 rfl (by rw [show Int32.ofInt 1 = 1 from by decide]) (Nat.le_of_ble_eq_true rfl) rfl ?_
            refine z_goto (pc := 86) 7 dX0_partsBy_86 rfl ?_
            exact z_mask [true, true, true, true, true, false] (hrec1 _ _ _ _) rfl
          · refine z_iload_n (pc := 55) 2 dX0_partsBy_55 rfl rfl ?_
            refine z_aload_n (pc := 56) 1 dX0_partsBy_56 rfl rfl ?_
            refine gf_X0_C_210_10 hG (pc := 57) dX0_partsBy_57 ?_
            refine z_iload (pc := 60) dX0_partsBy_60 rfl ?_
            refine z_chk (fun h17 => ?_)
            refine z_iaload (pc := 62) 11 32 (zGC_s11 hG) h17 dX0_partsBy_62 ?_
            refine z_iconst (pc := 63) (v := (-1)) dX0_partsBy_63 (by decide) ?_
            refine z_pure (st0 := [.int x12]) 75 ((if (S15.1 11 (x13).toNatClampNeg) = (-1) then 0 else (1 : Int32) <<< (x13 &&& 31))) ?_ (fun hJ => ?_)
            · refine z_ior (pc := 75) dX0_partsBy_75 ?_
              refine z_letI (fun w19 => ?_)
              refine z_istore_n (pc := 76) 2 dX0_partsBy_76 rfl (Nat.le_of_ble_eq_true rfl) rfl ?_
              refine z_iinc (pc := 77) (w := x13 + 1) dX0_partsBy_77 rfl (by rw [show Int32.ofInt 1 = 1 from by decide]) (Nat.le_of_ble_eq_true rfl) rfl ?_
              refine z_goto (pc := 80) 43 dX0_partsBy_80 rfl ?_
              exact hrec11 _ _ _
            · refine z_icmpd_ne (pc := 64) 71 dX0_partsBy_64 rfl (fun c20 => ?_) (fun c20 => ?_)
              · refine z_iconst (pc := 71) (v := 1) dX0_partsBy_71 (by decide) ?_
                refine z_iload (pc := 72) dX0_partsBy_72 rfl ?_
                refine z_ishl (pc := 74) dX0_partsBy_74 ?_
                exact z_leaf hJ (by simp only [if_neg c20])
              · refine z_iconst (pc := 67) (v := 0) dX0_partsBy_67 (by decide) ?_
                refine z_goto (pc := 68) 75 dX0_partsBy_68 rfl ?_
                exact z_leaf hJ (by simp only [if_pos c20])
      · refine z_goto (pc := 28) 83 dX0_partsBy_28 rfl ?_
        refine z_iinc (pc := 83) (w := x4 + 1) dX0_partsBy_83 rfl (by rw [show Int32.ofInt 1 = 1 from by decide]) (Nat.le_of_ble_eq_true rfl) rfl ?_
        refine z_goto (pc := 86) 7 dX0_partsBy_86 rfl ?_
        exact hrec1 _ _ _ _
abbrev mX0_isBridge : zMr := ("HiddenCube", cX0_isBridge, 3, (some .boolean), 7, 0, 0, none)
def F_X0_isBridge (a1 : Int32) (a2 : Int32) (S : zSt) : Option (Int32 × zSt) :=
zbind (F_X1_isOpen 1 a1 a2 S) (fun r2 S1 =>
if r2 = 0 then (some (0, S1)) else (zlet (sI S1 10 2 a1 : zSt) (fun S3 : zSt =>
zlet (sI S3 10 3 a2 : zSt) (fun S4 : zSt =>
zbind (F_X0_partsBy_p10 S4) (fun r6 S5 =>
zbind (F_X0_partsBy_p8 S5) (fun r8 S7 =>
if r6 ≤ r8 then (some (0, S7)) else (some (1, S7))))))))
theorem mv_X0_isBridge : ZV mX0_isBridge yX0_isBridge 2 := ⟨q913, qs38, q150, q914, rfl, by decide, by decide, by decide +kernel⟩
theorem ct_X0_isBridge {G : zGw} (hG : zGC G) (a1 : Int32) (a2 : Int32) : Zc mX0_isBridge yX0_isBridge zJI G [.ref (G.1 0), .int a1, .int a2] (F_X0_isBridge a1 a2) := by
  refine Zc_of [some (.ref (G.1 0)), some (.int a1), some (.int a2)] (by decide) rfl rfl (Nat.le_of_ble_eq_true rfl) rfl (fun X S res => ?_)
  unfold F_X0_isBridge
  refine z_aload_n (pc := 0) 0 dX0_isBridge_0 rfl rfl ?_
  refine gf_X0_C_10_0 hG (pc := 1) dX0_isBridge_1 ?_
  refine z_iload_n (pc := 4) 1 dX0_isBridge_4 rfl rfl ?_
  refine z_iload_n (pc := 5) 2 dX0_isBridge_5 rfl rfl ?_
  refine z_callVi (pc := 6) _ _ 1 1 (ct_X1_isOpen (zGC_T hG) _ _) mv_X1_isOpen q728 rfl (zGC_s1 hG) rfl (Nat.le_of_ble_eq_true rfl) (Nat.le_of_ble_eq_true rfl) rfl rfl (Nat.le_of_ble_eq_true rfl) dX0_isBridge_6 (fun r2 S1 => ?_)
  refine z_if_ne (pc := 9) 14 dX0_isBridge_9 rfl ?_ ?_
  · refine z_aload_n (pc := 14) 0 dX0_isBridge_14 rfl rfl ?_
    refine gf_X0_C_36_0 hG (pc := 15) dX0_isBridge_15 ?_
    refine z_iload_n (pc := 18) 1 dX0_isBridge_18 rfl rfl ?_
    refine pf_X0_C_289_10 hG (pc := 19) dX0_isBridge_19 ?_
    refine z_letS (fun S3 => ?_)
    refine z_aload_n (pc := 22) 0 dX0_isBridge_22 rfl rfl ?_
    refine gf_X0_C_36_0 hG (pc := 23) dX0_isBridge_23 ?_
    refine z_iload_n (pc := 26) 2 dX0_isBridge_26 rfl rfl ?_
    refine pf_X0_C_292_10 hG (pc := 27) dX0_isBridge_27 ?_
    refine z_letS (fun S4 => ?_)
    refine z_aload_n (pc := 30) 0 dX0_isBridge_30 rfl rfl ?_
    refine z_aload_n (pc := 31) 0 dX0_isBridge_31 rfl rfl ?_
    refine gf_X0_C_36_0 hG (pc := 32) dX0_isBridge_32 ?_
    refine z_callVi (pc := 35) _ _ 0 0 (ct_X0_partsBy_p10 hG) mv_X0_partsBy_p10 q899 rfl (zGC_s0 hG) rfl (Nat.le_of_ble_eq_true rfl) (Nat.le_of_ble_eq_true rfl) rfl rfl (Nat.le_of_ble_eq_true rfl) dX0_isBridge_35 (fun r6 S5 => ?_)
    refine z_aload_n (pc := 38) 0 dX0_isBridge_38 rfl rfl ?_
    refine z_aload_n (pc := 39) 0 dX0_isBridge_39 rfl rfl ?_
    refine gf_X0_C_29_0 hG (pc := 40) dX0_isBridge_40 ?_
    refine z_callVi (pc := 43) _ _ 0 0 (ct_X0_partsBy_p8 hG) mv_X0_partsBy_p8 q899 rfl (zGC_s0 hG) rfl (Nat.le_of_ble_eq_true rfl) (Nat.le_of_ble_eq_true rfl) rfl rfl (Nat.le_of_ble_eq_true rfl) dX0_isBridge_43 (fun r8 S7 => ?_)
    refine z_icmp_le (pc := 46) 53 dX0_isBridge_46 rfl ?_ ?_
    · refine z_iconst (pc := 53) (v := 0) dX0_isBridge_53 (by decide) ?_
      exact z_zret0 rfl dX0_isBridge_54 rfl
    · refine z_iconst (pc := 49) (v := 1) dX0_isBridge_49 (by decide) ?_
      refine z_goto (pc := 50) 54 dX0_isBridge_50 rfl ?_
      exact z_zret1 rfl dX0_isBridge_54 rfl
  · refine z_iconst (pc := 12) (v := 0) dX0_isBridge_12 (by decide) ?_
    exact z_zret0 rfl dX0_isBridge_13 rfl
abbrev mX0_bridges : zMr := ("HiddenCube", cX0_bridges, 4, (some .int), 8, 0, 0, none)
def LB_X0_bridges_1 (x5 : Int32) (rec3 : Int32 → Int32 → zSt → Option (Int32 × zSt)) (rec9 : Int32 → Int32 → zSt → Option (Int32 × zSt)) (x10 : Int32) (x11 : Int32) (S12 : zSt) : Option (Int32 × zSt) :=
if (S12.1 1 0) ≤ x11 then (rec3 x10 (x5 + 1) S12) else (zbind (F_X0_has x5 x11 S12) (fun r14 S13 =>
joinK (fun (v16 : Int32) (S17 : zSt) => rec9 (x10 + v16) (x11 + 1) S17) (fun j15 : Int32 → zSt → Option (Int32 × zSt) =>
joinK (fun  (S19 : zSt) => j15 0 S19) (fun j18 : zSt → Option (Int32 × zSt) =>
if r14 = 0 then (zbind (F_X0_isBridge x5 x11 S13) (fun r21 S20 =>
if r21 = 0 then (j18 S20) else (j15 1 S20))) else (j18 S13)))))
def LB_X0_bridges_2 (rec3 : Int32 → Int32 → zSt → Option (Int32 × zSt)) (x4 : Int32) (x5 : Int32) (S6 : zSt) : Option (Int32 × zSt) :=
zbind (F_X1_squares 1 S6) (fun r8 S7 =>
if r8 ≤ x5 then (some (x4, S7)) else (loopK (fun _ _ _ => none) (LB_X0_bridges_1 x5 rec3) zfuel x4 0 S7))
def F_X0_bridges  (S : zSt) : Option (Int32 × zSt) :=
zbind (F_X0_isTown S) (fun r2 S1 =>
if r2 = 0 then (some ((-2), S1)) else (loopK (fun _ _ _ => none) (LB_X0_bridges_2) zfuel 0 0 S1))
theorem mv_X0_bridges : ZV mX0_bridges yX0_bridges 0 := ⟨q908, q909, q150, q910, rfl, by decide, by decide, by decide +kernel⟩
theorem ct_X0_bridges {G : zGw} (hG : zGC G)  : Zc mX0_bridges yX0_bridges zJI G [.ref (G.1 0)] (F_X0_bridges) := by
  refine Zc_of [some (.ref (G.1 0)), none, none, none] (by decide) rfl rfl (Nat.le_of_ble_eq_true rfl) rfl (fun X S res => ?_)
  unfold F_X0_bridges
  refine z_aload_n (pc := 0) 0 dX0_bridges_0 rfl rfl ?_
  refine z_callVi (pc := 1) _ _ 0 0 (ct_X0_isTown hG) mv_X0_isTown q827 rfl (zGC_s0 hG) rfl (Nat.le_of_ble_eq_true rfl) (Nat.le_of_ble_eq_true rfl) rfl rfl (Nat.le_of_ble_eq_true rfl) dX0_bridges_1 (fun r2 S1 => ?_)
  refine z_if_ne (pc := 4) 10 dX0_bridges_4 rfl ?_ ?_
  · refine z_iconst (pc := 10) (v := 0) dX0_bridges_10 (by decide) ?_
    refine z_istore_n (pc := 11) 1 dX0_bridges_11 rfl (Nat.le_of_ble_eq_true rfl) rfl ?_
    refine z_iconst (pc := 12) (v := 0) dX0_bridges_12 (by decide) ?_
    refine z_istore_n (pc := 13) 2 dX0_bridges_13 rfl (Nat.le_of_ble_eq_true rfl) rfl ?_
    refine z_loopK (fun j : Int32 → Int32 → zSt → Option (Int32 × zSt) => ∀ (x4 : Int32) (x5 : Int32) (S6 : zSt), Zm X mX0_bridges zJI G (0, 0) res S6 14 [some (.ref (G.1 0)), some (.int x4), some (.int x5), none] [] (j x4 x5 S6)) ?_ ?_ zfuel _ _ _
    · intro x4 x5 S6; exact z_none
    · intro rec3 hrec3 x4 x5 S6
      unfold LB_X0_bridges_2
      refine z_iload_n (pc := 14) 2 dX0_bridges_14 rfl rfl ?_
      refine z_aload_n (pc := 15) 0 dX0_bridges_15 rfl rfl ?_
      refine gf_X0_C_10_0 hG (pc := 16) dX0_bridges_16 ?_
      refine z_callVi (pc := 19) _ _ 1 1 (ct_X1_squares (zGC_T hG)) mv_X1_squares q727 rfl (zGC_s1 hG) rfl (Nat.le_of_ble_eq_true rfl) (Nat.le_of_ble_eq_true rfl) rfl rfl (Nat.le_of_ble_eq_true rfl) dX0_bridges_19 (fun r8 S7 => ?_)
      refine z_icmp_ge (pc := 22) 75 dX0_bridges_22 rfl ?_ ?_
      · refine z_iload_n (pc := 75) 1 dX0_bridges_75 rfl rfl ?_
        exact z_iret rfl dX0_bridges_76 rfl
      · refine z_iconst (pc := 25) (v := 0) dX0_bridges_25 (by decide) ?_
        refine z_istore_n (pc := 26) 3 dX0_bridges_26 rfl (Nat.le_of_ble_eq_true rfl) rfl ?_
        refine z_loopK (fun j : Int32 → Int32 → zSt → Option (Int32 × zSt) => ∀ (x10 : Int32) (x11 : Int32) (S12 : zSt), Zm X mX0_bridges zJI G (0, 0) res S12 27 [some (.ref (G.1 0)), some (.int x10), some (.int x5), some (.int x11)] [] (j x10 x11 S12)) ?_ ?_ zfuel _ _ _
        · intro x10 x11 S12; exact z_none
        · intro rec9 hrec9 x10 x11 S12
          unfold LB_X0_bridges_1
          refine z_iload_n (pc := 27) 3 dX0_bridges_27 rfl rfl ?_
          refine z_aload_n (pc := 28) 0 dX0_bridges_28 rfl rfl ?_
          refine gf_X0_C_10_0 hG (pc := 29) dX0_bridges_29 ?_
          refine gf_X0_C_158_1 hG (pc := 32) dX0_bridges_32 ?_
          refine z_icmp_ge (pc := 35) 69 dX0_bridges_35 rfl ?_ ?_
          · refine z_iinc (pc := 69) (w := x5 + 1) dX0_bridges_69 rfl (by rw [show Int32.ofInt 1 = 1 from by decide]) (Nat.le_of_ble_eq_true rfl) rfl ?_
            refine z_goto (pc := 72) 14 dX0_bridges_72 rfl ?_
            exact z_mask [true, true, true, false] (hrec3 _ _ _) rfl
          · refine z_iload_n (pc := 38) 1 dX0_bridges_38 rfl rfl ?_
            refine z_iload_n (pc := 39) 2 dX0_bridges_39 rfl rfl ?_
            refine z_iload_n (pc := 40) 3 dX0_bridges_40 rfl rfl ?_
            refine z_callSi (pc := 41) _ _ (ct_X0_has  _ _) mv_X0_has q767 rfl (Nat.le_of_ble_eq_true rfl) (Nat.le_of_ble_eq_true rfl) rfl rfl (Nat.le_of_ble_eq_true rfl) dX0_bridges_41 (fun r14 S13 => ?_)
            refine z_join (fun j : Int32 → zSt → Option (Int32 × zSt) => ∀ (v16 : Int32) (S17 : zSt), Zm X mX0_bridges zJI G (0, 0) res S17 61 [some (.ref (G.1 0)), none, some (.int x5), some (.int x11)] [.int v16, .int x10] (j v16 S17)) ?_ (fun j15 hj15 => ?_)
            · intro v16 S17
              refine z_iadd (pc := 61) dX0_bridges_61 ?_
              refine z_istore_n (pc := 62) 1 dX0_bridges_62 rfl (Nat.le_of_ble_eq_true rfl) rfl ?_
              refine z_iinc (pc := 63) (w := x11 + 1) dX0_bridges_63 rfl (by rw [show Int32.ofInt 1 = 1 from by decide]) (Nat.le_of_ble_eq_true rfl) rfl ?_
              refine z_goto (pc := 66) 27 dX0_bridges_66 rfl ?_
              exact hrec9 _ _ _
            · refine z_join (fun j : zSt → Option (Int32 × zSt) => ∀  (S19 : zSt), Zm X mX0_bridges zJI G (0, 0) res S19 60 [some (.ref (G.1 0)), none, some (.int x5), some (.int x11)] [.int x10] (j S19)) ?_ (fun j18 hj18 => ?_)
              · intro S19
                refine z_iconst (pc := 60) (v := 0) dX0_bridges_60 (by decide) ?_
                exact hj15 _ _
              · refine z_if_ne (pc := 44) 60 dX0_bridges_44 rfl ?_ ?_
                · exact z_mask [true, false, true, true] (hj18 _) rfl
                · refine z_aload_n (pc := 47) 0 dX0_bridges_47 rfl rfl ?_
                  refine z_iload_n (pc := 48) 2 dX0_bridges_48 rfl rfl ?_
                  refine z_iload_n (pc := 49) 3 dX0_bridges_49 rfl rfl ?_
                  refine z_callVi (pc := 50) _ _ 0 0 (ct_X0_isBridge hG _ _) mv_X0_isBridge q911 rfl (zGC_s0 hG) rfl (Nat.le_of_ble_eq_true rfl) (Nat.le_of_ble_eq_true rfl) rfl rfl (Nat.le_of_ble_eq_true rfl) dX0_bridges_50 (fun r21 S20 => ?_)
                  refine z_if_eq (pc := 53) 60 dX0_bridges_53 rfl ?_ ?_
                  · exact z_mask [true, false, true, true] (hj18 _) rfl
                  · refine z_iconst (pc := 56) (v := 1) dX0_bridges_56 (by decide) ?_
                    refine z_goto (pc := 57) 61 dX0_bridges_57 rfl ?_
                    exact z_mask [true, false, true, true] (hj15 _ _) rfl
  · refine z_bipush (pc := 7) (v := (-2)) dX0_bridges_7 (by decide) ?_
    exact z_iret rfl dX0_bridges_9 rfl
abbrev mX0_bridge : zMr := ("HiddenCube", cX0_bridge, 3, (some .int), 8, 0, 0, none)
def F_X0_bridge (a1 : Int32) (a2 : Int32) (S : zSt) : Option (Int32 × zSt) :=
zbind (F_X0_isSquare ((a1).toInt64) S) (fun r2 S1 =>
if r2 = 0 then (some ((-2), S1)) else (zbind (F_X0_isName a2 S1) (fun r4 S3 =>
if r4 = 0 then (some ((-2), S3)) else (zbind (F_X0_isBridge a1 a2 S3) (fun r6 S5 =>
if r6 = 0 then (some (0, S5)) else (some (1, S5)))))))
theorem mv_X0_bridge : ZV mX0_bridge yX0_bridge 2 := ⟨q916, q917, q150, q918, rfl, by decide, by decide, by decide +kernel⟩
theorem ct_X0_bridge {G : zGw} (hG : zGC G) (a1 : Int32) (a2 : Int32) : Zc mX0_bridge yX0_bridge zJI G [.ref (G.1 0), .int a1, .int a2] (F_X0_bridge a1 a2) := by
  refine Zc_of [some (.ref (G.1 0)), some (.int a1), some (.int a2)] (by decide) rfl rfl (Nat.le_of_ble_eq_true rfl) rfl (fun X S res => ?_)
  unfold F_X0_bridge
  refine z_aload_n (pc := 0) 0 dX0_bridge_0 rfl rfl ?_
  refine z_iload_n (pc := 1) 1 dX0_bridge_1 rfl rfl ?_
  refine z_i2l (pc := 2) dX0_bridge_2 ?_
  refine z_callVi (pc := 3) _ _ 0 0 (ct_X0_isSquare hG _) mv_X0_isSquare q723 rfl (zGC_s0 hG) rfl (Nat.le_of_ble_eq_true rfl) (Nat.le_of_ble_eq_true rfl) rfl rfl (Nat.le_of_ble_eq_true rfl) dX0_bridge_3 (fun r2 S1 => ?_)
  refine z_if_eq (pc := 6) 34 dX0_bridge_6 rfl ?_ ?_
  · refine z_bipush (pc := 34) (v := (-2)) dX0_bridge_34 (by decide) ?_
    exact z_iret rfl dX0_bridge_36 rfl
  · refine z_aload_n (pc := 9) 0 dX0_bridge_9 rfl rfl ?_
    refine z_iload_n (pc := 10) 2 dX0_bridge_10 rfl rfl ?_
    refine z_callVi (pc := 11) _ _ 0 0 (ct_X0_isName hG _) mv_X0_isName q715 rfl (zGC_s0 hG) rfl (Nat.le_of_ble_eq_true rfl) (Nat.le_of_ble_eq_true rfl) rfl rfl (Nat.le_of_ble_eq_true rfl) dX0_bridge_11 (fun r4 S3 => ?_)
    refine z_if_eq (pc := 14) 34 dX0_bridge_14 rfl ?_ ?_
    · refine z_bipush (pc := 34) (v := (-2)) dX0_bridge_34 (by decide) ?_
      exact z_iret rfl dX0_bridge_36 rfl
    · refine z_aload_n (pc := 17) 0 dX0_bridge_17 rfl rfl ?_
      refine z_iload_n (pc := 18) 1 dX0_bridge_18 rfl rfl ?_
      refine z_iload_n (pc := 19) 2 dX0_bridge_19 rfl rfl ?_
      refine z_callVi (pc := 20) _ _ 0 0 (ct_X0_isBridge hG _ _) mv_X0_isBridge q911 rfl (zGC_s0 hG) rfl (Nat.le_of_ble_eq_true rfl) (Nat.le_of_ble_eq_true rfl) rfl rfl (Nat.le_of_ble_eq_true rfl) dX0_bridge_20 (fun r6 S5 => ?_)
      refine z_if_eq (pc := 23) 30 dX0_bridge_23 rfl ?_ ?_
      · refine z_iconst (pc := 30) (v := 0) dX0_bridge_30 (by decide) ?_
        refine z_goto (pc := 31) 36 dX0_bridge_31 rfl ?_
        exact z_iret rfl dX0_bridge_36 rfl
      · refine z_iconst (pc := 26) (v := 1) dX0_bridge_26 (by decide) ?_
        refine z_goto (pc := 27) 36 dX0_bridge_27 rfl ?_
        exact z_iret rfl dX0_bridge_36 rfl
abbrev mX0_joins : zMr := ("HiddenCube", cX0_joins, 1, (some .int), 6, 0, 0, none)
def F_X0_joins  (S : zSt) : Option (Int32 × zSt) :=
zbind (F_X0_isTown S) (fun r2 S1 =>
if r2 = 0 then (some ((-2), S1)) else (zbind (F_X0_partsBy_p8 S1) (fun r4 S3 =>
some (r4 - 1, S3))))
theorem mv_X0_joins : ZV mX0_joins yX0_joins 0 := ⟨q920, q921, q150, q922, rfl, by decide, by decide, by decide +kernel⟩
theorem ct_X0_joins {G : zGw} (hG : zGC G)  : Zc mX0_joins yX0_joins zJI G [.ref (G.1 0)] (F_X0_joins) := by
  refine Zc_of [some (.ref (G.1 0))] (by decide) rfl rfl (Nat.le_of_ble_eq_true rfl) rfl (fun X S res => ?_)
  unfold F_X0_joins
  refine z_aload_n (pc := 0) 0 dX0_joins_0 rfl rfl ?_
  refine z_callVi (pc := 1) _ _ 0 0 (ct_X0_isTown hG) mv_X0_isTown q827 rfl (zGC_s0 hG) rfl (Nat.le_of_ble_eq_true rfl) (Nat.le_of_ble_eq_true rfl) rfl rfl (Nat.le_of_ble_eq_true rfl) dX0_joins_1 (fun r2 S1 => ?_)
  refine z_if_eq (pc := 4) 20 dX0_joins_4 rfl ?_ ?_
  · refine z_bipush (pc := 20) (v := (-2)) dX0_joins_20 (by decide) ?_
    exact z_iret rfl dX0_joins_22 rfl
  · refine z_aload_n (pc := 7) 0 dX0_joins_7 rfl rfl ?_
    refine z_aload_n (pc := 8) 0 dX0_joins_8 rfl rfl ?_
    refine gf_X0_C_29_0 hG (pc := 9) dX0_joins_9 ?_
    refine z_callVi (pc := 12) _ _ 0 0 (ct_X0_partsBy_p8 hG) mv_X0_partsBy_p8 q899 rfl (zGC_s0 hG) rfl (Nat.le_of_ble_eq_true rfl) (Nat.le_of_ble_eq_true rfl) rfl rfl (Nat.le_of_ble_eq_true rfl) dX0_joins_12 (fun r4 S3 => ?_)
    refine z_iconst (pc := 15) (v := 1) dX0_joins_15 (by decide) ?_
    refine z_isub (pc := 16) dX0_joins_16 ?_
    refine z_goto (pc := 17) 22 dX0_joins_17 rfl ?_
    exact z_iret rfl dX0_joins_22 rfl
abbrev mX0_isWall : zMr := ("HiddenCube", cX0_isWall, 4, (some .boolean), 2, 0, 0, none)
def LB_X0_isWall_1 (a1 : Int32) (a2 : Int32) (rec1 : Int32 → zSt → Option (Int32 × zSt)) (x2 : Int32) (S3 : zSt) : Option (Int32 × zSt) :=
zbind (F_X1_squares 1 S3) (fun r5 S4 =>
if r5 ≤ x2 then (some (1, S4)) else (if ((x2 ^^^ a1) &&& (a2 ^^^ (-1))) = 0 then (chk x2 32 (if ((S4.1 7 (x2).toNatClampNeg) &&& a2) = 0 then (rec1 (x2 + 1) S4) else (some (0, S4)))) else (rec1 (x2 + 1) S4)))
def F_X0_isWall (a1 : Int32) (a2 : Int32) (S : zSt) : Option (Int32 × zSt) :=
loopK (fun _ _ => none) (LB_X0_isWall_1 a1 a2) zfuel 0 S
theorem mv_X0_isWall : ZV mX0_isWall yX0_isWall 2 := ⟨q933, qs40, q150, q934, rfl, by decide, by decide, by decide +kernel⟩
theorem ct_X0_isWall {G : zGw} (hG : zGC G) (a1 : Int32) (a2 : Int32) : Zc mX0_isWall yX0_isWall zJI G [.ref (G.1 0), .int a1, .int a2] (F_X0_isWall a1 a2) := by
  refine Zc_of [some (.ref (G.1 0)), some (.int a1), some (.int a2), none] (by decide) rfl rfl (Nat.le_of_ble_eq_true rfl) rfl (fun X S res => ?_)
  unfold F_X0_isWall
  refine z_iconst (pc := 0) (v := 0) dX0_isWall_0 (by decide) ?_
  refine z_istore_n (pc := 1) 3 dX0_isWall_1 rfl (Nat.le_of_ble_eq_true rfl) rfl ?_
  refine z_loopK (fun j : Int32 → zSt → Option (Int32 × zSt) => ∀ (x2 : Int32) (S3 : zSt), Zm X mX0_isWall zJI G (0, 0) res S3 2 [some (.ref (G.1 0)), some (.int a1), some (.int a2), some (.int x2)] [] (j x2 S3)) ?_ ?_ zfuel _ _
  · intro x2 S3; exact z_none
  · intro rec1 hrec1 x2 S3
    unfold LB_X0_isWall_1
    refine z_iload_n (pc := 2) 3 dX0_isWall_2 rfl rfl ?_
    refine z_aload_n (pc := 3) 0 dX0_isWall_3 rfl rfl ?_
    refine gf_X0_C_10_0 hG (pc := 4) dX0_isWall_4 ?_
    refine z_callVi (pc := 7) _ _ 1 1 (ct_X1_squares (zGC_T hG)) mv_X1_squares q727 rfl (zGC_s1 hG) rfl (Nat.le_of_ble_eq_true rfl) (Nat.le_of_ble_eq_true rfl) rfl rfl (Nat.le_of_ble_eq_true rfl) dX0_isWall_7 (fun r5 S4 => ?_)
    refine z_icmp_ge (pc := 10) 45 dX0_isWall_10 rfl ?_ ?_
    · refine z_iconst (pc := 45) (v := 1) dX0_isWall_45 (by decide) ?_
      exact z_zret1 rfl dX0_isWall_46 rfl
    · refine z_iload_n (pc := 13) 3 dX0_isWall_13 rfl rfl ?_
      refine z_iload_n (pc := 14) 1 dX0_isWall_14 rfl rfl ?_
      refine z_ixor (pc := 15) dX0_isWall_15 ?_
      refine z_iload_n (pc := 16) 2 dX0_isWall_16 rfl rfl ?_
      refine z_iconst (pc := 17) (v := (-1)) dX0_isWall_17 (by decide) ?_
      refine z_ixor (pc := 18) dX0_isWall_18 ?_
      refine z_iand (pc := 19) dX0_isWall_19 ?_
      refine z_if_ne (pc := 20) 39 dX0_isWall_20 rfl ?_ ?_
      · refine z_iinc (pc := 39) (w := x2 + 1) dX0_isWall_39 rfl (by rw [show Int32.ofInt 1 = 1 from by decide]) (Nat.le_of_ble_eq_true rfl) rfl ?_
        refine z_goto (pc := 42) 2 dX0_isWall_42 rfl ?_
        exact hrec1 _ _
      · refine z_aload_n (pc := 23) 0 dX0_isWall_23 rfl rfl ?_
        refine gf_X0_C_10_0 hG (pc := 24) dX0_isWall_24 ?_
        refine gf_X0_C_192_1 hG (pc := 27) dX0_isWall_27 ?_
        refine z_iload_n (pc := 30) 3 dX0_isWall_30 rfl rfl ?_
        refine z_chk (fun h6 => ?_)
        refine z_iaload (pc := 31) 7 32 (zGC_s7 hG) h6 dX0_isWall_31 ?_
        refine z_iload_n (pc := 32) 2 dX0_isWall_32 rfl rfl ?_
        refine z_iand (pc := 33) dX0_isWall_33 ?_
        refine z_if_eq (pc := 34) 39 dX0_isWall_34 rfl ?_ ?_
        · refine z_iinc (pc := 39) (w := x2 + 1) dX0_isWall_39 rfl (by rw [show Int32.ofInt 1 = 1 from by decide]) (Nat.le_of_ble_eq_true rfl) rfl ?_
          refine z_goto (pc := 42) 2 dX0_isWall_42 rfl ?_
          exact hrec1 _ _
        · refine z_iconst (pc := 37) (v := 0) dX0_isWall_37 (by decide) ?_
          exact z_zret0 rfl dX0_isWall_38 rfl
abbrev mX0_wallsOf : zMr := ("HiddenCube", cX0_wallsOf, 5, (some .int), 3, 0, 0, none)
def LB_X0_wallsOf_1 (x3 : Int32) (rec1 : Int32 → Int32 → zSt → Option (Int32 × zSt)) (rec9 : Int32 → Int32 → zSt → Option (Int32 × zSt)) (x10 : Int32) (x11 : Int32) (S12 : zSt) : Option (Int32 × zSt) :=
zbind (F_X1_squares 1 S12) (fun r14 S13 =>
if r14 ≤ x11 then (rec1 x10 (x3 + 1) S13) else (joinK (fun (v16 : Int32) (S17 : zSt) => rec9 (x10 + v16) (x11 + 1) S17) (fun j15 : Int32 → zSt → Option (Int32 × zSt) =>
joinK (fun  (S19 : zSt) => j15 0 S19) (fun j18 : zSt → Option (Int32 × zSt) =>
if (x11 &&& x3) = 0 then (zbind (F_X0_isWall x11 x3 S13) (fun r21 S20 =>
if r21 = 0 then (j18 S20) else (j15 1 S20))) else (j18 S13)))))
def LB_X0_wallsOf_2 (a1 : Int32) (rec1 : Int32 → Int32 → zSt → Option (Int32 × zSt)) (x2 : Int32) (x3 : Int32) (S4 : zSt) : Option (Int32 × zSt) :=
zbind (F_X1_squares 1 S4) (fun r6 S5 =>
if r6 ≤ x3 then (some (x2, S5)) else (zbind (F_J7_bitCount x3 S5) (fun r8 S7 =>
if r8 = a1 then (loopK (fun _ _ _ => none) (LB_X0_wallsOf_1 x3 rec1) zfuel x2 0 S7) else (rec1 x2 (x3 + 1) S7))))
def F_X0_wallsOf (a1 : Int32) (S : zSt) : Option (Int32 × zSt) :=
loopK (fun _ _ _ => none) (LB_X0_wallsOf_2 a1) zfuel 0 0 S
theorem mv_X0_wallsOf : ZV mX0_wallsOf yX0_wallsOf 1 := ⟨q929, qs39, q150, q930, rfl, by decide, by decide, by decide +kernel⟩
theorem ct_X0_wallsOf {G : zGw} (hG : zGC G) (a1 : Int32) : Zc mX0_wallsOf yX0_wallsOf zJI G [.ref (G.1 0), .int a1] (F_X0_wallsOf a1) := by
  refine Zc_of [some (.ref (G.1 0)), some (.int a1), none, none, none] (by decide) rfl rfl (Nat.le_of_ble_eq_true rfl) rfl (fun X S res => ?_)
  unfold F_X0_wallsOf
  refine z_iconst (pc := 0) (v := 0) dX0_wallsOf_0 (by decide) ?_
  refine z_istore_n (pc := 1) 2 dX0_wallsOf_1 rfl (Nat.le_of_ble_eq_true rfl) rfl ?_
  refine z_iconst (pc := 2) (v := 0) dX0_wallsOf_2 (by decide) ?_
  refine z_istore_n (pc := 3) 3 dX0_wallsOf_3 rfl (Nat.le_of_ble_eq_true rfl) rfl ?_
  refine z_loopK (fun j : Int32 → Int32 → zSt → Option (Int32 × zSt) => ∀ (x2 : Int32) (x3 : Int32) (S4 : zSt), Zm X mX0_wallsOf zJI G (0, 0) res S4 4 [some (.ref (G.1 0)), some (.int a1), some (.int x2), some (.int x3), none] [] (j x2 x3 S4)) ?_ ?_ zfuel _ _ _
  · intro x2 x3 S4; exact z_none
  · intro rec1 hrec1 x2 x3 S4
    unfold LB_X0_wallsOf_2
    refine z_iload_n (pc := 4) 3 dX0_wallsOf_4 rfl rfl ?_
    refine z_aload_n (pc := 5) 0 dX0_wallsOf_5 rfl rfl ?_
    refine gf_X0_C_10_0 hG (pc := 6) dX0_wallsOf_6 ?_
    refine z_callVi (pc := 9) _ _ 1 1 (ct_X1_squares (zGC_T hG)) mv_X1_squares q727 rfl (zGC_s1 hG) rfl (Nat.le_of_ble_eq_true rfl) (Nat.le_of_ble_eq_true rfl) rfl rfl (Nat.le_of_ble_eq_true rfl) dX0_wallsOf_9 (fun r6 S5 => ?_)
    refine z_icmp_ge (pc := 12) 78 dX0_wallsOf_12 rfl ?_ ?_
    · refine z_iload_n (pc := 78) 2 dX0_wallsOf_78 rfl rfl ?_
      exact z_iret rfl dX0_wallsOf_79 rfl
    · refine z_iload_n (pc := 15) 3 dX0_wallsOf_15 rfl rfl ?_
      refine z_callSi (pc := 16) _ _ (ct_J7_bitCount  _) mv_J7_bitCount q749 rfl (Nat.le_of_ble_eq_true rfl) (Nat.le_of_ble_eq_true rfl) rfl rfl (Nat.le_of_ble_eq_true rfl) dX0_wallsOf_16 (fun r8 S7 => ?_)
      refine z_iload_n (pc := 19) 1 dX0_wallsOf_19 rfl rfl ?_
      refine z_icmp_eq (pc := 20) 26 dX0_wallsOf_20 rfl ?_ ?_
      · refine z_iconst (pc := 26) (v := 0) dX0_wallsOf_26 (by decide) ?_
        refine z_istore (pc := 27) dX0_wallsOf_27 (Nat.le_of_ble_eq_true rfl) rfl ?_
        refine z_loopK (fun j : Int32 → Int32 → zSt → Option (Int32 × zSt) => ∀ (x10 : Int32) (x11 : Int32) (S12 : zSt), Zm X mX0_wallsOf zJI G (0, 0) res S12 29 [some (.ref (G.1 0)), some (.int a1), some (.int x10), some (.int x3), some (.int x11)] [] (j x10 x11 S12)) ?_ ?_ zfuel _ _ _
        · intro x10 x11 S12; exact z_none
        · intro rec9 hrec9 x10 x11 S12
          unfold LB_X0_wallsOf_1
          refine z_iload (pc := 29) dX0_wallsOf_29 rfl ?_
          refine z_aload_n (pc := 31) 0 dX0_wallsOf_31 rfl rfl ?_
          refine gf_X0_C_10_0 hG (pc := 32) dX0_wallsOf_32 ?_
          refine z_callVi (pc := 35) _ _ 1 1 (ct_X1_squares (zGC_T hG)) mv_X1_squares q727 rfl (zGC_s1 hG) rfl (Nat.le_of_ble_eq_true rfl) (Nat.le_of_ble_eq_true rfl) rfl rfl (Nat.le_of_ble_eq_true rfl) dX0_wallsOf_35 (fun r14 S13 => ?_)
          refine z_icmp_ge (pc := 38) 72 dX0_wallsOf_38 rfl ?_ ?_
          · refine z_iinc (pc := 72) (w := x3 + 1) dX0_wallsOf_72 rfl (by rw [show Int32.ofInt 1 = 1 from by decide]) (Nat.le_of_ble_eq_true rfl) rfl ?_
            refine z_goto (pc := 75) 4 dX0_wallsOf_75 rfl ?_
            exact z_mask [true, true, true, true, false] (hrec1 _ _ _) rfl
          · refine z_iload_n (pc := 41) 2 dX0_wallsOf_41 rfl rfl ?_
            refine z_iload (pc := 42) dX0_wallsOf_42 rfl ?_
            refine z_iload_n (pc := 44) 3 dX0_wallsOf_44 rfl rfl ?_
            refine z_iand (pc := 45) dX0_wallsOf_45 ?_
            refine z_join (fun j : Int32 → zSt → Option (Int32 × zSt) => ∀ (v16 : Int32) (S17 : zSt), Zm X mX0_wallsOf zJI G (0, 0) res S17 64 [some (.ref (G.1 0)), some (.int a1), none, some (.int x3), some (.int x11)] [.int v16, .int x10] (j v16 S17)) ?_ (fun j15 hj15 => ?_)
            · intro v16 S17
              refine z_iadd (pc := 64) dX0_wallsOf_64 ?_
              refine z_istore_n (pc := 65) 2 dX0_wallsOf_65 rfl (Nat.le_of_ble_eq_true rfl) rfl ?_
              refine z_iinc (pc := 66) (w := x11 + 1) dX0_wallsOf_66 rfl (by rw [show Int32.ofInt 1 = 1 from by decide]) (Nat.le_of_ble_eq_true rfl) rfl ?_
              refine z_goto (pc := 69) 29 dX0_wallsOf_69 rfl ?_
              exact hrec9 _ _ _
            · refine z_join (fun j : zSt → Option (Int32 × zSt) => ∀  (S19 : zSt), Zm X mX0_wallsOf zJI G (0, 0) res S19 63 [some (.ref (G.1 0)), some (.int a1), none, some (.int x3), some (.int x11)] [.int x10] (j S19)) ?_ (fun j18 hj18 => ?_)
              · intro S19
                refine z_iconst (pc := 63) (v := 0) dX0_wallsOf_63 (by decide) ?_
                exact hj15 _ _
              · refine z_if_ne (pc := 46) 63 dX0_wallsOf_46 rfl ?_ ?_
                · exact z_mask [true, true, false, true, true] (hj18 _) rfl
                · refine z_aload_n (pc := 49) 0 dX0_wallsOf_49 rfl rfl ?_
                  refine z_iload (pc := 50) dX0_wallsOf_50 rfl ?_
                  refine z_iload_n (pc := 52) 3 dX0_wallsOf_52 rfl rfl ?_
                  refine z_callVi (pc := 53) _ _ 0 0 (ct_X0_isWall hG _ _) mv_X0_isWall q931 rfl (zGC_s0 hG) rfl (Nat.le_of_ble_eq_true rfl) (Nat.le_of_ble_eq_true rfl) rfl rfl (Nat.le_of_ble_eq_true rfl) dX0_wallsOf_53 (fun r21 S20 => ?_)
                  refine z_if_eq (pc := 56) 63 dX0_wallsOf_56 rfl ?_ ?_
                  · exact z_mask [true, true, false, true, true] (hj18 _) rfl
                  · refine z_iconst (pc := 59) (v := 1) dX0_wallsOf_59 (by decide) ?_
                    refine z_goto (pc := 60) 64 dX0_wallsOf_60 rfl ?_
                    exact z_mask [true, true, false, true, true] (hj15 _ _) rfl
      · refine z_goto (pc := 23) 72 dX0_wallsOf_23 rfl ?_
        refine z_iinc (pc := 72) (w := x3 + 1) dX0_wallsOf_72 rfl (by rw [show Int32.ofInt 1 = 1 from by decide]) (Nat.le_of_ble_eq_true rfl) rfl ?_
        refine z_goto (pc := 75) 4 dX0_wallsOf_75 rfl ?_
        exact hrec1 _ _ _
abbrev mX0_fours : zMr := ("HiddenCube", cX0_fours, 1, (some .int), 4, 0, 0, none)
def F_X0_fours  (S : zSt) : Option (Int32 × zSt) :=
zbind (F_X0_isTown S) (fun r2 S1 =>
if r2 = 0 then (some ((-2), S1)) else (zbind (F_X0_wallsOf 2 S1) (fun r4 S3 =>
some (r4, S3))))
theorem mv_X0_fours : ZV mX0_fours yX0_fours 0 := ⟨q924, q925, q150, q926, rfl, by decide, by decide, by decide +kernel⟩
theorem ct_X0_fours {G : zGw} (hG : zGC G)  : Zc mX0_fours yX0_fours zJI G [.ref (G.1 0)] (F_X0_fours) := by
  refine Zc_of [some (.ref (G.1 0))] (by decide) rfl rfl (Nat.le_of_ble_eq_true rfl) rfl (fun X S res => ?_)
  unfold F_X0_fours
  refine z_aload_n (pc := 0) 0 dX0_fours_0 rfl rfl ?_
  refine z_callVi (pc := 1) _ _ 0 0 (ct_X0_isTown hG) mv_X0_isTown q827 rfl (zGC_s0 hG) rfl (Nat.le_of_ble_eq_true rfl) (Nat.le_of_ble_eq_true rfl) rfl rfl (Nat.le_of_ble_eq_true rfl) dX0_fours_1 (fun r2 S1 => ?_)
  refine z_if_eq (pc := 4) 15 dX0_fours_4 rfl ?_ ?_
  · refine z_bipush (pc := 15) (v := (-2)) dX0_fours_15 (by decide) ?_
    exact z_iret rfl dX0_fours_17 rfl
  · refine z_aload_n (pc := 7) 0 dX0_fours_7 rfl rfl ?_
    refine z_iconst (pc := 8) (v := 2) dX0_fours_8 (by decide) ?_
    refine z_callVi (pc := 9) _ _ 0 0 (ct_X0_wallsOf hG _) mv_X0_wallsOf q927 rfl (zGC_s0 hG) rfl (Nat.le_of_ble_eq_true rfl) (Nat.le_of_ble_eq_true rfl) rfl rfl (Nat.le_of_ble_eq_true rfl) dX0_fours_9 (fun r4 S3 => ?_)
    refine z_goto (pc := 12) 17 dX0_fours_12 rfl ?_
    exact z_iret rfl dX0_fours_17 rfl
abbrev mX0_walls : zMr := ("HiddenCube", cX0_walls, 2, (some .int), 4, 0, 0, none)
def F_X0_walls (a1 : Int32) (S : zSt) : Option (Int32 × zSt) :=
zbind (F_X0_isTown S) (fun r2 S1 =>
if r2 = 0 then (some ((-2), S1)) else (zbind (F_X0_isIn ((a1).toInt64) 0 5 S1) (fun r4 S3 =>
if r4 = 0 then (some ((-2), S3)) else (zbind (F_X0_wallsOf a1 S3) (fun r6 S5 =>
some (r6, S5))))))
theorem mv_X0_walls : ZV mX0_walls yX0_walls 1 := ⟨q936, q937, q150, q938, rfl, by decide, by decide, by decide +kernel⟩
theorem ct_X0_walls {G : zGw} (hG : zGC G) (a1 : Int32) : Zc mX0_walls yX0_walls zJI G [.ref (G.1 0), .int a1] (F_X0_walls a1) := by
  refine Zc_of [some (.ref (G.1 0)), some (.int a1)] (by decide) rfl rfl (Nat.le_of_ble_eq_true rfl) rfl (fun X S res => ?_)
  unfold F_X0_walls
  refine z_aload_n (pc := 0) 0 dX0_walls_0 rfl rfl ?_
  refine z_callVi (pc := 1) _ _ 0 0 (ct_X0_isTown hG) mv_X0_isTown q827 rfl (zGC_s0 hG) rfl (Nat.le_of_ble_eq_true rfl) (Nat.le_of_ble_eq_true rfl) rfl rfl (Nat.le_of_ble_eq_true rfl) dX0_walls_1 (fun r2 S1 => ?_)
  refine z_if_eq (pc := 4) 27 dX0_walls_4 rfl ?_ ?_
  · refine z_bipush (pc := 27) (v := (-2)) dX0_walls_27 (by decide) ?_
    exact z_iret rfl dX0_walls_29 rfl
  · refine z_iload_n (pc := 7) 1 dX0_walls_7 rfl rfl ?_
    refine z_i2l (pc := 8) dX0_walls_8 ?_
    refine z_lconst (pc := 9) (v := 0) dX0_walls_9 (by decide) ?_
    refine z_ldc2 (pc := 10) (v := 5) dX0_walls_10 q939 ?_
    refine z_callSi (pc := 13) _ _ (ct_X0_isIn  _ _ _) mv_X0_isIn q429 rfl (Nat.le_of_ble_eq_true rfl) (Nat.le_of_ble_eq_true rfl) rfl rfl (Nat.le_of_ble_eq_true rfl) dX0_walls_13 (fun r4 S3 => ?_)
    refine z_if_eq (pc := 16) 27 dX0_walls_16 rfl ?_ ?_
    · refine z_bipush (pc := 27) (v := (-2)) dX0_walls_27 (by decide) ?_
      exact z_iret rfl dX0_walls_29 rfl
    · refine z_aload_n (pc := 19) 0 dX0_walls_19 rfl rfl ?_
      refine z_iload_n (pc := 20) 1 dX0_walls_20 rfl rfl ?_
      refine z_callVi (pc := 21) _ _ 0 0 (ct_X0_wallsOf hG _) mv_X0_wallsOf q927 rfl (zGC_s0 hG) rfl (Nat.le_of_ble_eq_true rfl) (Nat.le_of_ble_eq_true rfl) rfl rfl (Nat.le_of_ble_eq_true rfl) dX0_walls_21 (fun r6 S5 => ?_)
      refine z_goto (pc := 24) 29 dX0_walls_24 rfl ?_
      exact z_iret rfl dX0_walls_29 rfl
abbrev mX0_wall : zMr := ("HiddenCube", cX0_wall, 3, (some .int), 3, 0, 0, none)
def F_X0_wall (a1 : Int32) (a2 : Int32) (S : zSt) : Option (Int32 × zSt) :=
zbind (F_X0_isSquare ((a1).toInt64) S) (fun r2 S1 =>
if r2 = 0 then (some ((-2), S1)) else (zbind (F_X0_isSquare ((a2).toInt64) S1) (fun r4 S3 =>
if r4 = 0 then (some ((-2), S3)) else (zbind (F_X0_isWall a1 a2 S3) (fun r6 S5 =>
if r6 = 0 then (some (0, S5)) else (some (1, S5)))))))
theorem mv_X0_wall : ZV mX0_wall yX0_wall 2 := ⟨q941, q942, q150, q943, rfl, by decide, by decide, by decide +kernel⟩
theorem ct_X0_wall {G : zGw} (hG : zGC G) (a1 : Int32) (a2 : Int32) : Zc mX0_wall yX0_wall zJI G [.ref (G.1 0), .int a1, .int a2] (F_X0_wall a1 a2) := by
  refine Zc_of [some (.ref (G.1 0)), some (.int a1), some (.int a2)] (by decide) rfl rfl (Nat.le_of_ble_eq_true rfl) rfl (fun X S res => ?_)
  unfold F_X0_wall
  refine z_aload_n (pc := 0) 0 dX0_wall_0 rfl rfl ?_
  refine z_iload_n (pc := 1) 1 dX0_wall_1 rfl rfl ?_
  refine z_i2l (pc := 2) dX0_wall_2 ?_
  refine z_callVi (pc := 3) _ _ 0 0 (ct_X0_isSquare hG _) mv_X0_isSquare q723 rfl (zGC_s0 hG) rfl (Nat.le_of_ble_eq_true rfl) (Nat.le_of_ble_eq_true rfl) rfl rfl (Nat.le_of_ble_eq_true rfl) dX0_wall_3 (fun r2 S1 => ?_)
  refine z_if_eq (pc := 6) 35 dX0_wall_6 rfl ?_ ?_
  · refine z_bipush (pc := 35) (v := (-2)) dX0_wall_35 (by decide) ?_
    exact z_iret rfl dX0_wall_37 rfl
  · refine z_aload_n (pc := 9) 0 dX0_wall_9 rfl rfl ?_
    refine z_iload_n (pc := 10) 2 dX0_wall_10 rfl rfl ?_
    refine z_i2l (pc := 11) dX0_wall_11 ?_
    refine z_callVi (pc := 12) _ _ 0 0 (ct_X0_isSquare hG _) mv_X0_isSquare q723 rfl (zGC_s0 hG) rfl (Nat.le_of_ble_eq_true rfl) (Nat.le_of_ble_eq_true rfl) rfl rfl (Nat.le_of_ble_eq_true rfl) dX0_wall_12 (fun r4 S3 => ?_)
    refine z_if_eq (pc := 15) 35 dX0_wall_15 rfl ?_ ?_
    · refine z_bipush (pc := 35) (v := (-2)) dX0_wall_35 (by decide) ?_
      exact z_iret rfl dX0_wall_37 rfl
    · refine z_aload_n (pc := 18) 0 dX0_wall_18 rfl rfl ?_
      refine z_iload_n (pc := 19) 1 dX0_wall_19 rfl rfl ?_
      refine z_iload_n (pc := 20) 2 dX0_wall_20 rfl rfl ?_
      refine z_callVi (pc := 21) _ _ 0 0 (ct_X0_isWall hG _ _) mv_X0_isWall q931 rfl (zGC_s0 hG) rfl (Nat.le_of_ble_eq_true rfl) (Nat.le_of_ble_eq_true rfl) rfl rfl (Nat.le_of_ble_eq_true rfl) dX0_wall_21 (fun r6 S5 => ?_)
      refine z_if_eq (pc := 24) 31 dX0_wall_24 rfl ?_ ?_
      · refine z_iconst (pc := 31) (v := 0) dX0_wall_31 (by decide) ?_
        refine z_goto (pc := 32) 37 dX0_wall_32 rfl ?_
        exact z_iret rfl dX0_wall_37 rfl
      · refine z_iconst (pc := 27) (v := 1) dX0_wall_27 (by decide) ?_
        refine z_goto (pc := 28) 37 dX0_wall_28 rfl ?_
        exact z_iret rfl dX0_wall_37 rfl
abbrev mX0_streetOf : zMr := ("HiddenCube", cX0_streetOf, 5, (some .int), 2, 0, 0, none)
def F_X0_streetOf (a1 : Int32) (a2 : Int32) (S : zSt) : Option (Int32 × zSt) :=
zlet (a1 &&& (((1 : Int32) <<< (a2 &&& 31)) - 1) : Int32) (fun w1 : Int32 =>
zlet ((a1 >>> ((a2 + 1) &&& 31)) <<< (a2 &&& 31) : Int32) (fun w2 : Int32 =>
zbind (F_X1_squares 1 S) (fun r4 S3 =>
some (((a2 * r4) / 2) + (w2 ||| w1), S3))))
theorem mv_X0_streetOf : ZV mX0_streetOf yX0_streetOf 2 := ⟨q969, qs45, q150, q970, rfl, by decide, by decide, by decide +kernel⟩
theorem ct_X0_streetOf {G : zGw} (hG : zGC G) (a1 : Int32) (a2 : Int32) : Zc mX0_streetOf yX0_streetOf zJI G [.ref (G.1 0), .int a1, .int a2] (F_X0_streetOf a1 a2) := by
  refine Zc_of [some (.ref (G.1 0)), some (.int a1), some (.int a2), none, none] (by decide) rfl rfl (Nat.le_of_ble_eq_true rfl) rfl (fun X S res => ?_)
  unfold F_X0_streetOf
  refine z_iload_n (pc := 0) 1 dX0_streetOf_0 rfl rfl ?_
  refine z_iconst (pc := 1) (v := 1) dX0_streetOf_1 (by decide) ?_
  refine z_iload_n (pc := 2) 2 dX0_streetOf_2 rfl rfl ?_
  refine z_ishl (pc := 3) dX0_streetOf_3 ?_
  refine z_iconst (pc := 4) (v := 1) dX0_streetOf_4 (by decide) ?_
  refine z_isub (pc := 5) dX0_streetOf_5 ?_
  refine z_iand (pc := 6) dX0_streetOf_6 ?_
  refine z_letI (fun w1 => ?_)
  refine z_istore_n (pc := 7) 3 dX0_streetOf_7 rfl (Nat.le_of_ble_eq_true rfl) rfl ?_
  refine z_iload_n (pc := 8) 1 dX0_streetOf_8 rfl rfl ?_
  refine z_iload_n (pc := 9) 2 dX0_streetOf_9 rfl rfl ?_
  refine z_iconst (pc := 10) (v := 1) dX0_streetOf_10 (by decide) ?_
  refine z_iadd (pc := 11) dX0_streetOf_11 ?_
  refine z_ishr (pc := 12) dX0_streetOf_12 ?_
  refine z_iload_n (pc := 13) 2 dX0_streetOf_13 rfl rfl ?_
  refine z_ishl (pc := 14) dX0_streetOf_14 ?_
  refine z_letI (fun w2 => ?_)
  refine z_istore (pc := 15) dX0_streetOf_15 (Nat.le_of_ble_eq_true rfl) rfl ?_
  refine z_iload_n (pc := 17) 2 dX0_streetOf_17 rfl rfl ?_
  refine z_aload_n (pc := 18) 0 dX0_streetOf_18 rfl rfl ?_
  refine gf_X0_C_10_0 hG (pc := 19) dX0_streetOf_19 ?_
  refine z_callVi (pc := 22) _ _ 1 1 (ct_X1_squares (zGC_T hG)) mv_X1_squares q727 rfl (zGC_s1 hG) rfl (Nat.le_of_ble_eq_true rfl) (Nat.le_of_ble_eq_true rfl) rfl rfl (Nat.le_of_ble_eq_true rfl) dX0_streetOf_22 (fun r4 S3 => ?_)
  refine z_imul (pc := 25) dX0_streetOf_25 ?_
  refine z_iconst (pc := 26) (v := 2) dX0_streetOf_26 (by decide) ?_
  refine z_idivc (pc := 27) dX0_streetOf_27 (by decide) ?_
  refine z_iload (pc := 28) dX0_streetOf_28 rfl ?_
  refine z_iload_n (pc := 30) 3 dX0_streetOf_30 rfl rfl ?_
  refine z_ior (pc := 31) dX0_streetOf_31 ?_
  refine z_iadd (pc := 32) dX0_streetOf_32 ?_
  exact z_iret rfl dX0_streetOf_33 rfl
abbrev mX0_streetsOfRound : zMr := ("HiddenCube", cX0_streetsOfRound, 5, (some .int), 3, 0, 0, none)
def LB_X0_streetsOfRound_1 (rec1 : Int32 → Int32 → zSt → Option (Int32 × zSt)) (x2 : Int32) (x3 : Int32) (S4 : zSt) : Option (Int32 × zSt) :=
zbind (F_X1_squares 1 S4) (fun r6 S5 =>
if r6 ≤ x3 then (some (x2, S5)) else (chk x3 33 (zlet (S5.1 17 (x3).toNatClampNeg : Int32) (fun w8 : Int32 =>
zbind (F_X1_squares 1 S5) (fun r10 S9 =>
nz r10 (zlet ((x3 + 1) - (x3 + 1) / r10 * r10 : Int32) (fun w11 : Int32 =>
chk w11 33 (zlet (S9.1 17 (w11).toNatClampNeg : Int32) (fun w13 : Int32 =>
zbind (F_X0_nameOf w8 w13 S9) (fun r15 S14 =>
zbind (F_X0_streetOf w8 r15 S14) (fun r17 S16 =>
zlet (x2 ||| ((1 : Int32) <<< (r17 &&& 31)) : Int32) (fun w18 : Int32 =>
rec1 w18 (x3 + 1) S16))))))))))))
def F_X0_streetsOfRound  (S : zSt) : Option (Int32 × zSt) :=
loopK (fun _ _ _ => none) (LB_X0_streetsOfRound_1) zfuel 0 0 S
theorem mv_X0_streetsOfRound : ZV mX0_streetsOfRound yX0_streetsOfRound 0 := ⟨q965, qs44, q150, q966, rfl, by decide, by decide, by decide +kernel⟩
theorem ct_X0_streetsOfRound {G : zGw} (hG : zGC G)  : Zc mX0_streetsOfRound yX0_streetsOfRound zJI G [.ref (G.1 0)] (F_X0_streetsOfRound) := by
  refine Zc_of [some (.ref (G.1 0)), none, none, none, none] (by decide) rfl rfl (Nat.le_of_ble_eq_true rfl) rfl (fun X S res => ?_)
  unfold F_X0_streetsOfRound
  refine z_iconst (pc := 0) (v := 0) dX0_streetsOfRound_0 (by decide) ?_
  refine z_istore_n (pc := 1) 1 dX0_streetsOfRound_1 rfl (Nat.le_of_ble_eq_true rfl) rfl ?_
  refine z_iconst (pc := 2) (v := 0) dX0_streetsOfRound_2 (by decide) ?_
  refine z_istore_n (pc := 3) 2 dX0_streetsOfRound_3 rfl (Nat.le_of_ble_eq_true rfl) rfl ?_
  refine z_loopK (fun j : Int32 → Int32 → zSt → Option (Int32 × zSt) => ∀ (x2 : Int32) (x3 : Int32) (S4 : zSt), Zm X mX0_streetsOfRound zJI G (0, 0) res S4 4 [some (.ref (G.1 0)), some (.int x2), some (.int x3), none, none] [] (j x2 x3 S4)) ?_ ?_ zfuel _ _ _
  · intro x2 x3 S4; exact z_none
  · intro rec1 hrec1 x2 x3 S4
    unfold LB_X0_streetsOfRound_1
    refine z_iload_n (pc := 4) 2 dX0_streetsOfRound_4 rfl rfl ?_
    refine z_aload_n (pc := 5) 0 dX0_streetsOfRound_5 rfl rfl ?_
    refine gf_X0_C_10_0 hG (pc := 6) dX0_streetsOfRound_6 ?_
    refine z_callVi (pc := 9) _ _ 1 1 (ct_X1_squares (zGC_T hG)) mv_X1_squares q727 rfl (zGC_s1 hG) rfl (Nat.le_of_ble_eq_true rfl) (Nat.le_of_ble_eq_true rfl) rfl rfl (Nat.le_of_ble_eq_true rfl) dX0_streetsOfRound_9 (fun r6 S5 => ?_)
    refine z_icmp_ge (pc := 12) 62 dX0_streetsOfRound_12 rfl ?_ ?_
    · refine z_iload_n (pc := 62) 1 dX0_streetsOfRound_62 rfl rfl ?_
      exact z_iret rfl dX0_streetsOfRound_63 rfl
    · refine z_aload_n (pc := 15) 0 dX0_streetsOfRound_15 rfl rfl ?_
      refine gf_X0_C_53_0 hG (pc := 16) dX0_streetsOfRound_16 ?_
      refine z_iload_n (pc := 19) 2 dX0_streetsOfRound_19 rfl rfl ?_
      refine z_chk (fun h7 => ?_)
      refine z_iaload (pc := 20) 17 33 (zGC_s17 hG) h7 dX0_streetsOfRound_20 ?_
      refine z_letI (fun w8 => ?_)
      refine z_istore_n (pc := 21) 3 dX0_streetsOfRound_21 rfl (Nat.le_of_ble_eq_true rfl) rfl ?_
      refine z_aload_n (pc := 22) 0 dX0_streetsOfRound_22 rfl rfl ?_
      refine gf_X0_C_53_0 hG (pc := 23) dX0_streetsOfRound_23 ?_
      refine z_iload_n (pc := 26) 2 dX0_streetsOfRound_26 rfl rfl ?_
      refine z_iconst (pc := 27) (v := 1) dX0_streetsOfRound_27 (by decide) ?_
      refine z_iadd (pc := 28) dX0_streetsOfRound_28 ?_
      refine z_aload_n (pc := 29) 0 dX0_streetsOfRound_29 rfl rfl ?_
      refine gf_X0_C_10_0 hG (pc := 30) dX0_streetsOfRound_30 ?_
      refine z_callVi (pc := 33) _ _ 1 1 (ct_X1_squares (zGC_T hG)) mv_X1_squares q727 rfl (zGC_s1 hG) rfl (Nat.le_of_ble_eq_true rfl) (Nat.le_of_ble_eq_true rfl) rfl rfl (Nat.le_of_ble_eq_true rfl) dX0_streetsOfRound_33 (fun r10 S9 => ?_)
      refine z_irem (pc := 36) dX0_streetsOfRound_36 ?_
      refine z_letI (fun w11 => ?_)
      refine z_chk (fun h12 => ?_)
      refine z_iaload (pc := 37) 17 33 (zGC_s17 hG) h12 dX0_streetsOfRound_37 ?_
      refine z_letI (fun w13 => ?_)
      refine z_istore (pc := 38) dX0_streetsOfRound_38 (Nat.le_of_ble_eq_true rfl) rfl ?_
      refine z_iload_n (pc := 40) 1 dX0_streetsOfRound_40 rfl rfl ?_
      refine z_iconst (pc := 41) (v := 1) dX0_streetsOfRound_41 (by decide) ?_
      refine z_aload_n (pc := 42) 0 dX0_streetsOfRound_42 rfl rfl ?_
      refine z_iload_n (pc := 43) 3 dX0_streetsOfRound_43 rfl rfl ?_
      refine z_iload_n (pc := 44) 3 dX0_streetsOfRound_44 rfl rfl ?_
      refine z_iload (pc := 45) dX0_streetsOfRound_45 rfl ?_
      refine z_callSi (pc := 47) _ _ (ct_X0_nameOf  _ _) mv_X0_nameOf q812 rfl (Nat.le_of_ble_eq_true rfl) (Nat.le_of_ble_eq_true rfl) rfl rfl (Nat.le_of_ble_eq_true rfl) dX0_streetsOfRound_47 (fun r15 S14 => ?_)
      refine z_callVi (pc := 50) _ _ 0 0 (ct_X0_streetOf hG _ _) mv_X0_streetOf q967 rfl (zGC_s0 hG) rfl (Nat.le_of_ble_eq_true rfl) (Nat.le_of_ble_eq_true rfl) rfl rfl (Nat.le_of_ble_eq_true rfl) dX0_streetsOfRound_50 (fun r17 S16 => ?_)
      refine z_ishl (pc := 53) dX0_streetsOfRound_53 ?_
      refine z_ior (pc := 54) dX0_streetsOfRound_54 ?_
      refine z_letI (fun w18 => ?_)
      refine z_istore_n (pc := 55) 1 dX0_streetsOfRound_55 rfl (Nat.le_of_ble_eq_true rfl) rfl ?_
      refine z_iinc (pc := 56) (w := x3 + 1) dX0_streetsOfRound_56 rfl (by rw [show Int32.ofInt 1 = 1 from by decide]) (Nat.le_of_ble_eq_true rfl) rfl ?_
      refine z_goto (pc := 59) 4 dX0_streetsOfRound_59 rfl ?_
      exact z_mask [true, true, true, false, false] (hrec1 _ _ _) rfl
abbrev mX0_keepsRound : zMr := ("HiddenCube", cX0_keepsRound, 1, none, 5, 0, 0, none)
def F_X0_keepsRound  (S : zSt) : Option (Unit × zSt) :=
chk 1 33 (zbind (F_X1_squares 1 S) (fun r3 S2 =>
chk (r3 - 1) 33 (if (S.1 17 (1 : Int32).toNatClampNeg) ≤ (S2.1 17 (r3 - 1).toNatClampNeg) then (joinK (fun  (S6 : zSt) => zbind (F_X0_streetsOfRound S6) (fun r8 S7 =>
chk (S6.1 0 16) 1400 (zlet (sI S7 20 (S6.1 0 16).toNatClampNeg r8 : zSt) (fun S10 : zSt =>
zlet (sI S10 0 16 ((S10.1 0 16) + 1) : zSt) (fun S11 : zSt =>
some ((), S11)))))) (fun j5 : zSt → Option (Unit × zSt) =>
if (S2.1 0 16) = 0 then (zbind (F_X1_squares 1 S2) (fun r13 S12 =>
acopy 33 32 0 0 r13 (zlet (cpI S12 17 (0 : Int32).toNatClampNeg 19 (0 : Int32).toNatClampNeg (r13).toNatClampNeg) (fun S14 : zSt =>
j5 S14)))) else (j5 S2))) else (some ((), S2)))))
theorem mv_X0_keepsRound : ZV mX0_keepsRound yX0_keepsRound 0 := ⟨q958, qs43, q150, q959, rfl, by decide, by decide, by decide +kernel⟩
theorem ct_X0_keepsRound {G : zGw} (hG : zGC G)  : Zc mX0_keepsRound yX0_keepsRound zJV G [.ref (G.1 0)] (F_X0_keepsRound) := by
  refine Zc_of [some (.ref (G.1 0))] (by decide) rfl rfl (Nat.le_of_ble_eq_true rfl) rfl (fun X S res => ?_)
  unfold F_X0_keepsRound
  refine z_aload_n (pc := 0) 0 dX0_keepsRound_0 rfl rfl ?_
  refine gf_X0_C_53_0 hG (pc := 1) dX0_keepsRound_1 ?_
  refine z_iconst (pc := 4) (v := 1) dX0_keepsRound_4 (by decide) ?_
  refine z_chk (fun h1 => ?_)
  refine z_iaload (pc := 5) 17 33 (zGC_s17 hG) h1 dX0_keepsRound_5 ?_
  refine z_aload_n (pc := 6) 0 dX0_keepsRound_6 rfl rfl ?_
  refine gf_X0_C_53_0 hG (pc := 7) dX0_keepsRound_7 ?_
  refine z_aload_n (pc := 10) 0 dX0_keepsRound_10 rfl rfl ?_
  refine gf_X0_C_10_0 hG (pc := 11) dX0_keepsRound_11 ?_
  refine z_callVi (pc := 14) _ _ 1 1 (ct_X1_squares (zGC_T hG)) mv_X1_squares q727 rfl (zGC_s1 hG) rfl (Nat.le_of_ble_eq_true rfl) (Nat.le_of_ble_eq_true rfl) rfl rfl (Nat.le_of_ble_eq_true rfl) dX0_keepsRound_14 (fun r3 S2 => ?_)
  refine z_iconst (pc := 17) (v := 1) dX0_keepsRound_17 (by decide) ?_
  refine z_isub (pc := 18) dX0_keepsRound_18 ?_
  refine z_chk (fun h4 => ?_)
  refine z_iaload (pc := 19) 17 33 (zGC_s17 hG) h4 dX0_keepsRound_19 ?_
  refine z_icmp_le (pc := 20) 24 dX0_keepsRound_20 rfl ?_ ?_
  · refine z_aload_n (pc := 24) 0 dX0_keepsRound_24 rfl rfl ?_
    refine gf_X0_C_309_0 hG (pc := 25) dX0_keepsRound_25 ?_
    refine z_join (fun j : zSt → Option (Unit × zSt) => ∀  (S6 : zSt), Zm X mX0_keepsRound zJV G (0, 0) res S6 51 [some (.ref (G.1 0))] [] (j S6)) ?_ (fun j5 hj5 => ?_)
    · intro S6
      refine z_aload_n (pc := 51) 0 dX0_keepsRound_51 rfl rfl ?_
      refine gf_X0_C_62_0 hG (pc := 52) dX0_keepsRound_52 ?_
      refine z_aload_n (pc := 55) 0 dX0_keepsRound_55 rfl rfl ?_
      refine gf_X0_C_309_0 hG (pc := 56) dX0_keepsRound_56 ?_
      refine z_aload_n (pc := 59) 0 dX0_keepsRound_59 rfl rfl ?_
      refine z_callVi (pc := 60) _ _ 0 0 (ct_X0_streetsOfRound hG) mv_X0_streetsOfRound q963 rfl (zGC_s0 hG) rfl (Nat.le_of_ble_eq_true rfl) (Nat.le_of_ble_eq_true rfl) rfl rfl (Nat.le_of_ble_eq_true rfl) dX0_keepsRound_60 (fun r8 S7 => ?_)
      refine z_chk (fun h9 => ?_)
      refine z_iastore (pc := 63) 20 1400 (zGC_s20 hG) h9 dX0_keepsRound_63 ?_
      refine z_letS (fun S10 => ?_)
      refine z_aload_n (pc := 64) 0 dX0_keepsRound_64 rfl rfl ?_
      refine z_dup (pc := 65) dX0_keepsRound_65 rfl ?_
      refine gf_X0_C_309_0 hG (pc := 66) dX0_keepsRound_66 ?_
      refine z_iconst (pc := 69) (v := 1) dX0_keepsRound_69 (by decide) ?_
      refine z_iadd (pc := 70) dX0_keepsRound_70 ?_
      refine pf_X0_C_309_0 hG (pc := 71) dX0_keepsRound_71 ?_
      refine z_letS (fun S11 => ?_)
      exact z_vret rfl dX0_keepsRound_74 rfl
    · refine z_if_ne (pc := 28) 51 dX0_keepsRound_28 rfl ?_ ?_
      · exact hj5 _
      · refine z_aload_n (pc := 31) 0 dX0_keepsRound_31 rfl rfl ?_
        refine gf_X0_C_53_0 hG (pc := 32) dX0_keepsRound_32 ?_
        refine z_iconst (pc := 35) (v := 0) dX0_keepsRound_35 (by decide) ?_
        refine z_aload_n (pc := 36) 0 dX0_keepsRound_36 rfl rfl ?_
        refine gf_X0_C_59_0 hG (pc := 37) dX0_keepsRound_37 ?_
        refine z_iconst (pc := 40) (v := 0) dX0_keepsRound_40 (by decide) ?_
        refine z_aload_n (pc := 41) 0 dX0_keepsRound_41 rfl rfl ?_
        refine gf_X0_C_10_0 hG (pc := 42) dX0_keepsRound_42 ?_
        refine z_callVi (pc := 45) _ _ 1 1 (ct_X1_squares (zGC_T hG)) mv_X1_squares q727 rfl (zGC_s1 hG) rfl (Nat.le_of_ble_eq_true rfl) (Nat.le_of_ble_eq_true rfl) rfl rfl (Nat.le_of_ble_eq_true rfl) dX0_keepsRound_45 (fun r13 S12 => ?_)
        refine z_acopyI (pc := 48) 17 19 33 32 (zGC_s17 hG) (zGC_s19 hG) (by decide) q960 (Nat.le_of_ble_eq_true rfl) (Nat.le_of_ble_eq_true rfl) dX0_keepsRound_48 ?_
        refine z_letS (fun S14 => ?_)
        exact hj5 _
  · exact z_vret rfl dX0_keepsRound_23 rfl
abbrev mX0_walksRounds : zMr := ("HiddenCube", cX0_walksRounds, 5, none, 6, 0, 0, none)
def LB_X0_walksRounds_1 (x7 : Int32) (x8 : Int32) (k10 : zSt → Option (Unit × zSt)) (k14 : Int32 → zSt → Option (Unit × zSt)) (rec22 : zSt → Option (Unit × zSt))  (S23 : zSt) : Option (Unit × zSt) :=
chk x8 33 (zbind (F_X1_squares 1 S23) (fun r26 S25 =>
if r26 ≤ (S23.1 18 (x8).toNatClampNeg) then (k10 S25) else (chk x8 33 (zlet (S25.1 18 (x8).toNatClampNeg : Int32) (fun w28 : Int32 =>
chk x8 33 (chk x8 33 (zlet (sI S25 18 (x8).toNatClampNeg ((S25.1 18 (x8).toNatClampNeg) + 1) : zSt) (fun S31 : zSt =>
chk x8 33 (zbind (F_J7_bitCount ((S31.1 17 (x8).toNatClampNeg) ^^^ w28) S31) (fun r34 S33 =>
joinK (fun (v36 : Int32) (S37 : zSt) => if v36 = 0 then (rec22 S37) else (zbind (F_X0_has x7 w28 S37) (fun r39 S38 =>
joinK (fun  (S41 : zSt) => zbind (F_X1_squares 1 S41) (fun r43 S42 =>
if (x8 + 1) = r43 then (zbind (F_X0_keepsRound S42) (fun _ S44 =>
rec22 S44)) else (k14 w28 S42))) (fun j40 : zSt → Option (Unit × zSt) =>
if r39 = 0 then (j40 S38) else (if w28 = 0 then (zbind (F_X1_squares 1 S38) (fun r46 S45 =>
if r46 ≤ (x8 + 1) then (j40 S45) else (rec22 S45))) else (rec22 S38)))))) (fun j35 : Int32 → zSt → Option (Unit × zSt) =>
joinK (fun  (S48 : zSt) => j35 0 S48) (fun j47 : zSt → Option (Unit × zSt) =>
if r34 = 1 then (chk x8 33 (chk x8 33 (zbind (F_X0_nameOf (S33.1 17 (x8).toNatClampNeg) w28 S33) (fun r52 S51 =>
zbind (F_X1_isOpen 1 (S33.1 17 (x8).toNatClampNeg) r52 S51) (fun r54 S53 =>
if r54 = 0 then (j47 S53) else (j35 1 S53)))))) else (j47 S33)))))))))))))
def LB_X0_walksRounds_2 (rec6 : Int32 → Int32 → zSt → Option (Unit × zSt)) (x7 : Int32) (x8 : Int32) (S9 : zSt) : Option (Unit × zSt) :=
if x8 < 0 then (some ((), S9)) else (joinK (fun  (S11 : zSt) => chk x8 33 (zlet (x7 &&& (((1 : Int32) <<< ((S11.1 17 (x8).toNatClampNeg) &&& 31)) ^^^ (-1)) : Int32) (fun w13 : Int32 =>
rec6 w13 (x8 + (-1)) S11))) (fun k10 : zSt → Option (Unit × zSt) =>
joinK (fun (x15 : Int32) (S16 : zSt) => chk (x8 + 1) 33 (zlet (sI S16 17 (x8 + 1).toNatClampNeg x15 : zSt) (fun S18 : zSt =>
chk (x8 + 1) 33 (zlet (sI S18 18 (x8 + 1).toNatClampNeg 0 : zSt) (fun S20 : zSt =>
zlet (x7 ||| ((1 : Int32) <<< (x15 &&& 31)) : Int32) (fun w21 : Int32 =>
rec6 w21 (x8 + 1) S20)))))) (fun k14 : Int32 → zSt → Option (Unit × zSt) =>
loopK (fun _ => none) (LB_X0_walksRounds_1 x7 x8 k10 k14) zfuel S9)))
def F_X0_walksRounds  (S : zSt) : Option (Unit × zSt) :=
zlet (sI S 0 16 0 : zSt) (fun S1 : zSt =>
chk 0 33 (zlet (sI S1 17 (0 : Int32).toNatClampNeg 0 : zSt) (fun S3 : zSt =>
chk 0 33 (zlet (sI S3 18 (0 : Int32).toNatClampNeg 0 : zSt) (fun S5 : zSt =>
loopK (fun _ _ _ => none) (LB_X0_walksRounds_2) zfuel 1 0 S5)))))
theorem mv_X0_walksRounds : ZV mX0_walksRounds yX0_walksRounds 0 := ⟨q954, qs42, q150, q955, rfl, by decide, by decide, by decide +kernel⟩
theorem ct_X0_walksRounds {G : zGw} (hG : zGC G)  : Zc mX0_walksRounds yX0_walksRounds zJV G [.ref (G.1 0)] (F_X0_walksRounds) := by
  refine Zc_of [some (.ref (G.1 0)), none, none, none, none] (by decide) rfl rfl (Nat.le_of_ble_eq_true rfl) rfl (fun X S res => ?_)
  unfold F_X0_walksRounds
  refine z_aload_n (pc := 0) 0 dX0_walksRounds_0 rfl rfl ?_
  refine z_iconst (pc := 1) (v := 0) dX0_walksRounds_1 (by decide) ?_
  refine pf_X0_C_309_0 hG (pc := 2) dX0_walksRounds_2 ?_
  refine z_letS (fun S1 => ?_)
  refine z_iconst (pc := 5) (v := 1) dX0_walksRounds_5 (by decide) ?_
  refine z_istore_n (pc := 6) 1 dX0_walksRounds_6 rfl (Nat.le_of_ble_eq_true rfl) rfl ?_
  refine z_iconst (pc := 7) (v := 0) dX0_walksRounds_7 (by decide) ?_
  refine z_istore_n (pc := 8) 2 dX0_walksRounds_8 rfl (Nat.le_of_ble_eq_true rfl) rfl ?_
  refine z_aload_n (pc := 9) 0 dX0_walksRounds_9 rfl rfl ?_
  refine gf_X0_C_53_0 hG (pc := 10) dX0_walksRounds_10 ?_
  refine z_iconst (pc := 13) (v := 0) dX0_walksRounds_13 (by decide) ?_
  refine z_iconst (pc := 14) (v := 0) dX0_walksRounds_14 (by decide) ?_
  refine z_chk (fun h2 => ?_)
  refine z_iastore (pc := 15) 17 33 (zGC_s17 hG) h2 dX0_walksRounds_15 ?_
  refine z_letS (fun S3 => ?_)
  refine z_aload_n (pc := 16) 0 dX0_walksRounds_16 rfl rfl ?_
  refine gf_X0_C_56_0 hG (pc := 17) dX0_walksRounds_17 ?_
  refine z_iconst (pc := 20) (v := 0) dX0_walksRounds_20 (by decide) ?_
  refine z_iconst (pc := 21) (v := 0) dX0_walksRounds_21 (by decide) ?_
  refine z_chk (fun h4 => ?_)
  refine z_iastore (pc := 22) 18 33 (zGC_s18 hG) h4 dX0_walksRounds_22 ?_
  refine z_letS (fun S5 => ?_)
  refine z_loopK (fun j : Int32 → Int32 → zSt → Option (Unit × zSt) => ∀ (x7 : Int32) (x8 : Int32) (S9 : zSt), Zm X mX0_walksRounds zJV G (0, 0) res S9 23 [some (.ref (G.1 0)), some (.int x7), some (.int x8), none, none] [] (j x7 x8 S9)) ?_ ?_ zfuel _ _ _
  · intro x7 x8 S9; exact z_none
  · intro rec6 hrec6 x7 x8 S9
    unfold LB_X0_walksRounds_2
    refine z_iload_n (pc := 23) 2 dX0_walksRounds_23 rfl rfl ?_
    refine z_if_lt (pc := 24) 206 dX0_walksRounds_24 rfl ?_ ?_
    · exact z_vret rfl dX0_walksRounds_206 rfl
    · refine z_join (fun j : zSt → Option (Unit × zSt) => ∀  (S11 : zSt), Zm X mX0_walksRounds zJV G (0, 0) res S11 187 [some (.ref (G.1 0)), some (.int x7), some (.int x8), none, none] [] (j S11)) ?_ (fun k10 hk10 => ?_)
      · intro S11
        refine z_iload_n (pc := 187) 1 dX0_walksRounds_187 rfl rfl ?_
        refine z_iconst (pc := 188) (v := 1) dX0_walksRounds_188 (by decide) ?_
        refine z_aload_n (pc := 189) 0 dX0_walksRounds_189 rfl rfl ?_
        refine gf_X0_C_53_0 hG (pc := 190) dX0_walksRounds_190 ?_
        refine z_iload_n (pc := 193) 2 dX0_walksRounds_193 rfl rfl ?_
        refine z_chk (fun h12 => ?_)
        refine z_iaload (pc := 194) 17 33 (zGC_s17 hG) h12 dX0_walksRounds_194 ?_
        refine z_ishl (pc := 195) dX0_walksRounds_195 ?_
        refine z_iconst (pc := 196) (v := (-1)) dX0_walksRounds_196 (by decide) ?_
        refine z_ixor (pc := 197) dX0_walksRounds_197 ?_
        refine z_iand (pc := 198) dX0_walksRounds_198 ?_
        refine z_letI (fun w13 => ?_)
        refine z_istore_n (pc := 199) 1 dX0_walksRounds_199 rfl (Nat.le_of_ble_eq_true rfl) rfl ?_
        refine z_iinc (pc := 200) (w := x8 + (-1)) dX0_walksRounds_200 rfl (by rw [show Int32.ofInt (-1) = (-1) from by decide]) (Nat.le_of_ble_eq_true rfl) rfl ?_
        refine z_goto (pc := 203) 23 dX0_walksRounds_203 rfl ?_
        exact hrec6 _ _ _
      · refine z_join (fun j : Int32 → zSt → Option (Unit × zSt) => ∀ (x15 : Int32) (S16 : zSt), Zm X mX0_walksRounds zJV G (0, 0) res S16 161 [some (.ref (G.1 0)), some (.int x7), some (.int x8), some (.int x15), none] [] (j x15 S16)) ?_ (fun k14 hk14 => ?_)
        · intro x15 S16
          refine z_iinc (pc := 161) (w := x8 + 1) dX0_walksRounds_161 rfl (by rw [show Int32.ofInt 1 = 1 from by decide]) (Nat.le_of_ble_eq_true rfl) rfl ?_
          refine z_aload_n (pc := 164) 0 dX0_walksRounds_164 rfl rfl ?_
          refine gf_X0_C_53_0 hG (pc := 165) dX0_walksRounds_165 ?_
          refine z_iload_n (pc := 168) 2 dX0_walksRounds_168 rfl rfl ?_
          refine z_iload_n (pc := 169) 3 dX0_walksRounds_169 rfl rfl ?_
          refine z_chk (fun h17 => ?_)
          refine z_iastore (pc := 170) 17 33 (zGC_s17 hG) h17 dX0_walksRounds_170 ?_
          refine z_letS (fun S18 => ?_)
          refine z_aload_n (pc := 171) 0 dX0_walksRounds_171 rfl rfl ?_
          refine gf_X0_C_56_0 hG (pc := 172) dX0_walksRounds_172 ?_
          refine z_iload_n (pc := 175) 2 dX0_walksRounds_175 rfl rfl ?_
          refine z_iconst (pc := 176) (v := 0) dX0_walksRounds_176 (by decide) ?_
          refine z_chk (fun h19 => ?_)
          refine z_iastore (pc := 177) 18 33 (zGC_s18 hG) h19 dX0_walksRounds_177 ?_
          refine z_letS (fun S20 => ?_)
          refine z_iload_n (pc := 178) 1 dX0_walksRounds_178 rfl rfl ?_
          refine z_iconst (pc := 179) (v := 1) dX0_walksRounds_179 (by decide) ?_
          refine z_iload_n (pc := 180) 3 dX0_walksRounds_180 rfl rfl ?_
          refine z_ishl (pc := 181) dX0_walksRounds_181 ?_
          refine z_ior (pc := 182) dX0_walksRounds_182 ?_
          refine z_letI (fun w21 => ?_)
          refine z_istore_n (pc := 183) 1 dX0_walksRounds_183 rfl (Nat.le_of_ble_eq_true rfl) rfl ?_
          refine z_goto (pc := 184) 23 dX0_walksRounds_184 rfl ?_
          exact z_mask [true, true, true, false, false] (hrec6 _ _ _) rfl
        · refine z_loopK (fun j : zSt → Option (Unit × zSt) => ∀  (S23 : zSt), Zm X mX0_walksRounds zJV G (0, 0) res S23 27 [some (.ref (G.1 0)), some (.int x7), some (.int x8), none, none] [] (j S23)) ?_ ?_ zfuel _
          · intro S23; exact z_none
          · intro rec22 hrec22 S23
            unfold LB_X0_walksRounds_1
            refine z_aload_n (pc := 27) 0 dX0_walksRounds_27 rfl rfl ?_
            refine gf_X0_C_56_0 hG (pc := 28) dX0_walksRounds_28 ?_
            refine z_iload_n (pc := 31) 2 dX0_walksRounds_31 rfl rfl ?_
            refine z_chk (fun h24 => ?_)
            refine z_iaload (pc := 32) 18 33 (zGC_s18 hG) h24 dX0_walksRounds_32 ?_
            refine z_aload_n (pc := 33) 0 dX0_walksRounds_33 rfl rfl ?_
            refine gf_X0_C_10_0 hG (pc := 34) dX0_walksRounds_34 ?_
            refine z_callVi (pc := 37) _ _ 1 1 (ct_X1_squares (zGC_T hG)) mv_X1_squares q727 rfl (zGC_s1 hG) rfl (Nat.le_of_ble_eq_true rfl) (Nat.le_of_ble_eq_true rfl) rfl rfl (Nat.le_of_ble_eq_true rfl) dX0_walksRounds_37 (fun r26 S25 => ?_)
            refine z_icmp_ge (pc := 40) 187 dX0_walksRounds_40 rfl ?_ ?_
            · exact hk10 _
            · refine z_aload_n (pc := 43) 0 dX0_walksRounds_43 rfl rfl ?_
              refine gf_X0_C_56_0 hG (pc := 44) dX0_walksRounds_44 ?_
              refine z_iload_n (pc := 47) 2 dX0_walksRounds_47 rfl rfl ?_
              refine z_chk (fun h27 => ?_)
              refine z_iaload (pc := 48) 18 33 (zGC_s18 hG) h27 dX0_walksRounds_48 ?_
              refine z_letI (fun w28 => ?_)
              refine z_istore_n (pc := 49) 3 dX0_walksRounds_49 rfl (Nat.le_of_ble_eq_true rfl) rfl ?_
              refine z_aload_n (pc := 50) 0 dX0_walksRounds_50 rfl rfl ?_
              refine gf_X0_C_56_0 hG (pc := 51) dX0_walksRounds_51 ?_
              refine z_iload_n (pc := 54) 2 dX0_walksRounds_54 rfl rfl ?_
              refine z_dup2 (pc := 55) dX0_walksRounds_55 rfl rfl ?_
              refine z_chk (fun h29 => ?_)
              refine z_iaload (pc := 56) 18 33 (zGC_s18 hG) h29 dX0_walksRounds_56 ?_
              refine z_iconst (pc := 57) (v := 1) dX0_walksRounds_57 (by decide) ?_
              refine z_iadd (pc := 58) dX0_walksRounds_58 ?_
              refine z_chk (fun h30 => ?_)
              refine z_iastore (pc := 59) 18 33 (zGC_s18 hG) h30 dX0_walksRounds_59 ?_
              refine z_letS (fun S31 => ?_)
              refine z_aload_n (pc := 60) 0 dX0_walksRounds_60 rfl rfl ?_
              refine gf_X0_C_53_0 hG (pc := 61) dX0_walksRounds_61 ?_
              refine z_iload_n (pc := 64) 2 dX0_walksRounds_64 rfl rfl ?_
              refine z_chk (fun h32 => ?_)
              refine z_iaload (pc := 65) 17 33 (zGC_s17 hG) h32 dX0_walksRounds_65 ?_
              refine z_iload_n (pc := 66) 3 dX0_walksRounds_66 rfl rfl ?_
              refine z_ixor (pc := 67) dX0_walksRounds_67 ?_
              refine z_callSi (pc := 68) _ _ (ct_J7_bitCount  _) mv_J7_bitCount q749 rfl (Nat.le_of_ble_eq_true rfl) (Nat.le_of_ble_eq_true rfl) rfl rfl (Nat.le_of_ble_eq_true rfl) dX0_walksRounds_68 (fun r34 S33 => ?_)
              refine z_iconst (pc := 71) (v := 1) dX0_walksRounds_71 (by decide) ?_
              refine z_join (fun j : Int32 → zSt → Option (Unit × zSt) => ∀ (v36 : Int32) (S37 : zSt), Zm X mX0_walksRounds zJV G (0, 0) res S37 106 [some (.ref (G.1 0)), some (.int x7), some (.int x8), some (.int w28), none] [.int v36] (j v36 S37)) ?_ (fun j35 hj35 => ?_)
              · intro v36 S37
                refine z_istore (pc := 106) dX0_walksRounds_106 (Nat.le_of_ble_eq_true rfl) rfl ?_
                refine z_iload (pc := 108) dX0_walksRounds_108 rfl ?_
                refine z_if_eq (pc := 110) 27 dX0_walksRounds_110 rfl ?_ ?_
                · exact z_mask [true, true, true, false, false] (hrec22 _) rfl
                · refine z_iload_n (pc := 113) 1 dX0_walksRounds_113 rfl rfl ?_
                  refine z_iload_n (pc := 114) 3 dX0_walksRounds_114 rfl rfl ?_
                  refine z_callSi (pc := 115) _ _ (ct_X0_has  _ _) mv_X0_has q767 rfl (Nat.le_of_ble_eq_true rfl) (Nat.le_of_ble_eq_true rfl) rfl rfl (Nat.le_of_ble_eq_true rfl) dX0_walksRounds_115 (fun r39 S38 => ?_)
                  refine z_join (fun j : zSt → Option (Unit × zSt) => ∀  (S41 : zSt), Zm X mX0_walksRounds zJV G (0, 0) res S41 141 [some (.ref (G.1 0)), some (.int x7), some (.int x8), some (.int w28), none] [] (j S41)) ?_ (fun j40 hj40 => ?_)
                  · intro S41
                    refine z_iload_n (pc := 141) 2 dX0_walksRounds_141 rfl rfl ?_
                    refine z_iconst (pc := 142) (v := 1) dX0_walksRounds_142 (by decide) ?_
                    refine z_iadd (pc := 143) dX0_walksRounds_143 ?_
                    refine z_aload_n (pc := 144) 0 dX0_walksRounds_144 rfl rfl ?_
                    refine gf_X0_C_10_0 hG (pc := 145) dX0_walksRounds_145 ?_
                    refine z_callVi (pc := 148) _ _ 1 1 (ct_X1_squares (zGC_T hG)) mv_X1_squares q727 rfl (zGC_s1 hG) rfl (Nat.le_of_ble_eq_true rfl) (Nat.le_of_ble_eq_true rfl) rfl rfl (Nat.le_of_ble_eq_true rfl) dX0_walksRounds_148 (fun r43 S42 => ?_)
                    refine z_icmp_ne (pc := 151) 161 dX0_walksRounds_151 rfl ?_ ?_
                    · exact hk14 _ _
                    · refine z_aload_n (pc := 154) 0 dX0_walksRounds_154 rfl rfl ?_
                      refine z_callVv (pc := 155) _ _ 0 0 (ct_X0_keepsRound hG) mv_X0_keepsRound q956 rfl (zGC_s0 hG) rfl (Nat.le_of_ble_eq_true rfl) (Nat.le_of_ble_eq_true rfl) rfl rfl (Nat.le_of_ble_eq_true rfl) dX0_walksRounds_155 (fun _ S44 => ?_)
                      refine z_goto (pc := 158) 27 dX0_walksRounds_158 rfl ?_
                      exact z_mask [true, true, true, false, false] (hrec22 _) rfl
                  · refine z_if_eq (pc := 118) 141 dX0_walksRounds_118 rfl ?_ ?_
                    · exact z_mask [true, true, true, true, false] (hj40 _) rfl
                    · refine z_iload_n (pc := 121) 3 dX0_walksRounds_121 rfl rfl ?_
                      refine z_if_ne (pc := 122) 27 dX0_walksRounds_122 rfl ?_ ?_
                      · exact z_mask [true, true, true, false, false] (hrec22 _) rfl
                      · refine z_iload_n (pc := 125) 2 dX0_walksRounds_125 rfl rfl ?_
                        refine z_iconst (pc := 126) (v := 1) dX0_walksRounds_126 (by decide) ?_
                        refine z_iadd (pc := 127) dX0_walksRounds_127 ?_
                        refine z_aload_n (pc := 128) 0 dX0_walksRounds_128 rfl rfl ?_
                        refine gf_X0_C_10_0 hG (pc := 129) dX0_walksRounds_129 ?_
                        refine z_callVi (pc := 132) _ _ 1 1 (ct_X1_squares (zGC_T hG)) mv_X1_squares q727 rfl (zGC_s1 hG) rfl (Nat.le_of_ble_eq_true rfl) (Nat.le_of_ble_eq_true rfl) rfl rfl (Nat.le_of_ble_eq_true rfl) dX0_walksRounds_132 (fun r46 S45 => ?_)
                        refine z_icmp_ge (pc := 135) 141 dX0_walksRounds_135 rfl ?_ ?_
                        · exact z_mask [true, true, true, true, false] (hj40 _) rfl
                        · refine z_goto (pc := 138) 27 dX0_walksRounds_138 rfl ?_
                          exact z_mask [true, true, true, false, false] (hrec22 _) rfl
              · refine z_join (fun j : zSt → Option (Unit × zSt) => ∀  (S48 : zSt), Zm X mX0_walksRounds zJV G (0, 0) res S48 105 [some (.ref (G.1 0)), some (.int x7), some (.int x8), some (.int w28), none] [] (j S48)) ?_ (fun j47 hj47 => ?_)
                · intro S48
                  refine z_iconst (pc := 105) (v := 0) dX0_walksRounds_105 (by decide) ?_
                  exact hj35 _ _
                · refine z_icmp_ne (pc := 72) 105 dX0_walksRounds_72 rfl ?_ ?_
                  · exact hj47 _
                  · refine z_aload_n (pc := 75) 0 dX0_walksRounds_75 rfl rfl ?_
                    refine gf_X0_C_10_0 hG (pc := 76) dX0_walksRounds_76 ?_
                    refine z_aload_n (pc := 79) 0 dX0_walksRounds_79 rfl rfl ?_
                    refine gf_X0_C_53_0 hG (pc := 80) dX0_walksRounds_80 ?_
                    refine z_iload_n (pc := 83) 2 dX0_walksRounds_83 rfl rfl ?_
                    refine z_chk (fun h49 => ?_)
                    refine z_iaload (pc := 84) 17 33 (zGC_s17 hG) h49 dX0_walksRounds_84 ?_
                    refine z_aload_n (pc := 85) 0 dX0_walksRounds_85 rfl rfl ?_
                    refine gf_X0_C_53_0 hG (pc := 86) dX0_walksRounds_86 ?_
                    refine z_iload_n (pc := 89) 2 dX0_walksRounds_89 rfl rfl ?_
                    refine z_chk (fun h50 => ?_)
                    refine z_iaload (pc := 90) 17 33 (zGC_s17 hG) h50 dX0_walksRounds_90 ?_
                    refine z_iload_n (pc := 91) 3 dX0_walksRounds_91 rfl rfl ?_
                    refine z_callSi (pc := 92) _ _ (ct_X0_nameOf  _ _) mv_X0_nameOf q812 rfl (Nat.le_of_ble_eq_true rfl) (Nat.le_of_ble_eq_true rfl) rfl rfl (Nat.le_of_ble_eq_true rfl) dX0_walksRounds_92 (fun r52 S51 => ?_)
                    refine z_callVi (pc := 95) _ _ 1 1 (ct_X1_isOpen (zGC_T hG) _ _) mv_X1_isOpen q728 rfl (zGC_s1 hG) rfl (Nat.le_of_ble_eq_true rfl) (Nat.le_of_ble_eq_true rfl) rfl rfl (Nat.le_of_ble_eq_true rfl) dX0_walksRounds_95 (fun r54 S53 => ?_)
                    refine z_if_eq (pc := 98) 105 dX0_walksRounds_98 rfl ?_ ?_
                    · exact hj47 _
                    · refine z_iconst (pc := 101) (v := 1) dX0_walksRounds_101 (by decide) ?_
                      refine z_goto (pc := 102) 106 dX0_walksRounds_102 rfl ?_
                      exact hj35 _ _
abbrev mX0_asksRounds : zMr := ("HiddenCube", cX0_asksRounds, 2, (some .int), 7, 0, 0, none)
def F_X0_asksRounds (a1 : Int32) (S : zSt) : Option (Int32 × zSt) :=
zbind (F_X0_isTown S) (fun r2 S1 =>
if r2 = 0 then (some ((-2), S1)) else (if a1 = 0 then (some ((-2), S1)) else (if (S1.1 1 0) = 5 then (some ((-9), S1)) else (zbind (F_X0_walksRounds S1) (fun _ S3 =>
some (0, S3))))))
theorem mv_X0_asksRounds : ZV mX0_asksRounds yX0_asksRounds 1 := ⟨q950, qs41, q150, q951, rfl, by decide, by decide, by decide +kernel⟩
theorem ct_X0_asksRounds {G : zGw} (hG : zGC G) (a1 : Int32) : Zc mX0_asksRounds yX0_asksRounds zJI G [.ref (G.1 0), .int a1] (F_X0_asksRounds a1) := by
  refine Zc_of [some (.ref (G.1 0)), some (.int a1)] (by decide) rfl rfl (Nat.le_of_ble_eq_true rfl) rfl (fun X S res => ?_)
  unfold F_X0_asksRounds
  refine z_aload_n (pc := 0) 0 dX0_asksRounds_0 rfl rfl ?_
  refine z_callVi (pc := 1) _ _ 0 0 (ct_X0_isTown hG) mv_X0_isTown q827 rfl (zGC_s0 hG) rfl (Nat.le_of_ble_eq_true rfl) (Nat.le_of_ble_eq_true rfl) rfl rfl (Nat.le_of_ble_eq_true rfl) dX0_asksRounds_1 (fun r2 S1 => ?_)
  refine z_if_eq (pc := 4) 11 dX0_asksRounds_4 rfl ?_ ?_
  · refine z_bipush (pc := 11) (v := (-2)) dX0_asksRounds_11 (by decide) ?_
    exact z_iret rfl dX0_asksRounds_13 rfl
  · refine z_iload_n (pc := 7) 1 dX0_asksRounds_7 rfl rfl ?_
    refine z_if_ne (pc := 8) 14 dX0_asksRounds_8 rfl ?_ ?_
    · refine z_aload_n (pc := 14) 0 dX0_asksRounds_14 rfl rfl ?_
      refine gf_X0_C_10_0 hG (pc := 15) dX0_asksRounds_15 ?_
      refine gf_X0_C_158_1 hG (pc := 18) dX0_asksRounds_18 ?_
      refine z_iconst (pc := 21) (v := 5) dX0_asksRounds_21 (by decide) ?_
      refine z_icmp_ne (pc := 22) 28 dX0_asksRounds_22 rfl ?_ ?_
      · refine z_aload_n (pc := 28) 0 dX0_asksRounds_28 rfl rfl ?_
        refine z_callVv (pc := 29) _ _ 0 0 (ct_X0_walksRounds hG) mv_X0_walksRounds q952 rfl (zGC_s0 hG) rfl (Nat.le_of_ble_eq_true rfl) (Nat.le_of_ble_eq_true rfl) rfl rfl (Nat.le_of_ble_eq_true rfl) dX0_asksRounds_29 (fun _ S3 => ?_)
        refine z_iconst (pc := 32) (v := 0) dX0_asksRounds_32 (by decide) ?_
        exact z_iret rfl dX0_asksRounds_33 rfl
      · refine z_bipush (pc := 25) (v := (-9)) dX0_asksRounds_25 (by decide) ?_
        exact z_iret rfl dX0_asksRounds_27 rfl
    · refine z_bipush (pc := 11) (v := (-2)) dX0_asksRounds_11 (by decide) ?_
      exact z_iret rfl dX0_asksRounds_13 rfl
abbrev mX0_rounds : zMr := ("HiddenCube", cX0_rounds, 2, (some .int), 8, 0, 0, none)
def F_X0_rounds  (S : zSt) : Option (Int32 × zSt) :=
zbind (F_X0_asksRounds 1 S) (fun r2 S1 =>
if 0 ≤ r2 then (some (S1.1 0 16, S1)) else (some (r2, S1)))
theorem mv_X0_rounds : ZV mX0_rounds yX0_rounds 0 := ⟨q945, q946, q150, q947, rfl, by decide, by decide, by decide +kernel⟩
theorem ct_X0_rounds {G : zGw} (hG : zGC G)  : Zc mX0_rounds yX0_rounds zJI G [.ref (G.1 0)] (F_X0_rounds) := by
  refine Zc_of [some (.ref (G.1 0)), none] (by decide) rfl rfl (Nat.le_of_ble_eq_true rfl) rfl (fun X S res => ?_)
  unfold F_X0_rounds
  refine z_aload_n (pc := 0) 0 dX0_rounds_0 rfl rfl ?_
  refine z_iconst (pc := 1) (v := 1) dX0_rounds_1 (by decide) ?_
  refine z_callVi (pc := 2) _ _ 0 0 (ct_X0_asksRounds hG _) mv_X0_asksRounds q948 rfl (zGC_s0 hG) rfl (Nat.le_of_ble_eq_true rfl) (Nat.le_of_ble_eq_true rfl) rfl rfl (Nat.le_of_ble_eq_true rfl) dX0_rounds_2 (fun r2 S1 => ?_)
  refine z_istore_n (pc := 5) 1 dX0_rounds_5 rfl (Nat.le_of_ble_eq_true rfl) rfl ?_
  refine z_iload_n (pc := 6) 1 dX0_rounds_6 rfl rfl ?_
  refine z_if_ge (pc := 7) 14 dX0_rounds_7 rfl ?_ ?_
  · refine z_aload_n (pc := 14) 0 dX0_rounds_14 rfl rfl ?_
    refine gf_X0_C_309_0 hG (pc := 15) dX0_rounds_15 ?_
    exact z_iret rfl dX0_rounds_18 rfl
  · refine z_iload_n (pc := 10) 1 dX0_rounds_10 rfl rfl ?_
    refine z_goto (pc := 11) 18 dX0_rounds_11 rfl ?_
    exact z_iret rfl dX0_rounds_18 rfl
abbrev mX0_round : zMr := ("HiddenCube", cX0_round, 3, (some .int), 8, 0, 0, none)
def F_X0_round (a1 : Int32) (S : zSt) : Option (Int32 × zSt) :=
zbind (F_X0_asksRounds 1 S) (fun r2 S1 =>
if 0 ≤ r2 then (if (S1.1 0 16) ≤ 0 then (some ((-1), S1)) else (zbind (F_X0_isSquare ((a1).toInt64) S1) (fun r4 S3 =>
if r4 = 0 then (some ((-1), S3)) else (chk a1 32 (some (S3.1 19 (a1).toNatClampNeg, S3)))))) else (some (r2, S1)))
theorem mv_X0_round : ZV mX0_round yX0_round 1 := ⟨q972, q973, q150, q974, rfl, by decide, by decide, by decide +kernel⟩
theorem ct_X0_round {G : zGw} (hG : zGC G) (a1 : Int32) : Zc mX0_round yX0_round zJI G [.ref (G.1 0), .int a1] (F_X0_round a1) := by
  refine Zc_of [some (.ref (G.1 0)), some (.int a1), none] (by decide) rfl rfl (Nat.le_of_ble_eq_true rfl) rfl (fun X S res => ?_)
  unfold F_X0_round
  refine z_aload_n (pc := 0) 0 dX0_round_0 rfl rfl ?_
  refine z_iconst (pc := 1) (v := 1) dX0_round_1 (by decide) ?_
  refine z_callVi (pc := 2) _ _ 0 0 (ct_X0_asksRounds hG _) mv_X0_asksRounds q948 rfl (zGC_s0 hG) rfl (Nat.le_of_ble_eq_true rfl) (Nat.le_of_ble_eq_true rfl) rfl rfl (Nat.le_of_ble_eq_true rfl) dX0_round_2 (fun r2 S1 => ?_)
  refine z_istore_n (pc := 5) 2 dX0_round_5 rfl (Nat.le_of_ble_eq_true rfl) rfl ?_
  refine z_iload_n (pc := 6) 2 dX0_round_6 rfl rfl ?_
  refine z_if_ge (pc := 7) 14 dX0_round_7 rfl ?_ ?_
  · refine z_aload_n (pc := 14) 0 dX0_round_14 rfl rfl ?_
    refine gf_X0_C_309_0 hG (pc := 15) dX0_round_15 ?_
    refine z_if_le (pc := 18) 39 dX0_round_18 rfl ?_ ?_
    · refine z_iconst (pc := 39) (v := (-1)) dX0_round_39 (by decide) ?_
      exact z_iret rfl dX0_round_40 rfl
    · refine z_aload_n (pc := 21) 0 dX0_round_21 rfl rfl ?_
      refine z_iload_n (pc := 22) 1 dX0_round_22 rfl rfl ?_
      refine z_i2l (pc := 23) dX0_round_23 ?_
      refine z_callVi (pc := 24) _ _ 0 0 (ct_X0_isSquare hG _) mv_X0_isSquare q723 rfl (zGC_s0 hG) rfl (Nat.le_of_ble_eq_true rfl) (Nat.le_of_ble_eq_true rfl) rfl rfl (Nat.le_of_ble_eq_true rfl) dX0_round_24 (fun r4 S3 => ?_)
      refine z_if_eq (pc := 27) 39 dX0_round_27 rfl ?_ ?_
      · refine z_iconst (pc := 39) (v := (-1)) dX0_round_39 (by decide) ?_
        exact z_iret rfl dX0_round_40 rfl
      · refine z_aload_n (pc := 30) 0 dX0_round_30 rfl rfl ?_
        refine gf_X0_C_59_0 hG (pc := 31) dX0_round_31 ?_
        refine z_iload_n (pc := 34) 1 dX0_round_34 rfl rfl ?_
        refine z_chk (fun h5 => ?_)
        refine z_iaload (pc := 35) 19 32 (zGC_s19 hG) h5 dX0_round_35 ?_
        refine z_goto (pc := 36) 40 dX0_round_36 rfl ?_
        exact z_iret rfl dX0_round_40 rfl
  · refine z_iload_n (pc := 10) 2 dX0_round_10 rfl rfl ?_
    refine z_goto (pc := 11) 40 dX0_round_11 rfl ?_
    exact z_iret rfl dX0_round_40 rfl
abbrev mX0_stepsBy : zMr := ("HiddenCube", cX0_stepsBy, 4, (some .int), 2, 0, 0, none)
def F_X0_stepsBy (a1 : Int32) (a2 : Int32) (S : zSt) : Option (Int32 × zSt) :=
zbind (F_X1_squares 1 S) (fun r2 S1 =>
zbind (F_J7_bitCount ((iushr a1 (a2 * (r2 / 2))) &&& ((((1 : Int64) <<< ((r2 / 2 : Int32).toInt64 &&& 63)) - 1).toInt32)) S1) (fun r4 S3 =>
some (r4, S3)))
theorem mv_X0_stepsBy : ZV mX0_stepsBy yX0_stepsBy 2 := ⟨q981, qs46, q150, q982, rfl, by decide, by decide, by decide +kernel⟩
theorem ct_X0_stepsBy {G : zGw} (hG : zGC G) (a1 : Int32) (a2 : Int32) : Zc mX0_stepsBy yX0_stepsBy zJI G [.ref (G.1 0), .int a1, .int a2] (F_X0_stepsBy a1 a2) := by
  refine Zc_of [some (.ref (G.1 0)), some (.int a1), some (.int a2), none] (by decide) rfl rfl (Nat.le_of_ble_eq_true rfl) rfl (fun X S res => ?_)
  unfold F_X0_stepsBy
  refine z_aload_n (pc := 0) 0 dX0_stepsBy_0 rfl rfl ?_
  refine gf_X0_C_10_0 hG (pc := 1) dX0_stepsBy_1 ?_
  refine z_callVi (pc := 4) _ _ 1 1 (ct_X1_squares (zGC_T hG)) mv_X1_squares q727 rfl (zGC_s1 hG) rfl (Nat.le_of_ble_eq_true rfl) (Nat.le_of_ble_eq_true rfl) rfl rfl (Nat.le_of_ble_eq_true rfl) dX0_stepsBy_4 (fun r2 S1 => ?_)
  refine z_iconst (pc := 7) (v := 2) dX0_stepsBy_7 (by decide) ?_
  refine z_idivc (pc := 8) dX0_stepsBy_8 (by decide) ?_
  refine z_istore_n (pc := 9) 3 dX0_stepsBy_9 rfl (Nat.le_of_ble_eq_true rfl) rfl ?_
  refine z_iload_n (pc := 10) 1 dX0_stepsBy_10 rfl rfl ?_
  refine z_iload_n (pc := 11) 2 dX0_stepsBy_11 rfl rfl ?_
  refine z_iload_n (pc := 12) 3 dX0_stepsBy_12 rfl rfl ?_
  refine z_imul (pc := 13) dX0_stepsBy_13 ?_
  refine z_iushr (pc := 14) dX0_stepsBy_14 ?_
  refine z_lconst (pc := 15) (v := 1) dX0_stepsBy_15 (by decide) ?_
  refine z_iload_n (pc := 16) 3 dX0_stepsBy_16 rfl rfl ?_
  refine z_lshl (pc := 17) dX0_stepsBy_17 ?_
  refine z_lconst (pc := 18) (v := 1) dX0_stepsBy_18 (by decide) ?_
  refine z_lsub (pc := 19) dX0_stepsBy_19 ?_
  refine z_l2i (pc := 20) dX0_stepsBy_20 ?_
  refine z_iand (pc := 21) dX0_stepsBy_21 ?_
  refine z_callSi (pc := 22) _ _ (ct_J7_bitCount  _) mv_J7_bitCount q749 rfl (Nat.le_of_ble_eq_true rfl) (Nat.le_of_ble_eq_true rfl) rfl rfl (Nat.le_of_ble_eq_true rfl) dX0_stepsBy_22 (fun r4 S3 => ?_)
  exact z_iret rfl dX0_stepsBy_25 rfl
abbrev mX0_by : zMr := ("HiddenCube", cX0_by, 3, (some .int), 8, 0, 0, none)
def F_X0_by (a1 : Int32) (S : zSt) : Option (Int32 × zSt) :=
zbind (F_X0_isName a1 S) (fun r2 S1 =>
zbind (F_X0_asksRounds r2 S1) (fun r4 S3 =>
if 0 ≤ r4 then (if (S3.1 0 16) = 0 then (some ((-1), S3)) else (chk 0 1400 (zbind (F_X0_stepsBy (S3.1 20 (0 : Int32).toNatClampNeg) a1 S3) (fun r7 S6 =>
some (r7, S6))))) else (some (r4, S3))))
theorem mv_X0_by : ZV mX0_by yX0_by 1 := ⟨q976, q977, q150, q978, rfl, by decide, by decide, by decide +kernel⟩
theorem ct_X0_by {G : zGw} (hG : zGC G) (a1 : Int32) : Zc mX0_by yX0_by zJI G [.ref (G.1 0), .int a1] (F_X0_by a1) := by
  refine Zc_of [some (.ref (G.1 0)), some (.int a1), none] (by decide) rfl rfl (Nat.le_of_ble_eq_true rfl) rfl (fun X S res => ?_)
  unfold F_X0_by
  refine z_aload_n (pc := 0) 0 dX0_by_0 rfl rfl ?_
  refine z_aload_n (pc := 1) 0 dX0_by_1 rfl rfl ?_
  refine z_iload_n (pc := 2) 1 dX0_by_2 rfl rfl ?_
  refine z_callVi (pc := 3) _ _ 0 0 (ct_X0_isName hG _) mv_X0_isName q715 rfl (zGC_s0 hG) rfl (Nat.le_of_ble_eq_true rfl) (Nat.le_of_ble_eq_true rfl) rfl rfl (Nat.le_of_ble_eq_true rfl) dX0_by_3 (fun r2 S1 => ?_)
  refine z_callVi (pc := 6) _ _ 0 0 (ct_X0_asksRounds hG _) mv_X0_asksRounds q948 rfl (zGC_s0 hG) rfl (Nat.le_of_ble_eq_true rfl) (Nat.le_of_ble_eq_true rfl) rfl rfl (Nat.le_of_ble_eq_true rfl) dX0_by_6 (fun r4 S3 => ?_)
  refine z_istore_n (pc := 9) 2 dX0_by_9 rfl (Nat.le_of_ble_eq_true rfl) rfl ?_
  refine z_iload_n (pc := 10) 2 dX0_by_10 rfl rfl ?_
  refine z_if_ge (pc := 11) 18 dX0_by_11 rfl ?_ ?_
  · refine z_aload_n (pc := 18) 0 dX0_by_18 rfl rfl ?_
    refine gf_X0_C_309_0 hG (pc := 19) dX0_by_19 ?_
    refine z_if_ne (pc := 22) 29 dX0_by_22 rfl ?_ ?_
    · refine z_aload_n (pc := 29) 0 dX0_by_29 rfl rfl ?_
      refine z_aload_n (pc := 30) 0 dX0_by_30 rfl rfl ?_
      refine gf_X0_C_62_0 hG (pc := 31) dX0_by_31 ?_
      refine z_iconst (pc := 34) (v := 0) dX0_by_34 (by decide) ?_
      refine z_chk (fun h5 => ?_)
      refine z_iaload (pc := 35) 20 1400 (zGC_s20 hG) h5 dX0_by_35 ?_
      refine z_iload_n (pc := 36) 1 dX0_by_36 rfl rfl ?_
      refine z_callVi (pc := 37) _ _ 0 0 (ct_X0_stepsBy hG _ _) mv_X0_stepsBy q979 rfl (zGC_s0 hG) rfl (Nat.le_of_ble_eq_true rfl) (Nat.le_of_ble_eq_true rfl) rfl rfl (Nat.le_of_ble_eq_true rfl) dX0_by_37 (fun r7 S6 => ?_)
      exact z_iret rfl dX0_by_40 rfl
    · refine z_iconst (pc := 25) (v := (-1)) dX0_by_25 (by decide) ?_
      refine z_goto (pc := 26) 40 dX0_by_26 rfl ?_
      exact z_iret rfl dX0_by_40 rfl
  · refine z_iload_n (pc := 14) 2 dX0_by_14 rfl rfl ?_
    refine z_goto (pc := 15) 40 dX0_by_15 rfl ?_
    exact z_iret rfl dX0_by_40 rfl
