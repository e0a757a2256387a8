/-! WALKS (written by gen/mkparts.py) -/
set_option maxRecDepth 100000
abbrev mX0_nextCircle : zMr := ("HiddenCube", cX0_nextCircle, 6, (some .boolean), 2, 0, 0, none)
def LB_X0_nextCircle_1 (rec6 : Int32 → Int32 → zSt → Option (Int32 × zSt)) (x7 : Int32) (x8 : Int32) (S9 : zSt) : Option (Int32 × zSt) :=
if x8 ≤ x7 then (some (1, S9)) else (zbind (F_X0_trades x7 x8 S9) (fun _ S10 =>
rec6 (x7 + 1) (x8 + (-1)) S10))
def LB_X0_nextCircle_2 (S : zSt) (x2 : Int32) (k3 : Int32 → Option (Int32 × zSt)) (rec11 : Int32 → Option (Int32 × zSt)) (x12 : Int32) : Option (Int32 × zSt) :=
chk x12 32 (chk x2 32 (if (S.1 29 (x2).toNatClampNeg) ≤ (S.1 29 (x12).toNatClampNeg) then (k3 x12) else (rec11 (x12 + (-1)))))
def LB_X0_nextCircle_3 (S : zSt) (k1 : Int32 → Option (Int32 × zSt)) (rec15 : Int32 → Option (Int32 × zSt)) (x16 : Int32) : Option (Int32 × zSt) :=
if x16 ≤ 0 then (k1 x16) else (chk x16 32 (chk (x16 + 1) 32 (if (S.1 29 (x16).toNatClampNeg) ≤ (S.1 29 (x16 + 1).toNatClampNeg) then (k1 x16) else (rec15 (x16 + (-1))))))
def F_X0_nextCircle (a1 : Int32) (S : zSt) : Option (Int32 × zSt) :=
joinK (fun (x2 : Int32) => if 0 < x2 then (joinK (fun (x4 : Int32) => zbind (F_X0_trades x2 x4 S) (fun _ S5 =>
loopK (fun _ _ _ => none) (LB_X0_nextCircle_1) zfuel (x2 + 1) (a1 - 1) S5)) (fun k3 : Int32 → Option (Int32 × zSt) =>
loopK (fun _ => none) (LB_X0_nextCircle_2 S x2 k3) zfuel (a1 - 1))) else (some (0, S))) (fun k1 : Int32 → Option (Int32 × zSt) =>
loopK (fun _ => none) (LB_X0_nextCircle_3 S k1) zfuel (a1 - 2))
theorem mv_X0_nextCircle : ZV mX0_nextCircle yX0_nextCircle 1 := ⟨q1174, qs65, q150, q1175, rfl, by decide, by decide, by decide +kernel⟩
theorem ct_X0_nextCircle {G : zGw} (hG : zGC G) (a1 : Int32) : Zc mX0_nextCircle yX0_nextCircle zJI G [.ref (G.1 0), .int a1] (F_X0_nextCircle a1) := by
  refine Zc_of [some (.ref (G.1 0)), some (.int a1), none, none, none, none] (by decide) rfl rfl (Nat.le_of_ble_eq_true rfl) rfl (fun X S res => ?_)
  unfold F_X0_nextCircle
  refine z_iload_n (pc := 0) 1 dX0_nextCircle_0 rfl rfl ?_
  refine z_iconst (pc := 1) (v := 2) dX0_nextCircle_1 (by decide) ?_
  refine z_isub (pc := 2) dX0_nextCircle_2 ?_
  refine z_istore_n (pc := 3) 2 dX0_nextCircle_3 rfl (Nat.le_of_ble_eq_true rfl) rfl ?_
  refine z_join (fun j : Int32 → Option (Int32 × zSt) => ∀ (x2 : Int32), Zm X mX0_nextCircle zJI G (0, 0) res S 31 [some (.ref (G.1 0)), some (.int a1), some (.int x2), none, none, none] [] (j x2)) ?_ (fun k1 hk1 => ?_)
  · intro x2
    refine z_iload_n (pc := 31) 2 dX0_nextCircle_31 rfl rfl ?_
    refine z_if_gt (pc := 32) 37 dX0_nextCircle_32 rfl ?_ ?_
    · refine z_iload_n (pc := 37) 1 dX0_nextCircle_37 rfl rfl ?_
      refine z_iconst (pc := 38) (v := 1) dX0_nextCircle_38 (by decide) ?_
      refine z_isub (pc := 39) dX0_nextCircle_39 ?_
      refine z_istore_n (pc := 40) 3 dX0_nextCircle_40 rfl (Nat.le_of_ble_eq_true rfl) rfl ?_
      refine z_join (fun j : Int32 → Option (Int32 × zSt) => ∀ (x4 : Int32), Zm X mX0_nextCircle zJI G (0, 0) res S 62 [some (.ref (G.1 0)), some (.int a1), some (.int x2), some (.int x4), none, none] [] (j x4)) ?_ (fun k3 hk3 => ?_)
      · intro x4
        refine z_aload_n (pc := 62) 0 dX0_nextCircle_62 rfl rfl ?_
        refine z_iload_n (pc := 63) 2 dX0_nextCircle_63 rfl rfl ?_
        refine z_iload_n (pc := 64) 3 dX0_nextCircle_64 rfl rfl ?_
        refine z_callVv (pc := 65) _ _ 0 0 (ct_X0_trades hG _ _) mv_X0_trades q1176 rfl (zGC_s0 hG) rfl (Nat.le_of_ble_eq_true rfl) (Nat.le_of_ble_eq_true rfl) rfl rfl (Nat.le_of_ble_eq_true rfl) dX0_nextCircle_65 (fun _ S5 => ?_)
        refine z_iload_n (pc := 68) 2 dX0_nextCircle_68 rfl rfl ?_
        refine z_iconst (pc := 69) (v := 1) dX0_nextCircle_69 (by decide) ?_
        refine z_iadd (pc := 70) dX0_nextCircle_70 ?_
        refine z_istore (pc := 71) dX0_nextCircle_71 (Nat.le_of_ble_eq_true rfl) rfl ?_
        refine z_iload_n (pc := 73) 1 dX0_nextCircle_73 rfl rfl ?_
        refine z_iconst (pc := 74) (v := 1) dX0_nextCircle_74 (by decide) ?_
        refine z_isub (pc := 75) dX0_nextCircle_75 ?_
        refine z_istore (pc := 76) dX0_nextCircle_76 (Nat.le_of_ble_eq_true rfl) rfl ?_
        refine z_maskk [true, false, false, false, true, true] ?_
        refine z_loopK (fun j : Int32 → Int32 → zSt → Option (Int32 × zSt) => ∀ (x7 : Int32) (x8 : Int32) (S9 : zSt), Zm X mX0_nextCircle zJI G (0, 0) res S9 78 [some (.ref (G.1 0)), none, none, none, some (.int x7), some (.int x8)] [] (j x7 x8 S9)) ?_ ?_ zfuel _ _ _
        · intro x7 x8 S9; exact z_none
        · intro rec6 hrec6 x7 x8 S9
          unfold LB_X0_nextCircle_1
          refine z_iload (pc := 78) dX0_nextCircle_78 rfl ?_
          refine z_iload (pc := 80) dX0_nextCircle_80 rfl ?_
          refine z_icmp_ge (pc := 82) 102 dX0_nextCircle_82 rfl ?_ ?_
          · refine z_iconst (pc := 102) (v := 1) dX0_nextCircle_102 (by decide) ?_
            exact z_zret1 rfl dX0_nextCircle_103 rfl
          · refine z_aload_n (pc := 85) 0 dX0_nextCircle_85 rfl rfl ?_
            refine z_iload (pc := 86) dX0_nextCircle_86 rfl ?_
            refine z_iload (pc := 88) dX0_nextCircle_88 rfl ?_
            refine z_callVv (pc := 90) _ _ 0 0 (ct_X0_trades hG _ _) mv_X0_trades q1176 rfl (zGC_s0 hG) rfl (Nat.le_of_ble_eq_true rfl) (Nat.le_of_ble_eq_true rfl) rfl rfl (Nat.le_of_ble_eq_true rfl) dX0_nextCircle_90 (fun _ S10 => ?_)
            refine z_iinc (pc := 93) (w := x7 + 1) dX0_nextCircle_93 rfl (by rw [show Int32.ofInt 1 = 1 from by decide]) (Nat.le_of_ble_eq_true rfl) rfl ?_
            refine z_iinc (pc := 96) (w := x8 + (-1)) dX0_nextCircle_96 rfl (by rw [show Int32.ofInt (-1) = (-1) from by decide]) (Nat.le_of_ble_eq_true rfl) rfl ?_
            refine z_goto (pc := 99) 78 dX0_nextCircle_99 rfl ?_
            exact hrec6 _ _ _
      · refine z_loopK (fun j : Int32 → Option (Int32 × zSt) => ∀ (x12 : Int32), Zm X mX0_nextCircle zJI G (0, 0) res S 41 [some (.ref (G.1 0)), some (.int a1), some (.int x2), some (.int x12), none, none] [] (j x12)) ?_ ?_ zfuel _
        · intro x12; exact z_none
        · intro rec11 hrec11 x12
          unfold LB_X0_nextCircle_2
          refine z_aload_n (pc := 41) 0 dX0_nextCircle_41 rfl rfl ?_
          refine gf_X0_C_91_0 hG (pc := 42) dX0_nextCircle_42 ?_
          refine z_iload_n (pc := 45) 3 dX0_nextCircle_45 rfl rfl ?_
          refine z_chk (fun h13 => ?_)
          refine z_iaload (pc := 46) 29 32 (zGC_s29 hG) h13 dX0_nextCircle_46 ?_
          refine z_aload_n (pc := 47) 0 dX0_nextCircle_47 rfl rfl ?_
          refine gf_X0_C_91_0 hG (pc := 48) dX0_nextCircle_48 ?_
          refine z_iload_n (pc := 51) 2 dX0_nextCircle_51 rfl rfl ?_
          refine z_chk (fun h14 => ?_)
          refine z_iaload (pc := 52) 29 32 (zGC_s29 hG) h14 dX0_nextCircle_52 ?_
          refine z_icmp_ge (pc := 53) 62 dX0_nextCircle_53 rfl ?_ ?_
          · exact hk3 _
          · refine z_iinc (pc := 56) (w := x12 + (-1)) dX0_nextCircle_56 rfl (by rw [show Int32.ofInt (-1) = (-1) from by decide]) (Nat.le_of_ble_eq_true rfl) rfl ?_
            refine z_goto (pc := 59) 41 dX0_nextCircle_59 rfl ?_
            exact hrec11 _
    · refine z_iconst (pc := 35) (v := 0) dX0_nextCircle_35 (by decide) ?_
      exact z_zret0 rfl dX0_nextCircle_36 rfl
  · refine z_loopK (fun j : Int32 → Option (Int32 × zSt) => ∀ (x16 : Int32), Zm X mX0_nextCircle zJI G (0, 0) res S 4 [some (.ref (G.1 0)), some (.int a1), some (.int x16), none, none, none] [] (j x16)) ?_ ?_ zfuel _
    · intro x16; exact z_none
    · intro rec15 hrec15 x16
      unfold LB_X0_nextCircle_3
      refine z_iload_n (pc := 4) 2 dX0_nextCircle_4 rfl rfl ?_
      refine z_if_le (pc := 5) 31 dX0_nextCircle_5 rfl ?_ ?_
      · exact hk1 _
      · refine z_aload_n (pc := 8) 0 dX0_nextCircle_8 rfl rfl ?_
        refine gf_X0_C_91_0 hG (pc := 9) dX0_nextCircle_9 ?_
        refine z_iload_n (pc := 12) 2 dX0_nextCircle_12 rfl rfl ?_
        refine z_chk (fun h17 => ?_)
        refine z_iaload (pc := 13) 29 32 (zGC_s29 hG) h17 dX0_nextCircle_13 ?_
        refine z_aload_n (pc := 14) 0 dX0_nextCircle_14 rfl rfl ?_
        refine gf_X0_C_91_0 hG (pc := 15) dX0_nextCircle_15 ?_
        refine z_iload_n (pc := 18) 2 dX0_nextCircle_18 rfl rfl ?_
        refine z_iconst (pc := 19) (v := 1) dX0_nextCircle_19 (by decide) ?_
        refine z_iadd (pc := 20) dX0_nextCircle_20 ?_
        refine z_chk (fun h18 => ?_)
        refine z_iaload (pc := 21) 29 32 (zGC_s29 hG) h18 dX0_nextCircle_21 ?_
        refine z_icmp_le (pc := 22) 31 dX0_nextCircle_22 rfl ?_ ?_
        · exact hk1 _
        · refine z_iinc (pc := 25) (w := x16 + (-1)) dX0_nextCircle_25 rfl (by rw [show Int32.ofInt (-1) = (-1) from by decide]) (Nat.le_of_ble_eq_true rfl) rfl ?_
          refine z_goto (pc := 28) 4 dX0_nextCircle_28 rfl ?_
          exact hrec15 _
abbrev mX0_drawing : zMr := ("HiddenCube", cX0_drawing, 4, (some .int), 5, 0, 0, none)
def LB_X0_drawing_1 (r4 : Int32) (k10 : zSt → Option (Int32 × zSt)) (rec18 : Int32 → zSt → Option (Int32 × zSt)) (x19 : Int32) (S20 : zSt) : Option (Int32 × zSt) :=
if r4 ≤ x19 then (k10 S20) else (chk x19 32 (zlet (S20.1 29 (x19).toNatClampNeg : Int32) (fun w22 : Int32 =>
chk w22 32 (zlet (sI S20 28 (w22).toNatClampNeg x19 : zSt) (fun S24 : zSt =>
rec18 (x19 + 1) S24)))))
def LB_X0_drawing_2 (r4 : Int32) (rec7 : Int32 → zSt → Option (Int32 × zSt)) (x8 : Int32) (S9 : zSt) : Option (Int32 × zSt) :=
joinK (fun  (S11 : zSt) => zbind (F_X0_crossingsNow S11) (fun r13 S12 =>
zbind (F_J0_min x8 r13 S12) (fun r15 S14 =>
zbind (F_X0_nextCircle r4 S14) (fun r17 S16 =>
if r17 = 0 then (some (r15, S16)) else (rec7 r15 S16))))) (fun k10 : zSt → Option (Int32 × zSt) =>
loopK (fun _ _ => none) (LB_X0_drawing_1 r4 k10) zfuel 0 S9)
def LB_X0_drawing_3 (r4 : Int32) (k5 : zSt → Option (Int32 × zSt)) (rec25 : Int32 → zSt → Option (Int32 × zSt)) (x26 : Int32) (S27 : zSt) : Option (Int32 × zSt) :=
if r4 ≤ x26 then (k5 S27) else (chk x26 32 (zlet (sI S27 29 (x26).toNatClampNeg x26 : zSt) (fun S29 : zSt =>
rec25 (x26 + 1) S29)))
def F_X0_drawing  (S : zSt) : Option (Int32 × zSt) :=
zbind (F_X0_isTown S) (fun r2 S1 =>
if r2 = 0 then (some ((-2), S1)) else (if (S1.1 1 0) ≤ 3 then (zbind (F_X1_squares 1 S1) (fun r4 S3 =>
joinK (fun  (S6 : zSt) => loopK (fun _ _ => none) (LB_X0_drawing_2 r4) zfuel 65536 S6) (fun k5 : zSt → Option (Int32 × zSt) =>
loopK (fun _ _ => none) (LB_X0_drawing_3 r4 k5) zfuel 0 S3))) else (some ((-9), S1))))
theorem mv_X0_drawing : ZV mX0_drawing yX0_drawing 0 := ⟨q1169, q1170, q150, q1171, rfl, by decide, by decide, by decide +kernel⟩
theorem ct_X0_drawing {G : zGw} (hG : zGC G)  : Zc mX0_drawing yX0_drawing zJI G [.ref (G.1 0)] (F_X0_drawing) := by
  refine Zc_of [some (.ref (G.1 0)), none, none, none] (by decide) rfl rfl (Nat.le_of_ble_eq_true rfl) rfl (fun X S res => ?_)
  unfold F_X0_drawing
  refine z_aload_n (pc := 0) 0 dX0_drawing_0 rfl rfl ?_
  refine z_callVi (pc := 1) _ _ 0 0 (ct_X0_isTown hG) mv_X0_isTown q827 rfl (zGC_s0 hG) rfl (Nat.le_of_ble_eq_true rfl) (Nat.le_of_ble_eq_true rfl) rfl rfl (Nat.le_of_ble_eq_true rfl) dX0_drawing_1 (fun r2 S1 => ?_)
  refine z_if_ne (pc := 4) 10 dX0_drawing_4 rfl ?_ ?_
  · refine z_aload_n (pc := 10) 0 dX0_drawing_10 rfl rfl ?_
    refine gf_X0_C_10_0 hG (pc := 11) dX0_drawing_11 ?_
    refine gf_X0_C_158_1 hG (pc := 14) dX0_drawing_14 ?_
    refine z_iconst (pc := 17) (v := 3) dX0_drawing_17 (by decide) ?_
    refine z_icmp_le (pc := 18) 24 dX0_drawing_18 rfl ?_ ?_
    · refine z_aload_n (pc := 24) 0 dX0_drawing_24 rfl rfl ?_
      refine gf_X0_C_10_0 hG (pc := 25) dX0_drawing_25 ?_
      refine z_callVi (pc := 28) _ _ 1 1 (ct_X1_squares (zGC_T hG)) mv_X1_squares q727 rfl (zGC_s1 hG) rfl (Nat.le_of_ble_eq_true rfl) (Nat.le_of_ble_eq_true rfl) rfl rfl (Nat.le_of_ble_eq_true rfl) dX0_drawing_28 (fun r4 S3 => ?_)
      refine z_istore_n (pc := 31) 1 dX0_drawing_31 rfl (Nat.le_of_ble_eq_true rfl) rfl ?_
      refine z_iconst (pc := 32) (v := 0) dX0_drawing_32 (by decide) ?_
      refine z_istore_n (pc := 33) 2 dX0_drawing_33 rfl (Nat.le_of_ble_eq_true rfl) rfl ?_
      refine z_join (fun j : zSt → Option (Int32 × zSt) => ∀  (S6 : zSt), Zm X mX0_drawing zJI G (0, 0) res S6 52 [some (.ref (G.1 0)), some (.int r4), none, none] [] (j S6)) ?_ (fun k5 hk5 => ?_)
      · intro S6
        refine z_ldc (pc := 52) (v := 65536) dX0_drawing_52 q281 ?_
        refine z_istore_n (pc := 54) 2 dX0_drawing_54 rfl (Nat.le_of_ble_eq_true rfl) rfl ?_
        refine z_loopK (fun j : Int32 → zSt → Option (Int32 × zSt) => ∀ (x8 : Int32) (S9 : zSt), Zm X mX0_drawing zJI G (0, 0) res S9 55 [some (.ref (G.1 0)), some (.int r4), some (.int x8), none] [] (j x8 S9)) ?_ ?_ zfuel _ _
        · intro x8 S9; exact z_none
        · intro rec7 hrec7 x8 S9
          unfold LB_X0_drawing_2
          refine z_iconst (pc := 55) (v := 0) dX0_drawing_55 (by decide) ?_
          refine z_istore_n (pc := 56) 3 dX0_drawing_56 rfl (Nat.le_of_ble_eq_true rfl) rfl ?_
          refine z_join (fun j : zSt → Option (Int32 × zSt) => ∀  (S11 : zSt), Zm X mX0_drawing zJI G (0, 0) res S11 80 [some (.ref (G.1 0)), some (.int r4), some (.int x8), none] [] (j S11)) ?_ (fun k10 hk10 => ?_)
          · intro S11
            refine z_iload_n (pc := 80) 2 dX0_drawing_80 rfl rfl ?_
            refine z_aload_n (pc := 81) 0 dX0_drawing_81 rfl rfl ?_
            refine z_callVi (pc := 82) _ _ 0 0 (ct_X0_crossingsNow hG) mv_X0_crossingsNow q1160 rfl (zGC_s0 hG) rfl (Nat.le_of_ble_eq_true rfl) (Nat.le_of_ble_eq_true rfl) rfl rfl (Nat.le_of_ble_eq_true rfl) dX0_drawing_82 (fun r13 S12 => ?_)
            refine z_callSi (pc := 85) _ _ (ct_J0_min  _ _) mv_J0_min q1015 rfl (Nat.le_of_ble_eq_true rfl) (Nat.le_of_ble_eq_true rfl) rfl rfl (Nat.le_of_ble_eq_true rfl) dX0_drawing_85 (fun r15 S14 => ?_)
            refine z_istore_n (pc := 88) 2 dX0_drawing_88 rfl (Nat.le_of_ble_eq_true rfl) rfl ?_
            refine z_aload_n (pc := 89) 0 dX0_drawing_89 rfl rfl ?_
            refine z_iload_n (pc := 90) 1 dX0_drawing_90 rfl rfl ?_
            refine z_callVi (pc := 91) _ _ 0 0 (ct_X0_nextCircle hG _) mv_X0_nextCircle q1172 rfl (zGC_s0 hG) rfl (Nat.le_of_ble_eq_true rfl) (Nat.le_of_ble_eq_true rfl) rfl rfl (Nat.le_of_ble_eq_true rfl) dX0_drawing_91 (fun r17 S16 => ?_)
            refine z_if_ne (pc := 94) 55 dX0_drawing_94 rfl ?_ ?_
            · exact hrec7 _ _
            · refine z_iload_n (pc := 97) 2 dX0_drawing_97 rfl rfl ?_
              exact z_iret rfl dX0_drawing_98 rfl
          · refine z_loopK (fun j : Int32 → zSt → Option (Int32 × zSt) => ∀ (x19 : Int32) (S20 : zSt), Zm X mX0_drawing zJI G (0, 0) res S20 57 [some (.ref (G.1 0)), some (.int r4), some (.int x8), some (.int x19)] [] (j x19 S20)) ?_ ?_ zfuel _ _
            · intro x19 S20; exact z_none
            · intro rec18 hrec18 x19 S20
              unfold LB_X0_drawing_1
              refine z_iload_n (pc := 57) 3 dX0_drawing_57 rfl rfl ?_
              refine z_iload_n (pc := 58) 1 dX0_drawing_58 rfl rfl ?_
              refine z_icmp_ge (pc := 59) 80 dX0_drawing_59 rfl ?_ ?_
              · exact z_mask [true, true, true, false] (hk10 _) rfl
              · refine z_aload_n (pc := 62) 0 dX0_drawing_62 rfl rfl ?_
                refine gf_X0_C_88_0 hG (pc := 63) dX0_drawing_63 ?_
                refine z_aload_n (pc := 66) 0 dX0_drawing_66 rfl rfl ?_
                refine gf_X0_C_91_0 hG (pc := 67) dX0_drawing_67 ?_
                refine z_iload_n (pc := 70) 3 dX0_drawing_70 rfl rfl ?_
                refine z_chk (fun h21 => ?_)
                refine z_iaload (pc := 71) 29 32 (zGC_s29 hG) h21 dX0_drawing_71 ?_
                refine z_iload_n (pc := 72) 3 dX0_drawing_72 rfl rfl ?_
                refine z_letI2 (fun w22 => ?_)
                refine z_chk (fun h23 => ?_)
                refine z_iastore (pc := 73) 28 32 (zGC_s28 hG) h23 dX0_drawing_73 ?_
                refine z_letS (fun S24 => ?_)
                refine z_iinc (pc := 74) (w := x19 + 1) dX0_drawing_74 rfl (by rw [show Int32.ofInt 1 = 1 from by decide]) (Nat.le_of_ble_eq_true rfl) rfl ?_
                refine z_goto (pc := 77) 57 dX0_drawing_77 rfl ?_
                exact hrec18 _ _
      · refine z_loopK (fun j : Int32 → zSt → Option (Int32 × zSt) => ∀ (x26 : Int32) (S27 : zSt), Zm X mX0_drawing zJI G (0, 0) res S27 34 [some (.ref (G.1 0)), some (.int r4), some (.int x26), none] [] (j x26 S27)) ?_ ?_ zfuel _ _
        · intro x26 S27; exact z_none
        · intro rec25 hrec25 x26 S27
          unfold LB_X0_drawing_3
          refine z_iload_n (pc := 34) 2 dX0_drawing_34 rfl rfl ?_
          refine z_iload_n (pc := 35) 1 dX0_drawing_35 rfl rfl ?_
          refine z_icmp_ge (pc := 36) 52 dX0_drawing_36 rfl ?_ ?_
          · exact z_mask [true, true, false, false] (hk5 _) rfl
          · refine z_aload_n (pc := 39) 0 dX0_drawing_39 rfl rfl ?_
            refine gf_X0_C_91_0 hG (pc := 40) dX0_drawing_40 ?_
            refine z_iload_n (pc := 43) 2 dX0_drawing_43 rfl rfl ?_
            refine z_iload_n (pc := 44) 2 dX0_drawing_44 rfl rfl ?_
            refine z_chk (fun h28 => ?_)
            refine z_iastore (pc := 45) 29 32 (zGC_s29 hG) h28 dX0_drawing_45 ?_
            refine z_letS (fun S29 => ?_)
            refine z_iinc (pc := 46) (w := x26 + 1) dX0_drawing_46 rfl (by rw [show Int32.ofInt 1 = 1 from by decide]) (Nat.le_of_ble_eq_true rfl) rfl ?_
            refine z_goto (pc := 49) 34 dX0_drawing_49 rfl ?_
            exact hrec25 _ _
    · refine z_bipush (pc := 21) (v := (-9)) dX0_drawing_21 (by decide) ?_
      exact z_iret rfl dX0_drawing_23 rfl
  · refine z_bipush (pc := 7) (v := (-2)) dX0_drawing_7 (by decide) ?_
    exact z_iret rfl dX0_drawing_9 rfl
abbrev mX0_isPerson : zMr := ("HiddenCube", cX0_isPerson, 3, (some .boolean), 2, 0, 0, none)
def F_X0_isPerson (a1 : Int64) (S : zSt) : Option (Int32 × zSt) :=
zbind (F_X0_isIn a1 0 (((S.1 1 8) - 1).toInt64) S) (fun r2 S1 =>
some (r2 &&& 1, S1))
theorem mv_X0_isPerson : ZV mX0_isPerson yX0_isPerson 1 := ⟨q1186, qs67, q150, q1187, rfl, by decide, by decide, by decide +kernel⟩
theorem ct_X0_isPerson {G : zGw} (hG : zGC G) (a1 : Int64) : Zc mX0_isPerson yX0_isPerson zJI G [.ref (G.1 0), .long a1] (F_X0_isPerson a1) := by
  refine Zc_of [some (.ref (G.1 0)), some (.long a1), none] (by decide) rfl rfl (Nat.le_of_ble_eq_true rfl) rfl (fun X S res => ?_)
  unfold F_X0_isPerson
  refine z_lload_n (pc := 0) 1 dX0_isPerson_0 rfl rfl ?_
  refine z_lconst (pc := 1) (v := 0) dX0_isPerson_1 (by decide) ?_
  refine z_aload_n (pc := 2) 0 dX0_isPerson_2 rfl rfl ?_
  refine gf_X0_C_10_0 hG (pc := 3) dX0_isPerson_3 ?_
  refine gf_X0_C_419_1 hG (pc := 6) dX0_isPerson_6 ?_
  refine z_iconst (pc := 9) (v := 1) dX0_isPerson_9 (by decide) ?_
  refine z_isub (pc := 10) dX0_isPerson_10 ?_
  refine z_i2l (pc := 11) dX0_isPerson_11 ?_
  refine z_callSi (pc := 12) _ _ (ct_X0_isIn  _ _ _) mv_X0_isIn q429 rfl (Nat.le_of_ble_eq_true rfl) (Nat.le_of_ble_eq_true rfl) rfl rfl (Nat.le_of_ble_eq_true rfl) dX0_isPerson_12 (fun r2 S1 => ?_)
  exact z_zret rfl rfl dX0_isPerson_15 rfl
abbrev mX0_person : zMr := ("HiddenCube", cX0_person, 2, (some .int), 3, 0, 0, none)
def F_X0_person (a1 : Int32) (S : zSt) : Option (Int32 × zSt) :=
zbind (F_X0_isPerson ((a1).toInt64) S) (fun r2 S1 =>
if r2 = 0 then (some ((-2), S1)) else (chk a1 6 (some (S1.1 4 (a1).toNatClampNeg, S1))))
theorem mv_X0_person : ZV mX0_person yX0_person 1 := ⟨q1181, q1182, q150, q1183, rfl, by decide, by decide, by decide +kernel⟩
theorem ct_X0_person {G : zGw} (hG : zGC G) (a1 : Int32) : Zc mX0_person yX0_person zJI G [.ref (G.1 0), .int a1] (F_X0_person a1) := by
  refine Zc_of [some (.ref (G.1 0)), some (.int a1)] (by decide) rfl rfl (Nat.le_of_ble_eq_true rfl) rfl (fun X S res => ?_)
  unfold F_X0_person
  refine z_aload_n (pc := 0) 0 dX0_person_0 rfl rfl ?_
  refine z_iload_n (pc := 1) 1 dX0_person_1 rfl rfl ?_
  refine z_i2l (pc := 2) dX0_person_2 ?_
  refine z_callVi (pc := 3) _ _ 0 0 (ct_X0_isPerson hG _) mv_X0_isPerson q1184 rfl (zGC_s0 hG) rfl (Nat.le_of_ble_eq_true rfl) (Nat.le_of_ble_eq_true rfl) rfl rfl (Nat.le_of_ble_eq_true rfl) dX0_person_3 (fun r2 S1 => ?_)
  refine z_if_eq (pc := 6) 21 dX0_person_6 rfl ?_ ?_
  · refine z_bipush (pc := 21) (v := (-2)) dX0_person_21 (by decide) ?_
    exact z_iret rfl dX0_person_23 rfl
  · refine z_aload_n (pc := 9) 0 dX0_person_9 rfl rfl ?_
    refine gf_X0_C_10_0 hG (pc := 10) dX0_person_10 ?_
    refine gf_X0_C_425_1 hG (pc := 13) dX0_person_13 ?_
    refine z_iload_n (pc := 16) 1 dX0_person_16 rfl rfl ?_
    refine z_chk (fun h3 => ?_)
    refine z_iaload (pc := 17) 4 6 (zGC_s4 hG) h3 dX0_person_17 ?_
    refine z_goto (pc := 18) 23 dX0_person_18 rfl ?_
    exact z_iret rfl dX0_person_23 rfl
abbrev mX0_moves : zMr := ("HiddenCube", cX0_moves, 4, (some .int), 3, 0, 0, none)
def F_X0_moves (a1 : Int32) (a2 : Int32) (S : zSt) : Option (Int32 × zSt) :=
zbind (F_X0_isPerson ((a1).toInt64) S) (fun r2 S1 =>
if r2 = 0 then (some ((-2), S1)) else (zbind (F_X0_isSquare ((a2).toInt64) S1) (fun r4 S3 =>
if r4 = 0 then (some ((-2), S3)) else (chk a1 6 (zlet (S3.1 4 (a1).toNatClampNeg : Int32) (fun w6 : Int32 =>
chk a1 6 (zlet (sI S3 4 (a1).toNatClampNeg a2 : zSt) (fun S8 : zSt =>
some (w6, S8)))))))))
theorem mv_X0_moves : ZV mX0_moves yX0_moves 2 := ⟨q1189, q1190, q150, q1191, rfl, by decide, by decide, by decide +kernel⟩
theorem ct_X0_moves {G : zGw} (hG : zGC G) (a1 : Int32) (a2 : Int32) : Zc mX0_moves yX0_moves zJI G [.ref (G.1 0), .int a1, .int a2] (F_X0_moves a1 a2) := by
  refine Zc_of [some (.ref (G.1 0)), some (.int a1), some (.int a2), none] (by decide) rfl rfl (Nat.le_of_ble_eq_true rfl) rfl (fun X S res => ?_)
  unfold F_X0_moves
  refine z_aload_n (pc := 0) 0 dX0_moves_0 rfl rfl ?_
  refine z_iload_n (pc := 1) 1 dX0_moves_1 rfl rfl ?_
  refine z_i2l (pc := 2) dX0_moves_2 ?_
  refine z_callVi (pc := 3) _ _ 0 0 (ct_X0_isPerson hG _) mv_X0_isPerson q1184 rfl (zGC_s0 hG) rfl (Nat.le_of_ble_eq_true rfl) (Nat.le_of_ble_eq_true rfl) rfl rfl (Nat.le_of_ble_eq_true rfl) dX0_moves_3 (fun r2 S1 => ?_)
  refine z_if_eq (pc := 6) 18 dX0_moves_6 rfl ?_ ?_
  · refine z_bipush (pc := 18) (v := (-2)) dX0_moves_18 (by decide) ?_
    exact z_iret rfl dX0_moves_20 rfl
  · refine z_aload_n (pc := 9) 0 dX0_moves_9 rfl rfl ?_
    refine z_iload_n (pc := 10) 2 dX0_moves_10 rfl rfl ?_
    refine z_i2l (pc := 11) dX0_moves_11 ?_
    refine z_callVi (pc := 12) _ _ 0 0 (ct_X0_isSquare hG _) mv_X0_isSquare q723 rfl (zGC_s0 hG) rfl (Nat.le_of_ble_eq_true rfl) (Nat.le_of_ble_eq_true rfl) rfl rfl (Nat.le_of_ble_eq_true rfl) dX0_moves_12 (fun r4 S3 => ?_)
    refine z_if_ne (pc := 15) 21 dX0_moves_15 rfl ?_ ?_
    · refine z_aload_n (pc := 21) 0 dX0_moves_21 rfl rfl ?_
      refine gf_X0_C_10_0 hG (pc := 22) dX0_moves_22 ?_
      refine gf_X0_C_425_1 hG (pc := 25) dX0_moves_25 ?_
      refine z_iload_n (pc := 28) 1 dX0_moves_28 rfl rfl ?_
      refine z_chk (fun h5 => ?_)
      refine z_iaload (pc := 29) 4 6 (zGC_s4 hG) h5 dX0_moves_29 ?_
      refine z_letI (fun w6 => ?_)
      refine z_istore_n (pc := 30) 3 dX0_moves_30 rfl (Nat.le_of_ble_eq_true rfl) rfl ?_
      refine z_aload_n (pc := 31) 0 dX0_moves_31 rfl rfl ?_
      refine gf_X0_C_10_0 hG (pc := 32) dX0_moves_32 ?_
      refine gf_X0_C_425_1 hG (pc := 35) dX0_moves_35 ?_
      refine z_iload_n (pc := 38) 1 dX0_moves_38 rfl rfl ?_
      refine z_iload_n (pc := 39) 2 dX0_moves_39 rfl rfl ?_
      refine z_chk (fun h7 => ?_)
      refine z_iastore (pc := 40) 4 6 (zGC_s4 hG) h7 dX0_moves_40 ?_
      refine z_letS (fun S8 => ?_)
      refine z_iload_n (pc := 41) 3 dX0_moves_41 rfl rfl ?_
      exact z_iret rfl dX0_moves_42 rfl
    · refine z_bipush (pc := 18) (v := (-2)) dX0_moves_18 (by decide) ?_
      exact z_iret rfl dX0_moves_20 rfl
abbrev mX0_asksMet : zMr := ("HiddenCube", cX0_asksMet, 5, (some .int), 171, 1, 8, some [(24, 58, 154, 398), (59, 67, 154, 398), (68, 145, 154, 398), (146, 153, 154, 398)])
def LB_X0_asksMet_1 (a1 : Int32) (V : zSV) (r6 : Int32) (rec7 : Int32 → zSt → Option (Int32 × zSt)) (x8 : Int32) (S9 : zSt) : Option (Int32 × zSt) :=
if r6 ≤ x8 then (some (0, S9)) else (chk a1 4 (zbind (F_X4_at V (a1).toNatClampNeg x8 S9) (fun r13 S11 =>
zbind (F_X0_isPerson r13 S11) (fun r15 S14 =>
if r15 = 0 then (some ((-2), S14)) else (chk a1 4 (zbind (F_X4_at V (a1).toNatClampNeg (x8 + 1) S14) (fun r19 S17 =>
zbind (F_X0_isPerson r19 S17) (fun r21 S20 =>
if r21 = 0 then (some ((-2), S20)) else (chk a1 4 (zbind (F_X4_at V (a1).toNatClampNeg x8 S20) (fun r25 S23 =>
chk a1 4 (zbind (F_X4_at V (a1).toNatClampNeg (x8 + 1) S23) (fun r29 S27 =>
if (lg_cmp r25 r29) = 0 then (some ((-2), S27)) else (rec7 (x8 + 3) S27))))))))))))))
def F_X0_asksMet (V : zSV) (a1 : Int32) (a2 : Int32) (S : zSt) : Option (Int32 × zSt) :=
zbind (F_X0_isSlot a1 S) (fun r2 S1 =>
if r2 = 0 then (some ((-2), S1)) else (if (S1.1 1 8) = 0 then (some ((-2), S1)) else (if a2 = 0 then (some ((-2), S1)) else (chk a1 4 (zcV (V (a1).toNatClampNeg) (some ((-6), S1)) (zbind (F_X4_size V (a1).toNatClampNeg S1) (fun r6 S4 =>
if (S4.1 1 0) = 5 then (some ((-9), S4)) else (if (S4.1 1 8) ≤ 4 then (if (r6 - r6 / 3 * 3) = 0 then (loopK (fun _ _ => none) (LB_X0_asksMet_1 a1 V r6) zfuel 0 S4) else (some ((-2), S4))) else (some ((-9), S4))))))))))
theorem mv_X0_asksMet : ZVW mX0_asksMet yX0_asksMet 2 := ⟨q1198, qs68, q150, q1199, rfl, by decide, by decide, by decide +kernel⟩
theorem ct_X0_asksMet {G : zGw} (hG : zGC G) {V : zSV} (hV : zGV G V) (a1 : Int32) (a2 : Int32) : Zc mX0_asksMet yX0_asksMet zJI G [.ref (G.1 0), .int a1, .int a2] (F_X0_asksMet V a1 a2) := by
  refine Zc_ofW [some (.ref (G.1 0)), some (.int a1), some (.int a2), none, none] (by decide) rfl _ rfl (Nat.le_of_ble_eq_true rfl) rfl (fun X S res => ?_)
  unfold F_X0_asksMet
  refine z_iload_n (pc := 0) 1 dX0_asksMet_0 rfl rfl ?_
  refine z_callSi (pc := 1) _ _ (ct_X0_isSlot  _) mv_X0_isSlot q1121 rfl (Nat.le_of_ble_eq_true rfl) (Nat.le_of_ble_eq_true rfl) rfl rfl (Nat.le_of_ble_eq_true rfl) dX0_asksMet_1 (fun r2 S1 => ?_)
  refine z_if_eq (pc := 4) 21 dX0_asksMet_4 rfl ?_ ?_
  · refine z_bipush (pc := 21) (v := (-2)) dX0_asksMet_21 (by decide) ?_
    exact z_iret rfl dX0_asksMet_23 rfl
  · refine z_aload_n (pc := 7) 0 dX0_asksMet_7 rfl rfl ?_
    refine gf_X0_C_10_0 hG (pc := 8) dX0_asksMet_8 ?_
    refine gf_X0_C_419_1 hG (pc := 11) dX0_asksMet_11 ?_
    refine z_if_eq (pc := 14) 21 dX0_asksMet_14 rfl ?_ ?_
    · refine z_bipush (pc := 21) (v := (-2)) dX0_asksMet_21 (by decide) ?_
      exact z_iret rfl dX0_asksMet_23 rfl
    · refine z_iload_n (pc := 17) 2 dX0_asksMet_17 rfl rfl ?_
      refine z_if_ne (pc := 18) 24 dX0_asksMet_18 rfl ?_ ?_
      · refine z_aload_n (pc := 24) 0 dX0_asksMet_24 rfl rfl ?_
        refine gf_X0_C_118_0 hG (pc := 25) dX0_asksMet_25 ?_
        refine z_iload_n (pc := 28) 1 dX0_asksMet_28 rfl rfl ?_
        refine z_chk (fun h3 => ?_)
        refine z_aaloadV (pc := 29) hG hV h3 dX0_asksMet_29 ?_
        refine z_zcV (fun hq5 => (by refine z_callVt (pc := 30) _ _ (40 + (a1).toNatClampNeg) 4 (cx_X4_size hV (Nat.not_le.mp fun q => h3 (Or.inr q)) hq5) rfl mv_X4_sizeT q1124 rfl (hV _ (Nat.not_le.mp fun q => h3 (Or.inr q))).1 rfl (Nat.le_of_ble_eq_true rfl) (Nat.le_of_ble_eq_true rfl) rfl (Nat.le_of_ble_eq_true rfl) (Nat.le_of_ble_eq_true rfl) (Nat.le_of_ble_eq_true rfl) dX0_asksMet_30 "java/lang/NullPointerException" [] ⟨24, 58, 154, 398⟩ [⟨59, 67, 154, 398⟩, ⟨68, 145, 154, 398⟩, ⟨146, 153, 154, 398⟩] rfl (by intro z hz; cases hz) rfl (by decide) q1094 (by decide) (fun q9 => ?_); refine z_astore_n (pc := 154) 3 dX0_asksMet_154 rfl (Nat.le_of_ble_eq_true rfl) rfl ?_; refine z_bipush (pc := 155) (v := (-6)) dX0_asksMet_155 (by decide) ?_; exact z_iret rfl dX0_asksMet_157 rfl)) (fun q8 hq5 => ?_)
        refine z_callVi (pc := 30) _ _ (40 + (a1).toNatClampNeg) 4 (ct_X4_size hV (Nat.not_le.mp fun q => h3 (Or.inr q))) mv_X4_size q1124 rfl (hV _ (Nat.not_le.mp fun q => h3 (Or.inr q))).1 rfl (Nat.le_of_ble_eq_true rfl) (Nat.le_of_ble_eq_true rfl) rfl rfl (Nat.le_of_ble_eq_true rfl) dX0_asksMet_30 (fun r6 S4 => ?_)
        refine z_istore_n (pc := 33) 3 dX0_asksMet_33 rfl (Nat.le_of_ble_eq_true rfl) rfl ?_
        refine z_aload_n (pc := 34) 0 dX0_asksMet_34 rfl rfl ?_
        refine gf_X0_C_10_0 hG (pc := 35) dX0_asksMet_35 ?_
        refine gf_X0_C_158_1 hG (pc := 38) dX0_asksMet_38 ?_
        refine z_iconst (pc := 41) (v := 5) dX0_asksMet_41 (by decide) ?_
        refine z_icmp_eq (pc := 42) 56 dX0_asksMet_42 rfl ?_ ?_
        · refine z_bipush (pc := 56) (v := (-9)) dX0_asksMet_56 (by decide) ?_
          exact z_iret rfl dX0_asksMet_58 rfl
        · refine z_aload_n (pc := 45) 0 dX0_asksMet_45 rfl rfl ?_
          refine gf_X0_C_10_0 hG (pc := 46) dX0_asksMet_46 ?_
          refine gf_X0_C_419_1 hG (pc := 49) dX0_asksMet_49 ?_
          refine z_iconst (pc := 52) (v := 4) dX0_asksMet_52 (by decide) ?_
          refine z_icmp_le (pc := 53) 59 dX0_asksMet_53 rfl ?_ ?_
          · refine z_iload_n (pc := 59) 3 dX0_asksMet_59 rfl rfl ?_
            refine z_iconst (pc := 60) (v := 3) dX0_asksMet_60 (by decide) ?_
            refine z_iremc (pc := 61) dX0_asksMet_61 (by decide) ?_
            refine z_if_eq (pc := 62) 68 dX0_asksMet_62 rfl ?_ ?_
            · refine z_iconst (pc := 68) (v := 0) dX0_asksMet_68 (by decide) ?_
              refine z_istore (pc := 69) dX0_asksMet_69 (Nat.le_of_ble_eq_true rfl) rfl ?_
              refine z_maskk [true, true, false, true, true] ?_
              refine z_loopK (fun j : Int32 → zSt → Option (Int32 × zSt) => ∀ (x8 : Int32) (S9 : zSt), Zm X mX0_asksMet zJI G (0, 0) res S9 71 [some (.ref (G.1 0)), some (.int a1), none, some (.int r6), some (.int x8)] [] (j x8 S9)) ?_ ?_ zfuel _ _
              · intro x8 S9; exact z_none
              · intro rec7 hrec7 x8 S9
                unfold LB_X0_asksMet_1
                refine z_iload (pc := 71) dX0_asksMet_71 rfl ?_
                refine z_iload_n (pc := 73) 3 dX0_asksMet_73 rfl rfl ?_
                refine z_icmp_ge (pc := 74) 152 dX0_asksMet_74 rfl ?_ ?_
                · refine z_iconst (pc := 152) (v := 0) dX0_asksMet_152 (by decide) ?_
                  exact z_iret rfl dX0_asksMet_153 rfl
                · refine z_aload_n (pc := 77) 0 dX0_asksMet_77 rfl rfl ?_
                  refine z_aload_n (pc := 78) 0 dX0_asksMet_78 rfl rfl ?_
                  refine gf_X0_C_118_0 hG (pc := 79) dX0_asksMet_79 ?_
                  refine z_iload_n (pc := 82) 1 dX0_asksMet_82 rfl rfl ?_
                  refine z_chk (fun h10 => ?_)
                  refine z_aaloadV (pc := 83) hG hV h10 dX0_asksMet_83 ?_
                  refine z_iload (pc := 84) dX0_asksMet_84 rfl ?_
                  refine z_callVl (pc := 86) _ _ (40 + (a1).toNatClampNeg) 4 (ct_X4_at hV (Nat.not_le.mp fun q => h10 (Or.inr q)) _) mv_X4_at q1132 rfl (hV _ (Nat.not_le.mp fun q => h10 (Or.inr q))).1 rfl (Nat.le_of_ble_eq_true rfl) (Nat.le_of_ble_eq_true rfl) rfl rfl (Nat.le_of_ble_eq_true rfl) dX0_asksMet_86 (fun r13 S11 => ?_)
                  refine z_callVi (pc := 89) _ _ 0 0 (ct_X0_isPerson hG _) mv_X0_isPerson q1184 rfl (zGC_s0 hG) rfl (Nat.le_of_ble_eq_true rfl) (Nat.le_of_ble_eq_true rfl) rfl rfl (Nat.le_of_ble_eq_true rfl) dX0_asksMet_89 (fun r15 S14 => ?_)
                  refine z_if_eq (pc := 92) 143 dX0_asksMet_92 rfl ?_ ?_
                  · refine z_bipush (pc := 143) (v := (-2)) dX0_asksMet_143 (by decide) ?_
                    exact z_iret rfl dX0_asksMet_145 rfl
                  · refine z_aload_n (pc := 95) 0 dX0_asksMet_95 rfl rfl ?_
                    refine z_aload_n (pc := 96) 0 dX0_asksMet_96 rfl rfl ?_
                    refine gf_X0_C_118_0 hG (pc := 97) dX0_asksMet_97 ?_
                    refine z_iload_n (pc := 100) 1 dX0_asksMet_100 rfl rfl ?_
                    refine z_chk (fun h16 => ?_)
                    refine z_aaloadV (pc := 101) hG hV h16 dX0_asksMet_101 ?_
                    refine z_iload (pc := 102) dX0_asksMet_102 rfl ?_
                    refine z_iconst (pc := 104) (v := 1) dX0_asksMet_104 (by decide) ?_
                    refine z_iadd (pc := 105) dX0_asksMet_105 ?_
                    refine z_callVl (pc := 106) _ _ (40 + (a1).toNatClampNeg) 4 (ct_X4_at hV (Nat.not_le.mp fun q => h16 (Or.inr q)) _) mv_X4_at q1132 rfl (hV _ (Nat.not_le.mp fun q => h16 (Or.inr q))).1 rfl (Nat.le_of_ble_eq_true rfl) (Nat.le_of_ble_eq_true rfl) rfl rfl (Nat.le_of_ble_eq_true rfl) dX0_asksMet_106 (fun r19 S17 => ?_)
                    refine z_callVi (pc := 109) _ _ 0 0 (ct_X0_isPerson hG _) mv_X0_isPerson q1184 rfl (zGC_s0 hG) rfl (Nat.le_of_ble_eq_true rfl) (Nat.le_of_ble_eq_true rfl) rfl rfl (Nat.le_of_ble_eq_true rfl) dX0_asksMet_109 (fun r21 S20 => ?_)
                    refine z_if_eq (pc := 112) 143 dX0_asksMet_112 rfl ?_ ?_
                    · refine z_bipush (pc := 143) (v := (-2)) dX0_asksMet_143 (by decide) ?_
                      exact z_iret rfl dX0_asksMet_145 rfl
                    · refine z_aload_n (pc := 115) 0 dX0_asksMet_115 rfl rfl ?_
                      refine gf_X0_C_118_0 hG (pc := 116) dX0_asksMet_116 ?_
                      refine z_iload_n (pc := 119) 1 dX0_asksMet_119 rfl rfl ?_
                      refine z_chk (fun h22 => ?_)
                      refine z_aaloadV (pc := 120) hG hV h22 dX0_asksMet_120 ?_
                      refine z_iload (pc := 121) dX0_asksMet_121 rfl ?_
                      refine z_callVl (pc := 123) _ _ (40 + (a1).toNatClampNeg) 4 (ct_X4_at hV (Nat.not_le.mp fun q => h22 (Or.inr q)) _) mv_X4_at q1132 rfl (hV _ (Nat.not_le.mp fun q => h22 (Or.inr q))).1 rfl (Nat.le_of_ble_eq_true rfl) (Nat.le_of_ble_eq_true rfl) rfl rfl (Nat.le_of_ble_eq_true rfl) dX0_asksMet_123 (fun r25 S23 => ?_)
                      refine z_aload_n (pc := 126) 0 dX0_asksMet_126 rfl rfl ?_
                      refine gf_X0_C_118_0 hG (pc := 127) dX0_asksMet_127 ?_
                      refine z_iload_n (pc := 130) 1 dX0_asksMet_130 rfl rfl ?_
                      refine z_chk (fun h26 => ?_)
                      refine z_aaloadV (pc := 131) hG hV h26 dX0_asksMet_131 ?_
                      refine z_iload (pc := 132) dX0_asksMet_132 rfl ?_
                      refine z_iconst (pc := 134) (v := 1) dX0_asksMet_134 (by decide) ?_
                      refine z_iadd (pc := 135) dX0_asksMet_135 ?_
                      refine z_callVl (pc := 136) _ _ (40 + (a1).toNatClampNeg) 4 (ct_X4_at hV (Nat.not_le.mp fun q => h26 (Or.inr q)) _) mv_X4_at q1132 rfl (hV _ (Nat.not_le.mp fun q => h26 (Or.inr q))).1 rfl (Nat.le_of_ble_eq_true rfl) (Nat.le_of_ble_eq_true rfl) rfl rfl (Nat.le_of_ble_eq_true rfl) dX0_asksMet_136 (fun r29 S27 => ?_)
                      refine z_lcmp (pc := 139) dX0_asksMet_139 ?_
                      refine z_if_ne (pc := 140) 146 dX0_asksMet_140 rfl ?_ ?_
                      · refine z_iinc (pc := 146) (w := x8 + 3) dX0_asksMet_146 rfl (by rw [show Int32.ofInt 3 = 3 from by decide]) (Nat.le_of_ble_eq_true rfl) rfl ?_
                        refine z_goto (pc := 149) 71 dX0_asksMet_149 rfl ?_
                        exact hrec7 _ _
                      · refine z_bipush (pc := 143) (v := (-2)) dX0_asksMet_143 (by decide) ?_
                        exact z_iret rfl dX0_asksMet_145 rfl
            · refine z_bipush (pc := 65) (v := (-2)) dX0_asksMet_65 (by decide) ?_
              exact z_iret rfl dX0_asksMet_67 rfl
          · refine z_bipush (pc := 56) (v := (-9)) dX0_asksMet_56 (by decide) ?_
            exact z_iret rfl dX0_asksMet_58 rfl
      · refine z_bipush (pc := 21) (v := (-2)) dX0_asksMet_21 (by decide) ?_
        exact z_iret rfl dX0_asksMet_23 rfl
abbrev mX0_isMetSo : zMr := ("HiddenCube", cX0_isMetSo, 3, (some .boolean), 3, 0, 0, none)
def LB_X0_isMetSo_1 (a1 : Int32) (V : zSV) (rec1 : Int32 → zSt → Option (Int32 × zSt)) (x2 : Int32) (S3 : zSt) : Option (Int32 × zSt) :=
chk a1 4 (zbind (F_X4_size V (a1).toNatClampNeg S3) (fun r7 S5 =>
if r7 ≤ x2 then (some (1, S5)) else (zbind (F_X0_squareAt V a1 x2 S5) (fun r9 S8 =>
chk r9 6 (zbind (F_X0_squareAt V a1 (x2 + 1) S8) (fun r12 S11 =>
chk r12 6 (zbind (F_J7_bitCount ((S8.1 30 (r9).toNatClampNeg) ^^^ (S11.1 30 (r12).toNatClampNeg)) S11) (fun r15 S14 =>
chk a1 4 (zbind (F_X4_at V (a1).toNatClampNeg (x2 + 2) S14) (fun r19 S17 =>
if (lg_cmp ((r15).toInt64) r19) = 0 then (rec1 (x2 + 3) S17) else (some (0, S17))))))))))))
def F_X0_isMetSo (V : zSV) (a1 : Int32) (S : zSt) : Option (Int32 × zSt) :=
loopK (fun _ _ => none) (LB_X0_isMetSo_1 a1 V) zfuel 0 S
theorem mv_X0_isMetSo : ZV mX0_isMetSo yX0_isMetSo 1 := ⟨q1206, qs70, q150, q1207, rfl, by decide, by decide, by decide +kernel⟩
theorem ct_X0_isMetSo {G : zGw} (hG : zGC G) {V : zSV} (hV : zGV G V) (a1 : Int32) : Zc mX0_isMetSo yX0_isMetSo zJI G [.ref (G.1 0), .int a1] (F_X0_isMetSo V a1) := by
  refine Zc_of [some (.ref (G.1 0)), some (.int a1), none] (by decide) rfl rfl (Nat.le_of_ble_eq_true rfl) rfl (fun X S res => ?_)
  unfold F_X0_isMetSo
  refine z_iconst (pc := 0) (v := 0) dX0_isMetSo_0 (by decide) ?_
  refine z_istore_n (pc := 1) 2 dX0_isMetSo_1 rfl (Nat.le_of_ble_eq_true rfl) rfl ?_
  refine z_loopK (fun j : Int32 → zSt → Option (Int32 × zSt) => ∀ (x2 : Int32) (S3 : zSt), Zm X mX0_isMetSo zJI G (0, 0) res S3 2 [some (.ref (G.1 0)), some (.int a1), some (.int x2)] [] (j x2 S3)) ?_ ?_ zfuel _ _
  · intro x2 S3; exact z_none
  · intro rec1 hrec1 x2 S3
    unfold LB_X0_isMetSo_1
    refine z_iload_n (pc := 2) 2 dX0_isMetSo_2 rfl rfl ?_
    refine z_aload_n (pc := 3) 0 dX0_isMetSo_3 rfl rfl ?_
    refine gf_X0_C_118_0 hG (pc := 4) dX0_isMetSo_4 ?_
    refine z_iload_n (pc := 7) 1 dX0_isMetSo_7 rfl rfl ?_
    refine z_chk (fun h4 => ?_)
    refine z_aaloadV (pc := 8) hG hV h4 dX0_isMetSo_8 ?_
    refine z_callVi (pc := 9) _ _ (40 + (a1).toNatClampNeg) 4 (ct_X4_size hV (Nat.not_le.mp fun q => h4 (Or.inr q))) mv_X4_size q1124 rfl (hV _ (Nat.not_le.mp fun q => h4 (Or.inr q))).1 rfl (Nat.le_of_ble_eq_true rfl) (Nat.le_of_ble_eq_true rfl) rfl rfl (Nat.le_of_ble_eq_true rfl) dX0_isMetSo_9 (fun r7 S5 => ?_)
    refine z_icmp_ge (pc := 12) 68 dX0_isMetSo_12 rfl ?_ ?_
    · refine z_iconst (pc := 68) (v := 1) dX0_isMetSo_68 (by decide) ?_
      exact z_zret1 rfl dX0_isMetSo_69 rfl
    · refine z_aload_n (pc := 15) 0 dX0_isMetSo_15 rfl rfl ?_
      refine gf_X0_C_94_0 hG (pc := 16) dX0_isMetSo_16 ?_
      refine z_aload_n (pc := 19) 0 dX0_isMetSo_19 rfl rfl ?_
      refine z_iload_n (pc := 20) 1 dX0_isMetSo_20 rfl rfl ?_
      refine z_iload_n (pc := 21) 2 dX0_isMetSo_21 rfl rfl ?_
      refine z_callVi (pc := 22) _ _ 0 0 (ct_X0_squareAt hG hV _ _) mv_X0_squareAt q1136 rfl (zGC_s0 hG) rfl (Nat.le_of_ble_eq_true rfl) (Nat.le_of_ble_eq_true rfl) rfl rfl (Nat.le_of_ble_eq_true rfl) dX0_isMetSo_22 (fun r9 S8 => ?_)
      refine z_chk (fun h10 => ?_)
      refine z_iaload (pc := 25) 30 6 (zGC_s30 hG) h10 dX0_isMetSo_25 ?_
      refine z_aload_n (pc := 26) 0 dX0_isMetSo_26 rfl rfl ?_
      refine gf_X0_C_94_0 hG (pc := 27) dX0_isMetSo_27 ?_
      refine z_aload_n (pc := 30) 0 dX0_isMetSo_30 rfl rfl ?_
      refine z_iload_n (pc := 31) 1 dX0_isMetSo_31 rfl rfl ?_
      refine z_iload_n (pc := 32) 2 dX0_isMetSo_32 rfl rfl ?_
      refine z_iconst (pc := 33) (v := 1) dX0_isMetSo_33 (by decide) ?_
      refine z_iadd (pc := 34) dX0_isMetSo_34 ?_
      refine z_callVi (pc := 35) _ _ 0 0 (ct_X0_squareAt hG hV _ _) mv_X0_squareAt q1136 rfl (zGC_s0 hG) rfl (Nat.le_of_ble_eq_true rfl) (Nat.le_of_ble_eq_true rfl) rfl rfl (Nat.le_of_ble_eq_true rfl) dX0_isMetSo_35 (fun r12 S11 => ?_)
      refine z_chk (fun h13 => ?_)
      refine z_iaload (pc := 38) 30 6 (zGC_s30 hG) h13 dX0_isMetSo_38 ?_
      refine z_ixor (pc := 39) dX0_isMetSo_39 ?_
      refine z_callSi (pc := 40) _ _ (ct_J7_bitCount  _) mv_J7_bitCount q749 rfl (Nat.le_of_ble_eq_true rfl) (Nat.le_of_ble_eq_true rfl) rfl rfl (Nat.le_of_ble_eq_true rfl) dX0_isMetSo_40 (fun r15 S14 => ?_)
      refine z_i2l (pc := 43) dX0_isMetSo_43 ?_
      refine z_aload_n (pc := 44) 0 dX0_isMetSo_44 rfl rfl ?_
      refine gf_X0_C_118_0 hG (pc := 45) dX0_isMetSo_45 ?_
      refine z_iload_n (pc := 48) 1 dX0_isMetSo_48 rfl rfl ?_
      refine z_chk (fun h16 => ?_)
      refine z_aaloadV (pc := 49) hG hV h16 dX0_isMetSo_49 ?_
      refine z_iload_n (pc := 50) 2 dX0_isMetSo_50 rfl rfl ?_
      refine z_iconst (pc := 51) (v := 2) dX0_isMetSo_51 (by decide) ?_
      refine z_iadd (pc := 52) dX0_isMetSo_52 ?_
      refine z_callVl (pc := 53) _ _ (40 + (a1).toNatClampNeg) 4 (ct_X4_at hV (Nat.not_le.mp fun q => h16 (Or.inr q)) _) mv_X4_at q1132 rfl (hV _ (Nat.not_le.mp fun q => h16 (Or.inr q))).1 rfl (Nat.le_of_ble_eq_true rfl) (Nat.le_of_ble_eq_true rfl) rfl rfl (Nat.le_of_ble_eq_true rfl) dX0_isMetSo_53 (fun r19 S17 => ?_)
      refine z_lcmp (pc := 56) dX0_isMetSo_56 ?_
      refine z_if_eq (pc := 57) 62 dX0_isMetSo_57 rfl ?_ ?_
      · refine z_iinc (pc := 62) (w := x2 + 3) dX0_isMetSo_62 rfl (by rw [show Int32.ofInt 3 = 3 from by decide]) (Nat.le_of_ble_eq_true rfl) rfl ?_
        refine z_goto (pc := 65) 2 dX0_isMetSo_65 rfl ?_
        exact hrec1 _ _
      · refine z_iconst (pc := 60) (v := 0) dX0_isMetSo_60 (by decide) ?_
        exact z_zret0 rfl dX0_isMetSo_61 rfl
abbrev mX0_findsPlacings : zMr := ("HiddenCube", cX0_findsPlacings, 6, none, 4, 0, 0, none)
def LB_X0_findsPlacings_1 (k15 : zSt → Option (Unit × zSt)) (rec18 : Int32 → zSt → Option (Unit × zSt)) (x19 : Int32) (S20 : zSt) : Option (Unit × zSt) :=
if (S20.1 1 8) ≤ x19 then (k15 S20) else (joinK (fun (v22 : Int32) => chk x19 6 (zlet (sI S20 31 (x19).toNatClampNeg v22 : zSt) (fun S24 : zSt =>
rec18 (x19 + 1) S24))) (fun j21 : Int32 → Option (Unit × zSt) =>
joinK (chk x19 6 (j21 (S20.1 30 (x19).toNatClampNeg))) (fun j25 : Option (Unit × zSt) =>
if (S20.1 0 29) = 0 then (j25) else (chk x19 6 (chk x19 6 (if (S20.1 31 (x19).toNatClampNeg) = (S20.1 30 (x19).toNatClampNeg) then (j25) else (j21 (-1))))))))
def LB_X0_findsPlacings_2 (k11 : zSt → Option (Unit × zSt)) (rec29 : Int32 → Int32 → zSt → Option (Unit × zSt)) (x30 : Int32) (x31 : Int32) (S32 : zSt) : Option (Unit × zSt) :=
if (S32.1 1 8) ≤ x31 then (k11 S32) else (zbind (F_X1_squares 1 S32) (fun r34 S33 =>
nz r34 (chk x31 6 (zlet (sI S33 30 (x31).toNatClampNeg (x30 - x30 / r34 * r34) : zSt) (fun S36 : zSt =>
zbind (F_X1_squares 1 S36) (fun r38 S37 =>
nz r38 (rec29 (x30 / r38) (x31 + 1) S37)))))))
def LB_X0_findsPlacings_3 (a1 : Int32) (V : zSV) (x6 : Int32) (rec8 : Int32 → zSt → Option (Unit × zSt)) (x9 : Int32) (S10 : zSt) : Option (Unit × zSt) :=
if x6 ≤ x9 then (some ((), S10)) else (joinK (fun  (S12 : zSt) => zbind (F_X0_isMetSo V a1 S12) (fun r14 S13 =>
if r14 = 0 then (rec8 (x9 + 1) S13) else (joinK (fun  (S16 : zSt) => zlet (sI S16 0 29 ((S16.1 0 29) + 1) : zSt) (fun S17 : zSt =>
rec8 (x9 + 1) S17)) (fun k15 : zSt → Option (Unit × zSt) =>
loopK (fun _ _ => none) (LB_X0_findsPlacings_1 k15) zfuel 0 S13)))) (fun k11 : zSt → Option (Unit × zSt) =>
loopK (fun _ _ _ => none) (LB_X0_findsPlacings_2 k11) zfuel x9 1 S10))
def LB_X0_findsPlacings_4 (k5 : Int32 → zSt → Option (Unit × zSt)) (rec39 : Int32 → Int32 → zSt → Option (Unit × zSt)) (x40 : Int32) (x41 : Int32) (S42 : zSt) : Option (Unit × zSt) :=
if (S42.1 1 8) ≤ x41 then (k5 x40 S42) else (zbind (F_X1_squares 1 S42) (fun r44 S43 =>
rec39 (x40 * r44) (x41 + 1) S43))
def F_X0_findsPlacings (V : zSV) (a1 : Int32) (S : zSt) : Option (Unit × zSt) :=
zlet (sI S 0 29 0 : zSt) (fun S1 : zSt =>
chk 0 6 (chk 0 6 (zlet (sI S1 30 (0 : Int32).toNatClampNeg (S1.1 4 (0 : Int32).toNatClampNeg) : zSt) (fun S4 : zSt =>
joinK (fun (x6 : Int32) (S7 : zSt) => loopK (fun _ _ => none) (LB_X0_findsPlacings_3 a1 V x6) zfuel 0 S7) (fun k5 : Int32 → zSt → Option (Unit × zSt) =>
loopK (fun _ _ _ => none) (LB_X0_findsPlacings_4 k5) zfuel 1 1 S4)))))
theorem mv_X0_findsPlacings : ZV mX0_findsPlacings yX0_findsPlacings 1 := ⟨q1202, qs69, q150, q1203, rfl, by decide, by decide, by decide +kernel⟩
theorem ct_X0_findsPlacings {G : zGw} (hG : zGC G) {V : zSV} (hV : zGV G V) (a1 : Int32) : Zc mX0_findsPlacings yX0_findsPlacings zJV G [.ref (G.1 0), .int a1] (F_X0_findsPlacings V a1) := by
  refine Zc_of [some (.ref (G.1 0)), some (.int a1), none, none, none, none] (by decide) rfl rfl (Nat.le_of_ble_eq_true rfl) rfl (fun X S res => ?_)
  unfold F_X0_findsPlacings
  refine z_aload_n (pc := 0) 0 dX0_findsPlacings_0 rfl rfl ?_
  refine z_iconst (pc := 1) (v := 0) dX0_findsPlacings_1 (by decide) ?_
  refine pf_X0_C_428_0 hG (pc := 2) dX0_findsPlacings_2 ?_
  refine z_letS (fun S1 => ?_)
  refine z_aload_n (pc := 5) 0 dX0_findsPlacings_5 rfl rfl ?_
  refine gf_X0_C_94_0 hG (pc := 6) dX0_findsPlacings_6 ?_
  refine z_iconst (pc := 9) (v := 0) dX0_findsPlacings_9 (by decide) ?_
  refine z_aload_n (pc := 10) 0 dX0_findsPlacings_10 rfl rfl ?_
  refine gf_X0_C_10_0 hG (pc := 11) dX0_findsPlacings_11 ?_
  refine gf_X0_C_425_1 hG (pc := 14) dX0_findsPlacings_14 ?_
  refine z_iconst (pc := 17) (v := 0) dX0_findsPlacings_17 (by decide) ?_
  refine z_chk (fun h2 => ?_)
  refine z_iaload (pc := 18) 4 6 (zGC_s4 hG) h2 dX0_findsPlacings_18 ?_
  refine z_chk (fun h3 => ?_)
  refine z_iastore (pc := 19) 30 6 (zGC_s30 hG) h3 dX0_findsPlacings_19 ?_
  refine z_letS (fun S4 => ?_)
  refine z_iconst (pc := 20) (v := 1) dX0_findsPlacings_20 (by decide) ?_
  refine z_istore_n (pc := 21) 2 dX0_findsPlacings_21 rfl (Nat.le_of_ble_eq_true rfl) rfl ?_
  refine z_iconst (pc := 22) (v := 1) dX0_findsPlacings_22 (by decide) ?_
  refine z_istore_n (pc := 23) 3 dX0_findsPlacings_23 rfl (Nat.le_of_ble_eq_true rfl) rfl ?_
  refine z_join (fun j : Int32 → zSt → Option (Unit × zSt) => ∀ (x6 : Int32) (S7 : zSt), Zm X mX0_findsPlacings zJV G (0, 0) res S7 51 [some (.ref (G.1 0)), some (.int a1), some (.int x6), none, none, none] [] (j x6 S7)) ?_ (fun k5 hk5 => ?_)
  · intro x6 S7
    refine z_iconst (pc := 51) (v := 0) dX0_findsPlacings_51 (by decide) ?_
    refine z_istore_n (pc := 52) 3 dX0_findsPlacings_52 rfl (Nat.le_of_ble_eq_true rfl) rfl ?_
    refine z_loopK (fun j : Int32 → zSt → Option (Unit × zSt) => ∀ (x9 : Int32) (S10 : zSt), Zm X mX0_findsPlacings zJV G (0, 0) res S10 53 [some (.ref (G.1 0)), some (.int a1), some (.int x6), some (.int x9), none, none] [] (j x9 S10)) ?_ ?_ zfuel _ _
    · intro x9 S10; exact z_none
    · intro rec8 hrec8 x9 S10
      unfold LB_X0_findsPlacings_3
      refine z_iload_n (pc := 53) 3 dX0_findsPlacings_53 rfl rfl ?_
      refine z_iload_n (pc := 54) 2 dX0_findsPlacings_54 rfl rfl ?_
      refine z_icmp_ge (pc := 55) 201 dX0_findsPlacings_55 rfl ?_ ?_
      · exact z_vret rfl dX0_findsPlacings_201 rfl
      · refine z_iload_n (pc := 58) 3 dX0_findsPlacings_58 rfl rfl ?_
        refine z_istore (pc := 59) dX0_findsPlacings_59 (Nat.le_of_ble_eq_true rfl) rfl ?_
        refine z_iconst (pc := 61) (v := 1) dX0_findsPlacings_61 (by decide) ?_
        refine z_istore (pc := 62) dX0_findsPlacings_62 (Nat.le_of_ble_eq_true rfl) rfl ?_
        refine z_join (fun j : zSt → Option (Unit × zSt) => ∀  (S12 : zSt), Zm X mX0_findsPlacings zJV G (0, 0) res S12 111 [some (.ref (G.1 0)), some (.int a1), some (.int x6), some (.int x9), none, none] [] (j S12)) ?_ (fun k11 hk11 => ?_)
        · intro S12
          refine z_aload_n (pc := 111) 0 dX0_findsPlacings_111 rfl rfl ?_
          refine z_iload_n (pc := 112) 1 dX0_findsPlacings_112 rfl rfl ?_
          refine z_callVi (pc := 113) _ _ 0 0 (ct_X0_isMetSo hG hV _) mv_X0_isMetSo q1204 rfl (zGC_s0 hG) rfl (Nat.le_of_ble_eq_true rfl) (Nat.le_of_ble_eq_true rfl) rfl rfl (Nat.le_of_ble_eq_true rfl) dX0_findsPlacings_113 (fun r14 S13 => ?_)
          refine z_if_ne (pc := 116) 122 dX0_findsPlacings_116 rfl ?_ ?_
          · refine z_iconst (pc := 122) (v := 0) dX0_findsPlacings_122 (by decide) ?_
            refine z_istore (pc := 123) dX0_findsPlacings_123 (Nat.le_of_ble_eq_true rfl) rfl ?_
            refine z_join (fun j : zSt → Option (Unit × zSt) => ∀  (S16 : zSt), Zm X mX0_findsPlacings zJV G (0, 0) res S16 185 [some (.ref (G.1 0)), some (.int a1), some (.int x6), some (.int x9), none, none] [] (j S16)) ?_ (fun k15 hk15 => ?_)
            · intro S16
              refine z_aload_n (pc := 185) 0 dX0_findsPlacings_185 rfl rfl ?_
              refine z_dup (pc := 186) dX0_findsPlacings_186 rfl ?_
              refine gf_X0_C_428_0 hG (pc := 187) dX0_findsPlacings_187 ?_
              refine z_iconst (pc := 190) (v := 1) dX0_findsPlacings_190 (by decide) ?_
              refine z_iadd (pc := 191) dX0_findsPlacings_191 ?_
              refine pf_X0_C_428_0 hG (pc := 192) dX0_findsPlacings_192 ?_
              refine z_letS (fun S17 => ?_)
              refine z_iinc (pc := 195) (w := x9 + 1) dX0_findsPlacings_195 rfl (by rw [show Int32.ofInt 1 = 1 from by decide]) (Nat.le_of_ble_eq_true rfl) rfl ?_
              refine z_goto (pc := 198) 53 dX0_findsPlacings_198 rfl ?_
              exact hrec8 _ _
            · refine z_loopK (fun j : Int32 → zSt → Option (Unit × zSt) => ∀ (x19 : Int32) (S20 : zSt), Zm X mX0_findsPlacings zJV G (0, 0) res S20 125 [some (.ref (G.1 0)), some (.int a1), some (.int x6), some (.int x9), none, some (.int x19)] [] (j x19 S20)) ?_ ?_ zfuel _ _
              · intro x19 S20; exact z_none
              · intro rec18 hrec18 x19 S20
                unfold LB_X0_findsPlacings_1
                refine z_iload (pc := 125) dX0_findsPlacings_125 rfl ?_
                refine z_aload_n (pc := 127) 0 dX0_findsPlacings_127 rfl rfl ?_
                refine gf_X0_C_10_0 hG (pc := 128) dX0_findsPlacings_128 ?_
                refine gf_X0_C_419_1 hG (pc := 131) dX0_findsPlacings_131 ?_
                refine z_icmp_ge (pc := 134) 185 dX0_findsPlacings_134 rfl ?_ ?_
                · exact z_mask [true, true, true, true, false, false] (hk15 _) rfl
                · refine z_aload_n (pc := 137) 0 dX0_findsPlacings_137 rfl rfl ?_
                  refine gf_X0_C_97_0 hG (pc := 138) dX0_findsPlacings_138 ?_
                  refine z_iload (pc := 141) dX0_findsPlacings_141 rfl ?_
                  refine z_aload_n (pc := 143) 0 dX0_findsPlacings_143 rfl rfl ?_
                  refine gf_X0_C_428_0 hG (pc := 144) dX0_findsPlacings_144 ?_
                  refine z_join (fun j : Int32 → Option (Unit × zSt) => ∀ (v22 : Int32), Zm X mX0_findsPlacings zJV G (0, 0) res S20 178 [some (.ref (G.1 0)), some (.int a1), some (.int x6), some (.int x9), none, some (.int x19)] [.int v22, .int x19, .ref (G.1 31)] (j v22)) ?_ (fun j21 hj21 => ?_)
                  · intro v22
                    refine z_chk (fun h23 => ?_)
                    refine z_iastore (pc := 178) 31 6 (zGC_s31 hG) h23 dX0_findsPlacings_178 ?_
                    refine z_letS (fun S24 => ?_)
                    refine z_iinc (pc := 179) (w := x19 + 1) dX0_findsPlacings_179 rfl (by rw [show Int32.ofInt 1 = 1 from by decide]) (Nat.le_of_ble_eq_true rfl) rfl ?_
                    refine z_goto (pc := 182) 125 dX0_findsPlacings_182 rfl ?_
                    exact hrec18 _ _
                  · refine z_join (fun j : Option (Unit × zSt) =>  Zm X mX0_findsPlacings zJV G (0, 0) res S20 167 [some (.ref (G.1 0)), some (.int a1), some (.int x6), some (.int x9), none, some (.int x19)] [.int x19, .ref (G.1 31)] (j)) ?_ (fun j25 hj25 => ?_)
                    · show _
                      refine z_aload_n (pc := 167) 0 dX0_findsPlacings_167 rfl rfl ?_
                      refine gf_X0_C_94_0 hG (pc := 168) dX0_findsPlacings_168 ?_
                      refine z_iload (pc := 171) dX0_findsPlacings_171 rfl ?_
                      refine z_chk (fun h26 => ?_)
                      refine z_iaload (pc := 173) 30 6 (zGC_s30 hG) h26 dX0_findsPlacings_173 ?_
                      refine z_goto (pc := 174) 178 dX0_findsPlacings_174 rfl ?_
                      exact hj21 _
                    · refine z_if_eq (pc := 147) 167 dX0_findsPlacings_147 rfl ?_ ?_
                      · exact hj25 
                      · refine z_aload_n (pc := 150) 0 dX0_findsPlacings_150 rfl rfl ?_
                        refine gf_X0_C_97_0 hG (pc := 151) dX0_findsPlacings_151 ?_
                        refine z_iload (pc := 154) dX0_findsPlacings_154 rfl ?_
                        refine z_chk (fun h27 => ?_)
                        refine z_iaload (pc := 156) 31 6 (zGC_s31 hG) h27 dX0_findsPlacings_156 ?_
                        refine z_aload_n (pc := 157) 0 dX0_findsPlacings_157 rfl rfl ?_
                        refine gf_X0_C_94_0 hG (pc := 158) dX0_findsPlacings_158 ?_
                        refine z_iload (pc := 161) dX0_findsPlacings_161 rfl ?_
                        refine z_chk (fun h28 => ?_)
                        refine z_iaload (pc := 163) 30 6 (zGC_s30 hG) h28 dX0_findsPlacings_163 ?_
                        refine z_icmp_ne (pc := 164) 177 dX0_findsPlacings_164 rfl ?_ ?_
                        · refine z_iconst (pc := 177) (v := (-1)) dX0_findsPlacings_177 (by decide) ?_
                          exact hj21 _
                        · exact hj25 
          · refine z_goto (pc := 119) 195 dX0_findsPlacings_119 rfl ?_
            refine z_iinc (pc := 195) (w := x9 + 1) dX0_findsPlacings_195 rfl (by rw [show Int32.ofInt 1 = 1 from by decide]) (Nat.le_of_ble_eq_true rfl) rfl ?_
            refine z_goto (pc := 198) 53 dX0_findsPlacings_198 rfl ?_
            exact hrec8 _ _
        · refine z_loopK (fun j : Int32 → Int32 → zSt → Option (Unit × zSt) => ∀ (x30 : Int32) (x31 : Int32) (S32 : zSt), Zm X mX0_findsPlacings zJV G (0, 0) res S32 64 [some (.ref (G.1 0)), some (.int a1), some (.int x6), some (.int x9), some (.int x30), some (.int x31)] [] (j x30 x31 S32)) ?_ ?_ zfuel _ _ _
          · intro x30 x31 S32; exact z_none
          · intro rec29 hrec29 x30 x31 S32
            unfold LB_X0_findsPlacings_2
            refine z_iload (pc := 64) dX0_findsPlacings_64 rfl ?_
            refine z_aload_n (pc := 66) 0 dX0_findsPlacings_66 rfl rfl ?_
            refine gf_X0_C_10_0 hG (pc := 67) dX0_findsPlacings_67 ?_
            refine gf_X0_C_419_1 hG (pc := 70) dX0_findsPlacings_70 ?_
            refine z_icmp_ge (pc := 73) 111 dX0_findsPlacings_73 rfl ?_ ?_
            · exact z_mask [true, true, true, true, false, false] (hk11 _) rfl
            · refine z_aload_n (pc := 76) 0 dX0_findsPlacings_76 rfl rfl ?_
              refine gf_X0_C_94_0 hG (pc := 77) dX0_findsPlacings_77 ?_
              refine z_iload (pc := 80) dX0_findsPlacings_80 rfl ?_
              refine z_iload (pc := 82) dX0_findsPlacings_82 rfl ?_
              refine z_aload_n (pc := 84) 0 dX0_findsPlacings_84 rfl rfl ?_
              refine gf_X0_C_10_0 hG (pc := 85) dX0_findsPlacings_85 ?_
              refine z_callVi (pc := 88) _ _ 1 1 (ct_X1_squares (zGC_T hG)) mv_X1_squares q727 rfl (zGC_s1 hG) rfl (Nat.le_of_ble_eq_true rfl) (Nat.le_of_ble_eq_true rfl) rfl rfl (Nat.le_of_ble_eq_true rfl) dX0_findsPlacings_88 (fun r34 S33 => ?_)
              refine z_irem (pc := 91) dX0_findsPlacings_91 ?_
              refine z_chk (fun h35 => ?_)
              refine z_iastore (pc := 92) 30 6 (zGC_s30 hG) h35 dX0_findsPlacings_92 ?_
              refine z_letS (fun S36 => ?_)
              refine z_iload (pc := 93) dX0_findsPlacings_93 rfl ?_
              refine z_aload_n (pc := 95) 0 dX0_findsPlacings_95 rfl rfl ?_
              refine gf_X0_C_10_0 hG (pc := 96) dX0_findsPlacings_96 ?_
              refine z_callVi (pc := 99) _ _ 1 1 (ct_X1_squares (zGC_T hG)) mv_X1_squares q727 rfl (zGC_s1 hG) rfl (Nat.le_of_ble_eq_true rfl) (Nat.le_of_ble_eq_true rfl) rfl rfl (Nat.le_of_ble_eq_true rfl) dX0_findsPlacings_99 (fun r38 S37 => ?_)
              refine z_idiv (pc := 102) dX0_findsPlacings_102 ?_
              refine z_istore (pc := 103) dX0_findsPlacings_103 (Nat.le_of_ble_eq_true rfl) rfl ?_
              refine z_iinc (pc := 105) (w := x31 + 1) dX0_findsPlacings_105 rfl (by rw [show Int32.ofInt 1 = 1 from by decide]) (Nat.le_of_ble_eq_true rfl) rfl ?_
              refine z_goto (pc := 108) 64 dX0_findsPlacings_108 rfl ?_
              exact hrec29 _ _ _
  · refine z_loopK (fun j : Int32 → Int32 → zSt → Option (Unit × zSt) => ∀ (x40 : Int32) (x41 : Int32) (S42 : zSt), Zm X mX0_findsPlacings zJV G (0, 0) res S42 24 [some (.ref (G.1 0)), some (.int a1), some (.int x40), some (.int x41), none, none] [] (j x40 x41 S42)) ?_ ?_ zfuel _ _ _
    · intro x40 x41 S42; exact z_none
    · intro rec39 hrec39 x40 x41 S42
      unfold LB_X0_findsPlacings_4
      refine z_iload_n (pc := 24) 3 dX0_findsPlacings_24 rfl rfl ?_
      refine z_aload_n (pc := 25) 0 dX0_findsPlacings_25 rfl rfl ?_
      refine gf_X0_C_10_0 hG (pc := 26) dX0_findsPlacings_26 ?_
      refine gf_X0_C_419_1 hG (pc := 29) dX0_findsPlacings_29 ?_
      refine z_icmp_ge (pc := 32) 51 dX0_findsPlacings_32 rfl ?_ ?_
      · exact z_mask [true, true, true, false, false, false] (hk5 _ _) rfl
      · refine z_iload_n (pc := 35) 2 dX0_findsPlacings_35 rfl rfl ?_
        refine z_aload_n (pc := 36) 0 dX0_findsPlacings_36 rfl rfl ?_
        refine gf_X0_C_10_0 hG (pc := 37) dX0_findsPlacings_37 ?_
        refine z_callVi (pc := 40) _ _ 1 1 (ct_X1_squares (zGC_T hG)) mv_X1_squares q727 rfl (zGC_s1 hG) rfl (Nat.le_of_ble_eq_true rfl) (Nat.le_of_ble_eq_true rfl) rfl rfl (Nat.le_of_ble_eq_true rfl) dX0_findsPlacings_40 (fun r44 S43 => ?_)
        refine z_imul (pc := 43) dX0_findsPlacings_43 ?_
        refine z_istore_n (pc := 44) 2 dX0_findsPlacings_44 rfl (Nat.le_of_ble_eq_true rfl) rfl ?_
        refine z_iinc (pc := 45) (w := x41 + 1) dX0_findsPlacings_45 rfl (by rw [show Int32.ofInt 1 = 1 from by decide]) (Nat.le_of_ble_eq_true rfl) rfl ?_
        refine z_goto (pc := 48) 24 dX0_findsPlacings_48 rfl ?_
        exact hrec39 _ _ _
abbrev mX0_met : zMr := ("HiddenCube", cX0_met, 3, (some .int), 172, 1, 8, none)
def F_X0_met (V : zSV) (a1 : Int32) (S : zSt) : Option (Int32 × zSt) :=
zbind (F_X0_asksMet V a1 1 S) (fun r2 S1 =>
if 0 ≤ r2 then (zbind (F_X0_findsPlacings V a1 S1) (fun _ S3 =>
some (S3.1 0 29, S3))) else (some (r2, S1)))
theorem mv_X0_met : ZV mX0_met yX0_met 1 := ⟨q1193, q1194, q150, q1195, rfl, by decide, by decide, by decide +kernel⟩
theorem ct_X0_met {G : zGw} (hG : zGC G) {V : zSV} (hV : zGV G V) (a1 : Int32) : Zc mX0_met yX0_met zJI G [.ref (G.1 0), .int a1] (F_X0_met V a1) := by
  refine Zc_of [some (.ref (G.1 0)), some (.int a1), none] (by decide) rfl rfl (Nat.le_of_ble_eq_true rfl) rfl (fun X S res => ?_)
  unfold F_X0_met
  refine z_aload_n (pc := 0) 0 dX0_met_0 rfl rfl ?_
  refine z_iload_n (pc := 1) 1 dX0_met_1 rfl rfl ?_
  refine z_iconst (pc := 2) (v := 1) dX0_met_2 (by decide) ?_
  refine z_callVWi (pc := 3) (1, 8) _ _ 0 0 (ct_X0_asksMet hG hV _ _) mv_X0_asksMet q1196 rfl (zGC_s0 hG) rfl (Nat.le_of_ble_eq_true rfl) (Nat.le_of_ble_eq_true rfl) ⟨_, rfl⟩ rfl rfl (Nat.le_of_ble_eq_true rfl) dX0_met_3 (fun r2 S1 => ?_)
  refine z_istore_n (pc := 6) 2 dX0_met_6 rfl (Nat.le_of_ble_eq_true rfl) rfl ?_
  refine z_iload_n (pc := 7) 2 dX0_met_7 rfl rfl ?_
  refine z_if_ge (pc := 8) 13 dX0_met_8 rfl ?_ ?_
  · refine z_aload_n (pc := 13) 0 dX0_met_13 rfl rfl ?_
    refine z_iload_n (pc := 14) 1 dX0_met_14 rfl rfl ?_
    refine z_callVv (pc := 15) _ _ 0 0 (ct_X0_findsPlacings hG hV _) mv_X0_findsPlacings q1200 rfl (zGC_s0 hG) rfl (Nat.le_of_ble_eq_true rfl) (Nat.le_of_ble_eq_true rfl) rfl rfl (Nat.le_of_ble_eq_true rfl) dX0_met_15 (fun _ S3 => ?_)
    refine z_aload_n (pc := 18) 0 dX0_met_18 rfl rfl ?_
    refine gf_X0_C_428_0 hG (pc := 19) dX0_met_19 ?_
    exact z_iret rfl dX0_met_22 rfl
  · refine z_iload_n (pc := 11) 2 dX0_met_11 rfl rfl ?_
    exact z_iret rfl dX0_met_12 rfl
abbrev mX0_sure : zMr := ("HiddenCube", cX0_sure, 4, (some .int), 172, 1, 8, none)
def F_X0_sure (V : zSV) (a1 : Int32) (a2 : Int32) (S : zSt) : Option (Int32 × zSt) :=
zbind (F_X0_isPerson ((a2).toInt64) S) (fun r2 S1 =>
zbind (F_X0_asksMet V a1 r2 S1) (fun r4 S3 =>
if 0 ≤ r4 then (zbind (F_X0_findsPlacings V a1 S3) (fun _ S5 =>
if (S5.1 0 29) = 0 then (some ((-1), S5)) else (chk a2 6 (some (S5.1 31 (a2).toNatClampNeg, S5))))) else (some (r4, S3))))
theorem mv_X0_sure : ZV mX0_sure yX0_sure 2 := ⟨q1209, q1210, q150, q1211, rfl, by decide, by decide, by decide +kernel⟩
theorem ct_X0_sure {G : zGw} (hG : zGC G) {V : zSV} (hV : zGV G V) (a1 : Int32) (a2 : Int32) : Zc mX0_sure yX0_sure zJI G [.ref (G.1 0), .int a1, .int a2] (F_X0_sure V a1 a2) := by
  refine Zc_of [some (.ref (G.1 0)), some (.int a1), some (.int a2), none] (by decide) rfl rfl (Nat.le_of_ble_eq_true rfl) rfl (fun X S res => ?_)
  unfold F_X0_sure
  refine z_aload_n (pc := 0) 0 dX0_sure_0 rfl rfl ?_
  refine z_iload_n (pc := 1) 1 dX0_sure_1 rfl rfl ?_
  refine z_aload_n (pc := 2) 0 dX0_sure_2 rfl rfl ?_
  refine z_iload_n (pc := 3) 2 dX0_sure_3 rfl rfl ?_
  refine z_i2l (pc := 4) dX0_sure_4 ?_
  refine z_callVi (pc := 5) _ _ 0 0 (ct_X0_isPerson hG _) mv_X0_isPerson q1184 rfl (zGC_s0 hG) rfl (Nat.le_of_ble_eq_true rfl) (Nat.le_of_ble_eq_true rfl) rfl rfl (Nat.le_of_ble_eq_true rfl) dX0_sure_5 (fun r2 S1 => ?_)
  refine z_callVWi (pc := 8) (1, 8) _ _ 0 0 (ct_X0_asksMet hG hV _ _) mv_X0_asksMet q1196 rfl (zGC_s0 hG) rfl (Nat.le_of_ble_eq_true rfl) (Nat.le_of_ble_eq_true rfl) ⟨_, rfl⟩ rfl rfl (Nat.le_of_ble_eq_true rfl) dX0_sure_8 (fun r4 S3 => ?_)
  refine z_istore_n (pc := 11) 3 dX0_sure_11 rfl (Nat.le_of_ble_eq_true rfl) rfl ?_
  refine z_iload_n (pc := 12) 3 dX0_sure_12 rfl rfl ?_
  refine z_if_ge (pc := 13) 18 dX0_sure_13 rfl ?_ ?_
  · refine z_aload_n (pc := 18) 0 dX0_sure_18 rfl rfl ?_
    refine z_iload_n (pc := 19) 1 dX0_sure_19 rfl rfl ?_
    refine z_callVv (pc := 20) _ _ 0 0 (ct_X0_findsPlacings hG hV _) mv_X0_findsPlacings q1200 rfl (zGC_s0 hG) rfl (Nat.le_of_ble_eq_true rfl) (Nat.le_of_ble_eq_true rfl) rfl rfl (Nat.le_of_ble_eq_true rfl) dX0_sure_20 (fun _ S5 => ?_)
    refine z_aload_n (pc := 23) 0 dX0_sure_23 rfl rfl ?_
    refine gf_X0_C_428_0 hG (pc := 24) dX0_sure_24 ?_
    refine z_if_ne (pc := 27) 34 dX0_sure_27 rfl ?_ ?_
    · refine z_aload_n (pc := 34) 0 dX0_sure_34 rfl rfl ?_
      refine gf_X0_C_97_0 hG (pc := 35) dX0_sure_35 ?_
      refine z_iload_n (pc := 38) 2 dX0_sure_38 rfl rfl ?_
      refine z_chk (fun h6 => ?_)
      refine z_iaload (pc := 39) 31 6 (zGC_s31 hG) h6 dX0_sure_39 ?_
      exact z_iret rfl dX0_sure_40 rfl
    · refine z_iconst (pc := 30) (v := (-1)) dX0_sure_30 (by decide) ?_
      refine z_goto (pc := 31) 40 dX0_sure_31 rfl ?_
      exact z_iret rfl dX0_sure_40 rfl
  · refine z_iload_n (pc := 16) 3 dX0_sure_16 rfl rfl ?_
    exact z_iret rfl dX0_sure_17 rfl
abbrev mX0_isCarrier : zMr := ("HiddenCube", cX0_isCarrier, 2, (some .boolean), 2, 0, 0, none)
def F_X0_isCarrier (a1 : Int32) (S : zSt) : Option (Int32 × zSt) :=
zbind (F_X0_isIn ((a1).toInt64) 0 (((S.1 1 9) - 1).toInt64) S) (fun r2 S1 =>
some (r2 &&& 1, S1))
theorem mv_X0_isCarrier : ZV mX0_isCarrier yX0_isCarrier 1 := ⟨q1218, qs71, q150, q1219, rfl, by decide, by decide, by decide +kernel⟩
theorem ct_X0_isCarrier {G : zGw} (hG : zGC G) (a1 : Int32) : Zc mX0_isCarrier yX0_isCarrier zJI G [.ref (G.1 0), .int a1] (F_X0_isCarrier a1) := by
  refine Zc_of [some (.ref (G.1 0)), some (.int a1)] (by decide) rfl rfl (Nat.le_of_ble_eq_true rfl) rfl (fun X S res => ?_)
  unfold F_X0_isCarrier
  refine z_iload_n (pc := 0) 1 dX0_isCarrier_0 rfl rfl ?_
  refine z_i2l (pc := 1) dX0_isCarrier_1 ?_
  refine z_lconst (pc := 2) (v := 0) dX0_isCarrier_2 (by decide) ?_
  refine z_aload_n (pc := 3) 0 dX0_isCarrier_3 rfl rfl ?_
  refine gf_X0_C_10_0 hG (pc := 4) dX0_isCarrier_4 ?_
  refine gf_X0_C_453_1 hG (pc := 7) dX0_isCarrier_7 ?_
  refine z_iconst (pc := 10) (v := 1) dX0_isCarrier_10 (by decide) ?_
  refine z_isub (pc := 11) dX0_isCarrier_11 ?_
  refine z_i2l (pc := 12) dX0_isCarrier_12 ?_
  refine z_callSi (pc := 13) _ _ (ct_X0_isIn  _ _ _) mv_X0_isIn q429 rfl (Nat.le_of_ble_eq_true rfl) (Nat.le_of_ble_eq_true rfl) rfl rfl (Nat.le_of_ble_eq_true rfl) dX0_isCarrier_13 (fun r2 S1 => ?_)
  exact z_zret rfl rfl dX0_isCarrier_16 rfl
abbrev mX0_isTaken : zMr := ("HiddenCube", cX0_isTaken, 5, (some .boolean), 1, 0, 0, none)
def LB_X0_isTaken_1 (a1 : Int32) (a2 : Int32) (a3 : Int32) (S : zSt) (rec1 : Int32 → Option (Int32 × zSt)) (x2 : Int32) : Option (Int32 × zSt) :=
if a1 ≤ x2 then (some (0, S)) else (chk x2 6 (joinK (chk x2 6 (if (S.1 33 (x2).toNatClampNeg) = a3 then (chk x2 6 (if (S.1 34 (x2).toNatClampNeg) = a2 then (some (1, S)) else (rec1 (x2 + 1)))) else (rec1 (x2 + 1)))) (fun j4 : Option (Int32 × zSt) =>
if (S.1 33 (x2).toNatClampNeg) = a2 then (chk x2 6 (if (S.1 34 (x2).toNatClampNeg) = a3 then (some (1, S)) else (j4))) else (j4))))
def F_X0_isTaken (a1 : Int32) (a2 : Int32) (a3 : Int32) (S : zSt) : Option (Int32 × zSt) :=
loopK (fun _ => none) (LB_X0_isTaken_1 a1 a2 a3 S) zfuel 0
theorem mv_X0_isTaken : ZV mX0_isTaken yX0_isTaken 3 := ⟨q1230, qs74, q150, q1231, rfl, by decide, by decide, by decide +kernel⟩
theorem ct_X0_isTaken {G : zGw} (hG : zGC G) (a1 : Int32) (a2 : Int32) (a3 : Int32) : Zc mX0_isTaken yX0_isTaken zJI G [.ref (G.1 0), .int a1, .int a2, .int a3] (F_X0_isTaken a1 a2 a3) := by
  refine Zc_of [some (.ref (G.1 0)), some (.int a1), some (.int a2), some (.int a3), none] (by decide) rfl rfl (Nat.le_of_ble_eq_true rfl) rfl (fun X S res => ?_)
  unfold F_X0_isTaken
  refine z_iconst (pc := 0) (v := 0) dX0_isTaken_0 (by decide) ?_
  refine z_istore (pc := 1) dX0_isTaken_1 (Nat.le_of_ble_eq_true rfl) rfl ?_
  refine z_loopK (fun j : Int32 → Option (Int32 × zSt) => ∀ (x2 : Int32), Zm X mX0_isTaken zJI G (0, 0) res S 3 [some (.ref (G.1 0)), some (.int a1), some (.int a2), some (.int a3), some (.int x2)] [] (j x2)) ?_ ?_ zfuel _
  · intro x2; exact z_none
  · intro rec1 hrec1 x2
    unfold LB_X0_isTaken_1
    refine z_iload (pc := 3) dX0_isTaken_3 rfl ?_
    refine z_iload_n (pc := 5) 1 dX0_isTaken_5 rfl rfl ?_
    refine z_icmp_ge (pc := 6) 61 dX0_isTaken_6 rfl ?_ ?_
    · refine z_iconst (pc := 61) (v := 0) dX0_isTaken_61 (by decide) ?_
      exact z_zret0 rfl dX0_isTaken_62 rfl
    · refine z_aload_n (pc := 9) 0 dX0_isTaken_9 rfl rfl ?_
      refine gf_X0_C_103_0 hG (pc := 10) dX0_isTaken_10 ?_
      refine z_iload (pc := 13) dX0_isTaken_13 rfl ?_
      refine z_chk (fun h3 => ?_)
      refine z_iaload (pc := 15) 33 6 (zGC_s33 hG) h3 dX0_isTaken_15 ?_
      refine z_iload_n (pc := 16) 2 dX0_isTaken_16 rfl rfl ?_
      refine z_join (fun j : Option (Int32 × zSt) =>  Zm X mX0_isTaken zJI G (0, 0) res S 31 [some (.ref (G.1 0)), some (.int a1), some (.int a2), some (.int a3), some (.int x2)] [] (j)) ?_ (fun j4 hj4 => ?_)
      · show _
        refine z_aload_n (pc := 31) 0 dX0_isTaken_31 rfl rfl ?_
        refine gf_X0_C_103_0 hG (pc := 32) dX0_isTaken_32 ?_
        refine z_iload (pc := 35) dX0_isTaken_35 rfl ?_
        refine z_chk (fun h5 => ?_)
        refine z_iaload (pc := 37) 33 6 (zGC_s33 hG) h5 dX0_isTaken_37 ?_
        refine z_iload_n (pc := 38) 3 dX0_isTaken_38 rfl rfl ?_
        refine z_icmp_ne (pc := 39) 55 dX0_isTaken_39 rfl ?_ ?_
        · refine z_iinc (pc := 55) (w := x2 + 1) dX0_isTaken_55 rfl (by rw [show Int32.ofInt 1 = 1 from by decide]) (Nat.le_of_ble_eq_true rfl) rfl ?_
          refine z_goto (pc := 58) 3 dX0_isTaken_58 rfl ?_
          exact hrec1 _
        · refine z_aload_n (pc := 42) 0 dX0_isTaken_42 rfl rfl ?_
          refine gf_X0_C_106_0 hG (pc := 43) dX0_isTaken_43 ?_
          refine z_iload (pc := 46) dX0_isTaken_46 rfl ?_
          refine z_chk (fun h6 => ?_)
          refine z_iaload (pc := 48) 34 6 (zGC_s34 hG) h6 dX0_isTaken_48 ?_
          refine z_iload_n (pc := 49) 2 dX0_isTaken_49 rfl rfl ?_
          refine z_icmp_ne (pc := 50) 55 dX0_isTaken_50 rfl ?_ ?_
          · refine z_iinc (pc := 55) (w := x2 + 1) dX0_isTaken_55 rfl (by rw [show Int32.ofInt 1 = 1 from by decide]) (Nat.le_of_ble_eq_true rfl) rfl ?_
            refine z_goto (pc := 58) 3 dX0_isTaken_58 rfl ?_
            exact hrec1 _
          · refine z_iconst (pc := 53) (v := 1) dX0_isTaken_53 (by decide) ?_
            exact z_zret1 rfl dX0_isTaken_54 rfl
      · refine z_icmp_ne (pc := 17) 31 dX0_isTaken_17 rfl ?_ ?_
        · exact hj4 
        · refine z_aload_n (pc := 20) 0 dX0_isTaken_20 rfl rfl ?_
          refine gf_X0_C_106_0 hG (pc := 21) dX0_isTaken_21 ?_
          refine z_iload (pc := 24) dX0_isTaken_24 rfl ?_
          refine z_chk (fun h7 => ?_)
          refine z_iaload (pc := 26) 34 6 (zGC_s34 hG) h7 dX0_isTaken_26 ?_
          refine z_iload_n (pc := 27) 3 dX0_isTaken_27 rfl rfl ?_
          refine z_icmp_eq (pc := 28) 53 dX0_isTaken_28 rfl ?_ ?_
          · refine z_iconst (pc := 53) (v := 1) dX0_isTaken_53 (by decide) ?_
            exact z_zret1 rfl dX0_isTaken_54 rfl
          · exact hj4 
abbrev mX0_stepsOn : zMr := ("HiddenCube", cX0_stepsOn, 5, none, 5, 0, 0, none)
def F_X0_stepsOn (a1 : Int32) (a2 : Int32) (a3 : Int32) (S : zSt) : Option (Unit × zSt) :=
chk a1 6 (zlet (sI S 33 (a1).toNatClampNeg (-1) : zSt) (fun S2 : zSt =>
chk a1 6 (zlet (sI S2 34 (a1).toNatClampNeg (-1) : zSt) (fun S4 : zSt =>
chk a1 6 (chk a1 6 (if (S4.1 32 (a1).toNatClampNeg) = (S4.1 6 (a1).toNatClampNeg) then (some ((), S4)) else (chk a1 6 (zbind (F_X2_spreads_w8 (S4.1 6 (a1).toNatClampNeg) S4) (fun _ S8 =>
chk a1 6 (zlet (S8.1 32 (a1).toNatClampNeg : Int32) (fun w10 : Int32 =>
chk w10 32 (if (S8.1 9 (w10).toNatClampNeg) = (-1) then (some ((), S8)) else (chk a1 6 (zbind (F_X0_nextTo (S8.1 32 (a1).toNatClampNeg) (-1) S8) (fun r14 S13 =>
chk a1 6 (zbind (F_X0_isTaken a1 (S13.1 32 (a1).toNatClampNeg) r14 S13) (fun r17 S16 =>
joinK (chk a1 6 (chk a1 6 (zlet (sI S16 33 (a1).toNatClampNeg (S16.1 32 (a1).toNatClampNeg) : zSt) (fun S21 : zSt =>
chk a1 6 (zlet (sI S21 34 (a1).toNatClampNeg r14 : zSt) (fun S23 : zSt =>
chk a1 6 (zlet (sI S23 32 (a1).toNatClampNeg r14 : zSt) (fun S25 : zSt =>
chk a1 6 (if r14 = (S25.1 6 (a1).toNatClampNeg) then (chk a1 6 (zlet (sI S25 35 (a1).toNatClampNeg (a2 + 1) : zSt) (fun S28 : zSt =>
some ((), S28)))) else (some ((), S25))))))))))) (fun j18 : Option (Unit × zSt) =>
if r17 = 0 then (j18) else (if a3 = 0 then (zlet (sI S16 0 34 ((S16.1 0 34) + 1) : zSt) (fun S29 : zSt =>
some ((), S29))) else (j18))))))))))))))))))))
theorem mv_X0_stepsOn : ZV mX0_stepsOn yX0_stepsOn 3 := ⟨q1226, qs73, q150, q1227, rfl, by decide, by decide, by decide +kernel⟩
theorem ct_X0_stepsOn {G : zGw} (hG : zGC G) (a1 : Int32) (a2 : Int32) (a3 : Int32) : Zc mX0_stepsOn yX0_stepsOn zJV G [.ref (G.1 0), .int a1, .int a2, .int a3] (F_X0_stepsOn a1 a2 a3) := by
  refine Zc_of [some (.ref (G.1 0)), some (.int a1), some (.int a2), some (.int a3), none] (by decide) rfl rfl (Nat.le_of_ble_eq_true rfl) rfl (fun X S res => ?_)
  unfold F_X0_stepsOn
  refine z_aload_n (pc := 0) 0 dX0_stepsOn_0 rfl rfl ?_
  refine gf_X0_C_103_0 hG (pc := 1) dX0_stepsOn_1 ?_
  refine z_iload_n (pc := 4) 1 dX0_stepsOn_4 rfl rfl ?_
  refine z_iconst (pc := 5) (v := (-1)) dX0_stepsOn_5 (by decide) ?_
  refine z_chk (fun h1 => ?_)
  refine z_iastore (pc := 6) 33 6 (zGC_s33 hG) h1 dX0_stepsOn_6 ?_
  refine z_letS (fun S2 => ?_)
  refine z_aload_n (pc := 7) 0 dX0_stepsOn_7 rfl rfl ?_
  refine gf_X0_C_106_0 hG (pc := 8) dX0_stepsOn_8 ?_
  refine z_iload_n (pc := 11) 1 dX0_stepsOn_11 rfl rfl ?_
  refine z_iconst (pc := 12) (v := (-1)) dX0_stepsOn_12 (by decide) ?_
  refine z_chk (fun h3 => ?_)
  refine z_iastore (pc := 13) 34 6 (zGC_s34 hG) h3 dX0_stepsOn_13 ?_
  refine z_letS (fun S4 => ?_)
  refine z_aload_n (pc := 14) 0 dX0_stepsOn_14 rfl rfl ?_
  refine gf_X0_C_100_0 hG (pc := 15) dX0_stepsOn_15 ?_
  refine z_iload_n (pc := 18) 1 dX0_stepsOn_18 rfl rfl ?_
  refine z_chk (fun h5 => ?_)
  refine z_iaload (pc := 19) 32 6 (zGC_s32 hG) h5 dX0_stepsOn_19 ?_
  refine z_aload_n (pc := 20) 0 dX0_stepsOn_20 rfl rfl ?_
  refine gf_X0_C_10_0 hG (pc := 21) dX0_stepsOn_21 ?_
  refine gf_X0_C_440_1 hG (pc := 24) dX0_stepsOn_24 ?_
  refine z_iload_n (pc := 27) 1 dX0_stepsOn_27 rfl rfl ?_
  refine z_chk (fun h6 => ?_)
  refine z_iaload (pc := 28) 6 6 (zGC_s6 hG) h6 dX0_stepsOn_28 ?_
  refine z_icmp_ne (pc := 29) 33 dX0_stepsOn_29 rfl ?_ ?_
  · refine z_aload_n (pc := 33) 0 dX0_stepsOn_33 rfl rfl ?_
    refine gf_X0_C_29_0 hG (pc := 34) dX0_stepsOn_34 ?_
    refine z_aload_n (pc := 37) 0 dX0_stepsOn_37 rfl rfl ?_
    refine gf_X0_C_10_0 hG (pc := 38) dX0_stepsOn_38 ?_
    refine gf_X0_C_440_1 hG (pc := 41) dX0_stepsOn_41 ?_
    refine z_iload_n (pc := 44) 1 dX0_stepsOn_44 rfl rfl ?_
    refine z_chk (fun h7 => ?_)
    refine z_iaload (pc := 45) 6 6 (zGC_s6 hG) h7 dX0_stepsOn_45 ?_
    refine z_callVv (pc := 46) _ _ 8 2 (ct_X2_spreads_w8 hG _) mv_X2_spreads_w8 q776 rfl (zGC_s8 hG) rfl (Nat.le_of_ble_eq_true rfl) (Nat.le_of_ble_eq_true rfl) rfl rfl (Nat.le_of_ble_eq_true rfl) dX0_stepsOn_46 (fun _ S8 => ?_)
    refine z_aload_n (pc := 49) 0 dX0_stepsOn_49 rfl rfl ?_
    refine gf_X0_C_29_0 hG (pc := 50) dX0_stepsOn_50 ?_
    refine gf_X0_C_210_8 hG (pc := 53) dX0_stepsOn_53 ?_
    refine z_aload_n (pc := 56) 0 dX0_stepsOn_56 rfl rfl ?_
    refine gf_X0_C_100_0 hG (pc := 57) dX0_stepsOn_57 ?_
    refine z_iload_n (pc := 60) 1 dX0_stepsOn_60 rfl rfl ?_
    refine z_chk (fun h9 => ?_)
    refine z_iaload (pc := 61) 32 6 (zGC_s32 hG) h9 dX0_stepsOn_61 ?_
    refine z_letI (fun w10 => ?_)
    refine z_chk (fun h11 => ?_)
    refine z_iaload (pc := 62) 9 32 (zGC_s9 hG) h11 dX0_stepsOn_62 ?_
    refine z_iconst (pc := 63) (v := (-1)) dX0_stepsOn_63 (by decide) ?_
    refine z_icmp_ne (pc := 64) 68 dX0_stepsOn_64 rfl ?_ ?_
    · refine z_aload_n (pc := 68) 0 dX0_stepsOn_68 rfl rfl ?_
      refine z_aload_n (pc := 69) 0 dX0_stepsOn_69 rfl rfl ?_
      refine gf_X0_C_100_0 hG (pc := 70) dX0_stepsOn_70 ?_
      refine z_iload_n (pc := 73) 1 dX0_stepsOn_73 rfl rfl ?_
      refine z_chk (fun h12 => ?_)
      refine z_iaload (pc := 74) 32 6 (zGC_s32 hG) h12 dX0_stepsOn_74 ?_
      refine z_iconst (pc := 75) (v := (-1)) dX0_stepsOn_75 (by decide) ?_
      refine z_callVi (pc := 76) _ _ 0 0 (ct_X0_nextTo hG _ _) mv_X0_nextTo q802 rfl (zGC_s0 hG) rfl (Nat.le_of_ble_eq_true rfl) (Nat.le_of_ble_eq_true rfl) rfl rfl (Nat.le_of_ble_eq_true rfl) dX0_stepsOn_76 (fun r14 S13 => ?_)
      refine z_istore (pc := 79) dX0_stepsOn_79 (Nat.le_of_ble_eq_true rfl) rfl ?_
      refine z_aload_n (pc := 81) 0 dX0_stepsOn_81 rfl rfl ?_
      refine z_iload_n (pc := 82) 1 dX0_stepsOn_82 rfl rfl ?_
      refine z_aload_n (pc := 83) 0 dX0_stepsOn_83 rfl rfl ?_
      refine gf_X0_C_100_0 hG (pc := 84) dX0_stepsOn_84 ?_
      refine z_iload_n (pc := 87) 1 dX0_stepsOn_87 rfl rfl ?_
      refine z_chk (fun h15 => ?_)
      refine z_iaload (pc := 88) 32 6 (zGC_s32 hG) h15 dX0_stepsOn_88 ?_
      refine z_iload (pc := 89) dX0_stepsOn_89 rfl ?_
      refine z_callVi (pc := 91) _ _ 0 0 (ct_X0_isTaken hG _ _ _) mv_X0_isTaken q1228 rfl (zGC_s0 hG) rfl (Nat.le_of_ble_eq_true rfl) (Nat.le_of_ble_eq_true rfl) rfl rfl (Nat.le_of_ble_eq_true rfl) dX0_stepsOn_91 (fun r17 S16 => ?_)
      refine z_join (fun j : Option (Unit × zSt) =>  Zm X mX0_stepsOn zJV G (0, 0) res S16 112 [some (.ref (G.1 0)), some (.int a1), some (.int a2), none, some (.int r14)] [] (j)) ?_ (fun j18 hj18 => ?_)
      · show _
        refine z_aload_n (pc := 112) 0 dX0_stepsOn_112 rfl rfl ?_
        refine gf_X0_C_103_0 hG (pc := 113) dX0_stepsOn_113 ?_
        refine z_iload_n (pc := 116) 1 dX0_stepsOn_116 rfl rfl ?_
        refine z_aload_n (pc := 117) 0 dX0_stepsOn_117 rfl rfl ?_
        refine gf_X0_C_100_0 hG (pc := 118) dX0_stepsOn_118 ?_
        refine z_iload_n (pc := 121) 1 dX0_stepsOn_121 rfl rfl ?_
        refine z_chk (fun h19 => ?_)
        refine z_iaload (pc := 122) 32 6 (zGC_s32 hG) h19 dX0_stepsOn_122 ?_
        refine z_chk (fun h20 => ?_)
        refine z_iastore (pc := 123) 33 6 (zGC_s33 hG) h20 dX0_stepsOn_123 ?_
        refine z_letS (fun S21 => ?_)
        refine z_aload_n (pc := 124) 0 dX0_stepsOn_124 rfl rfl ?_
        refine gf_X0_C_106_0 hG (pc := 125) dX0_stepsOn_125 ?_
        refine z_iload_n (pc := 128) 1 dX0_stepsOn_128 rfl rfl ?_
        refine z_iload (pc := 129) dX0_stepsOn_129 rfl ?_
        refine z_chk (fun h22 => ?_)
        refine z_iastore (pc := 131) 34 6 (zGC_s34 hG) h22 dX0_stepsOn_131 ?_
        refine z_letS (fun S23 => ?_)
        refine z_aload_n (pc := 132) 0 dX0_stepsOn_132 rfl rfl ?_
        refine gf_X0_C_100_0 hG (pc := 133) dX0_stepsOn_133 ?_
        refine z_iload_n (pc := 136) 1 dX0_stepsOn_136 rfl rfl ?_
        refine z_iload (pc := 137) dX0_stepsOn_137 rfl ?_
        refine z_chk (fun h24 => ?_)
        refine z_iastore (pc := 139) 32 6 (zGC_s32 hG) h24 dX0_stepsOn_139 ?_
        refine z_letS (fun S25 => ?_)
        refine z_iload (pc := 140) dX0_stepsOn_140 rfl ?_
        refine z_aload_n (pc := 142) 0 dX0_stepsOn_142 rfl rfl ?_
        refine gf_X0_C_10_0 hG (pc := 143) dX0_stepsOn_143 ?_
        refine gf_X0_C_440_1 hG (pc := 146) dX0_stepsOn_146 ?_
        refine z_iload_n (pc := 149) 1 dX0_stepsOn_149 rfl rfl ?_
        refine z_chk (fun h26 => ?_)
        refine z_iaload (pc := 150) 6 6 (zGC_s6 hG) h26 dX0_stepsOn_150 ?_
        refine z_icmp_ne (pc := 151) 163 dX0_stepsOn_151 rfl ?_ ?_
        · exact z_vret rfl dX0_stepsOn_163 rfl
        · refine z_aload_n (pc := 154) 0 dX0_stepsOn_154 rfl rfl ?_
          refine gf_X0_C_109_0 hG (pc := 155) dX0_stepsOn_155 ?_
          refine z_iload_n (pc := 158) 1 dX0_stepsOn_158 rfl rfl ?_
          refine z_iload_n (pc := 159) 2 dX0_stepsOn_159 rfl rfl ?_
          refine z_iconst (pc := 160) (v := 1) dX0_stepsOn_160 (by decide) ?_
          refine z_iadd (pc := 161) dX0_stepsOn_161 ?_
          refine z_chk (fun h27 => ?_)
          refine z_iastore (pc := 162) 35 6 (zGC_s35 hG) h27 dX0_stepsOn_162 ?_
          refine z_letS (fun S28 => ?_)
          exact z_vret rfl dX0_stepsOn_163 rfl
      · refine z_if_eq (pc := 94) 112 dX0_stepsOn_94 rfl ?_ ?_
        · exact z_mask [true, true, true, false, true] (hj18) rfl
        · refine z_iload_n (pc := 97) 3 dX0_stepsOn_97 rfl rfl ?_
          refine z_if_ne (pc := 98) 112 dX0_stepsOn_98 rfl ?_ ?_
          · exact z_mask [true, true, true, false, true] (hj18) rfl
          · refine z_aload_n (pc := 101) 0 dX0_stepsOn_101 rfl rfl ?_
            refine z_dup (pc := 102) dX0_stepsOn_102 rfl ?_
            refine gf_X0_C_447_0 hG (pc := 103) dX0_stepsOn_103 ?_
            refine z_iconst (pc := 106) (v := 1) dX0_stepsOn_106 (by decide) ?_
            refine z_iadd (pc := 107) dX0_stepsOn_107 ?_
            refine pf_X0_C_447_0 hG (pc := 108) dX0_stepsOn_108 ?_
            refine z_letS (fun S29 => ?_)
            exact z_vret rfl dX0_stepsOn_111 rfl
    · exact z_vret rfl dX0_stepsOn_67 rfl
  · exact z_vret rfl dX0_stepsOn_32 rfl
abbrev mX0_carries : zMr := ("HiddenCube", cX0_carries, 6, none, 6, 0, 0, none)
def LB_X0_carries_1 (x11 : Int32) (rec10 : Int32 → zSt → Option (Unit × zSt)) (rec13 : Int32 → zSt → Option (Unit × zSt)) (x14 : Int32) (S15 : zSt) : Option (Unit × zSt) :=
if x11 ≤ x14 then (rec10 (x11 + 1) S15) else (chk x11 6 (joinK (fun (v18 : Int32) => zlet (sI S15 0 35 ((S15.1 0 35) + v18) : zSt) (fun S19 : zSt =>
rec13 (x14 + 1) S19)) (fun j17 : Int32 → Option (Unit × zSt) =>
joinK (j17 0) (fun j20 : Option (Unit × zSt) =>
if (S15.1 33 (x11).toNatClampNeg) = (-1) then (j20) else (chk x11 6 (chk x14 6 (joinK (j17 1) (fun j23 : Option (Unit × zSt) =>
joinK (chk x11 6 (chk x14 6 (if (S15.1 33 (x11).toNatClampNeg) = (S15.1 34 (x14).toNatClampNeg) then (chk x11 6 (chk x14 6 (if (S15.1 34 (x11).toNatClampNeg) = (S15.1 33 (x14).toNatClampNeg) then (j23) else (j20)))) else (j20)))) (fun j24 : Option (Unit × zSt) =>
if (S15.1 33 (x11).toNatClampNeg) = (S15.1 33 (x14).toNatClampNeg) then (chk x11 6 (chk x14 6 (if (S15.1 34 (x11).toNatClampNeg) = (S15.1 34 (x14).toNatClampNeg) then (j23) else (j24)))) else (j24))))))))))
def LB_X0_carries_2 (x6 : Int32) (rec5 : Int32 → zSt → Option (Unit × zSt)) (rec10 : Int32 → zSt → Option (Unit × zSt)) (x11 : Int32) (S12 : zSt) : Option (Unit × zSt) :=
if (S12.1 1 9) ≤ x11 then (rec5 (x6 + 1) S12) else (loopK (fun _ _ => none) (LB_X0_carries_1 x11 rec10) zfuel 0 S12)
def LB_X0_carries_3 (a2 : Int32) (x6 : Int32) (k8 : zSt → Option (Unit × zSt)) (rec31 : Int32 → zSt → Option (Unit × zSt)) (x32 : Int32) (S33 : zSt) : Option (Unit × zSt) :=
if (S33.1 1 9) ≤ x32 then (k8 S33) else (zbind (F_X0_stepsOn x32 x6 a2 S33) (fun _ S34 =>
rec31 (x32 + 1) S34))
def LB_X0_carries_4 (a1 : Int32) (a2 : Int32) (rec5 : Int32 → zSt → Option (Unit × zSt)) (x6 : Int32) (S7 : zSt) : Option (Unit × zSt) :=
if a1 ≤ x6 then (some ((), S7)) else (joinK (fun  (S9 : zSt) => loopK (fun _ _ => none) (LB_X0_carries_2 x6 rec5) zfuel 0 S9) (fun k8 : zSt → Option (Unit × zSt) =>
loopK (fun _ _ => none) (LB_X0_carries_3 a2 x6 k8) zfuel 0 S7))
def LB_X0_carries_5 (k3 : zSt → Option (Unit × zSt)) (rec35 : Int32 → zSt → Option (Unit × zSt)) (x36 : Int32) (S37 : zSt) : Option (Unit × zSt) :=
if (S37.1 1 9) ≤ x36 then (k3 S37) else (chk x36 6 (chk x36 6 (zlet (sI S37 32 (x36).toNatClampNeg (S37.1 5 (x36).toNatClampNeg) : zSt) (fun S40 : zSt =>
chk x36 6 (zlet (sI S40 35 (x36).toNatClampNeg (-1) : zSt) (fun S42 : zSt =>
rec35 (x36 + 1) S42))))))
def F_X0_carries (a1 : Int32) (a2 : Int32) (S : zSt) : Option (Unit × zSt) :=
zlet (sI S 0 34 0 : zSt) (fun S1 : zSt =>
zlet (sI S1 0 35 0 : zSt) (fun S2 : zSt =>
joinK (fun  (S4 : zSt) => loopK (fun _ _ => none) (LB_X0_carries_4 a1 a2) zfuel 0 S4) (fun k3 : zSt → Option (Unit × zSt) =>
loopK (fun _ _ => none) (LB_X0_carries_5 k3) zfuel 0 S2)))
theorem mv_X0_carries : ZV mX0_carries yX0_carries 2 := ⟨q1222, qs72, q150, q1223, rfl, by decide, by decide, by decide +kernel⟩
theorem ct_X0_carries {G : zGw} (hG : zGC G) (a1 : Int32) (a2 : Int32) : Zc mX0_carries yX0_carries zJV G [.ref (G.1 0), .int a1, .int a2] (F_X0_carries a1 a2) := by
  refine Zc_of [some (.ref (G.1 0)), some (.int a1), some (.int a2), none, none, none] (by decide) rfl rfl (Nat.le_of_ble_eq_true rfl) rfl (fun X S res => ?_)
  unfold F_X0_carries
  refine z_aload_n (pc := 0) 0 dX0_carries_0 rfl rfl ?_
  refine z_iconst (pc := 1) (v := 0) dX0_carries_1 (by decide) ?_
  refine pf_X0_C_447_0 hG (pc := 2) dX0_carries_2 ?_
  refine z_letS (fun S1 => ?_)
  refine z_aload_n (pc := 5) 0 dX0_carries_5 rfl rfl ?_
  refine z_iconst (pc := 6) (v := 0) dX0_carries_6 (by decide) ?_
  refine pf_X0_C_450_0 hG (pc := 7) dX0_carries_7 ?_
  refine z_letS (fun S2 => ?_)
  refine z_iconst (pc := 10) (v := 0) dX0_carries_10 (by decide) ?_
  refine z_istore_n (pc := 11) 3 dX0_carries_11 rfl (Nat.le_of_ble_eq_true rfl) rfl ?_
  refine z_join (fun j : zSt → Option (Unit × zSt) => ∀  (S4 : zSt), Zm X mX0_carries zJV G (0, 0) res S4 51 [some (.ref (G.1 0)), some (.int a1), some (.int a2), none, none, none] [] (j S4)) ?_ (fun k3 hk3 => ?_)
  · intro S4
    refine z_iconst (pc := 51) (v := 0) dX0_carries_51 (by decide) ?_
    refine z_istore_n (pc := 52) 3 dX0_carries_52 rfl (Nat.le_of_ble_eq_true rfl) rfl ?_
    refine z_loopK (fun j : Int32 → zSt → Option (Unit × zSt) => ∀ (x6 : Int32) (S7 : zSt), Zm X mX0_carries zJV G (0, 0) res S7 53 [some (.ref (G.1 0)), some (.int a1), some (.int a2), some (.int x6), none, none] [] (j x6 S7)) ?_ ?_ zfuel _ _
    · intro x6 S7; exact z_none
    · intro rec5 hrec5 x6 S7
      unfold LB_X0_carries_4
      refine z_iload_n (pc := 53) 3 dX0_carries_53 rfl rfl ?_
      refine z_iload_n (pc := 54) 1 dX0_carries_54 rfl rfl ?_
      refine z_icmp_ge (pc := 55) 223 dX0_carries_55 rfl ?_ ?_
      · exact z_vret rfl dX0_carries_223 rfl
      · refine z_iconst (pc := 58) (v := 0) dX0_carries_58 (by decide) ?_
        refine z_istore (pc := 59) dX0_carries_59 (Nat.le_of_ble_eq_true rfl) rfl ?_
        refine z_join (fun j : zSt → Option (Unit × zSt) => ∀  (S9 : zSt), Zm X mX0_carries zJV G (0, 0) res S9 87 [some (.ref (G.1 0)), some (.int a1), some (.int a2), some (.int x6), none, none] [] (j S9)) ?_ (fun k8 hk8 => ?_)
        · intro S9
          refine z_iconst (pc := 87) (v := 0) dX0_carries_87 (by decide) ?_
          refine z_istore (pc := 88) dX0_carries_88 (Nat.le_of_ble_eq_true rfl) rfl ?_
          refine z_loopK (fun j : Int32 → zSt → Option (Unit × zSt) => ∀ (x11 : Int32) (S12 : zSt), Zm X mX0_carries zJV G (0, 0) res S12 90 [some (.ref (G.1 0)), some (.int a1), some (.int a2), some (.int x6), some (.int x11), none] [] (j x11 S12)) ?_ ?_ zfuel _ _
          · intro x11 S12; exact z_none
          · intro rec10 hrec10 x11 S12
            unfold LB_X0_carries_2
            refine z_iload (pc := 90) dX0_carries_90 rfl ?_
            refine z_aload_n (pc := 92) 0 dX0_carries_92 rfl rfl ?_
            refine gf_X0_C_10_0 hG (pc := 93) dX0_carries_93 ?_
            refine gf_X0_C_453_1 hG (pc := 96) dX0_carries_96 ?_
            refine z_icmp_ge (pc := 99) 217 dX0_carries_99 rfl ?_ ?_
            · refine z_iinc (pc := 217) (w := x6 + 1) dX0_carries_217 rfl (by rw [show Int32.ofInt 1 = 1 from by decide]) (Nat.le_of_ble_eq_true rfl) rfl ?_
              refine z_goto (pc := 220) 53 dX0_carries_220 rfl ?_
              exact z_mask [true, true, true, true, false, false] (hrec5 _ _) rfl
            · refine z_iconst (pc := 102) (v := 0) dX0_carries_102 (by decide) ?_
              refine z_istore (pc := 103) dX0_carries_103 (Nat.le_of_ble_eq_true rfl) rfl ?_
              refine z_loopK (fun j : Int32 → zSt → Option (Unit × zSt) => ∀ (x14 : Int32) (S15 : zSt), Zm X mX0_carries zJV G (0, 0) res S15 105 [some (.ref (G.1 0)), some (.int a1), some (.int a2), some (.int x6), some (.int x11), some (.int x14)] [] (j x14 S15)) ?_ ?_ zfuel _ _
              · intro x14 S15; exact z_none
              · intro rec13 hrec13 x14 S15
                unfold LB_X0_carries_1
                refine z_iload (pc := 105) dX0_carries_105 rfl ?_
                refine z_iload (pc := 107) dX0_carries_107 rfl ?_
                refine z_icmp_ge (pc := 109) 211 dX0_carries_109 rfl ?_ ?_
                · refine z_iinc (pc := 211) (w := x11 + 1) dX0_carries_211 rfl (by rw [show Int32.ofInt 1 = 1 from by decide]) (Nat.le_of_ble_eq_true rfl) rfl ?_
                  refine z_goto (pc := 214) 90 dX0_carries_214 rfl ?_
                  exact z_mask [true, true, true, true, true, false] (hrec10 _ _) rfl
                · refine z_aload_n (pc := 112) 0 dX0_carries_112 rfl rfl ?_
                  refine z_dup (pc := 113) dX0_carries_113 rfl ?_
                  refine gf_X0_C_450_0 hG (pc := 114) dX0_carries_114 ?_
                  refine z_aload_n (pc := 117) 0 dX0_carries_117 rfl rfl ?_
                  refine gf_X0_C_103_0 hG (pc := 118) dX0_carries_118 ?_
                  refine z_iload (pc := 121) dX0_carries_121 rfl ?_
                  refine z_chk (fun h16 => ?_)
                  refine z_iaload (pc := 123) 33 6 (zGC_s33 hG) h16 dX0_carries_123 ?_
                  refine z_iconst (pc := 124) (v := (-1)) dX0_carries_124 (by decide) ?_
                  refine z_join (fun j : Int32 → Option (Unit × zSt) => ∀ (v18 : Int32), Zm X mX0_carries zJV G (0, 0) res S15 201 [some (.ref (G.1 0)), some (.int a1), some (.int a2), some (.int x6), some (.int x11), some (.int x14)] [.int v18, .int (S15.1 0 35), .ref (G.1 0)] (j v18)) ?_ (fun j17 hj17 => ?_)
                  · intro v18
                    refine z_iadd (pc := 201) dX0_carries_201 ?_
                    refine pf_X0_C_450_0 hG (pc := 202) dX0_carries_202 ?_
                    refine z_letS (fun S19 => ?_)
                    refine z_iinc (pc := 205) (w := x14 + 1) dX0_carries_205 rfl (by rw [show Int32.ofInt 1 = 1 from by decide]) (Nat.le_of_ble_eq_true rfl) rfl ?_
                    refine z_goto (pc := 208) 105 dX0_carries_208 rfl ?_
                    exact hrec13 _ _
                  · refine z_join (fun j : Option (Unit × zSt) =>  Zm X mX0_carries zJV G (0, 0) res S15 200 [some (.ref (G.1 0)), some (.int a1), some (.int a2), some (.int x6), some (.int x11), some (.int x14)] [.int (S15.1 0 35), .ref (G.1 0)] (j)) ?_ (fun j20 hj20 => ?_)
                    · show _
                      refine z_iconst (pc := 200) (v := 0) dX0_carries_200 (by decide) ?_
                      exact hj17 _
                    · refine z_icmp_eq (pc := 125) 200 dX0_carries_125 rfl ?_ ?_
                      · exact hj20 
                      · refine z_aload_n (pc := 128) 0 dX0_carries_128 rfl rfl ?_
                        refine gf_X0_C_103_0 hG (pc := 129) dX0_carries_129 ?_
                        refine z_iload (pc := 132) dX0_carries_132 rfl ?_
                        refine z_chk (fun h21 => ?_)
                        refine z_iaload (pc := 134) 33 6 (zGC_s33 hG) h21 dX0_carries_134 ?_
                        refine z_aload_n (pc := 135) 0 dX0_carries_135 rfl rfl ?_
                        refine gf_X0_C_103_0 hG (pc := 136) dX0_carries_136 ?_
                        refine z_iload (pc := 139) dX0_carries_139 rfl ?_
                        refine z_chk (fun h22 => ?_)
                        refine z_iaload (pc := 141) 33 6 (zGC_s33 hG) h22 dX0_carries_141 ?_
                        refine z_join (fun j : Option (Unit × zSt) =>  Zm X mX0_carries zJV G (0, 0) res S15 196 [some (.ref (G.1 0)), some (.int a1), some (.int a2), some (.int x6), some (.int x11), some (.int x14)] [.int (S15.1 0 35), .ref (G.1 0)] (j)) ?_ (fun j23 hj23 => ?_)
                        · show _
                          refine z_iconst (pc := 196) (v := 1) dX0_carries_196 (by decide) ?_
                          refine z_goto (pc := 197) 201 dX0_carries_197 rfl ?_
                          exact hj17 _
                        · refine z_join (fun j : Option (Unit × zSt) =>  Zm X mX0_carries zJV G (0, 0) res S15 162 [some (.ref (G.1 0)), some (.int a1), some (.int a2), some (.int x6), some (.int x11), some (.int x14)] [.int (S15.1 0 35), .ref (G.1 0)] (j)) ?_ (fun j24 hj24 => ?_)
                          · show _
                            refine z_aload_n (pc := 162) 0 dX0_carries_162 rfl rfl ?_
                            refine gf_X0_C_103_0 hG (pc := 163) dX0_carries_163 ?_
                            refine z_iload (pc := 166) dX0_carries_166 rfl ?_
                            refine z_chk (fun h25 => ?_)
                            refine z_iaload (pc := 168) 33 6 (zGC_s33 hG) h25 dX0_carries_168 ?_
                            refine z_aload_n (pc := 169) 0 dX0_carries_169 rfl rfl ?_
                            refine gf_X0_C_106_0 hG (pc := 170) dX0_carries_170 ?_
                            refine z_iload (pc := 173) dX0_carries_173 rfl ?_
                            refine z_chk (fun h26 => ?_)
                            refine z_iaload (pc := 175) 34 6 (zGC_s34 hG) h26 dX0_carries_175 ?_
                            refine z_icmp_ne (pc := 176) 200 dX0_carries_176 rfl ?_ ?_
                            · exact hj20 
                            · refine z_aload_n (pc := 179) 0 dX0_carries_179 rfl rfl ?_
                              refine gf_X0_C_106_0 hG (pc := 180) dX0_carries_180 ?_
                              refine z_iload (pc := 183) dX0_carries_183 rfl ?_
                              refine z_chk (fun h27 => ?_)
                              refine z_iaload (pc := 185) 34 6 (zGC_s34 hG) h27 dX0_carries_185 ?_
                              refine z_aload_n (pc := 186) 0 dX0_carries_186 rfl rfl ?_
                              refine gf_X0_C_103_0 hG (pc := 187) dX0_carries_187 ?_
                              refine z_iload (pc := 190) dX0_carries_190 rfl ?_
                              refine z_chk (fun h28 => ?_)
                              refine z_iaload (pc := 192) 33 6 (zGC_s33 hG) h28 dX0_carries_192 ?_
                              refine z_icmp_ne (pc := 193) 200 dX0_carries_193 rfl ?_ ?_
                              · exact hj20 
                              · exact hj23 
                          · refine z_icmp_ne (pc := 142) 162 dX0_carries_142 rfl ?_ ?_
                            · exact hj24 
                            · refine z_aload_n (pc := 145) 0 dX0_carries_145 rfl rfl ?_
                              refine gf_X0_C_106_0 hG (pc := 146) dX0_carries_146 ?_
                              refine z_iload (pc := 149) dX0_carries_149 rfl ?_
                              refine z_chk (fun h29 => ?_)
                              refine z_iaload (pc := 151) 34 6 (zGC_s34 hG) h29 dX0_carries_151 ?_
                              refine z_aload_n (pc := 152) 0 dX0_carries_152 rfl rfl ?_
                              refine gf_X0_C_106_0 hG (pc := 153) dX0_carries_153 ?_
                              refine z_iload (pc := 156) dX0_carries_156 rfl ?_
                              refine z_chk (fun h30 => ?_)
                              refine z_iaload (pc := 158) 34 6 (zGC_s34 hG) h30 dX0_carries_158 ?_
                              refine z_icmp_eq (pc := 159) 196 dX0_carries_159 rfl ?_ ?_
                              · exact hj23 
                              · exact hj24 
        · refine z_loopK (fun j : Int32 → zSt → Option (Unit × zSt) => ∀ (x32 : Int32) (S33 : zSt), Zm X mX0_carries zJV G (0, 0) res S33 61 [some (.ref (G.1 0)), some (.int a1), some (.int a2), some (.int x6), some (.int x32), none] [] (j x32 S33)) ?_ ?_ zfuel _ _
          · intro x32 S33; exact z_none
          · intro rec31 hrec31 x32 S33
            unfold LB_X0_carries_3
            refine z_iload (pc := 61) dX0_carries_61 rfl ?_
            refine z_aload_n (pc := 63) 0 dX0_carries_63 rfl rfl ?_
            refine gf_X0_C_10_0 hG (pc := 64) dX0_carries_64 ?_
            refine gf_X0_C_453_1 hG (pc := 67) dX0_carries_67 ?_
            refine z_icmp_ge (pc := 70) 87 dX0_carries_70 rfl ?_ ?_
            · exact z_mask [true, true, true, true, false, false] (hk8 _) rfl
            · refine z_aload_n (pc := 73) 0 dX0_carries_73 rfl rfl ?_
              refine z_iload (pc := 74) dX0_carries_74 rfl ?_
              refine z_iload_n (pc := 76) 3 dX0_carries_76 rfl rfl ?_
              refine z_iload_n (pc := 77) 2 dX0_carries_77 rfl rfl ?_
              refine z_callVv (pc := 78) _ _ 0 0 (ct_X0_stepsOn hG _ _ _) mv_X0_stepsOn q1224 rfl (zGC_s0 hG) rfl (Nat.le_of_ble_eq_true rfl) (Nat.le_of_ble_eq_true rfl) rfl rfl (Nat.le_of_ble_eq_true rfl) dX0_carries_78 (fun _ S34 => ?_)
              refine z_iinc (pc := 81) (w := x32 + 1) dX0_carries_81 rfl (by rw [show Int32.ofInt 1 = 1 from by decide]) (Nat.le_of_ble_eq_true rfl) rfl ?_
              refine z_goto (pc := 84) 61 dX0_carries_84 rfl ?_
              exact hrec31 _ _
  · refine z_loopK (fun j : Int32 → zSt → Option (Unit × zSt) => ∀ (x36 : Int32) (S37 : zSt), Zm X mX0_carries zJV G (0, 0) res S37 12 [some (.ref (G.1 0)), some (.int a1), some (.int a2), some (.int x36), none, none] [] (j x36 S37)) ?_ ?_ zfuel _ _
    · intro x36 S37; exact z_none
    · intro rec35 hrec35 x36 S37
      unfold LB_X0_carries_5
      refine z_iload_n (pc := 12) 3 dX0_carries_12 rfl rfl ?_
      refine z_aload_n (pc := 13) 0 dX0_carries_13 rfl rfl ?_
      refine gf_X0_C_10_0 hG (pc := 14) dX0_carries_14 ?_
      refine gf_X0_C_453_1 hG (pc := 17) dX0_carries_17 ?_
      refine z_icmp_ge (pc := 20) 51 dX0_carries_20 rfl ?_ ?_
      · exact z_mask [true, true, true, false, false, false] (hk3 _) rfl
      · refine z_aload_n (pc := 23) 0 dX0_carries_23 rfl rfl ?_
        refine gf_X0_C_100_0 hG (pc := 24) dX0_carries_24 ?_
        refine z_iload_n (pc := 27) 3 dX0_carries_27 rfl rfl ?_
        refine z_aload_n (pc := 28) 0 dX0_carries_28 rfl rfl ?_
        refine gf_X0_C_10_0 hG (pc := 29) dX0_carries_29 ?_
        refine gf_X0_C_456_1 hG (pc := 32) dX0_carries_32 ?_
        refine z_iload_n (pc := 35) 3 dX0_carries_35 rfl rfl ?_
        refine z_chk (fun h38 => ?_)
        refine z_iaload (pc := 36) 5 6 (zGC_s5 hG) h38 dX0_carries_36 ?_
        refine z_chk (fun h39 => ?_)
        refine z_iastore (pc := 37) 32 6 (zGC_s32 hG) h39 dX0_carries_37 ?_
        refine z_letS (fun S40 => ?_)
        refine z_aload_n (pc := 38) 0 dX0_carries_38 rfl rfl ?_
        refine gf_X0_C_109_0 hG (pc := 39) dX0_carries_39 ?_
        refine z_iload_n (pc := 42) 3 dX0_carries_42 rfl rfl ?_
        refine z_iconst (pc := 43) (v := (-1)) dX0_carries_43 (by decide) ?_
        refine z_chk (fun h41 => ?_)
        refine z_iastore (pc := 44) 35 6 (zGC_s35 hG) h41 dX0_carries_44 ?_
        refine z_letS (fun S42 => ?_)
        refine z_iinc (pc := 45) (w := x36 + 1) dX0_carries_45 rfl (by rw [show Int32.ofInt 1 = 1 from by decide]) (Nat.le_of_ble_eq_true rfl) rfl ?_
        refine z_goto (pc := 48) 12 dX0_carries_48 rfl ?_
        exact hrec35 _ _
abbrev mX0_comes : zMr := ("HiddenCube", cX0_comes, 2, (some .int), 7, 0, 0, none)
def F_X0_comes (a1 : Int32) (S : zSt) : Option (Int32 × zSt) :=
zbind (F_X0_isCarrier a1 S) (fun r2 S1 =>
if r2 = 0 then (some ((-2), S1)) else (zbind (F_X0_carries 190 0 S1) (fun _ S3 =>
chk a1 6 (some (S3.1 35 (a1).toNatClampNeg, S3)))))
theorem mv_X0_comes : ZV mX0_comes yX0_comes 1 := ⟨q1213, q1214, q150, q1215, rfl, by decide, by decide, by decide +kernel⟩
theorem ct_X0_comes {G : zGw} (hG : zGC G) (a1 : Int32) : Zc mX0_comes yX0_comes zJI G [.ref (G.1 0), .int a1] (F_X0_comes a1) := by
  refine Zc_of [some (.ref (G.1 0)), some (.int a1)] (by decide) rfl rfl (Nat.le_of_ble_eq_true rfl) rfl (fun X S res => ?_)
  unfold F_X0_comes
  refine z_aload_n (pc := 0) 0 dX0_comes_0 rfl rfl ?_
  refine z_iload_n (pc := 1) 1 dX0_comes_1 rfl rfl ?_
  refine z_callVi (pc := 2) _ _ 0 0 (ct_X0_isCarrier hG _) mv_X0_isCarrier q1216 rfl (zGC_s0 hG) rfl (Nat.le_of_ble_eq_true rfl) (Nat.le_of_ble_eq_true rfl) rfl rfl (Nat.le_of_ble_eq_true rfl) dX0_comes_2 (fun r2 S1 => ?_)
  refine z_if_ne (pc := 5) 11 dX0_comes_5 rfl ?_ ?_
  · refine z_aload_n (pc := 11) 0 dX0_comes_11 rfl rfl ?_
    refine z_sipush (pc := 12) (v := 190) dX0_comes_12 (by decide) ?_
    refine z_iconst (pc := 15) (v := 0) dX0_comes_15 (by decide) ?_
    refine z_callVv (pc := 16) _ _ 0 0 (ct_X0_carries hG _ _) mv_X0_carries q1220 rfl (zGC_s0 hG) rfl (Nat.le_of_ble_eq_true rfl) (Nat.le_of_ble_eq_true rfl) rfl rfl (Nat.le_of_ble_eq_true rfl) dX0_comes_16 (fun _ S3 => ?_)
    refine z_aload_n (pc := 19) 0 dX0_comes_19 rfl rfl ?_
    refine gf_X0_C_109_0 hG (pc := 20) dX0_comes_20 ?_
    refine z_iload_n (pc := 23) 1 dX0_comes_23 rfl rfl ?_
    refine z_chk (fun h4 => ?_)
    refine z_iaload (pc := 24) 35 6 (zGC_s35 hG) h4 dX0_comes_24 ?_
    exact z_iret rfl dX0_comes_25 rfl
  · refine z_bipush (pc := 8) (v := (-2)) dX0_comes_8 (by decide) ?_
    exact z_iret rfl dX0_comes_10 rfl
abbrev mX0_post : zMr := ("HiddenCube", cX0_post, 5, (some .int), 7, 0, 0, none)
def LB_X0_post_1 (k6 : Int32 → Int32 → zSt → Option (Int32 × zSt)) (rec10 : Int32 → Int32 → Int32 → zSt → Option (Int32 × zSt)) (x11 : Int32) (x12 : Int32) (x13 : Int32) (S14 : zSt) : Option (Int32 × zSt) :=
if (S14.1 1 9) ≤ x13 then (k6 x11 x12 S14) else (chk x13 6 (zbind (F_J0_max x11 (S14.1 35 (x13).toNatClampNeg) S14) (fun r17 S16 =>
chk x13 6 (zlet (x12 + (if (S16.1 35 (x13).toNatClampNeg) = (-1) then 1 else 0) : Int32) (fun w20 : Int32 =>
rec10 r17 w20 (x13 + 1) S16)))))
def F_X0_post (a1 : Int32) (S : zSt) : Option (Int32 × zSt) :=
zbind (F_X0_isTown S) (fun r2 S1 =>
if r2 = 0 then (some ((-2), S1)) else (zbind (F_X0_isOneOf a1 3 S1) (fun r4 S3 =>
if r4 = 0 then (some ((-2), S3)) else (zbind (F_X0_carries 190 0 S3) (fun _ S5 =>
joinK (fun (x7 : Int32) (x8 : Int32) (S9 : zSt) => if a1 = 0 then (some (x7, S9)) else (if a1 = 1 then (some (S9.1 0 34, S9)) else (some (x8, S9)))) (fun k6 : Int32 → Int32 → zSt → Option (Int32 × zSt) =>
loopK (fun _ _ _ _ => none) (LB_X0_post_1 k6) zfuel 0 0 0 S5))))))
theorem mv_X0_post : ZV mX0_post yX0_post 1 := ⟨q1233, q1234, q150, q1235, rfl, by decide, by decide, by decide +kernel⟩
theorem ct_X0_post {G : zGw} (hG : zGC G) (a1 : Int32) : Zc mX0_post yX0_post zJI G [.ref (G.1 0), .int a1] (F_X0_post a1) := by
  refine Zc_of [some (.ref (G.1 0)), some (.int a1), none, none, none] (by decide) rfl rfl (Nat.le_of_ble_eq_true rfl) rfl (fun X S res => ?_)
  unfold F_X0_post
  refine z_aload_n (pc := 0) 0 dX0_post_0 rfl rfl ?_
  refine z_callVi (pc := 1) _ _ 0 0 (ct_X0_isTown hG) mv_X0_isTown q827 rfl (zGC_s0 hG) rfl (Nat.le_of_ble_eq_true rfl) (Nat.le_of_ble_eq_true rfl) rfl rfl (Nat.le_of_ble_eq_true rfl) dX0_post_1 (fun r2 S1 => ?_)
  refine z_if_eq (pc := 4) 15 dX0_post_4 rfl ?_ ?_
  · refine z_bipush (pc := 15) (v := (-2)) dX0_post_15 (by decide) ?_
    exact z_iret rfl dX0_post_17 rfl
  · refine z_iload_n (pc := 7) 1 dX0_post_7 rfl rfl ?_
    refine z_iconst (pc := 8) (v := 3) dX0_post_8 (by decide) ?_
    refine z_callSi (pc := 9) _ _ (ct_X0_isOneOf  _ _) mv_X0_isOneOf q737 rfl (Nat.le_of_ble_eq_true rfl) (Nat.le_of_ble_eq_true rfl) rfl rfl (Nat.le_of_ble_eq_true rfl) dX0_post_9 (fun r4 S3 => ?_)
    refine z_if_ne (pc := 12) 18 dX0_post_12 rfl ?_ ?_
    · refine z_aload_n (pc := 18) 0 dX0_post_18 rfl rfl ?_
      refine z_sipush (pc := 19) (v := 190) dX0_post_19 (by decide) ?_
      refine z_iconst (pc := 22) (v := 0) dX0_post_22 (by decide) ?_
      refine z_callVv (pc := 23) _ _ 0 0 (ct_X0_carries hG _ _) mv_X0_carries q1220 rfl (zGC_s0 hG) rfl (Nat.le_of_ble_eq_true rfl) (Nat.le_of_ble_eq_true rfl) rfl rfl (Nat.le_of_ble_eq_true rfl) dX0_post_23 (fun _ S5 => ?_)
      refine z_iconst (pc := 26) (v := 0) dX0_post_26 (by decide) ?_
      refine z_istore_n (pc := 27) 2 dX0_post_27 rfl (Nat.le_of_ble_eq_true rfl) rfl ?_
      refine z_iconst (pc := 28) (v := 0) dX0_post_28 (by decide) ?_
      refine z_istore_n (pc := 29) 3 dX0_post_29 rfl (Nat.le_of_ble_eq_true rfl) rfl ?_
      refine z_iconst (pc := 30) (v := 0) dX0_post_30 (by decide) ?_
      refine z_istore (pc := 31) dX0_post_31 (Nat.le_of_ble_eq_true rfl) rfl ?_
      refine z_join (fun j : Int32 → Int32 → zSt → Option (Int32 × zSt) => ∀ (x7 : Int32) (x8 : Int32) (S9 : zSt), Zm X mX0_post zJI G (0, 0) res S9 82 [some (.ref (G.1 0)), some (.int a1), some (.int x7), some (.int x8), none] [] (j x7 x8 S9)) ?_ (fun k6 hk6 => ?_)
      · intro x7 x8 S9
        refine z_iload_n (pc := 82) 1 dX0_post_82 rfl rfl ?_
        refine z_if_ne (pc := 83) 90 dX0_post_83 rfl ?_ ?_
        · refine z_iload_n (pc := 90) 1 dX0_post_90 rfl rfl ?_
          refine z_iconst (pc := 91) (v := 1) dX0_post_91 (by decide) ?_
          refine z_icmp_ne (pc := 92) 102 dX0_post_92 rfl ?_ ?_
          · refine z_iload_n (pc := 102) 3 dX0_post_102 rfl rfl ?_
            exact z_iret rfl dX0_post_103 rfl
          · refine z_aload_n (pc := 95) 0 dX0_post_95 rfl rfl ?_
            refine gf_X0_C_447_0 hG (pc := 96) dX0_post_96 ?_
            refine z_goto (pc := 99) 103 dX0_post_99 rfl ?_
            exact z_iret rfl dX0_post_103 rfl
        · refine z_iload_n (pc := 86) 2 dX0_post_86 rfl rfl ?_
          refine z_goto (pc := 87) 103 dX0_post_87 rfl ?_
          exact z_iret rfl dX0_post_103 rfl
      · refine z_loopK (fun j : Int32 → Int32 → Int32 → zSt → Option (Int32 × zSt) => ∀ (x11 : Int32) (x12 : Int32) (x13 : Int32) (S14 : zSt), Zm X mX0_post zJI G (0, 0) res S14 33 [some (.ref (G.1 0)), some (.int a1), some (.int x11), some (.int x12), some (.int x13)] [] (j x11 x12 x13 S14)) ?_ ?_ zfuel _ _ _ _
        · intro x11 x12 x13 S14; exact z_none
        · intro rec10 hrec10 x11 x12 x13 S14
          unfold LB_X0_post_1
          refine z_iload (pc := 33) dX0_post_33 rfl ?_
          refine z_aload_n (pc := 35) 0 dX0_post_35 rfl rfl ?_
          refine gf_X0_C_10_0 hG (pc := 36) dX0_post_36 ?_
          refine gf_X0_C_453_1 hG (pc := 39) dX0_post_39 ?_
          refine z_icmp_ge (pc := 42) 82 dX0_post_42 rfl ?_ ?_
          · exact z_mask [true, true, true, true, false] (hk6 _ _ _) rfl
          · refine z_iload_n (pc := 45) 2 dX0_post_45 rfl rfl ?_
            refine z_aload_n (pc := 46) 0 dX0_post_46 rfl rfl ?_
            refine gf_X0_C_109_0 hG (pc := 47) dX0_post_47 ?_
            refine z_iload (pc := 50) dX0_post_50 rfl ?_
            refine z_chk (fun h15 => ?_)
            refine z_iaload (pc := 52) 35 6 (zGC_s35 hG) h15 dX0_post_52 ?_
            refine z_callSi (pc := 53) _ _ (ct_J0_max  _ _) mv_J0_max q832 rfl (Nat.le_of_ble_eq_true rfl) (Nat.le_of_ble_eq_true rfl) rfl rfl (Nat.le_of_ble_eq_true rfl) dX0_post_53 (fun r17 S16 => ?_)
            refine z_istore_n (pc := 56) 2 dX0_post_56 rfl (Nat.le_of_ble_eq_true rfl) rfl ?_
            refine z_iload_n (pc := 57) 3 dX0_post_57 rfl rfl ?_
            refine z_aload_n (pc := 58) 0 dX0_post_58 rfl rfl ?_
            refine gf_X0_C_109_0 hG (pc := 59) dX0_post_59 ?_
            refine z_iload (pc := 62) dX0_post_62 rfl ?_
            refine z_chk (fun h18 => ?_)
            refine z_iaload (pc := 64) 35 6 (zGC_s35 hG) h18 dX0_post_64 ?_
            refine z_iconst (pc := 65) (v := (-1)) dX0_post_65 (by decide) ?_
            refine z_pure (st0 := [.int x12]) 74 ((if (S16.1 35 (x13).toNatClampNeg) = (-1) then 1 else 0)) ?_ (fun hJ => ?_)
            · refine z_iadd (pc := 74) dX0_post_74 ?_
              refine z_letI (fun w20 => ?_)
              refine z_istore_n (pc := 75) 3 dX0_post_75 rfl (Nat.le_of_ble_eq_true rfl) rfl ?_
              refine z_iinc (pc := 76) (w := x13 + 1) dX0_post_76 rfl (by rw [show Int32.ofInt 1 = 1 from by decide]) (Nat.le_of_ble_eq_true rfl) rfl ?_
              refine z_goto (pc := 79) 33 dX0_post_79 rfl ?_
              exact hrec10 _ _ _ _
            · refine z_icmpd_ne (pc := 66) 73 dX0_post_66 rfl (fun c21 => ?_) (fun c21 => ?_)
              · refine z_iconst (pc := 73) (v := 0) dX0_post_73 (by decide) ?_
                exact z_leaf hJ (by simp only [if_neg c21])
              · refine z_iconst (pc := 69) (v := 1) dX0_post_69 (by decide) ?_
                refine z_goto (pc := 70) 74 dX0_post_70 rfl ?_
                exact z_leaf hJ (by simp only [if_pos c21])
    · refine z_bipush (pc := 15) (v := (-2)) dX0_post_15 (by decide) ?_
      exact z_iret rfl dX0_post_17 rfl
abbrev mX0_at : zMr := ("HiddenCube", cX0_at, 3, (some .int), 7, 0, 0, none)
def F_X0_at (a1 : Int32) (a2 : Int32) (S : zSt) : Option (Int32 × zSt) :=
zbind (F_X0_isCarrier a1 S) (fun r2 S1 =>
if r2 = 0 then (some ((-2), S1)) else (zbind (F_X0_isOneOf a2 100 S1) (fun r4 S3 =>
if r4 = 0 then (some ((-2), S3)) else (zbind (F_X0_carries a2 0 S3) (fun _ S5 =>
chk a1 6 (some (S5.1 32 (a1).toNatClampNeg, S5)))))))
theorem mv_X0_at : ZV mX0_at yX0_at 2 := ⟨q1237, q1238, q150, q1239, rfl, by decide, by decide, by decide +kernel⟩
theorem ct_X0_at {G : zGw} (hG : zGC G) (a1 : Int32) (a2 : Int32) : Zc mX0_at yX0_at zJI G [.ref (G.1 0), .int a1, .int a2] (F_X0_at a1 a2) := by
  refine Zc_of [some (.ref (G.1 0)), some (.int a1), some (.int a2)] (by decide) rfl rfl (Nat.le_of_ble_eq_true rfl) rfl (fun X S res => ?_)
  unfold F_X0_at
  refine z_aload_n (pc := 0) 0 dX0_at_0 rfl rfl ?_
  refine z_iload_n (pc := 1) 1 dX0_at_1 rfl rfl ?_
  refine z_callVi (pc := 2) _ _ 0 0 (ct_X0_isCarrier hG _) mv_X0_isCarrier q1216 rfl (zGC_s0 hG) rfl (Nat.le_of_ble_eq_true rfl) (Nat.le_of_ble_eq_true rfl) rfl rfl (Nat.le_of_ble_eq_true rfl) dX0_at_2 (fun r2 S1 => ?_)
  refine z_if_eq (pc := 5) 17 dX0_at_5 rfl ?_ ?_
  · refine z_bipush (pc := 17) (v := (-2)) dX0_at_17 (by decide) ?_
    exact z_iret rfl dX0_at_19 rfl
  · refine z_iload_n (pc := 8) 2 dX0_at_8 rfl rfl ?_
    refine z_bipush (pc := 9) (v := 100) dX0_at_9 (by decide) ?_
    refine z_callSi (pc := 11) _ _ (ct_X0_isOneOf  _ _) mv_X0_isOneOf q737 rfl (Nat.le_of_ble_eq_true rfl) (Nat.le_of_ble_eq_true rfl) rfl rfl (Nat.le_of_ble_eq_true rfl) dX0_at_11 (fun r4 S3 => ?_)
    refine z_if_ne (pc := 14) 20 dX0_at_14 rfl ?_ ?_
    · refine z_aload_n (pc := 20) 0 dX0_at_20 rfl rfl ?_
      refine z_iload_n (pc := 21) 2 dX0_at_21 rfl rfl ?_
      refine z_iconst (pc := 22) (v := 0) dX0_at_22 (by decide) ?_
      refine z_callVv (pc := 23) _ _ 0 0 (ct_X0_carries hG _ _) mv_X0_carries q1220 rfl (zGC_s0 hG) rfl (Nat.le_of_ble_eq_true rfl) (Nat.le_of_ble_eq_true rfl) rfl rfl (Nat.le_of_ble_eq_true rfl) dX0_at_23 (fun _ S5 => ?_)
      refine z_aload_n (pc := 26) 0 dX0_at_26 rfl rfl ?_
      refine gf_X0_C_100_0 hG (pc := 27) dX0_at_27 ?_
      refine z_iload_n (pc := 30) 1 dX0_at_30 rfl rfl ?_
      refine z_chk (fun h6 => ?_)
      refine z_iaload (pc := 31) 32 6 (zGC_s32 hG) h6 dX0_at_31 ?_
      exact z_iret rfl dX0_at_32 rfl
    · refine z_bipush (pc := 17) (v := (-2)) dX0_at_17 (by decide) ?_
      exact z_iret rfl dX0_at_19 rfl
abbrev mX0_clash : zMr := ("HiddenCube", cX0_clash, 1, (some .int), 7, 0, 0, none)
def F_X0_clash  (S : zSt) : Option (Int32 × zSt) :=
zbind (F_X0_isTown S) (fun r2 S1 =>
if r2 = 0 then (some ((-2), S1)) else (zbind (F_X0_carries 32 1 S1) (fun _ S3 =>
some (S3.1 0 35, S3))))
theorem mv_X0_clash : ZV mX0_clash yX0_clash 0 := ⟨q1241, q1242, q150, q1243, rfl, by decide, by decide, by decide +kernel⟩
theorem ct_X0_clash {G : zGw} (hG : zGC G)  : Zc mX0_clash yX0_clash zJI G [.ref (G.1 0)] (F_X0_clash) := by
  refine Zc_of [some (.ref (G.1 0))] (by decide) rfl rfl (Nat.le_of_ble_eq_true rfl) rfl (fun X S res => ?_)
  unfold F_X0_clash
  refine z_aload_n (pc := 0) 0 dX0_clash_0 rfl rfl ?_
  refine z_callVi (pc := 1) _ _ 0 0 (ct_X0_isTown hG) mv_X0_isTown q827 rfl (zGC_s0 hG) rfl (Nat.le_of_ble_eq_true rfl) (Nat.le_of_ble_eq_true rfl) rfl rfl (Nat.le_of_ble_eq_true rfl) dX0_clash_1 (fun r2 S1 => ?_)
  refine z_if_ne (pc := 4) 10 dX0_clash_4 rfl ?_ ?_
  · refine z_aload_n (pc := 10) 0 dX0_clash_10 rfl rfl ?_
    refine z_bipush (pc := 11) (v := 32) dX0_clash_11 (by decide) ?_
    refine z_iconst (pc := 13) (v := 1) dX0_clash_13 (by decide) ?_
    refine z_callVv (pc := 14) _ _ 0 0 (ct_X0_carries hG _ _) mv_X0_carries q1220 rfl (zGC_s0 hG) rfl (Nat.le_of_ble_eq_true rfl) (Nat.le_of_ble_eq_true rfl) rfl rfl (Nat.le_of_ble_eq_true rfl) dX0_clash_14 (fun _ S3 => ?_)
    refine z_aload_n (pc := 17) 0 dX0_clash_17 rfl rfl ?_
    refine gf_X0_C_450_0 hG (pc := 18) dX0_clash_18 ?_
    exact z_iret rfl dX0_clash_21 rfl
  · refine z_bipush (pc := 7) (v := (-2)) dX0_clash_7 (by decide) ?_
    exact z_iret rfl dX0_clash_9 rfl
