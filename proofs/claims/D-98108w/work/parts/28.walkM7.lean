/-! WALKS (written by gen/mkparts.py) -/
set_option maxRecDepth 100000
abbrev mX5_floods : zMr := ("HiddenCubeModel", cX5_floods, 11, (some .int), 4, 0, 0, none)
def LB_X5_floods_1 (x5 : Int32) (r9 : Int32) (k10 : Int32 → zSt → Option (Int32 × zSt)) (rec16 : Int32 → Int32 → zSt → Option (Int32 × zSt)) (x17 : Int32) (x18 : Int32) (S19 : zSt) : Option (Int32 × zSt) :=
chk 0 15 (if (S19.1 18 (0 : Int32).toNatClampNeg) ≤ x18 then (k10 x17 S19) else (zlet (x5 ^^^ ((1 : Int32) <<< (x18 &&& 31)) : Int32) (fun w21 : Int32 =>
if x18 = r9 then (rec16 x17 (x18 + 1) S19) else (zbind (F_X5_isOpen x5 x18 S19) (fun r23 S22 =>
if r23 = 0 then (rec16 x17 (x18 + 1) S22) else (chk w21 32 (chk x5 32 (if (S22.1 27 (w21).toNatClampNeg) = ((S22.1 27 (x5).toNatClampNeg) - 1) then (joinK (rec16 w21 (x18 + 1) S22) (fun j26 : Option (Int32 × zSt) =>
if x17 = (-1) then (j26) else (if x17 ≤ w21 then (rec16 x17 (x18 + 1) S22) else (j26)))) else (rec16 x17 (x18 + 1) S22)))))))))
def LB_X5_floods_2 (a3 : Int32) (rec4 : Int32 → Int32 → zSt → Option (Int32 × zSt)) (x5 : Int32) (x6 : Int32) (S7 : zSt) : Option (Int32 × zSt) :=
if 60 < x6 then (some ((-1), S7)) else (zbind (F_X5_drawn S7) (fun r9 S8 =>
joinK (fun (x11 : Int32) (S12 : zSt) => zlet ((if x11 = (-1) then x5 else x11) : Int32) (fun w14 : Int32 =>
if w14 = a3 then (some (x6, S12)) else (rec4 w14 (x6 + 1) S12))) (fun k10 : Int32 → zSt → Option (Int32 × zSt) =>
loopK (fun _ _ _ => none) (LB_X5_floods_1 x5 r9 k10) zfuel (-1) 0 S8)))
def F_X5_floods (a1 : Int64) (a2 : Int32) (a3 : Int32) (S : zSt) : Option (Int32 × zSt) :=
zlet (sL S 0 57 a1 : zSt) (fun S1 : zSt =>
zbind (F_X5_laysFar a3 S1) (fun _ S2 =>
chk a2 32 (if (S2.1 27 (a2).toNatClampNeg) = 1000000 then (some ((-1), S2)) else (loopK (fun _ _ _ => none) (LB_X5_floods_2 a3) zfuel a2 1 S2))))
theorem mv_X5_floods : ZV mX5_floods yX5_floods 3 := ⟨q2137, qs147, q155, q2138, rfl, by decide, by decide, by decide +kernel⟩
theorem ct_X5_floods {G : zGw} (hG : zGM G) (a1 : Int64) (a2 : Int32) (a3 : Int32) : Zc mX5_floods yX5_floods zJI G [.ref (G.1 0), .long a1, .int a2, .int a3] (F_X5_floods a1 a2 a3) := by
  refine Zc_of [some (.ref (G.1 0)), some (.long a1), none, some (.int a2), some (.int a3), none, none, none, none, none, none] (by decide) rfl rfl (Nat.le_of_ble_eq_true rfl) rfl (fun X S res => ?_)
  unfold F_X5_floods
  refine z_aload_n (pc := 0) 0 dX5_floods_0 rfl rfl ?_
  refine z_lload_n (pc := 1) 1 dX5_floods_1 rfl rfl ?_
  refine pf_X5_M_466_0 hG (pc := 2) dX5_floods_2 ?_
  refine z_letS (fun S1 => ?_)
  refine z_aload_n (pc := 5) 0 dX5_floods_5 rfl rfl ?_
  refine z_iload (pc := 6) dX5_floods_6 rfl ?_
  refine z_callVv (pc := 8) _ _ 0 5 (ct_X5_laysFar hG _) mv_X5_laysFar q1779 rfl (zGM_s0 hG) rfl (Nat.le_of_ble_eq_true rfl) (Nat.le_of_ble_eq_true rfl) rfl rfl (Nat.le_of_ble_eq_true rfl) dX5_floods_8 (fun _ S2 => ?_)
  refine z_aload_n (pc := 11) 0 dX5_floods_11 rfl rfl ?_
  refine gf_X5_M_62_0 hG (pc := 12) dX5_floods_12 ?_
  refine z_iload_n (pc := 15) 3 dX5_floods_15 rfl rfl ?_
  refine z_chk (fun h3 => ?_)
  refine z_iaload (pc := 16) 27 32 (zGM_s27 hG) h3 dX5_floods_16 ?_
  refine z_ldc (pc := 17) (v := 1000000) dX5_floods_17 q1632 ?_
  refine z_icmp_ne (pc := 19) 24 dX5_floods_19 rfl ?_ ?_
  · refine z_iload_n (pc := 24) 3 dX5_floods_24 rfl rfl ?_
    refine z_istore (pc := 25) dX5_floods_25 (Nat.le_of_ble_eq_true rfl) rfl ?_
    refine z_iconst (pc := 27) (v := 1) dX5_floods_27 (by decide) ?_
    refine z_istore (pc := 28) dX5_floods_28 (Nat.le_of_ble_eq_true rfl) rfl ?_
    refine z_maskk [true, false, false, false, true, true, true, false, false, false, false] ?_
    refine z_loopK (fun j : Int32 → Int32 → zSt → Option (Int32 × zSt) => ∀ (x5 : Int32) (x6 : Int32) (S7 : zSt), Zm X mX5_floods zJI G (0, 0) res S7 30 [some (.ref (G.1 0)), none, none, none, some (.int a3), some (.int x5), some (.int x6), none, none, none, none] [] (j x5 x6 S7)) ?_ ?_ zfuel _ _ _
    · intro x5 x6 S7; exact z_none
    · intro rec4 hrec4 x5 x6 S7
      unfold LB_X5_floods_2
      refine z_iload (pc := 30) dX5_floods_30 rfl ?_
      refine z_bipush (pc := 32) (v := 60) dX5_floods_32 (by decide) ?_
      refine z_icmp_gt (pc := 34) 160 dX5_floods_34 rfl ?_ ?_
      · refine z_iconst (pc := 160) (v := (-1)) dX5_floods_160 (by decide) ?_
        exact z_iret rfl dX5_floods_161 rfl
      · refine z_aload_n (pc := 37) 0 dX5_floods_37 rfl rfl ?_
        refine z_callVi (pc := 38) _ _ 0 5 (ct_X5_drawn hG) mv_X5_drawn q2139 rfl (zGM_s0 hG) rfl (Nat.le_of_ble_eq_true rfl) (Nat.le_of_ble_eq_true rfl) rfl rfl (Nat.le_of_ble_eq_true rfl) dX5_floods_38 (fun r9 S8 => ?_)
        refine z_istore (pc := 41) dX5_floods_41 (Nat.le_of_ble_eq_true rfl) rfl ?_
        refine z_iconst (pc := 43) (v := (-1)) dX5_floods_43 (by decide) ?_
        refine z_istore (pc := 44) dX5_floods_44 (Nat.le_of_ble_eq_true rfl) rfl ?_
        refine z_iconst (pc := 46) (v := 0) dX5_floods_46 (by decide) ?_
        refine z_istore (pc := 47) dX5_floods_47 (Nat.le_of_ble_eq_true rfl) rfl ?_
        refine z_join (fun j : Int32 → zSt → Option (Int32 × zSt) => ∀ (x11 : Int32) (S12 : zSt), Zm X mX5_floods zJI G (0, 0) res S12 129 [some (.ref (G.1 0)), none, none, none, some (.int a3), some (.int x5), some (.int x6), none, some (.int x11), none, none] [] (j x11 S12)) ?_ (fun k10 hk10 => ?_)
        · intro x11 S12
          refine z_iload (pc := 129) dX5_floods_129 rfl ?_
          refine z_iconst (pc := 131) (v := (-1)) dX5_floods_131 (by decide) ?_
          refine z_pure (st0 := []) 142 ((if x11 = (-1) then x5 else x11)) ?_ (fun hJ => ?_)
          · refine z_letI (fun w14 => ?_)
            refine z_istore (pc := 142) dX5_floods_142 (Nat.le_of_ble_eq_true rfl) rfl ?_
            refine z_iload (pc := 144) dX5_floods_144 rfl ?_
            refine z_iload (pc := 146) dX5_floods_146 rfl ?_
            refine z_icmp_ne (pc := 148) 154 dX5_floods_148 rfl ?_ ?_
            · refine z_iinc (pc := 154) (w := x6 + 1) dX5_floods_154 rfl (by rw [show Int32.ofInt 1 = 1 from by decide]) (Nat.le_of_ble_eq_true rfl) rfl ?_
              refine z_goto (pc := 157) 30 dX5_floods_157 rfl ?_
              exact z_mask [true, false, false, false, true, true, true, false, false, false, false] (hrec4 _ _ _) rfl
            · refine z_iload (pc := 151) dX5_floods_151 rfl ?_
              exact z_iret rfl dX5_floods_153 rfl
          · refine z_icmpd_ne (pc := 132) 140 dX5_floods_132 rfl (fun c15 => ?_) (fun c15 => ?_)
            · refine z_iload (pc := 140) dX5_floods_140 rfl ?_
              exact z_leaf hJ (by simp only [if_neg c15])
            · refine z_iload (pc := 135) dX5_floods_135 rfl ?_
              refine z_goto (pc := 137) 142 dX5_floods_137 rfl ?_
              exact z_leaf hJ (by simp only [if_pos c15])
        · refine z_loopK (fun j : Int32 → Int32 → zSt → Option (Int32 × zSt) => ∀ (x17 : Int32) (x18 : Int32) (S19 : zSt), Zm X mX5_floods zJI G (0, 0) res S19 49 [some (.ref (G.1 0)), none, none, none, some (.int a3), some (.int x5), some (.int x6), some (.int r9), some (.int x17), some (.int x18), none] [] (j x17 x18 S19)) ?_ ?_ zfuel _ _ _
          · intro x17 x18 S19; exact z_none
          · intro rec16 hrec16 x17 x18 S19
            unfold LB_X5_floods_1
            refine z_iload (pc := 49) dX5_floods_49 rfl ?_
            refine z_aload_n (pc := 51) 0 dX5_floods_51 rfl rfl ?_
            refine gf_X5_M_34_0 hG (pc := 52) dX5_floods_52 ?_
            refine z_iconst (pc := 55) (v := 0) dX5_floods_55 (by decide) ?_
            refine z_chk (fun h20 => ?_)
            refine z_iaload (pc := 56) 18 15 (zGM_s18 hG) h20 dX5_floods_56 ?_
            refine z_icmp_ge (pc := 57) 129 dX5_floods_57 rfl ?_ ?_
            · exact z_mask [true, false, false, false, true, true, true, false, true, false, false] (hk10 _ _) rfl
            · refine z_iload (pc := 60) dX5_floods_60 rfl ?_
              refine z_iconst (pc := 62) (v := 1) dX5_floods_62 (by decide) ?_
              refine z_iload (pc := 63) dX5_floods_63 rfl ?_
              refine z_ishl (pc := 65) dX5_floods_65 ?_
              refine z_ixor (pc := 66) dX5_floods_66 ?_
              refine z_letI (fun w21 => ?_)
              refine z_istore (pc := 67) dX5_floods_67 (Nat.le_of_ble_eq_true rfl) rfl ?_
              refine z_iload (pc := 69) dX5_floods_69 rfl ?_
              refine z_iload (pc := 71) dX5_floods_71 rfl ?_
              refine z_icmp_eq (pc := 73) 123 dX5_floods_73 rfl ?_ ?_
              · refine z_iinc (pc := 123) (w := x18 + 1) dX5_floods_123 rfl (by rw [show Int32.ofInt 1 = 1 from by decide]) (Nat.le_of_ble_eq_true rfl) rfl ?_
                refine z_goto (pc := 126) 49 dX5_floods_126 rfl ?_
                exact z_mask [true, false, false, false, true, true, true, true, true, true, false] (hrec16 _ _ _) rfl
              · refine z_aload_n (pc := 76) 0 dX5_floods_76 rfl rfl ?_
                refine z_iload (pc := 77) dX5_floods_77 rfl ?_
                refine z_iload (pc := 79) dX5_floods_79 rfl ?_
                refine z_callVi (pc := 81) _ _ 0 5 (ct_X5_isOpen hG _ _) mv_X5_isOpen q1733 rfl (zGM_s0 hG) rfl (Nat.le_of_ble_eq_true rfl) (Nat.le_of_ble_eq_true rfl) rfl rfl (Nat.le_of_ble_eq_true rfl) dX5_floods_81 (fun r23 S22 => ?_)
                refine z_if_eq (pc := 84) 123 dX5_floods_84 rfl ?_ ?_
                · refine z_iinc (pc := 123) (w := x18 + 1) dX5_floods_123 rfl (by rw [show Int32.ofInt 1 = 1 from by decide]) (Nat.le_of_ble_eq_true rfl) rfl ?_
                  refine z_goto (pc := 126) 49 dX5_floods_126 rfl ?_
                  exact z_mask [true, false, false, false, true, true, true, true, true, true, false] (hrec16 _ _ _) rfl
                · refine z_aload_n (pc := 87) 0 dX5_floods_87 rfl rfl ?_
                  refine gf_X5_M_62_0 hG (pc := 88) dX5_floods_88 ?_
                  refine z_iload (pc := 91) dX5_floods_91 rfl ?_
                  refine z_chk (fun h24 => ?_)
                  refine z_iaload (pc := 93) 27 32 (zGM_s27 hG) h24 dX5_floods_93 ?_
                  refine z_aload_n (pc := 94) 0 dX5_floods_94 rfl rfl ?_
                  refine gf_X5_M_62_0 hG (pc := 95) dX5_floods_95 ?_
                  refine z_iload (pc := 98) dX5_floods_98 rfl ?_
                  refine z_chk (fun h25 => ?_)
                  refine z_iaload (pc := 100) 27 32 (zGM_s27 hG) h25 dX5_floods_100 ?_
                  refine z_iconst (pc := 101) (v := 1) dX5_floods_101 (by decide) ?_
                  refine z_isub (pc := 102) dX5_floods_102 ?_
                  refine z_icmp_ne (pc := 103) 123 dX5_floods_103 rfl ?_ ?_
                  · refine z_iinc (pc := 123) (w := x18 + 1) dX5_floods_123 rfl (by rw [show Int32.ofInt 1 = 1 from by decide]) (Nat.le_of_ble_eq_true rfl) rfl ?_
                    refine z_goto (pc := 126) 49 dX5_floods_126 rfl ?_
                    exact z_mask [true, false, false, false, true, true, true, true, true, true, false] (hrec16 _ _ _) rfl
                  · refine z_iload (pc := 106) dX5_floods_106 rfl ?_
                    refine z_iconst (pc := 108) (v := (-1)) dX5_floods_108 (by decide) ?_
                    refine z_join (fun j : Option (Int32 × zSt) =>  Zm X mX5_floods zJI G (0, 0) res S22 119 [some (.ref (G.1 0)), none, none, none, some (.int a3), some (.int x5), some (.int x6), some (.int r9), none, some (.int x18), some (.int w21)] [] (j)) ?_ (fun j26 hj26 => ?_)
                    · show _
                      refine z_iload (pc := 119) dX5_floods_119 rfl ?_
                      refine z_istore (pc := 121) dX5_floods_121 (Nat.le_of_ble_eq_true rfl) rfl ?_
                      refine z_iinc (pc := 123) (w := x18 + 1) dX5_floods_123 rfl (by rw [show Int32.ofInt 1 = 1 from by decide]) (Nat.le_of_ble_eq_true rfl) rfl ?_
                      refine z_goto (pc := 126) 49 dX5_floods_126 rfl ?_
                      exact z_mask [true, false, false, false, true, true, true, true, true, true, false] (hrec16 _ _ _) rfl
                    · refine z_icmp_eq (pc := 109) 119 dX5_floods_109 rfl ?_ ?_
                      · exact z_mask [true, false, false, false, true, true, true, true, false, true, true] (hj26) rfl
                      · refine z_iload (pc := 112) dX5_floods_112 rfl ?_
                        refine z_iload (pc := 114) dX5_floods_114 rfl ?_
                        refine z_icmp_ge (pc := 116) 123 dX5_floods_116 rfl ?_ ?_
                        · refine z_iinc (pc := 123) (w := x18 + 1) dX5_floods_123 rfl (by rw [show Int32.ofInt 1 = 1 from by decide]) (Nat.le_of_ble_eq_true rfl) rfl ?_
                          refine z_goto (pc := 126) 49 dX5_floods_126 rfl ?_
                          exact z_mask [true, false, false, false, true, true, true, true, true, true, false] (hrec16 _ _ _) rfl
                        · exact z_mask [true, false, false, false, true, true, true, true, false, true, true] (hj26) rfl
  · refine z_iconst (pc := 22) (v := (-1)) dX5_floods_22 (by decide) ?_
    exact z_iret rfl dX5_floods_23 rfl
abbrev mX5_flood : zMr := ("HiddenCubeModel", cX5_flood, 4, (some .int), 5, 0, 0, none)
def F_X5_flood (a1 : Int32) (a2 : Int32) (a3 : Int32) (S : zSt) : Option (Int32 × zSt) :=
zlet (sI S 0 0 0 : zSt) (fun S1 : zSt =>
zbind (F_X5_isSeed a1 S1) (fun r3 S2 =>
if r3 = 0 then (some ((-2), S2)) else (zbind (F_X5_areTwo a2 a3 S2) (fun r5 S4 =>
if r5 = 0 then (some ((-2), S4)) else (zbind (F_X5_floods ((a1).toInt64) a2 a3 S4) (fun r7 S6 =>
some (r7, S6)))))))
theorem mv_X5_flood : ZV mX5_flood yX5_flood 3 := ⟨q2128, q2129, q155, q2130, rfl, by decide, by decide, by decide +kernel⟩
theorem ct_X5_flood {G : zGw} (hG : zGM G) (a1 : Int32) (a2 : Int32) (a3 : Int32) : Zc mX5_flood yX5_flood zJI G [.ref (G.1 0), .int a1, .int a2, .int a3] (F_X5_flood a1 a2 a3) := by
  refine Zc_of [some (.ref (G.1 0)), some (.int a1), some (.int a2), some (.int a3)] (by decide) rfl rfl (Nat.le_of_ble_eq_true rfl) rfl (fun X S res => ?_)
  unfold F_X5_flood
  refine z_aload_n (pc := 0) 0 dX5_flood_0 rfl rfl ?_
  refine z_iconst (pc := 1) (v := 0) dX5_flood_1 (by decide) ?_
  refine pf_X5_M_131_0 hG (pc := 2) dX5_flood_2 ?_
  refine z_letS (fun S1 => ?_)
  refine z_iload_n (pc := 5) 1 dX5_flood_5 rfl rfl ?_
  refine z_callSi (pc := 6) _ _ (ct_X5_isSeed  _) mv_X5_isSeed q2131 rfl (Nat.le_of_ble_eq_true rfl) (Nat.le_of_ble_eq_true rfl) rfl rfl (Nat.le_of_ble_eq_true rfl) dX5_flood_6 (fun r3 S2 => ?_)
  refine z_if_eq (pc := 9) 32 dX5_flood_9 rfl ?_ ?_
  · refine z_bipush (pc := 32) (v := (-2)) dX5_flood_32 (by decide) ?_
    exact z_iret rfl dX5_flood_34 rfl
  · refine z_aload_n (pc := 12) 0 dX5_flood_12 rfl rfl ?_
    refine z_iload_n (pc := 13) 2 dX5_flood_13 rfl rfl ?_
    refine z_iload_n (pc := 14) 3 dX5_flood_14 rfl rfl ?_
    refine z_callVi (pc := 15) _ _ 0 5 (ct_X5_areTwo hG _ _) mv_X5_areTwo q1823 rfl (zGM_s0 hG) rfl (Nat.le_of_ble_eq_true rfl) (Nat.le_of_ble_eq_true rfl) rfl rfl (Nat.le_of_ble_eq_true rfl) dX5_flood_15 (fun r5 S4 => ?_)
    refine z_if_eq (pc := 18) 32 dX5_flood_18 rfl ?_ ?_
    · refine z_bipush (pc := 32) (v := (-2)) dX5_flood_32 (by decide) ?_
      exact z_iret rfl dX5_flood_34 rfl
    · refine z_aload_n (pc := 21) 0 dX5_flood_21 rfl rfl ?_
      refine z_iload_n (pc := 22) 1 dX5_flood_22 rfl rfl ?_
      refine z_i2l (pc := 23) dX5_flood_23 ?_
      refine z_iload_n (pc := 24) 2 dX5_flood_24 rfl rfl ?_
      refine z_iload_n (pc := 25) 3 dX5_flood_25 rfl rfl ?_
      refine z_callVi (pc := 26) _ _ 0 5 (ct_X5_floods hG _ _ _) mv_X5_floods q2135 rfl (zGM_s0 hG) rfl (Nat.le_of_ble_eq_true rfl) (Nat.le_of_ble_eq_true rfl) rfl rfl (Nat.le_of_ble_eq_true rfl) dX5_flood_26 (fun r7 S6 => ?_)
      refine z_goto (pc := 29) 34 dX5_flood_29 rfl ?_
      exact z_iret rfl dX5_flood_34 rfl
abbrev mX5_day : zMr := ("HiddenCubeModel", cX5_day, 5, (some .int), 3, 0, 0, none)
def LB_X5_day_1 (a2 : Int32) (rec11 : Int32 → Int32 → zSt → Option (Int32 × zSt)) (x12 : Int32) (x13 : Int32) (S14 : zSt) : Option (Int32 × zSt) :=
if a2 ≤ x13 then (some (x12, S14)) else (zbind (F_X5_drawn S14) (fun r16 S15 =>
rec11 r16 (x13 + 1) S15))
def F_X5_day (a1 : Int32) (a2 : Int32) (S : zSt) : Option (Int32 × zSt) :=
zlet (sI S 0 0 0 : zSt) (fun S1 : zSt =>
zbind (F_X5_isTown S1) (fun r3 S2 =>
if r3 = 0 then (some ((-2), S2)) else (zbind (F_X5_isSeed a1 S2) (fun r5 S4 =>
if r5 = 0 then (some ((-2), S4)) else (zbind (F_X5_in ((a2).toInt64) 0 59 S4) (fun r7 S6 =>
if r7 = 0 then (some ((-2), S6)) else (zlet (sL S6 0 57 ((a1).toInt64) : zSt) (fun S8 : zSt =>
zbind (F_X5_drawn S8) (fun r10 S9 =>
loopK (fun _ _ _ => none) (LB_X5_day_1 a2) zfuel r10 0 S9)))))))))
theorem mv_X5_day : ZV mX5_day yX5_day 2 := ⟨q2148, q2149, q155, q2150, rfl, by decide, by decide, by decide +kernel⟩
theorem ct_X5_day {G : zGw} (hG : zGM G) (a1 : Int32) (a2 : Int32) : Zc mX5_day yX5_day zJI G [.ref (G.1 0), .int a1, .int a2] (F_X5_day a1 a2) := by
  refine Zc_of [some (.ref (G.1 0)), some (.int a1), some (.int a2), none, none] (by decide) rfl rfl (Nat.le_of_ble_eq_true rfl) rfl (fun X S res => ?_)
  unfold F_X5_day
  refine z_aload_n (pc := 0) 0 dX5_day_0 rfl rfl ?_
  refine z_iconst (pc := 1) (v := 0) dX5_day_1 (by decide) ?_
  refine pf_X5_M_131_0 hG (pc := 2) dX5_day_2 ?_
  refine z_letS (fun S1 => ?_)
  refine z_aload_n (pc := 5) 0 dX5_day_5 rfl rfl ?_
  refine z_callVi (pc := 6) _ _ 0 5 (ct_X5_isTown hG) mv_X5_isTown q1729 rfl (zGM_s0 hG) rfl (Nat.le_of_ble_eq_true rfl) (Nat.le_of_ble_eq_true rfl) rfl rfl (Nat.le_of_ble_eq_true rfl) dX5_day_6 (fun r3 S2 => ?_)
  refine z_if_eq (pc := 9) 31 dX5_day_9 rfl ?_ ?_
  · refine z_bipush (pc := 31) (v := (-2)) dX5_day_31 (by decide) ?_
    exact z_iret rfl dX5_day_33 rfl
  · refine z_iload_n (pc := 12) 1 dX5_day_12 rfl rfl ?_
    refine z_callSi (pc := 13) _ _ (ct_X5_isSeed  _) mv_X5_isSeed q2131 rfl (Nat.le_of_ble_eq_true rfl) (Nat.le_of_ble_eq_true rfl) rfl rfl (Nat.le_of_ble_eq_true rfl) dX5_day_13 (fun r5 S4 => ?_)
    refine z_if_eq (pc := 16) 31 dX5_day_16 rfl ?_ ?_
    · refine z_bipush (pc := 31) (v := (-2)) dX5_day_31 (by decide) ?_
      exact z_iret rfl dX5_day_33 rfl
    · refine z_iload_n (pc := 19) 2 dX5_day_19 rfl rfl ?_
      refine z_i2l (pc := 20) dX5_day_20 ?_
      refine z_lconst (pc := 21) (v := 0) dX5_day_21 (by decide) ?_
      refine z_ldc2 (pc := 22) (v := 59) dX5_day_22 q2151 ?_
      refine z_callSi (pc := 25) _ _ (ct_X5_in  _ _ _) mv_X5_in q1578 rfl (Nat.le_of_ble_eq_true rfl) (Nat.le_of_ble_eq_true rfl) rfl rfl (Nat.le_of_ble_eq_true rfl) dX5_day_25 (fun r7 S6 => ?_)
      refine z_if_ne (pc := 28) 34 dX5_day_28 rfl ?_ ?_
      · refine z_aload_n (pc := 34) 0 dX5_day_34 rfl rfl ?_
        refine z_iload_n (pc := 35) 1 dX5_day_35 rfl rfl ?_
        refine z_i2l (pc := 36) dX5_day_36 ?_
        refine pf_X5_M_466_0 hG (pc := 37) dX5_day_37 ?_
        refine z_letS (fun S8 => ?_)
        refine z_aload_n (pc := 40) 0 dX5_day_40 rfl rfl ?_
        refine z_callVi (pc := 41) _ _ 0 5 (ct_X5_drawn hG) mv_X5_drawn q2139 rfl (zGM_s0 hG) rfl (Nat.le_of_ble_eq_true rfl) (Nat.le_of_ble_eq_true rfl) rfl rfl (Nat.le_of_ble_eq_true rfl) dX5_day_41 (fun r10 S9 => ?_)
        refine z_istore_n (pc := 44) 3 dX5_day_44 rfl (Nat.le_of_ble_eq_true rfl) rfl ?_
        refine z_iconst (pc := 45) (v := 0) dX5_day_45 (by decide) ?_
        refine z_istore (pc := 46) dX5_day_46 (Nat.le_of_ble_eq_true rfl) rfl ?_
        refine z_maskk [true, false, true, true, true] ?_
        refine z_loopK (fun j : Int32 → Int32 → zSt → Option (Int32 × zSt) => ∀ (x12 : Int32) (x13 : Int32) (S14 : zSt), Zm X mX5_day zJI G (0, 0) res S14 48 [some (.ref (G.1 0)), none, some (.int a2), some (.int x12), some (.int x13)] [] (j x12 x13 S14)) ?_ ?_ zfuel _ _ _
        · intro x12 x13 S14; exact z_none
        · intro rec11 hrec11 x12 x13 S14
          unfold LB_X5_day_1
          refine z_iload (pc := 48) dX5_day_48 rfl ?_
          refine z_iload_n (pc := 50) 2 dX5_day_50 rfl rfl ?_
          refine z_icmp_ge (pc := 51) 65 dX5_day_51 rfl ?_ ?_
          · refine z_iload_n (pc := 65) 3 dX5_day_65 rfl rfl ?_
            exact z_iret rfl dX5_day_66 rfl
          · refine z_aload_n (pc := 54) 0 dX5_day_54 rfl rfl ?_
            refine z_callVi (pc := 55) _ _ 0 5 (ct_X5_drawn hG) mv_X5_drawn q2139 rfl (zGM_s0 hG) rfl (Nat.le_of_ble_eq_true rfl) (Nat.le_of_ble_eq_true rfl) rfl rfl (Nat.le_of_ble_eq_true rfl) dX5_day_55 (fun r16 S15 => ?_)
            refine z_istore_n (pc := 58) 3 dX5_day_58 rfl (Nat.le_of_ble_eq_true rfl) rfl ?_
            refine z_iinc (pc := 59) (w := x13 + 1) dX5_day_59 rfl (by rw [show Int32.ofInt 1 = 1 from by decide]) (Nat.le_of_ble_eq_true rfl) rfl ?_
            refine z_goto (pc := 62) 48 dX5_day_62 rfl ?_
            exact hrec11 _ _ _
      · refine z_bipush (pc := 31) (v := (-2)) dX5_day_31 (by decide) ?_
        exact z_iret rfl dX5_day_33 rfl
abbrev mX5_chance : zMr := ("HiddenCubeModel", cX5_chance, 9, (some .int), 5, 0, 0, none)
def LB_X5_chance_1 (a1 : Int32) (a2 : Int32) (a3 : Int32) (a4 : Int32) (a5 : Int32) (rec10 : Int32 → Int32 → zSt → Option (Int32 × zSt)) (x11 : Int32) (x12 : Int32) (S13 : zSt) : Option (Int32 × zSt) :=
if a2 ≤ x12 then (some (x11, S13)) else (zbind (F_X5_floods (((a1).toInt64) + ((x12).toInt64)) a3 a4 S13) (fun r15 S14 =>
zlet (x11 + (if r15 = (-1) then 0 else (if a5 < r15 then 0 else 1)) : Int32) (fun w17 : Int32 =>
rec10 w17 (x12 + 1) S14)))
def F_X5_chance (a1 : Int32) (a2 : Int32) (a3 : Int32) (a4 : Int32) (a5 : Int32) (S : zSt) : Option (Int32 × zSt) :=
zlet (sI S 0 0 0 : zSt) (fun S1 : zSt =>
zbind (F_X5_isSeed a1 S1) (fun r3 S2 =>
if r3 = 0 then (some ((-2), S2)) else (zbind (F_X5_in ((a2).toInt64) 1 20 S2) (fun r5 S4 =>
if r5 = 0 then (some ((-2), S4)) else (zbind (F_X5_areTwo a3 a4 S4) (fun r7 S6 =>
if r7 = 0 then (some ((-2), S6)) else (zbind (F_X5_in ((a5).toInt64) 1 60 S6) (fun r9 S8 =>
if r9 = 0 then (some ((-2), S8)) else (loopK (fun _ _ _ => none) (LB_X5_chance_1 a1 a2 a3 a4 a5) zfuel 0 0 S8)))))))))
theorem mv_X5_chance : ZV mX5_chance yX5_chance 5 := ⟨q2153, q2154, q155, q2155, rfl, by decide, by decide, by decide +kernel⟩
theorem ct_X5_chance {G : zGw} (hG : zGM G) (a1 : Int32) (a2 : Int32) (a3 : Int32) (a4 : Int32) (a5 : Int32) : Zc mX5_chance yX5_chance zJI G [.ref (G.1 0), .int a1, .int a2, .int a3, .int a4, .int a5] (F_X5_chance a1 a2 a3 a4 a5) := by
  refine Zc_of [some (.ref (G.1 0)), some (.int a1), some (.int a2), some (.int a3), some (.int a4), some (.int a5), none, none, none] (by decide) rfl rfl (Nat.le_of_ble_eq_true rfl) rfl (fun X S res => ?_)
  unfold F_X5_chance
  refine z_aload_n (pc := 0) 0 dX5_chance_0 rfl rfl ?_
  refine z_iconst (pc := 1) (v := 0) dX5_chance_1 (by decide) ?_
  refine pf_X5_M_131_0 hG (pc := 2) dX5_chance_2 ?_
  refine z_letS (fun S1 => ?_)
  refine z_iload_n (pc := 5) 1 dX5_chance_5 rfl rfl ?_
  refine z_callSi (pc := 6) _ _ (ct_X5_isSeed  _) mv_X5_isSeed q2131 rfl (Nat.le_of_ble_eq_true rfl) (Nat.le_of_ble_eq_true rfl) rfl rfl (Nat.le_of_ble_eq_true rfl) dX5_chance_6 (fun r3 S2 => ?_)
  refine z_if_eq (pc := 9) 47 dX5_chance_9 rfl ?_ ?_
  · refine z_bipush (pc := 47) (v := (-2)) dX5_chance_47 (by decide) ?_
    exact z_iret rfl dX5_chance_49 rfl
  · refine z_iload_n (pc := 12) 2 dX5_chance_12 rfl rfl ?_
    refine z_i2l (pc := 13) dX5_chance_13 ?_
    refine z_lconst (pc := 14) (v := 1) dX5_chance_14 (by decide) ?_
    refine z_ldc2 (pc := 15) (v := 20) dX5_chance_15 q2156 ?_
    refine z_callSi (pc := 18) _ _ (ct_X5_in  _ _ _) mv_X5_in q1578 rfl (Nat.le_of_ble_eq_true rfl) (Nat.le_of_ble_eq_true rfl) rfl rfl (Nat.le_of_ble_eq_true rfl) dX5_chance_18 (fun r5 S4 => ?_)
    refine z_if_eq (pc := 21) 47 dX5_chance_21 rfl ?_ ?_
    · refine z_bipush (pc := 47) (v := (-2)) dX5_chance_47 (by decide) ?_
      exact z_iret rfl dX5_chance_49 rfl
    · refine z_aload_n (pc := 24) 0 dX5_chance_24 rfl rfl ?_
      refine z_iload_n (pc := 25) 3 dX5_chance_25 rfl rfl ?_
      refine z_iload (pc := 26) dX5_chance_26 rfl ?_
      refine z_callVi (pc := 28) _ _ 0 5 (ct_X5_areTwo hG _ _) mv_X5_areTwo q1823 rfl (zGM_s0 hG) rfl (Nat.le_of_ble_eq_true rfl) (Nat.le_of_ble_eq_true rfl) rfl rfl (Nat.le_of_ble_eq_true rfl) dX5_chance_28 (fun r7 S6 => ?_)
      refine z_if_eq (pc := 31) 47 dX5_chance_31 rfl ?_ ?_
      · refine z_bipush (pc := 47) (v := (-2)) dX5_chance_47 (by decide) ?_
        exact z_iret rfl dX5_chance_49 rfl
      · refine z_iload (pc := 34) dX5_chance_34 rfl ?_
        refine z_i2l (pc := 36) dX5_chance_36 ?_
        refine z_lconst (pc := 37) (v := 1) dX5_chance_37 (by decide) ?_
        refine z_ldc2 (pc := 38) (v := 60) dX5_chance_38 q2157 ?_
        refine z_callSi (pc := 41) _ _ (ct_X5_in  _ _ _) mv_X5_in q1578 rfl (Nat.le_of_ble_eq_true rfl) (Nat.le_of_ble_eq_true rfl) rfl rfl (Nat.le_of_ble_eq_true rfl) dX5_chance_41 (fun r9 S8 => ?_)
        refine z_if_ne (pc := 44) 50 dX5_chance_44 rfl ?_ ?_
        · refine z_iconst (pc := 50) (v := 0) dX5_chance_50 (by decide) ?_
          refine z_istore (pc := 51) dX5_chance_51 (Nat.le_of_ble_eq_true rfl) rfl ?_
          refine z_iconst (pc := 53) (v := 0) dX5_chance_53 (by decide) ?_
          refine z_istore (pc := 54) dX5_chance_54 (Nat.le_of_ble_eq_true rfl) rfl ?_
          refine z_loopK (fun j : Int32 → Int32 → zSt → Option (Int32 × zSt) => ∀ (x11 : Int32) (x12 : Int32) (S13 : zSt), Zm X mX5_chance zJI G (0, 0) res S13 56 [some (.ref (G.1 0)), some (.int a1), some (.int a2), some (.int a3), some (.int a4), some (.int a5), some (.int x11), some (.int x12), none] [] (j x11 x12 S13)) ?_ ?_ zfuel _ _ _
          · intro x11 x12 S13; exact z_none
          · intro rec10 hrec10 x11 x12 S13
            unfold LB_X5_chance_1
            refine z_iload (pc := 56) dX5_chance_56 rfl ?_
            refine z_iload_n (pc := 58) 2 dX5_chance_58 rfl rfl ?_
            refine z_icmp_ge (pc := 59) 106 dX5_chance_59 rfl ?_ ?_
            · refine z_iload (pc := 106) dX5_chance_106 rfl ?_
              exact z_iret rfl dX5_chance_108 rfl
            · refine z_aload_n (pc := 62) 0 dX5_chance_62 rfl rfl ?_
              refine z_iload_n (pc := 63) 1 dX5_chance_63 rfl rfl ?_
              refine z_i2l (pc := 64) dX5_chance_64 ?_
              refine z_iload (pc := 65) dX5_chance_65 rfl ?_
              refine z_i2l (pc := 67) dX5_chance_67 ?_
              refine z_ladd (pc := 68) dX5_chance_68 ?_
              refine z_iload_n (pc := 69) 3 dX5_chance_69 rfl rfl ?_
              refine z_iload (pc := 70) dX5_chance_70 rfl ?_
              refine z_callVi (pc := 72) _ _ 0 5 (ct_X5_floods hG _ _ _) mv_X5_floods q2135 rfl (zGM_s0 hG) rfl (Nat.le_of_ble_eq_true rfl) (Nat.le_of_ble_eq_true rfl) rfl rfl (Nat.le_of_ble_eq_true rfl) dX5_chance_72 (fun r15 S14 => ?_)
              refine z_istore (pc := 75) dX5_chance_75 (Nat.le_of_ble_eq_true rfl) rfl ?_
              refine z_iload (pc := 77) dX5_chance_77 rfl ?_
              refine z_iload (pc := 79) dX5_chance_79 rfl ?_
              refine z_iconst (pc := 81) (v := (-1)) dX5_chance_81 (by decide) ?_
              refine z_pure (st0 := [.int x11]) 97 ((if r15 = (-1) then 0 else (if a5 < r15 then 0 else 1))) ?_ (fun hJ => ?_)
              · refine z_iadd (pc := 97) dX5_chance_97 ?_
                refine z_letI (fun w17 => ?_)
                refine z_istore (pc := 98) dX5_chance_98 (Nat.le_of_ble_eq_true rfl) rfl ?_
                refine z_iinc (pc := 100) (w := x12 + 1) dX5_chance_100 rfl (by rw [show Int32.ofInt 1 = 1 from by decide]) (Nat.le_of_ble_eq_true rfl) rfl ?_
                refine z_goto (pc := 103) 56 dX5_chance_103 rfl ?_
                exact z_mask [true, true, true, true, true, true, true, true, false] (hrec10 _ _ _) rfl
              · refine z_icmpd_eq (pc := 82) 96 dX5_chance_82 rfl (fun c18 => ?_) (fun c18 => ?_)
                · refine z_iconst (pc := 96) (v := 0) dX5_chance_96 (by decide) ?_
                  exact z_leaf hJ (by simp only [if_pos c18])
                · refine z_iload (pc := 85) dX5_chance_85 rfl ?_
                  refine z_iload (pc := 87) dX5_chance_87 rfl ?_
                  refine z_icmpd_gt (pc := 89) 96 dX5_chance_89 rfl (fun c19 => ?_) (fun c19 => ?_)
                  · refine z_iconst (pc := 96) (v := 0) dX5_chance_96 (by decide) ?_
                    exact z_leaf hJ (by simp only [if_neg c18, if_pos c19])
                  · refine z_iconst (pc := 92) (v := 1) dX5_chance_92 (by decide) ?_
                    refine z_goto (pc := 93) 97 dX5_chance_93 rfl ?_
                    exact z_leaf hJ (by simp only [if_neg c18, if_neg c19])
        · refine z_bipush (pc := 47) (v := (-2)) dX5_chance_47 (by decide) ?_
          exact z_iret rfl dX5_chance_49 rfl
abbrev mX5_count : zMr := ("HiddenCubeModel", cX5_count, 4, (some .int), 3, 0, 0, none)
def LB_X5_count_1 (k5 : Int32 → zSt → Option (Int32 × zSt)) (rec8 : Int32 → Int32 → zSt → Option (Int32 × zSt)) (x9 : Int32) (x10 : Int32) (S11 : zSt) : Option (Int32 × zSt) :=
zbind (F_X5_squares S11) (fun r13 S12 =>
if r13 ≤ x10 then (k5 x9 S12) else (chk x10 160 (zbind (F_X5_bits (S12.1 22 (x10).toNatClampNeg) S12) (fun r16 S15 =>
rec8 (x9 + r16) (x10 + 1) S15))))
def LB_X5_count_2 (S1 : zSt) (rec23 : Int32 → Int32 → Option (Int32 × zSt)) (x24 : Int32) (x25 : Int32) : Option (Int32 × zSt) :=
if 4 ≤ x25 then (some (x24, S1)) else (chk x25 4 (zlet (x24 + (if (S1.1 2 (x25).toNatClampNeg) = (-1) then 0 else 1) : Int32) (fun w28 : Int32 =>
rec23 w28 (x25 + 1))))
def F_X5_count (a1 : Int32) (S : zSt) : Option (Int32 × zSt) :=
zlet (sI S 0 0 0 : zSt) (fun S1 : zSt =>
zsw a1 9 (zs9 (chk 0 15 (some (S1.1 18 (0 : Int32).toNatClampNeg, S1))) (zbind (F_X5_squares S1) (fun r4 S3 =>
some (r4, S3))) (joinK (fun (x6 : Int32) (S7 : zSt) => some (x6 / 2, S7)) (fun k5 : Int32 → zSt → Option (Int32 × zSt) =>
loopK (fun _ _ _ => none) (LB_X5_count_1 k5) zfuel 0 0 S1)) (chk 1 15 (some (S1.1 18 (1 : Int32).toNatClampNeg, S1))) (chk 2 15 (some (S1.1 18 (2 : Int32).toNatClampNeg, S1))) (chk 0 5 (zbind (F_X5_bits (S1.1 23 (0 : Int32).toNatClampNeg) S1) (fun r21 S20 =>
some (r21, S20)))) (chk 0 5 (some (S1.1 17 (0 : Int32).toNatClampNeg, S1))) (some (S1.1 0 6, S1)) (loopK (fun _ _ => none) (LB_X5_count_2 S1) zfuel 0 0)) (some ((-1), S1)))
theorem mv_X5_count : ZV mX5_count yX5_count 1 := ⟨q2159, q2160, q155, q2161, rfl, by decide, by decide, by decide +kernel⟩
theorem ct_X5_count {G : zGw} (hG : zGM G) (a1 : Int32) : Zc mX5_count yX5_count zJI G [.ref (G.1 0), .int a1] (F_X5_count a1) := by
  refine Zc_of [some (.ref (G.1 0)), some (.int a1), none, none] (by decide) rfl rfl (Nat.le_of_ble_eq_true rfl) rfl (fun X S res => ?_)
  unfold F_X5_count
  refine z_aload_n (pc := 0) 0 dX5_count_0 rfl rfl ?_
  refine z_iconst (pc := 1) (v := 0) dX5_count_1 (by decide) ?_
  refine pf_X5_M_131_0 hG (pc := 2) dX5_count_2 ?_
  refine z_letS (fun S1 => ?_)
  refine z_iconst (pc := 5) (v := 0) dX5_count_5 (by decide) ?_
  refine z_istore_n (pc := 6) 2 dX5_count_6 rfl (Nat.le_of_ble_eq_true rfl) rfl ?_
  refine z_iload_n (pc := 7) 1 dX5_count_7 rfl rfl ?_
  refine z_switch9 (pc := 8) 173 60 67 72 104 111 118 128 135 140 dX5_count_8 rfl rfl rfl rfl rfl rfl rfl rfl rfl rfl ?_ ?_ ?_ ?_ ?_ ?_ ?_ ?_ ?_ ?_
  · refine z_iconst (pc := 173) (v := (-1)) dX5_count_173 (by decide) ?_
    exact z_iret rfl dX5_count_174 rfl
  · refine z_aload_n (pc := 60) 0 dX5_count_60 rfl rfl ?_
    refine gf_X5_M_34_0 hG (pc := 61) dX5_count_61 ?_
    refine z_iconst (pc := 64) (v := 0) dX5_count_64 (by decide) ?_
    refine z_chk (fun h2 => ?_)
    refine z_iaload (pc := 65) 18 15 (zGM_s18 hG) h2 dX5_count_65 ?_
    exact z_iret rfl dX5_count_66 rfl
  · refine z_aload_n (pc := 67) 0 dX5_count_67 rfl rfl ?_
    refine z_callVi (pc := 68) _ _ 0 5 (ct_X5_squares hG) mv_X5_squares q1725 rfl (zGM_s0 hG) rfl (Nat.le_of_ble_eq_true rfl) (Nat.le_of_ble_eq_true rfl) rfl rfl (Nat.le_of_ble_eq_true rfl) dX5_count_68 (fun r4 S3 => ?_)
    exact z_iret rfl dX5_count_71 rfl
  · refine z_iconst (pc := 72) (v := 0) dX5_count_72 (by decide) ?_
    refine z_istore_n (pc := 73) 3 dX5_count_73 rfl (Nat.le_of_ble_eq_true rfl) rfl ?_
    refine z_join (fun j : Int32 → zSt → Option (Int32 × zSt) => ∀ (x6 : Int32) (S7 : zSt), Zm X mX5_count zJI G (0, 0) res S7 100 [none, none, some (.int x6), none] [] (j x6 S7)) ?_ (fun k5 hk5 => ?_)
    · intro x6 S7
      refine z_iload_n (pc := 100) 2 dX5_count_100 rfl rfl ?_
      refine z_iconst (pc := 101) (v := 2) dX5_count_101 (by decide) ?_
      refine z_idivc (pc := 102) dX5_count_102 (by decide) ?_
      exact z_iret rfl dX5_count_103 rfl
    · refine z_maskk [true, false, true, true] ?_
      refine z_loopK (fun j : Int32 → Int32 → zSt → Option (Int32 × zSt) => ∀ (x9 : Int32) (x10 : Int32) (S11 : zSt), Zm X mX5_count zJI G (0, 0) res S11 74 [some (.ref (G.1 0)), none, some (.int x9), some (.int x10)] [] (j x9 x10 S11)) ?_ ?_ zfuel _ _ _
      · intro x9 x10 S11; exact z_none
      · intro rec8 hrec8 x9 x10 S11
        unfold LB_X5_count_1
        refine z_iload_n (pc := 74) 3 dX5_count_74 rfl rfl ?_
        refine z_aload_n (pc := 75) 0 dX5_count_75 rfl rfl ?_
        refine z_callVi (pc := 76) _ _ 0 5 (ct_X5_squares hG) mv_X5_squares q1725 rfl (zGM_s0 hG) rfl (Nat.le_of_ble_eq_true rfl) (Nat.le_of_ble_eq_true rfl) rfl rfl (Nat.le_of_ble_eq_true rfl) dX5_count_76 (fun r13 S12 => ?_)
        refine z_icmp_ge (pc := 79) 100 dX5_count_79 rfl ?_ ?_
        · exact z_mask [false, false, true, false] (hk5 _ _) rfl
        · refine z_iload_n (pc := 82) 2 dX5_count_82 rfl rfl ?_
          refine z_aload_n (pc := 83) 0 dX5_count_83 rfl rfl ?_
          refine gf_X5_M_46_0 hG (pc := 84) dX5_count_84 ?_
          refine z_iload_n (pc := 87) 3 dX5_count_87 rfl rfl ?_
          refine z_chk (fun h14 => ?_)
          refine z_iaload (pc := 88) 22 160 (zGM_s22 hG) h14 dX5_count_88 ?_
          refine z_callSi (pc := 89) _ _ (ct_X5_bits  _) mv_X5_bits q1756 rfl (Nat.le_of_ble_eq_true rfl) (Nat.le_of_ble_eq_true rfl) rfl rfl (Nat.le_of_ble_eq_true rfl) dX5_count_89 (fun r16 S15 => ?_)
          refine z_iadd (pc := 92) dX5_count_92 ?_
          refine z_istore_n (pc := 93) 2 dX5_count_93 rfl (Nat.le_of_ble_eq_true rfl) rfl ?_
          refine z_iinc (pc := 94) (w := x10 + 1) dX5_count_94 rfl (by rw [show Int32.ofInt 1 = 1 from by decide]) (Nat.le_of_ble_eq_true rfl) rfl ?_
          refine z_goto (pc := 97) 74 dX5_count_97 rfl ?_
          exact hrec8 _ _ _
  · refine z_aload_n (pc := 104) 0 dX5_count_104 rfl rfl ?_
    refine gf_X5_M_34_0 hG (pc := 105) dX5_count_105 ?_
    refine z_iconst (pc := 108) (v := 1) dX5_count_108 (by decide) ?_
    refine z_chk (fun h17 => ?_)
    refine z_iaload (pc := 109) 18 15 (zGM_s18 hG) h17 dX5_count_109 ?_
    exact z_iret rfl dX5_count_110 rfl
  · refine z_aload_n (pc := 111) 0 dX5_count_111 rfl rfl ?_
    refine gf_X5_M_34_0 hG (pc := 112) dX5_count_112 ?_
    refine z_iconst (pc := 115) (v := 2) dX5_count_115 (by decide) ?_
    refine z_chk (fun h18 => ?_)
    refine z_iaload (pc := 116) 18 15 (zGM_s18 hG) h18 dX5_count_116 ?_
    exact z_iret rfl dX5_count_117 rfl
  · refine z_aload_n (pc := 118) 0 dX5_count_118 rfl rfl ?_
    refine gf_X5_M_49_0 hG (pc := 119) dX5_count_119 ?_
    refine z_iconst (pc := 122) (v := 0) dX5_count_122 (by decide) ?_
    refine z_chk (fun h19 => ?_)
    refine z_iaload (pc := 123) 23 5 (zGM_s23 hG) h19 dX5_count_123 ?_
    refine z_callSi (pc := 124) _ _ (ct_X5_bits  _) mv_X5_bits q1756 rfl (Nat.le_of_ble_eq_true rfl) (Nat.le_of_ble_eq_true rfl) rfl rfl (Nat.le_of_ble_eq_true rfl) dX5_count_124 (fun r21 S20 => ?_)
    exact z_iret rfl dX5_count_127 rfl
  · refine z_aload_n (pc := 128) 0 dX5_count_128 rfl rfl ?_
    refine gf_X5_M_31_0 hG (pc := 129) dX5_count_129 ?_
    refine z_iconst (pc := 132) (v := 0) dX5_count_132 (by decide) ?_
    refine z_chk (fun h22 => ?_)
    refine z_iaload (pc := 133) 17 5 (zGM_s17 hG) h22 dX5_count_133 ?_
    exact z_iret rfl dX5_count_134 rfl
  · refine z_aload_n (pc := 135) 0 dX5_count_135 rfl rfl ?_
    refine gf_X5_M_148_0 hG (pc := 136) dX5_count_136 ?_
    exact z_iret rfl dX5_count_139 rfl
  · refine z_iconst (pc := 140) (v := 0) dX5_count_140 (by decide) ?_
    refine z_istore_n (pc := 141) 3 dX5_count_141 rfl (Nat.le_of_ble_eq_true rfl) rfl ?_
    refine z_maskk [true, false, true, true] ?_
    refine z_loopK (fun j : Int32 → Int32 → Option (Int32 × zSt) => ∀ (x24 : Int32) (x25 : Int32), Zm X mX5_count zJI G (0, 0) res S1 142 [some (.ref (G.1 0)), none, some (.int x24), some (.int x25)] [] (j x24 x25)) ?_ ?_ zfuel _ _
    · intro x24 x25; exact z_none
    · intro rec23 hrec23 x24 x25
      unfold LB_X5_count_2
      refine z_iload_n (pc := 142) 3 dX5_count_142 rfl rfl ?_
      refine z_iconst (pc := 143) (v := 4) dX5_count_143 (by decide) ?_
      refine z_icmp_ge (pc := 144) 171 dX5_count_144 rfl ?_ ?_
      · refine z_iload_n (pc := 171) 2 dX5_count_171 rfl rfl ?_
        exact z_iret rfl dX5_count_172 rfl
      · refine z_iload_n (pc := 147) 2 dX5_count_147 rfl rfl ?_
        refine z_aload_n (pc := 148) 0 dX5_count_148 rfl rfl ?_
        refine gf_X5_M_7_0 hG (pc := 149) dX5_count_149 ?_
        refine z_iload_n (pc := 152) 3 dX5_count_152 rfl rfl ?_
        refine z_chk (fun h26 => ?_)
        refine z_iaload (pc := 153) 2 4 (zGM_s2 hG) h26 dX5_count_153 ?_
        refine z_iconst (pc := 154) (v := (-1)) dX5_count_154 (by decide) ?_
        refine z_pure (st0 := [.int x24]) 163 ((if (S1.1 2 (x25).toNatClampNeg) = (-1) then 0 else 1)) ?_ (fun hJ => ?_)
        · refine z_iadd (pc := 163) dX5_count_163 ?_
          refine z_letI (fun w28 => ?_)
          refine z_istore_n (pc := 164) 2 dX5_count_164 rfl (Nat.le_of_ble_eq_true rfl) rfl ?_
          refine z_iinc (pc := 165) (w := x25 + 1) dX5_count_165 rfl (by rw [show Int32.ofInt 1 = 1 from by decide]) (Nat.le_of_ble_eq_true rfl) rfl ?_
          refine z_goto (pc := 168) 142 dX5_count_168 rfl ?_
          exact hrec23 _ _
        · refine z_icmpd_ne (pc := 155) 162 dX5_count_155 rfl (fun c29 => ?_) (fun c29 => ?_)
          · refine z_iconst (pc := 162) (v := 1) dX5_count_162 (by decide) ?_
            exact z_leaf hJ (by simp only [if_neg c29])
          · refine z_iconst (pc := 158) (v := 0) dX5_count_158 (by decide) ?_
            refine z_goto (pc := 159) 163 dX5_count_159 rfl ?_
            exact z_leaf hJ (by simp only [if_pos c29])
abbrev mX5_keep : zMr := ("HiddenCubeModel", cX5_keep, 2, (some .int), 3, 0, 0, none)
def F_X5_keep (a1 : Int32) (S : zSt) : Option (Int32 × zSt) :=
zlet (sI S 0 0 0 : zSt) (fun S1 : zSt =>
zbind (F_X5_in ((a1).toInt64) 0 2 S1) (fun r3 S2 =>
if r3 = 0 then (some ((-2), S2)) else (zbind (F_X5_copyTown 0 (1 + a1) S2) (fun _ S4 =>
chk a1 3 (zlet (sI S4 26 (a1).toNatClampNeg (1 &&& 1) : zSt) (fun S6 : zSt =>
some (0, S6)))))))
theorem mv_X5_keep : ZV mX5_keep yX5_keep 1 := ⟨q2163, q2164, q155, q2165, rfl, by decide, by decide, by decide +kernel⟩
theorem ct_X5_keep {G : zGw} (hG : zGM G) (a1 : Int32) : Zc mX5_keep yX5_keep zJI G [.ref (G.1 0), .int a1] (F_X5_keep a1) := by
  refine Zc_of [some (.ref (G.1 0)), some (.int a1)] (by decide) rfl rfl (Nat.le_of_ble_eq_true rfl) rfl (fun X S res => ?_)
  unfold F_X5_keep
  refine z_aload_n (pc := 0) 0 dX5_keep_0 rfl rfl ?_
  refine z_iconst (pc := 1) (v := 0) dX5_keep_1 (by decide) ?_
  refine pf_X5_M_131_0 hG (pc := 2) dX5_keep_2 ?_
  refine z_letS (fun S1 => ?_)
  refine z_iload_n (pc := 5) 1 dX5_keep_5 rfl rfl ?_
  refine z_i2l (pc := 6) dX5_keep_6 ?_
  refine z_lconst (pc := 7) (v := 0) dX5_keep_7 (by decide) ?_
  refine z_ldc2 (pc := 8) (v := 2) dX5_keep_8 q1997 ?_
  refine z_callSi (pc := 11) _ _ (ct_X5_in  _ _ _) mv_X5_in q1578 rfl (Nat.le_of_ble_eq_true rfl) (Nat.le_of_ble_eq_true rfl) rfl rfl (Nat.le_of_ble_eq_true rfl) dX5_keep_11 (fun r3 S2 => ?_)
  refine z_if_ne (pc := 14) 20 dX5_keep_14 rfl ?_ ?_
  · refine z_aload_n (pc := 20) 0 dX5_keep_20 rfl rfl ?_
    refine z_iconst (pc := 21) (v := 0) dX5_keep_21 (by decide) ?_
    refine z_iconst (pc := 22) (v := 1) dX5_keep_22 (by decide) ?_
    refine z_iload_n (pc := 23) 1 dX5_keep_23 rfl rfl ?_
    refine z_iadd (pc := 24) dX5_keep_24 ?_
    refine z_callVv (pc := 25) _ _ 0 5 (ct_X5_copyTown hG _ _) mv_X5_copyTown q1702 rfl (zGM_s0 hG) rfl (Nat.le_of_ble_eq_true rfl) (Nat.le_of_ble_eq_true rfl) rfl rfl (Nat.le_of_ble_eq_true rfl) dX5_keep_25 (fun _ S4 => ?_)
    refine z_aload_n (pc := 28) 0 dX5_keep_28 rfl rfl ?_
    refine gf_X5_M_58_0 hG (pc := 29) dX5_keep_29 ?_
    refine z_iload_n (pc := 32) 1 dX5_keep_32 rfl rfl ?_
    refine z_iconst (pc := 33) (v := 1) dX5_keep_33 (by decide) ?_
    refine z_chk (fun h5 => ?_)
    refine z_zastore (pc := 34) 26 3 (zGM_s26 hG) h5 dX5_keep_34 ?_
    refine z_letS (fun S6 => ?_)
    refine z_iconst (pc := 35) (v := 0) dX5_keep_35 (by decide) ?_
    exact z_iret rfl dX5_keep_36 rfl
  · refine z_bipush (pc := 17) (v := (-2)) dX5_keep_17 (by decide) ?_
    exact z_iret rfl dX5_keep_19 rfl
abbrev mX5_back : zMr := ("HiddenCubeModel", cX5_back, 2, (some .int), 3, 0, 0, none)
def F_X5_back (a1 : Int32) (S : zSt) : Option (Int32 × zSt) :=
zlet (sI S 0 0 0 : zSt) (fun S1 : zSt =>
zbind (F_X5_in ((a1).toInt64) 0 2 S1) (fun r3 S2 =>
if r3 = 0 then (some ((-2), S2)) else (chk a1 3 (if (S2.1 26 (a1).toNatClampNeg) = 0 then (some ((-6), S2)) else (zbind (F_X5_copyTown (1 + a1) 0 S2) (fun _ S5 =>
some (0, S5)))))))
theorem mv_X5_back : ZV mX5_back yX5_back 1 := ⟨q2167, q2168, q155, q2169, rfl, by decide, by decide, by decide +kernel⟩
theorem ct_X5_back {G : zGw} (hG : zGM G) (a1 : Int32) : Zc mX5_back yX5_back zJI G [.ref (G.1 0), .int a1] (F_X5_back a1) := by
  refine Zc_of [some (.ref (G.1 0)), some (.int a1)] (by decide) rfl rfl (Nat.le_of_ble_eq_true rfl) rfl (fun X S res => ?_)
  unfold F_X5_back
  refine z_aload_n (pc := 0) 0 dX5_back_0 rfl rfl ?_
  refine z_iconst (pc := 1) (v := 0) dX5_back_1 (by decide) ?_
  refine pf_X5_M_131_0 hG (pc := 2) dX5_back_2 ?_
  refine z_letS (fun S1 => ?_)
  refine z_iload_n (pc := 5) 1 dX5_back_5 rfl rfl ?_
  refine z_i2l (pc := 6) dX5_back_6 ?_
  refine z_lconst (pc := 7) (v := 0) dX5_back_7 (by decide) ?_
  refine z_ldc2 (pc := 8) (v := 2) dX5_back_8 q1997 ?_
  refine z_callSi (pc := 11) _ _ (ct_X5_in  _ _ _) mv_X5_in q1578 rfl (Nat.le_of_ble_eq_true rfl) (Nat.le_of_ble_eq_true rfl) rfl rfl (Nat.le_of_ble_eq_true rfl) dX5_back_11 (fun r3 S2 => ?_)
  refine z_if_ne (pc := 14) 20 dX5_back_14 rfl ?_ ?_
  · refine z_aload_n (pc := 20) 0 dX5_back_20 rfl rfl ?_
    refine gf_X5_M_58_0 hG (pc := 21) dX5_back_21 ?_
    refine z_iload_n (pc := 24) 1 dX5_back_24 rfl rfl ?_
    refine z_chk (fun h4 => ?_)
    refine z_zaload (pc := 25) 26 3 (zGM_s26 hG) h4 dX5_back_25 ?_
    refine z_if_ne (pc := 26) 32 dX5_back_26 rfl ?_ ?_
    · refine z_aload_n (pc := 32) 0 dX5_back_32 rfl rfl ?_
      refine z_iconst (pc := 33) (v := 1) dX5_back_33 (by decide) ?_
      refine z_iload_n (pc := 34) 1 dX5_back_34 rfl rfl ?_
      refine z_iadd (pc := 35) dX5_back_35 ?_
      refine z_iconst (pc := 36) (v := 0) dX5_back_36 (by decide) ?_
      refine z_callVv (pc := 37) _ _ 0 5 (ct_X5_copyTown hG _ _) mv_X5_copyTown q1702 rfl (zGM_s0 hG) rfl (Nat.le_of_ble_eq_true rfl) (Nat.le_of_ble_eq_true rfl) rfl rfl (Nat.le_of_ble_eq_true rfl) dX5_back_37 (fun _ S5 => ?_)
      refine z_iconst (pc := 40) (v := 0) dX5_back_40 (by decide) ?_
      exact z_iret rfl dX5_back_41 rfl
    · refine z_bipush (pc := 29) (v := (-6)) dX5_back_29 (by decide) ?_
      exact z_iret rfl dX5_back_31 rfl
  · refine z_bipush (pc := 17) (v := (-2)) dX5_back_17 (by decide) ?_
    exact z_iret rfl dX5_back_19 rfl
