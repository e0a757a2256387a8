/-! WALKS (written by gen/mkparts.py) -/
set_option maxRecDepth 100000
abbrev mX5_isGuarded : zMr := ("HiddenCubeModel", cX5_isGuarded, 3, (some .boolean), 3, 0, 0, none)
def LB_X5_isGuarded_1 (a1 : Int32) (rec1 : Int32 → zSt → Option (Int32 × zSt)) (x2 : Int32) (S3 : zSt) : Option (Int32 × zSt) :=
zbind (F_X5_squares S3) (fun r5 S4 =>
if r5 ≤ x2 then (some (1, S4)) else (chk x2 32 (if ((S4.1 43 (x2).toNatClampNeg) &&& a1) = 0 then (some (0, S4)) else (rec1 (x2 + 1) S4))))
def F_X5_isGuarded (a1 : Int32) (S : zSt) : Option (Int32 × zSt) :=
loopK (fun _ _ => none) (LB_X5_isGuarded_1 a1) zfuel 0 S
theorem mv_X5_isGuarded : ZV mX5_isGuarded yX5_isGuarded 1 := ⟨q2004, qs134, q155, q2005, rfl, by decide, by decide, by decide +kernel⟩
theorem ct_X5_isGuarded {G : zGw} (hG : zGM G) (a1 : Int32) : Zc mX5_isGuarded yX5_isGuarded zJI G [.ref (G.1 0), .int a1] (F_X5_isGuarded a1) := by
  refine Zc_of [some (.ref (G.1 0)), some (.int a1), none] (by decide) rfl rfl (Nat.le_of_ble_eq_true rfl) rfl (fun X S res => ?_)
  unfold F_X5_isGuarded
  refine z_iconst (pc := 0) (v := 0) dX5_isGuarded_0 (by decide) ?_
  refine z_istore_n (pc := 1) 2 dX5_isGuarded_1 rfl (Nat.le_of_ble_eq_true rfl) rfl ?_
  refine z_loopK (fun j : Int32 → zSt → Option (Int32 × zSt) => ∀ (x2 : Int32) (S3 : zSt), Zm X mX5_isGuarded zJI G (0, 0) res S3 2 [some (.ref (G.1 0)), some (.int a1), some (.int x2)] [] (j x2 S3)) ?_ ?_ zfuel _ _
  · intro x2 S3; exact z_none
  · intro rec1 hrec1 x2 S3
    unfold LB_X5_isGuarded_1
    refine z_iload_n (pc := 2) 2 dX5_isGuarded_2 rfl rfl ?_
    refine z_aload_n (pc := 3) 0 dX5_isGuarded_3 rfl rfl ?_
    refine z_callVi (pc := 4) _ _ 0 5 (ct_X5_squares hG) mv_X5_squares q1725 rfl (zGM_s0 hG) rfl (Nat.le_of_ble_eq_true rfl) (Nat.le_of_ble_eq_true rfl) rfl rfl (Nat.le_of_ble_eq_true rfl) dX5_isGuarded_4 (fun r5 S4 => ?_)
    refine z_icmp_ge (pc := 7) 29 dX5_isGuarded_7 rfl ?_ ?_
    · refine z_iconst (pc := 29) (v := 1) dX5_isGuarded_29 (by decide) ?_
      exact z_zret1 rfl dX5_isGuarded_30 rfl
    · refine z_aload_n (pc := 10) 0 dX5_isGuarded_10 rfl rfl ?_
      refine gf_X5_M_104_0 hG (pc := 11) dX5_isGuarded_11 ?_
      refine z_iload_n (pc := 14) 2 dX5_isGuarded_14 rfl rfl ?_
      refine z_chk (fun h6 => ?_)
      refine z_iaload (pc := 15) 43 32 (zGM_s43 hG) h6 dX5_isGuarded_15 ?_
      refine z_iload_n (pc := 16) 1 dX5_isGuarded_16 rfl rfl ?_
      refine z_iand (pc := 17) dX5_isGuarded_17 ?_
      refine z_if_ne (pc := 18) 23 dX5_isGuarded_18 rfl ?_ ?_
      · refine z_iinc (pc := 23) (w := x2 + 1) dX5_isGuarded_23 rfl (by rw [show Int32.ofInt 1 = 1 from by decide]) (Nat.le_of_ble_eq_true rfl) rfl ?_
        refine z_goto (pc := 26) 2 dX5_isGuarded_26 rfl ?_
        exact hrec1 _ _
      · refine z_iconst (pc := 21) (v := 0) dX5_isGuarded_21 (by decide) ?_
        exact z_zret0 rfl dX5_isGuarded_22 rfl
abbrev mX5_laysFewest : zMr := ("HiddenCubeModel", cX5_laysFewest, 3, none, 5, 0, 0, none)
def LB_X5_laysFewest_1 (a1 : Int32) (rec5 : Int32 → zSt → Option (Unit × zSt)) (x6 : Int32) (S7 : zSt) : Option (Unit × zSt) :=
zbind (F_X5_squares S7) (fun r9 S8 =>
if ((1 : Int32) <<< (r9 &&& 31)) ≤ x6 then (some ((), S8)) else (if (x6 &&& a1) = a1 then (zbind (F_X5_bits x6 S8) (fun r11 S10 =>
if (S10.1 0 43) < r11 then (rec5 (x6 + 1) S10) else (zbind (F_X5_isGuarded x6 S10) (fun r13 S12 =>
if r13 = 0 then (rec5 (x6 + 1) S12) else (zbind (F_X5_bits x6 S12) (fun r15 S14 =>
joinK (fun  (S17 : zSt) => zlet (sI S17 0 44 ((S17.1 0 44) + 1) : zSt) (fun S18 : zSt =>
rec5 (x6 + 1) S18)) (fun j16 : zSt → Option (Unit × zSt) =>
if (S14.1 0 43) ≤ r15 then (j16 S14) else (zbind (F_X5_bits x6 S14) (fun r20 S19 =>
zlet (sI S19 0 43 r20 : zSt) (fun S21 : zSt =>
zlet (sI S21 0 44 0 : zSt) (fun S22 : zSt =>
zlet (sI S22 0 45 x6 : zSt) (fun S23 : zSt =>
j16 S23)))))))))))) else (rec5 (x6 + 1) S8)))
def F_X5_laysFewest (a1 : Int32) (S : zSt) : Option (Unit × zSt) :=
zbind (F_X5_laysNear S) (fun _ S1 =>
zlet (sI S1 0 43 1000000 : zSt) (fun S2 : zSt =>
zlet (sI S2 0 44 0 : zSt) (fun S3 : zSt =>
zlet (sI S3 0 45 0 : zSt) (fun S4 : zSt =>
loopK (fun _ _ => none) (LB_X5_laysFewest_1 a1) zfuel 0 S4))))
theorem mv_X5_laysFewest : ZV mX5_laysFewest yX5_laysFewest 1 := ⟨q2000, qs133, q155, q2001, rfl, by decide, by decide, by decide +kernel⟩
theorem ct_X5_laysFewest {G : zGw} (hG : zGM G) (a1 : Int32) : Zc mX5_laysFewest yX5_laysFewest zJV G [.ref (G.1 0), .int a1] (F_X5_laysFewest a1) := by
  refine Zc_of [some (.ref (G.1 0)), some (.int a1), none] (by decide) rfl rfl (Nat.le_of_ble_eq_true rfl) rfl (fun X S res => ?_)
  unfold F_X5_laysFewest
  refine z_aload_n (pc := 0) 0 dX5_laysFewest_0 rfl rfl ?_
  refine z_callVv (pc := 1) _ _ 0 5 (ct_X5_laysNear hG) mv_X5_laysNear q1981 rfl (zGM_s0 hG) rfl (Nat.le_of_ble_eq_true rfl) (Nat.le_of_ble_eq_true rfl) rfl rfl (Nat.le_of_ble_eq_true rfl) dX5_laysFewest_1 (fun _ S1 => ?_)
  refine z_aload_n (pc := 4) 0 dX5_laysFewest_4 rfl rfl ?_
  refine z_ldc (pc := 5) (v := 1000000) dX5_laysFewest_5 q1632 ?_
  refine pf_X5_M_398_0 hG (pc := 7) dX5_laysFewest_7 ?_
  refine z_letS (fun S2 => ?_)
  refine z_aload_n (pc := 10) 0 dX5_laysFewest_10 rfl rfl ?_
  refine z_iconst (pc := 11) (v := 0) dX5_laysFewest_11 (by decide) ?_
  refine pf_X5_M_401_0 hG (pc := 12) dX5_laysFewest_12 ?_
  refine z_letS (fun S3 => ?_)
  refine z_aload_n (pc := 15) 0 dX5_laysFewest_15 rfl rfl ?_
  refine z_iconst (pc := 16) (v := 0) dX5_laysFewest_16 (by decide) ?_
  refine pf_X5_M_404_0 hG (pc := 17) dX5_laysFewest_17 ?_
  refine z_letS (fun S4 => ?_)
  refine z_iconst (pc := 20) (v := 0) dX5_laysFewest_20 (by decide) ?_
  refine z_istore_n (pc := 21) 2 dX5_laysFewest_21 rfl (Nat.le_of_ble_eq_true rfl) rfl ?_
  refine z_loopK (fun j : Int32 → zSt → Option (Unit × zSt) => ∀ (x6 : Int32) (S7 : zSt), Zm X mX5_laysFewest zJV G (0, 0) res S7 22 [some (.ref (G.1 0)), some (.int a1), some (.int x6)] [] (j x6 S7)) ?_ ?_ zfuel _ _
  · intro x6 S7; exact z_none
  · intro rec5 hrec5 x6 S7
    unfold LB_X5_laysFewest_1
    refine z_iload_n (pc := 22) 2 dX5_laysFewest_22 rfl rfl ?_
    refine z_iconst (pc := 23) (v := 1) dX5_laysFewest_23 (by decide) ?_
    refine z_aload_n (pc := 24) 0 dX5_laysFewest_24 rfl rfl ?_
    refine z_callVi (pc := 25) _ _ 0 5 (ct_X5_squares hG) mv_X5_squares q1725 rfl (zGM_s0 hG) rfl (Nat.le_of_ble_eq_true rfl) (Nat.le_of_ble_eq_true rfl) rfl rfl (Nat.le_of_ble_eq_true rfl) dX5_laysFewest_25 (fun r9 S8 => ?_)
    refine z_ishl (pc := 28) dX5_laysFewest_28 ?_
    refine z_icmp_ge (pc := 29) 106 dX5_laysFewest_29 rfl ?_ ?_
    · exact z_vret rfl dX5_laysFewest_106 rfl
    · refine z_iload_n (pc := 32) 2 dX5_laysFewest_32 rfl rfl ?_
      refine z_iload_n (pc := 33) 1 dX5_laysFewest_33 rfl rfl ?_
      refine z_iand (pc := 34) dX5_laysFewest_34 ?_
      refine z_iload_n (pc := 35) 1 dX5_laysFewest_35 rfl rfl ?_
      refine z_icmp_ne (pc := 36) 100 dX5_laysFewest_36 rfl ?_ ?_
      · refine z_iinc (pc := 100) (w := x6 + 1) dX5_laysFewest_100 rfl (by rw [show Int32.ofInt 1 = 1 from by decide]) (Nat.le_of_ble_eq_true rfl) rfl ?_
        refine z_goto (pc := 103) 22 dX5_laysFewest_103 rfl ?_
        exact hrec5 _ _
      · refine z_iload_n (pc := 39) 2 dX5_laysFewest_39 rfl rfl ?_
        refine z_callSi (pc := 40) _ _ (ct_X5_bits  _) mv_X5_bits q1756 rfl (Nat.le_of_ble_eq_true rfl) (Nat.le_of_ble_eq_true rfl) rfl rfl (Nat.le_of_ble_eq_true rfl) dX5_laysFewest_40 (fun r11 S10 => ?_)
        refine z_aload_n (pc := 43) 0 dX5_laysFewest_43 rfl rfl ?_
        refine gf_X5_M_398_0 hG (pc := 44) dX5_laysFewest_44 ?_
        refine z_icmp_gt (pc := 47) 100 dX5_laysFewest_47 rfl ?_ ?_
        · refine z_iinc (pc := 100) (w := x6 + 1) dX5_laysFewest_100 rfl (by rw [show Int32.ofInt 1 = 1 from by decide]) (Nat.le_of_ble_eq_true rfl) rfl ?_
          refine z_goto (pc := 103) 22 dX5_laysFewest_103 rfl ?_
          exact hrec5 _ _
        · refine z_aload_n (pc := 50) 0 dX5_laysFewest_50 rfl rfl ?_
          refine z_iload_n (pc := 51) 2 dX5_laysFewest_51 rfl rfl ?_
          refine z_callVi (pc := 52) _ _ 0 5 (ct_X5_isGuarded hG _) mv_X5_isGuarded q2002 rfl (zGM_s0 hG) rfl (Nat.le_of_ble_eq_true rfl) (Nat.le_of_ble_eq_true rfl) rfl rfl (Nat.le_of_ble_eq_true rfl) dX5_laysFewest_52 (fun r13 S12 => ?_)
          refine z_if_ne (pc := 55) 61 dX5_laysFewest_55 rfl ?_ ?_
          · refine z_iload_n (pc := 61) 2 dX5_laysFewest_61 rfl rfl ?_
            refine z_callSi (pc := 62) _ _ (ct_X5_bits  _) mv_X5_bits q1756 rfl (Nat.le_of_ble_eq_true rfl) (Nat.le_of_ble_eq_true rfl) rfl rfl (Nat.le_of_ble_eq_true rfl) dX5_laysFewest_62 (fun r15 S14 => ?_)
            refine z_aload_n (pc := 65) 0 dX5_laysFewest_65 rfl rfl ?_
            refine gf_X5_M_398_0 hG (pc := 66) dX5_laysFewest_66 ?_
            refine z_join (fun j : zSt → Option (Unit × zSt) => ∀  (S17 : zSt), Zm X mX5_laysFewest zJV G (0, 0) res S17 90 [some (.ref (G.1 0)), some (.int a1), some (.int x6)] [] (j S17)) ?_ (fun j16 hj16 => ?_)
            · intro S17
              refine z_aload_n (pc := 90) 0 dX5_laysFewest_90 rfl rfl ?_
              refine z_dup (pc := 91) dX5_laysFewest_91 rfl ?_
              refine gf_X5_M_401_0 hG (pc := 92) dX5_laysFewest_92 ?_
              refine z_iconst (pc := 95) (v := 1) dX5_laysFewest_95 (by decide) ?_
              refine z_iadd (pc := 96) dX5_laysFewest_96 ?_
              refine pf_X5_M_401_0 hG (pc := 97) dX5_laysFewest_97 ?_
              refine z_letS (fun S18 => ?_)
              refine z_iinc (pc := 100) (w := x6 + 1) dX5_laysFewest_100 rfl (by rw [show Int32.ofInt 1 = 1 from by decide]) (Nat.le_of_ble_eq_true rfl) rfl ?_
              refine z_goto (pc := 103) 22 dX5_laysFewest_103 rfl ?_
              exact hrec5 _ _
            · refine z_icmp_ge (pc := 69) 90 dX5_laysFewest_69 rfl ?_ ?_
              · exact hj16 _
              · refine z_aload_n (pc := 72) 0 dX5_laysFewest_72 rfl rfl ?_
                refine z_iload_n (pc := 73) 2 dX5_laysFewest_73 rfl rfl ?_
                refine z_callSi (pc := 74) _ _ (ct_X5_bits  _) mv_X5_bits q1756 rfl (Nat.le_of_ble_eq_true rfl) (Nat.le_of_ble_eq_true rfl) rfl rfl (Nat.le_of_ble_eq_true rfl) dX5_laysFewest_74 (fun r20 S19 => ?_)
                refine pf_X5_M_398_0 hG (pc := 77) dX5_laysFewest_77 ?_
                refine z_letS (fun S21 => ?_)
                refine z_aload_n (pc := 80) 0 dX5_laysFewest_80 rfl rfl ?_
                refine z_iconst (pc := 81) (v := 0) dX5_laysFewest_81 (by decide) ?_
                refine pf_X5_M_401_0 hG (pc := 82) dX5_laysFewest_82 ?_
                refine z_letS (fun S22 => ?_)
                refine z_aload_n (pc := 85) 0 dX5_laysFewest_85 rfl rfl ?_
                refine z_iload_n (pc := 86) 2 dX5_laysFewest_86 rfl rfl ?_
                refine pf_X5_M_404_0 hG (pc := 87) dX5_laysFewest_87 ?_
                refine z_letS (fun S23 => ?_)
                exact hj16 _
          · refine z_goto (pc := 58) 100 dX5_laysFewest_58 rfl ?_
            refine z_iinc (pc := 100) (w := x6 + 1) dX5_laysFewest_100 rfl (by rw [show Int32.ofInt 1 = 1 from by decide]) (Nat.le_of_ble_eq_true rfl) rfl ?_
            refine z_goto (pc := 103) 22 dX5_laysFewest_103 rfl ?_
            exact hrec5 _ _
abbrev mX5_fewest : zMr := ("HiddenCubeModel", cX5_fewest, 3, (some .int), 6, 0, 0, none)
def F_X5_fewest (a1 : Int32) (S : zSt) : Option (Int32 × zSt) :=
zlet (sI S 0 0 0 : zSt) (fun S1 : zSt =>
zbind (F_X5_in ((a1).toInt64) 0 2 S1) (fun r3 S2 =>
if r3 = 0 then (some ((-2), S2)) else (zbind (F_X5_whyNoRounds S2) (fun r5 S4 =>
if r5 = 0 then (zbind (F_X5_laysFewest 0 S4) (fun _ S6 =>
if a1 = 0 then (some (S6.1 0 43, S6)) else (if a1 = 1 then (some (S6.1 0 44, S6)) else (some (S6.1 0 45, S6))))) else (some (r5, S4))))))
theorem mv_X5_fewest : ZV mX5_fewest yX5_fewest 1 := ⟨q1994, q1995, q155, q1996, rfl, by decide, by decide, by decide +kernel⟩
theorem ct_X5_fewest {G : zGw} (hG : zGM G) (a1 : Int32) : Zc mX5_fewest yX5_fewest zJI G [.ref (G.1 0), .int a1] (F_X5_fewest a1) := by
  refine Zc_of [some (.ref (G.1 0)), some (.int a1), none] (by decide) rfl rfl (Nat.le_of_ble_eq_true rfl) rfl (fun X S res => ?_)
  unfold F_X5_fewest
  refine z_aload_n (pc := 0) 0 dX5_fewest_0 rfl rfl ?_
  refine z_iconst (pc := 1) (v := 0) dX5_fewest_1 (by decide) ?_
  refine pf_X5_M_131_0 hG (pc := 2) dX5_fewest_2 ?_
  refine z_letS (fun S1 => ?_)
  refine z_iload_n (pc := 5) 1 dX5_fewest_5 rfl rfl ?_
  refine z_i2l (pc := 6) dX5_fewest_6 ?_
  refine z_lconst (pc := 7) (v := 0) dX5_fewest_7 (by decide) ?_
  refine z_ldc2 (pc := 8) (v := 2) dX5_fewest_8 q1997 ?_
  refine z_callSi (pc := 11) _ _ (ct_X5_in  _ _ _) mv_X5_in q1578 rfl (Nat.le_of_ble_eq_true rfl) (Nat.le_of_ble_eq_true rfl) rfl rfl (Nat.le_of_ble_eq_true rfl) dX5_fewest_11 (fun r3 S2 => ?_)
  refine z_if_ne (pc := 14) 20 dX5_fewest_14 rfl ?_ ?_
  · refine z_aload_n (pc := 20) 0 dX5_fewest_20 rfl rfl ?_
    refine z_callVi (pc := 21) _ _ 0 5 (ct_X5_whyNoRounds hG) mv_X5_whyNoRounds q1941 rfl (zGM_s0 hG) rfl (Nat.le_of_ble_eq_true rfl) (Nat.le_of_ble_eq_true rfl) rfl rfl (Nat.le_of_ble_eq_true rfl) dX5_fewest_21 (fun r5 S4 => ?_)
    refine z_istore_n (pc := 24) 2 dX5_fewest_24 rfl (Nat.le_of_ble_eq_true rfl) rfl ?_
    refine z_iload_n (pc := 25) 2 dX5_fewest_25 rfl rfl ?_
    refine z_if_eq (pc := 26) 31 dX5_fewest_26 rfl ?_ ?_
    · refine z_aload_n (pc := 31) 0 dX5_fewest_31 rfl rfl ?_
      refine z_iconst (pc := 32) (v := 0) dX5_fewest_32 (by decide) ?_
      refine z_callVv (pc := 33) _ _ 0 5 (ct_X5_laysFewest hG _) mv_X5_laysFewest q1998 rfl (zGM_s0 hG) rfl (Nat.le_of_ble_eq_true rfl) (Nat.le_of_ble_eq_true rfl) rfl rfl (Nat.le_of_ble_eq_true rfl) dX5_fewest_33 (fun _ S6 => ?_)
      refine z_iload_n (pc := 36) 1 dX5_fewest_36 rfl rfl ?_
      refine z_if_ne (pc := 37) 47 dX5_fewest_37 rfl ?_ ?_
      · refine z_iload_n (pc := 47) 1 dX5_fewest_47 rfl rfl ?_
        refine z_iconst (pc := 48) (v := 1) dX5_fewest_48 (by decide) ?_
        refine z_icmp_ne (pc := 49) 59 dX5_fewest_49 rfl ?_ ?_
        · refine z_aload_n (pc := 59) 0 dX5_fewest_59 rfl rfl ?_
          refine gf_X5_M_404_0 hG (pc := 60) dX5_fewest_60 ?_
          exact z_iret rfl dX5_fewest_63 rfl
        · refine z_aload_n (pc := 52) 0 dX5_fewest_52 rfl rfl ?_
          refine gf_X5_M_401_0 hG (pc := 53) dX5_fewest_53 ?_
          refine z_goto (pc := 56) 63 dX5_fewest_56 rfl ?_
          exact z_iret rfl dX5_fewest_63 rfl
      · refine z_aload_n (pc := 40) 0 dX5_fewest_40 rfl rfl ?_
        refine gf_X5_M_398_0 hG (pc := 41) dX5_fewest_41 ?_
        refine z_goto (pc := 44) 63 dX5_fewest_44 rfl ?_
        exact z_iret rfl dX5_fewest_63 rfl
    · refine z_iload_n (pc := 29) 2 dX5_fewest_29 rfl rfl ?_
      exact z_iret rfl dX5_fewest_30 rfl
  · refine z_bipush (pc := 17) (v := (-2)) dX5_fewest_17 (by decide) ?_
    exact z_iret rfl dX5_fewest_19 rfl
abbrev mX5_perfect : zMr := ("HiddenCubeModel", cX5_perfect, 5, (some .int), 5, 0, 0, none)
def LB_X5_perfect_1 (x6 : Int32) (k10 : Int32 → zSt → Option (Int32 × zSt)) (rec13 : Int32 → Int32 → zSt → Option (Int32 × zSt)) (x14 : Int32) (x15 : Int32) (S16 : zSt) : Option (Int32 × zSt) :=
zbind (F_X5_squares S16) (fun r18 S17 =>
if r18 ≤ x15 then (k10 x14 S17) else (if x14 = 0 then (k10 x14 S17) else (chk x15 32 (zbind (F_X5_bits ((S17.1 43 (x15).toNatClampNeg) &&& x6) S17) (fun r21 S20 =>
zlet ((if r21 = 1 then 1 else 0) : Int32) (fun w23 : Int32 =>
rec13 w23 (x15 + 1) S20))))))
def LB_X5_perfect_2 (rec5 : Int32 → zSt → Option (Int32 × zSt)) (x6 : Int32) (S7 : zSt) : Option (Int32 × zSt) :=
zbind (F_X5_squares S7) (fun r9 S8 =>
if ((1 : Int32) <<< (r9 &&& 31)) ≤ x6 then (some (0, S8)) else (joinK (fun (x11 : Int32) (S12 : zSt) => if x11 = 0 then (rec5 (x6 + 1) S12) else (some (1, S12))) (fun k10 : Int32 → zSt → Option (Int32 × zSt) =>
loopK (fun _ _ _ => none) (LB_X5_perfect_1 x6 k10) zfuel 1 0 S8)))
def F_X5_perfect  (S : zSt) : Option (Int32 × zSt) :=
zlet (sI S 0 0 0 : zSt) (fun S1 : zSt =>
zbind (F_X5_whyNoRounds S1) (fun r3 S2 =>
if r3 = 0 then (zbind (F_X5_laysNear S2) (fun _ S4 =>
loopK (fun _ _ => none) (LB_X5_perfect_2) zfuel 0 S4)) else (some (r3, S2))))
theorem mv_X5_perfect : ZV mX5_perfect yX5_perfect 0 := ⟨q2007, q2008, q155, q2009, rfl, by decide, by decide, by decide +kernel⟩
theorem ct_X5_perfect {G : zGw} (hG : zGM G)  : Zc mX5_perfect yX5_perfect zJI G [.ref (G.1 0)] (F_X5_perfect) := by
  refine Zc_of [some (.ref (G.1 0)), none, none, none, none] (by decide) rfl rfl (Nat.le_of_ble_eq_true rfl) rfl (fun X S res => ?_)
  unfold F_X5_perfect
  refine z_aload_n (pc := 0) 0 dX5_perfect_0 rfl rfl ?_
  refine z_iconst (pc := 1) (v := 0) dX5_perfect_1 (by decide) ?_
  refine pf_X5_M_131_0 hG (pc := 2) dX5_perfect_2 ?_
  refine z_letS (fun S1 => ?_)
  refine z_aload_n (pc := 5) 0 dX5_perfect_5 rfl rfl ?_
  refine z_callVi (pc := 6) _ _ 0 5 (ct_X5_whyNoRounds hG) mv_X5_whyNoRounds q1941 rfl (zGM_s0 hG) rfl (Nat.le_of_ble_eq_true rfl) (Nat.le_of_ble_eq_true rfl) rfl rfl (Nat.le_of_ble_eq_true rfl) dX5_perfect_6 (fun r3 S2 => ?_)
  refine z_istore_n (pc := 9) 1 dX5_perfect_9 rfl (Nat.le_of_ble_eq_true rfl) rfl ?_
  refine z_iload_n (pc := 10) 1 dX5_perfect_10 rfl rfl ?_
  refine z_if_eq (pc := 11) 16 dX5_perfect_11 rfl ?_ ?_
  · refine z_aload_n (pc := 16) 0 dX5_perfect_16 rfl rfl ?_
    refine z_callVv (pc := 17) _ _ 0 5 (ct_X5_laysNear hG) mv_X5_laysNear q1981 rfl (zGM_s0 hG) rfl (Nat.le_of_ble_eq_true rfl) (Nat.le_of_ble_eq_true rfl) rfl rfl (Nat.le_of_ble_eq_true rfl) dX5_perfect_17 (fun _ S4 => ?_)
    refine z_iconst (pc := 20) (v := 0) dX5_perfect_20 (by decide) ?_
    refine z_istore_n (pc := 21) 2 dX5_perfect_21 rfl (Nat.le_of_ble_eq_true rfl) rfl ?_
    refine z_maskk [true, false, true, false, false] ?_
    refine z_loopK (fun j : Int32 → zSt → Option (Int32 × zSt) => ∀ (x6 : Int32) (S7 : zSt), Zm X mX5_perfect zJI G (0, 0) res S7 22 [some (.ref (G.1 0)), none, some (.int x6), none, none] [] (j x6 S7)) ?_ ?_ zfuel _ _
    · intro x6 S7; exact z_none
    · intro rec5 hrec5 x6 S7
      unfold LB_X5_perfect_2
      refine z_iload_n (pc := 22) 2 dX5_perfect_22 rfl rfl ?_
      refine z_iconst (pc := 23) (v := 1) dX5_perfect_23 (by decide) ?_
      refine z_aload_n (pc := 24) 0 dX5_perfect_24 rfl rfl ?_
      refine z_callVi (pc := 25) _ _ 0 5 (ct_X5_squares hG) mv_X5_squares q1725 rfl (zGM_s0 hG) rfl (Nat.le_of_ble_eq_true rfl) (Nat.le_of_ble_eq_true rfl) rfl rfl (Nat.le_of_ble_eq_true rfl) dX5_perfect_25 (fun r9 S8 => ?_)
      refine z_ishl (pc := 28) dX5_perfect_28 ?_
      refine z_icmp_ge (pc := 29) 90 dX5_perfect_29 rfl ?_ ?_
      · refine z_iconst (pc := 90) (v := 0) dX5_perfect_90 (by decide) ?_
        exact z_iret rfl dX5_perfect_91 rfl
      · refine z_iconst (pc := 32) (v := 1) dX5_perfect_32 (by decide) ?_
        refine z_istore_n (pc := 33) 3 dX5_perfect_33 rfl (Nat.le_of_ble_eq_true rfl) rfl ?_
        refine z_iconst (pc := 34) (v := 0) dX5_perfect_34 (by decide) ?_
        refine z_istore (pc := 35) dX5_perfect_35 (Nat.le_of_ble_eq_true rfl) rfl ?_
        refine z_join (fun j : Int32 → zSt → Option (Int32 × zSt) => ∀ (x11 : Int32) (S12 : zSt), Zm X mX5_perfect zJI G (0, 0) res S12 78 [some (.ref (G.1 0)), none, some (.int x6), some (.int x11), none] [] (j x11 S12)) ?_ (fun k10 hk10 => ?_)
        · intro x11 S12
          refine z_iload_n (pc := 78) 3 dX5_perfect_78 rfl rfl ?_
          refine z_if_eq (pc := 79) 84 dX5_perfect_79 rfl ?_ ?_
          · refine z_iinc (pc := 84) (w := x6 + 1) dX5_perfect_84 rfl (by rw [show Int32.ofInt 1 = 1 from by decide]) (Nat.le_of_ble_eq_true rfl) rfl ?_
            refine z_goto (pc := 87) 22 dX5_perfect_87 rfl ?_
            exact z_mask [true, false, true, false, false] (hrec5 _ _) rfl
          · refine z_iconst (pc := 82) (v := 1) dX5_perfect_82 (by decide) ?_
            exact z_iret rfl dX5_perfect_83 rfl
        · refine z_loopK (fun j : Int32 → Int32 → zSt → Option (Int32 × zSt) => ∀ (x14 : Int32) (x15 : Int32) (S16 : zSt), Zm X mX5_perfect zJI G (0, 0) res S16 37 [some (.ref (G.1 0)), none, some (.int x6), some (.int x14), some (.int x15)] [] (j x14 x15 S16)) ?_ ?_ zfuel _ _ _
          · intro x14 x15 S16; exact z_none
          · intro rec13 hrec13 x14 x15 S16
            unfold LB_X5_perfect_1
            refine z_iload (pc := 37) dX5_perfect_37 rfl ?_
            refine z_aload_n (pc := 39) 0 dX5_perfect_39 rfl rfl ?_
            refine z_callVi (pc := 40) _ _ 0 5 (ct_X5_squares hG) mv_X5_squares q1725 rfl (zGM_s0 hG) rfl (Nat.le_of_ble_eq_true rfl) (Nat.le_of_ble_eq_true rfl) rfl rfl (Nat.le_of_ble_eq_true rfl) dX5_perfect_40 (fun r18 S17 => ?_)
            refine z_icmp_ge (pc := 43) 78 dX5_perfect_43 rfl ?_ ?_
            · exact z_mask [true, false, true, true, false] (hk10 _ _) rfl
            · refine z_iload_n (pc := 46) 3 dX5_perfect_46 rfl rfl ?_
              refine z_if_eq (pc := 47) 78 dX5_perfect_47 rfl ?_ ?_
              · exact z_mask [true, false, true, true, false] (hk10 _ _) rfl
              · refine z_aload_n (pc := 50) 0 dX5_perfect_50 rfl rfl ?_
                refine gf_X5_M_104_0 hG (pc := 51) dX5_perfect_51 ?_
                refine z_iload (pc := 54) dX5_perfect_54 rfl ?_
                refine z_chk (fun h19 => ?_)
                refine z_iaload (pc := 56) 43 32 (zGM_s43 hG) h19 dX5_perfect_56 ?_
                refine z_iload_n (pc := 57) 2 dX5_perfect_57 rfl rfl ?_
                refine z_iand (pc := 58) dX5_perfect_58 ?_
                refine z_callSi (pc := 59) _ _ (ct_X5_bits  _) mv_X5_bits q1756 rfl (Nat.le_of_ble_eq_true rfl) (Nat.le_of_ble_eq_true rfl) rfl rfl (Nat.le_of_ble_eq_true rfl) dX5_perfect_59 (fun r21 S20 => ?_)
                refine z_iconst (pc := 62) (v := 1) dX5_perfect_62 (by decide) ?_
                refine z_pure (st0 := []) 71 ((if r21 = 1 then 1 else 0)) ?_ (fun hJ => ?_)
                · refine z_letI (fun w23 => ?_)
                  refine z_istore_n (pc := 71) 3 dX5_perfect_71 rfl (Nat.le_of_ble_eq_true rfl) rfl ?_
                  refine z_iinc (pc := 72) (w := x15 + 1) dX5_perfect_72 rfl (by rw [show Int32.ofInt 1 = 1 from by decide]) (Nat.le_of_ble_eq_true rfl) rfl ?_
                  refine z_goto (pc := 75) 37 dX5_perfect_75 rfl ?_
                  exact hrec13 _ _ _
                · refine z_icmpd_ne (pc := 63) 70 dX5_perfect_63 rfl (fun c24 => ?_) (fun c24 => ?_)
                  · refine z_iconst (pc := 70) (v := 0) dX5_perfect_70 (by decide) ?_
                    exact z_leaf hJ (by simp only [if_neg c24])
                  · refine z_iconst (pc := 66) (v := 1) dX5_perfect_66 (by decide) ?_
                    refine z_goto (pc := 67) 71 dX5_perfect_67 rfl ?_
                    exact z_leaf hJ (by simp only [if_pos c24])
  · refine z_iload_n (pc := 14) 1 dX5_perfect_14 rfl rfl ?_
    exact z_iret rfl dX5_perfect_15 rfl
abbrev mX5_more : zMr := ("HiddenCubeModel", cX5_more, 2, (some .int), 6, 0, 0, none)
def F_X5_more  (S : zSt) : Option (Int32 × zSt) :=
zlet (sI S 0 0 0 : zSt) (fun S1 : zSt =>
zbind (F_X5_whyNoRounds S1) (fun r3 S2 =>
if r3 = 0 then (chk 0 5 (zbind (F_X5_laysFewest (S2.1 23 (0 : Int32).toNatClampNeg) S2) (fun _ S5 =>
chk 0 5 (zbind (F_X5_bits (S5.1 23 (0 : Int32).toNatClampNeg) S5) (fun r8 S7 =>
some ((S5.1 0 43) - r8, S7)))))) else (some (r3, S2))))
theorem mv_X5_more : ZV mX5_more yX5_more 0 := ⟨q2011, q2012, q155, q2013, rfl, by decide, by decide, by decide +kernel⟩
theorem ct_X5_more {G : zGw} (hG : zGM G)  : Zc mX5_more yX5_more zJI G [.ref (G.1 0)] (F_X5_more) := by
  refine Zc_of [some (.ref (G.1 0)), none] (by decide) rfl rfl (Nat.le_of_ble_eq_true rfl) rfl (fun X S res => ?_)
  unfold F_X5_more
  refine z_aload_n (pc := 0) 0 dX5_more_0 rfl rfl ?_
  refine z_iconst (pc := 1) (v := 0) dX5_more_1 (by decide) ?_
  refine pf_X5_M_131_0 hG (pc := 2) dX5_more_2 ?_
  refine z_letS (fun S1 => ?_)
  refine z_aload_n (pc := 5) 0 dX5_more_5 rfl rfl ?_
  refine z_callVi (pc := 6) _ _ 0 5 (ct_X5_whyNoRounds hG) mv_X5_whyNoRounds q1941 rfl (zGM_s0 hG) rfl (Nat.le_of_ble_eq_true rfl) (Nat.le_of_ble_eq_true rfl) rfl rfl (Nat.le_of_ble_eq_true rfl) dX5_more_6 (fun r3 S2 => ?_)
  refine z_istore_n (pc := 9) 1 dX5_more_9 rfl (Nat.le_of_ble_eq_true rfl) rfl ?_
  refine z_iload_n (pc := 10) 1 dX5_more_10 rfl rfl ?_
  refine z_if_eq (pc := 11) 16 dX5_more_11 rfl ?_ ?_
  · refine z_aload_n (pc := 16) 0 dX5_more_16 rfl rfl ?_
    refine z_aload_n (pc := 17) 0 dX5_more_17 rfl rfl ?_
    refine gf_X5_M_49_0 hG (pc := 18) dX5_more_18 ?_
    refine z_iconst (pc := 21) (v := 0) dX5_more_21 (by decide) ?_
    refine z_chk (fun h4 => ?_)
    refine z_iaload (pc := 22) 23 5 (zGM_s23 hG) h4 dX5_more_22 ?_
    refine z_callVv (pc := 23) _ _ 0 5 (ct_X5_laysFewest hG _) mv_X5_laysFewest q1998 rfl (zGM_s0 hG) rfl (Nat.le_of_ble_eq_true rfl) (Nat.le_of_ble_eq_true rfl) rfl rfl (Nat.le_of_ble_eq_true rfl) dX5_more_23 (fun _ S5 => ?_)
    refine z_aload_n (pc := 26) 0 dX5_more_26 rfl rfl ?_
    refine gf_X5_M_398_0 hG (pc := 27) dX5_more_27 ?_
    refine z_aload_n (pc := 30) 0 dX5_more_30 rfl rfl ?_
    refine gf_X5_M_49_0 hG (pc := 31) dX5_more_31 ?_
    refine z_iconst (pc := 34) (v := 0) dX5_more_34 (by decide) ?_
    refine z_chk (fun h6 => ?_)
    refine z_iaload (pc := 35) 23 5 (zGM_s23 hG) h6 dX5_more_35 ?_
    refine z_callSi (pc := 36) _ _ (ct_X5_bits  _) mv_X5_bits q1756 rfl (Nat.le_of_ble_eq_true rfl) (Nat.le_of_ble_eq_true rfl) rfl rfl (Nat.le_of_ble_eq_true rfl) dX5_more_36 (fun r8 S7 => ?_)
    refine z_isub (pc := 39) dX5_more_39 ?_
    exact z_iret rfl dX5_more_40 rfl
  · refine z_iload_n (pc := 14) 1 dX5_more_14 rfl rfl ?_
    exact z_iret rfl dX5_more_15 rfl
abbrev mX5_whyNot : zMr := ("HiddenCubeModel", cX5_whyNot, 3, (some .int), 4, 0, 0, none)
def LB_X5_whyNot_1 (a1 : Int32) (rec6 : Int32 → zSt → Option (Int32 × zSt)) (x7 : Int32) (S8 : zSt) : Option (Int32 × zSt) :=
chk a1 4 (if (S8.1 3 (a1).toNatClampNeg) ≤ x7 then (some (0, S8)) else (zlet ((60 * a1) + x7 : Int32) (fun w10 : Int32 =>
chk w10 240 (zbind (F_X5_isSquare (S8.2 4 (w10).toNatClampNeg) S8) (fun r13 S12 =>
if r13 = 0 then (some ((-2), S12)) else (rec6 (x7 + 1) S12))))))
def F_X5_whyNot (a1 : Int32) (S : zSt) : Option (Int32 × zSt) :=
zbind (F_X5_isSlot a1 S) (fun r2 S1 =>
if r2 = 0 then (some ((-2), S1)) else (zbind (F_X5_isTown S1) (fun r4 S3 =>
if r4 = 0 then (some ((-2), S3)) else (chk a1 4 (if (S3.1 2 (a1).toNatClampNeg) = (-1) then (some ((-6), S3)) else (loopK (fun _ _ => none) (LB_X5_whyNot_1 a1) zfuel 0 S3))))))
theorem mv_X5_whyNot : ZV mX5_whyNot yX5_whyNot 1 := ⟨q2020, qs135, q155, q2021, rfl, by decide, by decide, by decide +kernel⟩
theorem ct_X5_whyNot {G : zGw} (hG : zGM G) (a1 : Int32) : Zc mX5_whyNot yX5_whyNot zJI G [.ref (G.1 0), .int a1] (F_X5_whyNot a1) := by
  refine Zc_of [some (.ref (G.1 0)), some (.int a1), none] (by decide) rfl rfl (Nat.le_of_ble_eq_true rfl) rfl (fun X S res => ?_)
  unfold F_X5_whyNot
  refine z_iload_n (pc := 0) 1 dX5_whyNot_0 rfl rfl ?_
  refine z_callSi (pc := 1) _ _ (ct_X5_isSlot  _) mv_X5_isSlot q1574 rfl (Nat.le_of_ble_eq_true rfl) (Nat.le_of_ble_eq_true rfl) rfl rfl (Nat.le_of_ble_eq_true rfl) dX5_whyNot_1 (fun r2 S1 => ?_)
  refine z_if_eq (pc := 4) 14 dX5_whyNot_4 rfl ?_ ?_
  · refine z_bipush (pc := 14) (v := (-2)) dX5_whyNot_14 (by decide) ?_
    exact z_iret rfl dX5_whyNot_16 rfl
  · refine z_aload_n (pc := 7) 0 dX5_whyNot_7 rfl rfl ?_
    refine z_callVi (pc := 8) _ _ 0 5 (ct_X5_isTown hG) mv_X5_isTown q1729 rfl (zGM_s0 hG) rfl (Nat.le_of_ble_eq_true rfl) (Nat.le_of_ble_eq_true rfl) rfl rfl (Nat.le_of_ble_eq_true rfl) dX5_whyNot_8 (fun r4 S3 => ?_)
    refine z_if_ne (pc := 11) 17 dX5_whyNot_11 rfl ?_ ?_
    · refine z_aload_n (pc := 17) 0 dX5_whyNot_17 rfl rfl ?_
      refine gf_X5_M_7_0 hG (pc := 18) dX5_whyNot_18 ?_
      refine z_iload_n (pc := 21) 1 dX5_whyNot_21 rfl rfl ?_
      refine z_chk (fun h5 => ?_)
      refine z_iaload (pc := 22) 2 4 (zGM_s2 hG) h5 dX5_whyNot_22 ?_
      refine z_iconst (pc := 23) (v := (-1)) dX5_whyNot_23 (by decide) ?_
      refine z_icmp_ne (pc := 24) 30 dX5_whyNot_24 rfl ?_ ?_
      · refine z_iconst (pc := 30) (v := 0) dX5_whyNot_30 (by decide) ?_
        refine z_istore_n (pc := 31) 2 dX5_whyNot_31 rfl (Nat.le_of_ble_eq_true rfl) rfl ?_
        refine z_loopK (fun j : Int32 → zSt → Option (Int32 × zSt) => ∀ (x7 : Int32) (S8 : zSt), Zm X mX5_whyNot zJI G (0, 0) res S8 32 [some (.ref (G.1 0)), some (.int a1), some (.int x7)] [] (j x7 S8)) ?_ ?_ zfuel _ _
        · intro x7 S8; exact z_none
        · intro rec6 hrec6 x7 S8
          unfold LB_X5_whyNot_1
          refine z_iload_n (pc := 32) 2 dX5_whyNot_32 rfl rfl ?_
          refine z_aload_n (pc := 33) 0 dX5_whyNot_33 rfl rfl ?_
          refine gf_X5_M_13_0 hG (pc := 34) dX5_whyNot_34 ?_
          refine z_iload_n (pc := 37) 1 dX5_whyNot_37 rfl rfl ?_
          refine z_chk (fun h9 => ?_)
          refine z_iaload (pc := 38) 3 4 (zGM_s3 hG) h9 dX5_whyNot_38 ?_
          refine z_icmp_ge (pc := 39) 69 dX5_whyNot_39 rfl ?_ ?_
          · refine z_iconst (pc := 69) (v := 0) dX5_whyNot_69 (by decide) ?_
            exact z_iret rfl dX5_whyNot_70 rfl
          · refine z_aload_n (pc := 42) 0 dX5_whyNot_42 rfl rfl ?_
            refine z_aload_n (pc := 43) 0 dX5_whyNot_43 rfl rfl ?_
            refine gf_X5_M_16_0 hG (pc := 44) dX5_whyNot_44 ?_
            refine z_bipush (pc := 47) (v := 60) dX5_whyNot_47 (by decide) ?_
            refine z_iload_n (pc := 49) 1 dX5_whyNot_49 rfl rfl ?_
            refine z_imul (pc := 50) dX5_whyNot_50 ?_
            refine z_iload_n (pc := 51) 2 dX5_whyNot_51 rfl rfl ?_
            refine z_iadd (pc := 52) dX5_whyNot_52 ?_
            refine z_letI (fun w10 => ?_)
            refine z_chk (fun h11 => ?_)
            refine z_laload (pc := 53) 4 240 (zGM_s4 hG) h11 dX5_whyNot_53 ?_
            refine z_callVi (pc := 54) _ _ 0 5 (ct_X5_isSquare hG _) mv_X5_isSquare q1721 rfl (zGM_s0 hG) rfl (Nat.le_of_ble_eq_true rfl) (Nat.le_of_ble_eq_true rfl) rfl rfl (Nat.le_of_ble_eq_true rfl) dX5_whyNot_54 (fun r13 S12 => ?_)
            refine z_if_ne (pc := 57) 63 dX5_whyNot_57 rfl ?_ ?_
            · refine z_iinc (pc := 63) (w := x7 + 1) dX5_whyNot_63 rfl (by rw [show Int32.ofInt 1 = 1 from by decide]) (Nat.le_of_ble_eq_true rfl) rfl ?_
              refine z_goto (pc := 66) 32 dX5_whyNot_66 rfl ?_
              exact hrec6 _ _
            · refine z_bipush (pc := 60) (v := (-2)) dX5_whyNot_60 (by decide) ?_
              exact z_iret rfl dX5_whyNot_62 rfl
      · refine z_bipush (pc := 27) (v := (-6)) dX5_whyNot_27 (by decide) ?_
        exact z_iret rfl dX5_whyNot_29 rfl
    · refine z_bipush (pc := 14) (v := (-2)) dX5_whyNot_14 (by decide) ?_
      exact z_iret rfl dX5_whyNot_16 rfl
abbrev mX5_cellOf : zMr := ("HiddenCubeModel", cX5_cellOf, 3, (some .int), 1, 0, 0, none)
def F_X5_cellOf (a1 : Int32) (a2 : Int32) (S : zSt) : Option (Int32 × zSt) :=
zlet ((60 * a1) + a2 : Int32) (fun w1 : Int32 =>
chk w1 240 (some ((S.2 4 (w1).toNatClampNeg).toInt32, S)))
theorem mv_X5_cellOf : ZV mX5_cellOf yX5_cellOf 2 := ⟨q2024, qs136, q155, q2025, rfl, by decide, by decide, by decide +kernel⟩
theorem ct_X5_cellOf {G : zGw} (hG : zGM G) (a1 : Int32) (a2 : Int32) : Zc mX5_cellOf yX5_cellOf zJI G [.ref (G.1 0), .int a1, .int a2] (F_X5_cellOf a1 a2) := by
  refine Zc_of [some (.ref (G.1 0)), some (.int a1), some (.int a2)] (by decide) rfl rfl (Nat.le_of_ble_eq_true rfl) rfl (fun X S res => ?_)
  unfold F_X5_cellOf
  refine z_aload_n (pc := 0) 0 dX5_cellOf_0 rfl rfl ?_
  refine gf_X5_M_16_0 hG (pc := 1) dX5_cellOf_1 ?_
  refine z_bipush (pc := 4) (v := 60) dX5_cellOf_4 (by decide) ?_
  refine z_iload_n (pc := 6) 1 dX5_cellOf_6 rfl rfl ?_
  refine z_imul (pc := 7) dX5_cellOf_7 ?_
  refine z_iload_n (pc := 8) 2 dX5_cellOf_8 rfl rfl ?_
  refine z_iadd (pc := 9) dX5_cellOf_9 ?_
  refine z_letI (fun w1 => ?_)
  refine z_chk (fun h2 => ?_)
  refine z_laload (pc := 10) 4 240 (zGM_s4 hG) h2 dX5_cellOf_10 ?_
  refine z_l2i (pc := 11) dX5_cellOf_11 ?_
  exact z_iret rfl dX5_cellOf_12 rfl
abbrev mX5_code : zMr := ("HiddenCubeModel", cX5_code, 7, (some .int), 5, 0, 0, none)
def LB_X5_code_1 (a1 : Int32) (x6 : Int32) (rec4 : Int32 → Int32 → zSt → Option (Int32 × zSt)) (rec9 : Int32 → Int32 → zSt → Option (Int32 × zSt)) (x10 : Int32) (x11 : Int32) (S12 : zSt) : Option (Int32 × zSt) :=
if x6 ≤ x11 then (rec4 x10 (x6 + 1) S12) else (zbind (F_X5_cellOf a1 x6 S12) (fun r14 S13 =>
zbind (F_X5_cellOf a1 x11 S13) (fun r16 S15 =>
zbind (F_X5_bits (r14 ^^^ r16) S15) (fun r18 S17 =>
zlet ((if x10 = (-1) then r18 else (if x10 ≤ r18 then x10 else r18)) : Int32) (fun w20 : Int32 =>
rec9 w20 (x11 + 1) S17)))))
def LB_X5_code_2 (a1 : Int32) (rec4 : Int32 → Int32 → zSt → Option (Int32 × zSt)) (x5 : Int32) (x6 : Int32) (S7 : zSt) : Option (Int32 × zSt) :=
chk a1 4 (if (S7.1 3 (a1).toNatClampNeg) ≤ x6 then (some (x5, S7)) else (loopK (fun _ _ _ => none) (LB_X5_code_1 a1 x6 rec4) zfuel x5 0 S7))
def F_X5_code (a1 : Int32) (S : zSt) : Option (Int32 × zSt) :=
zlet (sI S 0 0 0 : zSt) (fun S1 : zSt =>
zbind (F_X5_whyNot a1 S1) (fun r3 S2 =>
if r3 = 0 then (loopK (fun _ _ _ => none) (LB_X5_code_2 a1) zfuel (-1) 0 S2) else (some (r3, S2))))
theorem mv_X5_code : ZV mX5_code yX5_code 1 := ⟨q2015, q2016, q155, q2017, rfl, by decide, by decide, by decide +kernel⟩
theorem ct_X5_code {G : zGw} (hG : zGM G) (a1 : Int32) : Zc mX5_code yX5_code zJI G [.ref (G.1 0), .int a1] (F_X5_code a1) := by
  refine Zc_of [some (.ref (G.1 0)), some (.int a1), none, none, none, none, none] (by decide) rfl rfl (Nat.le_of_ble_eq_true rfl) rfl (fun X S res => ?_)
  unfold F_X5_code
  refine z_aload_n (pc := 0) 0 dX5_code_0 rfl rfl ?_
  refine z_iconst (pc := 1) (v := 0) dX5_code_1 (by decide) ?_
  refine pf_X5_M_131_0 hG (pc := 2) dX5_code_2 ?_
  refine z_letS (fun S1 => ?_)
  refine z_aload_n (pc := 5) 0 dX5_code_5 rfl rfl ?_
  refine z_iload_n (pc := 6) 1 dX5_code_6 rfl rfl ?_
  refine z_callVi (pc := 7) _ _ 0 5 (ct_X5_whyNot hG _) mv_X5_whyNot q2018 rfl (zGM_s0 hG) rfl (Nat.le_of_ble_eq_true rfl) (Nat.le_of_ble_eq_true rfl) rfl rfl (Nat.le_of_ble_eq_true rfl) dX5_code_7 (fun r3 S2 => ?_)
  refine z_istore_n (pc := 10) 2 dX5_code_10 rfl (Nat.le_of_ble_eq_true rfl) rfl ?_
  refine z_iload_n (pc := 11) 2 dX5_code_11 rfl rfl ?_
  refine z_if_eq (pc := 12) 17 dX5_code_12 rfl ?_ ?_
  · refine z_iconst (pc := 17) (v := (-1)) dX5_code_17 (by decide) ?_
    refine z_istore_n (pc := 18) 3 dX5_code_18 rfl (Nat.le_of_ble_eq_true rfl) rfl ?_
    refine z_iconst (pc := 19) (v := 0) dX5_code_19 (by decide) ?_
    refine z_istore (pc := 20) dX5_code_20 (Nat.le_of_ble_eq_true rfl) rfl ?_
    refine z_maskk [true, true, false, true, true, false, false] ?_
    refine z_loopK (fun j : Int32 → Int32 → zSt → Option (Int32 × zSt) => ∀ (x5 : Int32) (x6 : Int32) (S7 : zSt), Zm X mX5_code zJI G (0, 0) res S7 22 [some (.ref (G.1 0)), some (.int a1), none, some (.int x5), some (.int x6), none, none] [] (j x5 x6 S7)) ?_ ?_ zfuel _ _ _
    · intro x5 x6 S7; exact z_none
    · intro rec4 hrec4 x5 x6 S7
      unfold LB_X5_code_2
      refine z_iload (pc := 22) dX5_code_22 rfl ?_
      refine z_aload_n (pc := 24) 0 dX5_code_24 rfl rfl ?_
      refine gf_X5_M_13_0 hG (pc := 25) dX5_code_25 ?_
      refine z_iload_n (pc := 28) 1 dX5_code_28 rfl rfl ?_
      refine z_chk (fun h8 => ?_)
      refine z_iaload (pc := 29) 3 4 (zGM_s3 hG) h8 dX5_code_29 ?_
      refine z_icmp_ge (pc := 30) 93 dX5_code_30 rfl ?_ ?_
      · refine z_iload_n (pc := 93) 3 dX5_code_93 rfl rfl ?_
        exact z_iret rfl dX5_code_94 rfl
      · refine z_iconst (pc := 33) (v := 0) dX5_code_33 (by decide) ?_
        refine z_istore (pc := 34) dX5_code_34 (Nat.le_of_ble_eq_true rfl) rfl ?_
        refine z_loopK (fun j : Int32 → Int32 → zSt → Option (Int32 × zSt) => ∀ (x10 : Int32) (x11 : Int32) (S12 : zSt), Zm X mX5_code zJI G (0, 0) res S12 36 [some (.ref (G.1 0)), some (.int a1), none, some (.int x10), some (.int x6), some (.int x11), none] [] (j x10 x11 S12)) ?_ ?_ zfuel _ _ _
        · intro x10 x11 S12; exact z_none
        · intro rec9 hrec9 x10 x11 S12
          unfold LB_X5_code_1
          refine z_iload (pc := 36) dX5_code_36 rfl ?_
          refine z_iload (pc := 38) dX5_code_38 rfl ?_
          refine z_icmp_ge (pc := 40) 87 dX5_code_40 rfl ?_ ?_
          · refine z_iinc (pc := 87) (w := x6 + 1) dX5_code_87 rfl (by rw [show Int32.ofInt 1 = 1 from by decide]) (Nat.le_of_ble_eq_true rfl) rfl ?_
            refine z_goto (pc := 90) 22 dX5_code_90 rfl ?_
            exact z_mask [true, true, false, true, true, false, false] (hrec4 _ _ _) rfl
          · refine z_aload_n (pc := 43) 0 dX5_code_43 rfl rfl ?_
            refine z_iload_n (pc := 44) 1 dX5_code_44 rfl rfl ?_
            refine z_iload (pc := 45) dX5_code_45 rfl ?_
            refine z_callVi (pc := 47) _ _ 0 5 (ct_X5_cellOf hG _ _) mv_X5_cellOf q2022 rfl (zGM_s0 hG) rfl (Nat.le_of_ble_eq_true rfl) (Nat.le_of_ble_eq_true rfl) rfl rfl (Nat.le_of_ble_eq_true rfl) dX5_code_47 (fun r14 S13 => ?_)
            refine z_aload_n (pc := 50) 0 dX5_code_50 rfl rfl ?_
            refine z_iload_n (pc := 51) 1 dX5_code_51 rfl rfl ?_
            refine z_iload (pc := 52) dX5_code_52 rfl ?_
            refine z_callVi (pc := 54) _ _ 0 5 (ct_X5_cellOf hG _ _) mv_X5_cellOf q2022 rfl (zGM_s0 hG) rfl (Nat.le_of_ble_eq_true rfl) (Nat.le_of_ble_eq_true rfl) rfl rfl (Nat.le_of_ble_eq_true rfl) dX5_code_54 (fun r16 S15 => ?_)
            refine z_ixor (pc := 57) dX5_code_57 ?_
            refine z_callSi (pc := 58) _ _ (ct_X5_bits  _) mv_X5_bits q1756 rfl (Nat.le_of_ble_eq_true rfl) (Nat.le_of_ble_eq_true rfl) rfl rfl (Nat.le_of_ble_eq_true rfl) dX5_code_58 (fun r18 S17 => ?_)
            refine z_istore (pc := 61) dX5_code_61 (Nat.le_of_ble_eq_true rfl) rfl ?_
            refine z_iload_n (pc := 63) 3 dX5_code_63 rfl rfl ?_
            refine z_iconst (pc := 64) (v := (-1)) dX5_code_64 (by decide) ?_
            refine z_pure (st0 := []) 80 ((if x10 = (-1) then r18 else (if x10 ≤ r18 then x10 else r18))) ?_ (fun hJ => ?_)
            · refine z_letI (fun w20 => ?_)
              refine z_istore_n (pc := 80) 3 dX5_code_80 rfl (Nat.le_of_ble_eq_true rfl) rfl ?_
              refine z_iinc (pc := 81) (w := x11 + 1) dX5_code_81 rfl (by rw [show Int32.ofInt 1 = 1 from by decide]) (Nat.le_of_ble_eq_true rfl) rfl ?_
              refine z_goto (pc := 84) 36 dX5_code_84 rfl ?_
              exact z_mask [true, true, false, true, true, true, false] (hrec9 _ _ _) rfl
            · refine z_icmpd_eq (pc := 65) 74 dX5_code_65 rfl (fun c21 => ?_) (fun c21 => ?_)
              · refine z_iload (pc := 74) dX5_code_74 rfl ?_
                refine z_goto (pc := 76) 80 dX5_code_76 rfl ?_
                exact z_leaf hJ (by simp only [if_pos c21])
              · refine z_iload (pc := 68) dX5_code_68 rfl ?_
                refine z_iload_n (pc := 70) 3 dX5_code_70 rfl rfl ?_
                refine z_icmpd_ge (pc := 71) 79 dX5_code_71 rfl (fun c22 => ?_) (fun c22 => ?_)
                · refine z_iload_n (pc := 79) 3 dX5_code_79 rfl rfl ?_
                  exact z_leaf hJ (by simp only [if_neg c21, if_pos c22])
                · refine z_iload (pc := 74) dX5_code_74 rfl ?_
                  refine z_goto (pc := 76) 80 dX5_code_76 rfl ?_
                  exact z_leaf hJ (by simp only [if_neg c21, if_neg c22])
  · refine z_iload_n (pc := 15) 2 dX5_code_15 rfl rfl ?_
    exact z_iret rfl dX5_code_16 rfl
abbrev mX5_heardOf : zMr := ("HiddenCubeModel", cX5_heardOf, 8, (some .int), 2, 0, 0, none)
def LB_X5_heardOf_1 (a1 : Int32) (a2 : Int32) (k1 : Int32 → Int32 → zSt → Option (Int32 × zSt)) (rec5 : Int32 → Int32 → Int32 → Int32 → zSt → Option (Int32 × zSt)) (x6 : Int32) (x7 : Int32) (x8 : Int32) (x9 : Int32) (S10 : zSt) : Option (Int32 × zSt) :=
chk a1 4 (if (S10.1 3 (a1).toNatClampNeg) ≤ x9 then (k1 x6 x8 S10) else (zbind (F_X5_cellOf a1 x9 S10) (fun r13 S12 =>
zbind (F_X5_bits (r13 ^^^ a2) S12) (fun r15 S14 =>
if r15 ≤ x7 then (zlet ((if x7 ≤ r15 then 0 else 1) : Int32) (fun w17 : Int32 =>
zlet ((if x7 ≤ r15 then x6 else x9) : Int32) (fun w19 : Int32 =>
rec5 w19 r15 w17 (x9 + 1) S14))) else (rec5 x6 x7 x8 (x9 + 1) S14)))))
def F_X5_heardOf (a1 : Int32) (a2 : Int32) (S : zSt) : Option (Int32 × zSt) :=
joinK (fun (x2 : Int32) (x3 : Int32) (S4 : zSt) => if x3 = 0 then (some ((-1), S4)) else (some (x2, S4))) (fun k1 : Int32 → Int32 → zSt → Option (Int32 × zSt) =>
loopK (fun _ _ _ _ _ => none) (LB_X5_heardOf_1 a1 a2 k1) zfuel (-1) 1000000 0 0 S)
theorem mv_X5_heardOf : ZV mX5_heardOf yX5_heardOf 2 := ⟨q2032, qs137, q155, q2033, rfl, by decide, by decide, by decide +kernel⟩
theorem ct_X5_heardOf {G : zGw} (hG : zGM G) (a1 : Int32) (a2 : Int32) : Zc mX5_heardOf yX5_heardOf zJI G [.ref (G.1 0), .int a1, .int a2] (F_X5_heardOf a1 a2) := by
  refine Zc_of [some (.ref (G.1 0)), some (.int a1), some (.int a2), none, none, none, none, none] (by decide) rfl rfl (Nat.le_of_ble_eq_true rfl) rfl (fun X S res => ?_)
  unfold F_X5_heardOf
  refine z_iconst (pc := 0) (v := (-1)) dX5_heardOf_0 (by decide) ?_
  refine z_istore_n (pc := 1) 3 dX5_heardOf_1 rfl (Nat.le_of_ble_eq_true rfl) rfl ?_
  refine z_ldc (pc := 2) (v := 1000000) dX5_heardOf_2 q1632 ?_
  refine z_istore (pc := 4) dX5_heardOf_4 (Nat.le_of_ble_eq_true rfl) rfl ?_
  refine z_iconst (pc := 6) (v := 0) dX5_heardOf_6 (by decide) ?_
  refine z_istore (pc := 7) dX5_heardOf_7 (Nat.le_of_ble_eq_true rfl) rfl ?_
  refine z_iconst (pc := 9) (v := 0) dX5_heardOf_9 (by decide) ?_
  refine z_istore (pc := 10) dX5_heardOf_10 (Nat.le_of_ble_eq_true rfl) rfl ?_
  refine z_join (fun j : Int32 → Int32 → zSt → Option (Int32 × zSt) => ∀ (x2 : Int32) (x3 : Int32) (S4 : zSt), Zm X mX5_heardOf zJI G (0, 0) res S4 85 [none, none, none, some (.int x2), none, some (.int x3), none, none] [] (j x2 x3 S4)) ?_ (fun k1 hk1 => ?_)
  · intro x2 x3 S4
    refine z_iload (pc := 85) dX5_heardOf_85 rfl ?_
    refine z_if_eq (pc := 87) 94 dX5_heardOf_87 rfl ?_ ?_
    · refine z_iconst (pc := 94) (v := (-1)) dX5_heardOf_94 (by decide) ?_
      exact z_iret rfl dX5_heardOf_95 rfl
    · refine z_iload_n (pc := 90) 3 dX5_heardOf_90 rfl rfl ?_
      refine z_goto (pc := 91) 95 dX5_heardOf_91 rfl ?_
      exact z_iret rfl dX5_heardOf_95 rfl
  · refine z_loopK (fun j : Int32 → Int32 → Int32 → Int32 → zSt → Option (Int32 × zSt) => ∀ (x6 : Int32) (x7 : Int32) (x8 : Int32) (x9 : Int32) (S10 : zSt), Zm X mX5_heardOf zJI G (0, 0) res S10 12 [some (.ref (G.1 0)), some (.int a1), some (.int a2), some (.int x6), some (.int x7), some (.int x8), some (.int x9), none] [] (j x6 x7 x8 x9 S10)) ?_ ?_ zfuel _ _ _ _ _
    · intro x6 x7 x8 x9 S10; exact z_none
    · intro rec5 hrec5 x6 x7 x8 x9 S10
      unfold LB_X5_heardOf_1
      refine z_iload (pc := 12) dX5_heardOf_12 rfl ?_
      refine z_aload_n (pc := 14) 0 dX5_heardOf_14 rfl rfl ?_
      refine gf_X5_M_13_0 hG (pc := 15) dX5_heardOf_15 ?_
      refine z_iload_n (pc := 18) 1 dX5_heardOf_18 rfl rfl ?_
      refine z_chk (fun h11 => ?_)
      refine z_iaload (pc := 19) 3 4 (zGM_s3 hG) h11 dX5_heardOf_19 ?_
      refine z_icmp_ge (pc := 20) 85 dX5_heardOf_20 rfl ?_ ?_
      · exact z_mask [false, false, false, true, false, true, false, false] (hk1 _ _ _) rfl
      · refine z_aload_n (pc := 23) 0 dX5_heardOf_23 rfl rfl ?_
        refine z_iload_n (pc := 24) 1 dX5_heardOf_24 rfl rfl ?_
        refine z_iload (pc := 25) dX5_heardOf_25 rfl ?_
        refine z_callVi (pc := 27) _ _ 0 5 (ct_X5_cellOf hG _ _) mv_X5_cellOf q2022 rfl (zGM_s0 hG) rfl (Nat.le_of_ble_eq_true rfl) (Nat.le_of_ble_eq_true rfl) rfl rfl (Nat.le_of_ble_eq_true rfl) dX5_heardOf_27 (fun r13 S12 => ?_)
        refine z_iload_n (pc := 30) 2 dX5_heardOf_30 rfl rfl ?_
        refine z_ixor (pc := 31) dX5_heardOf_31 ?_
        refine z_callSi (pc := 32) _ _ (ct_X5_bits  _) mv_X5_bits q1756 rfl (Nat.le_of_ble_eq_true rfl) (Nat.le_of_ble_eq_true rfl) rfl rfl (Nat.le_of_ble_eq_true rfl) dX5_heardOf_32 (fun r15 S14 => ?_)
        refine z_istore (pc := 35) dX5_heardOf_35 (Nat.le_of_ble_eq_true rfl) rfl ?_
        refine z_iload (pc := 37) dX5_heardOf_37 rfl ?_
        refine z_iload (pc := 39) dX5_heardOf_39 rfl ?_
        refine z_icmp_le (pc := 41) 47 dX5_heardOf_41 rfl ?_ ?_
        · refine z_iload (pc := 47) dX5_heardOf_47 rfl ?_
          refine z_iload (pc := 49) dX5_heardOf_49 rfl ?_
          refine z_pure (st0 := []) 59 ((if x7 ≤ r15 then 0 else 1)) ?_ (fun hJ => ?_)
          · refine z_letI (fun w17 => ?_)
            refine z_istore (pc := 59) dX5_heardOf_59 (Nat.le_of_ble_eq_true rfl) rfl ?_
            refine z_iload (pc := 61) dX5_heardOf_61 rfl ?_
            refine z_iload (pc := 63) dX5_heardOf_63 rfl ?_
            refine z_pure (st0 := []) 74 ((if x7 ≤ r15 then x6 else x9)) ?_ (fun hJ => ?_)
            · refine z_letI (fun w19 => ?_)
              refine z_istore_n (pc := 74) 3 dX5_heardOf_74 rfl (Nat.le_of_ble_eq_true rfl) rfl ?_
              refine z_iload (pc := 75) dX5_heardOf_75 rfl ?_
              refine z_istore (pc := 77) dX5_heardOf_77 (Nat.le_of_ble_eq_true rfl) rfl ?_
              refine z_iinc (pc := 79) (w := x9 + 1) dX5_heardOf_79 rfl (by rw [show Int32.ofInt 1 = 1 from by decide]) (Nat.le_of_ble_eq_true rfl) rfl ?_
              refine z_goto (pc := 82) 12 dX5_heardOf_82 rfl ?_
              exact z_mask [true, true, true, true, true, true, true, false] (hrec5 _ _ _ _ _) rfl
            · refine z_icmpd_ge (pc := 65) 73 dX5_heardOf_65 rfl (fun c20 => ?_) (fun c20 => ?_)
              · refine z_iload_n (pc := 73) 3 dX5_heardOf_73 rfl rfl ?_
                exact z_leaf hJ (by simp only [if_pos c20])
              · refine z_iload (pc := 68) dX5_heardOf_68 rfl ?_
                refine z_goto (pc := 70) 74 dX5_heardOf_70 rfl ?_
                exact z_leaf hJ (by simp only [if_neg c20])
          · refine z_icmpd_ge (pc := 51) 58 dX5_heardOf_51 rfl (fun c21 => ?_) (fun c21 => ?_)
            · refine z_iconst (pc := 58) (v := 0) dX5_heardOf_58 (by decide) ?_
              exact z_leaf hJ (by simp only [if_pos c21])
            · refine z_iconst (pc := 54) (v := 1) dX5_heardOf_54 (by decide) ?_
              refine z_goto (pc := 55) 59 dX5_heardOf_55 rfl ?_
              exact z_leaf hJ (by simp only [if_neg c21])
        · refine z_goto (pc := 44) 79 dX5_heardOf_44 rfl ?_
          refine z_iinc (pc := 79) (w := x9 + 1) dX5_heardOf_79 rfl (by rw [show Int32.ofInt 1 = 1 from by decide]) (Nat.le_of_ble_eq_true rfl) rfl ?_
          refine z_goto (pc := 82) 12 dX5_heardOf_82 rfl ?_
          exact z_mask [true, true, true, true, true, true, true, false] (hrec5 _ _ _ _ _) rfl
abbrev mX5_heard : zMr := ("HiddenCubeModel", cX5_heard, 4, (some .int), 5, 0, 0, none)
def F_X5_heard (a1 : Int32) (a2 : Int32) (S : zSt) : Option (Int32 × zSt) :=
zlet (sI S 0 0 0 : zSt) (fun S1 : zSt =>
zbind (F_X5_isSquare ((a2).toInt64) S1) (fun r3 S2 =>
joinK (fun (v5 : Int32) (S6 : zSt) => if v5 = 0 then (zbind (F_X5_heardOf a1 a2 S6) (fun r8 S7 =>
some (r8, S7))) else (some (v5, S6))) (fun j4 : Int32 → zSt → Option (Int32 × zSt) =>
if r3 = 0 then (j4 (-2) S2) else (zbind (F_X5_whyNot a1 S2) (fun r10 S9 =>
j4 r10 S9)))))
theorem mv_X5_heard : ZV mX5_heard yX5_heard 2 := ⟨q2027, q2028, q155, q2029, rfl, by decide, by decide, by decide +kernel⟩
theorem ct_X5_heard {G : zGw} (hG : zGM G) (a1 : Int32) (a2 : Int32) : Zc mX5_heard yX5_heard zJI G [.ref (G.1 0), .int a1, .int a2] (F_X5_heard a1 a2) := by
  refine Zc_of [some (.ref (G.1 0)), some (.int a1), some (.int a2), none] (by decide) rfl rfl (Nat.le_of_ble_eq_true rfl) rfl (fun X S res => ?_)
  unfold F_X5_heard
  refine z_aload_n (pc := 0) 0 dX5_heard_0 rfl rfl ?_
  refine z_iconst (pc := 1) (v := 0) dX5_heard_1 (by decide) ?_
  refine pf_X5_M_131_0 hG (pc := 2) dX5_heard_2 ?_
  refine z_letS (fun S1 => ?_)
  refine z_aload_n (pc := 5) 0 dX5_heard_5 rfl rfl ?_
  refine z_iload_n (pc := 6) 2 dX5_heard_6 rfl rfl ?_
  refine z_i2l (pc := 7) dX5_heard_7 ?_
  refine z_callVi (pc := 8) _ _ 0 5 (ct_X5_isSquare hG _) mv_X5_isSquare q1721 rfl (zGM_s0 hG) rfl (Nat.le_of_ble_eq_true rfl) (Nat.le_of_ble_eq_true rfl) rfl rfl (Nat.le_of_ble_eq_true rfl) dX5_heard_8 (fun r3 S2 => ?_)
  refine z_join (fun j : Int32 → zSt → Option (Int32 × zSt) => ∀ (v5 : Int32) (S6 : zSt), Zm X mX5_heard zJI G (0, 0) res S6 24 [some (.ref (G.1 0)), some (.int a1), some (.int a2), none] [.int v5] (j v5 S6)) ?_ (fun j4 hj4 => ?_)
  · intro v5 S6
    refine z_istore_n (pc := 24) 3 dX5_heard_24 rfl (Nat.le_of_ble_eq_true rfl) rfl ?_
    refine z_iload_n (pc := 25) 3 dX5_heard_25 rfl rfl ?_
    refine z_if_eq (pc := 26) 33 dX5_heard_26 rfl ?_ ?_
    · refine z_aload_n (pc := 33) 0 dX5_heard_33 rfl rfl ?_
      refine z_iload_n (pc := 34) 1 dX5_heard_34 rfl rfl ?_
      refine z_iload_n (pc := 35) 2 dX5_heard_35 rfl rfl ?_
      refine z_callVi (pc := 36) _ _ 0 5 (ct_X5_heardOf hG _ _) mv_X5_heardOf q2030 rfl (zGM_s0 hG) rfl (Nat.le_of_ble_eq_true rfl) (Nat.le_of_ble_eq_true rfl) rfl rfl (Nat.le_of_ble_eq_true rfl) dX5_heard_36 (fun r8 S7 => ?_)
      exact z_iret rfl dX5_heard_39 rfl
    · refine z_iload_n (pc := 29) 3 dX5_heard_29 rfl rfl ?_
      refine z_goto (pc := 30) 39 dX5_heard_30 rfl ?_
      exact z_iret rfl dX5_heard_39 rfl
  · refine z_if_eq (pc := 11) 22 dX5_heard_11 rfl ?_ ?_
    · refine z_bipush (pc := 22) (v := (-2)) dX5_heard_22 (by decide) ?_
      exact hj4 _ _
    · refine z_aload_n (pc := 14) 0 dX5_heard_14 rfl rfl ?_
      refine z_iload_n (pc := 15) 1 dX5_heard_15 rfl rfl ?_
      refine z_callVi (pc := 16) _ _ 0 5 (ct_X5_whyNot hG _) mv_X5_whyNot q2018 rfl (zGM_s0 hG) rfl (Nat.le_of_ble_eq_true rfl) (Nat.le_of_ble_eq_true rfl) rfl rfl (Nat.le_of_ble_eq_true rfl) dX5_heard_16 (fun r10 S9 => ?_)
      refine z_goto (pc := 19) 24 dX5_heard_19 rfl ?_
      exact hj4 _ _
abbrev mX5_told : zMr := ("HiddenCubeModel", cX5_told, 8, (some .int), 5, 0, 0, none)
def LB_X5_told_1 (a1 : Int32) (a2 : Int32) (x7 : Int32) (k11 : Int32 → zSt → Option (Int32 × zSt)) (rec17 : Int32 → Int32 → zSt → Option (Int32 × zSt)) (x18 : Int32) (x19 : Int32) (S20 : zSt) : Option (Int32 × zSt) :=
chk a1 4 (if (S20.1 3 (a1).toNatClampNeg) ≤ x19 then (k11 x18 S20) else (zbind (F_X5_cellOf a1 x19 S20) (fun r23 S22 =>
zbind (F_X5_bits (r23 ^^^ x7) S22) (fun r25 S24 =>
zlet (x18 + (if a2 < r25 then 0 else 1) : Int32) (fun w27 : Int32 =>
rec17 w27 (x19 + 1) S24)))))
def LB_X5_told_2 (a1 : Int32) (a2 : Int32) (rec5 : Int32 → Int32 → zSt → Option (Int32 × zSt)) (x6 : Int32) (x7 : Int32) (S8 : zSt) : Option (Int32 × zSt) :=
zbind (F_X5_squares S8) (fun r10 S9 =>
if r10 ≤ x7 then (some (x6, S9)) else (joinK (fun (x12 : Int32) (S13 : zSt) => zlet (x6 + (if x12 = 1 then 1 else 0) : Int32) (fun w15 : Int32 =>
rec5 w15 (x7 + 1) S13)) (fun k11 : Int32 → zSt → Option (Int32 × zSt) =>
loopK (fun _ _ _ => none) (LB_X5_told_1 a1 a2 x7 k11) zfuel 0 0 S9)))
def F_X5_told (a1 : Int32) (a2 : Int32) (S : zSt) : Option (Int32 × zSt) :=
zlet (sI S 0 0 0 : zSt) (fun S1 : zSt =>
joinK (fun (v3 : Int32) (S4 : zSt) => if v3 = 0 then (loopK (fun _ _ _ => none) (LB_X5_told_2 a1 a2) zfuel 0 0 S4) else (some (v3, S4))) (fun j2 : Int32 → zSt → Option (Int32 × zSt) =>
if 0 ≤ a2 then (zbind (F_X5_whyNot a1 S1) (fun r30 S29 =>
j2 r30 S29)) else (j2 (-2) S1)))
theorem mv_X5_told : ZV mX5_told yX5_told 2 := ⟨q2035, q2036, q155, q2037, rfl, by decide, by decide, by decide +kernel⟩
theorem ct_X5_told {G : zGw} (hG : zGM G) (a1 : Int32) (a2 : Int32) : Zc mX5_told yX5_told zJI G [.ref (G.1 0), .int a1, .int a2] (F_X5_told a1 a2) := by
  refine Zc_of [some (.ref (G.1 0)), some (.int a1), some (.int a2), none, none, none, none, none] (by decide) rfl rfl (Nat.le_of_ble_eq_true rfl) rfl (fun X S res => ?_)
  unfold F_X5_told
  refine z_aload_n (pc := 0) 0 dX5_told_0 rfl rfl ?_
  refine z_iconst (pc := 1) (v := 0) dX5_told_1 (by decide) ?_
  refine pf_X5_M_131_0 hG (pc := 2) dX5_told_2 ?_
  refine z_letS (fun S1 => ?_)
  refine z_iload_n (pc := 5) 2 dX5_told_5 rfl rfl ?_
  refine z_join (fun j : Int32 → zSt → Option (Int32 × zSt) => ∀ (v3 : Int32) (S4 : zSt), Zm X mX5_told zJI G (0, 0) res S4 19 [some (.ref (G.1 0)), some (.int a1), some (.int a2), none, none, none, none, none] [.int v3] (j v3 S4)) ?_ (fun j2 hj2 => ?_)
  · intro v3 S4
    refine z_istore_n (pc := 19) 3 dX5_told_19 rfl (Nat.le_of_ble_eq_true rfl) rfl ?_
    refine z_iload_n (pc := 20) 3 dX5_told_20 rfl rfl ?_
    refine z_if_eq (pc := 21) 26 dX5_told_21 rfl ?_ ?_
    · refine z_iconst (pc := 26) (v := 0) dX5_told_26 (by decide) ?_
      refine z_istore (pc := 27) dX5_told_27 (Nat.le_of_ble_eq_true rfl) rfl ?_
      refine z_iconst (pc := 29) (v := 0) dX5_told_29 (by decide) ?_
      refine z_istore (pc := 30) dX5_told_30 (Nat.le_of_ble_eq_true rfl) rfl ?_
      refine z_maskk [true, true, true, false, true, true, false, false] ?_
      refine z_loopK (fun j : Int32 → Int32 → zSt → Option (Int32 × zSt) => ∀ (x6 : Int32) (x7 : Int32) (S8 : zSt), Zm X mX5_told zJI G (0, 0) res S8 32 [some (.ref (G.1 0)), some (.int a1), some (.int a2), none, some (.int x6), some (.int x7), none, none] [] (j x6 x7 S8)) ?_ ?_ zfuel _ _ _
      · intro x6 x7 S8; exact z_none
      · intro rec5 hrec5 x6 x7 S8
        unfold LB_X5_told_2
        refine z_iload (pc := 32) dX5_told_32 rfl ?_
        refine z_aload_n (pc := 34) 0 dX5_told_34 rfl rfl ?_
        refine z_callVi (pc := 35) _ _ 0 5 (ct_X5_squares hG) mv_X5_squares q1725 rfl (zGM_s0 hG) rfl (Nat.le_of_ble_eq_true rfl) (Nat.le_of_ble_eq_true rfl) rfl rfl (Nat.le_of_ble_eq_true rfl) dX5_told_35 (fun r10 S9 => ?_)
        refine z_icmp_ge (pc := 38) 113 dX5_told_38 rfl ?_ ?_
        · refine z_iload (pc := 113) dX5_told_113 rfl ?_
          exact z_iret rfl dX5_told_115 rfl
        · refine z_iconst (pc := 41) (v := 0) dX5_told_41 (by decide) ?_
          refine z_istore (pc := 42) dX5_told_42 (Nat.le_of_ble_eq_true rfl) rfl ?_
          refine z_iconst (pc := 44) (v := 0) dX5_told_44 (by decide) ?_
          refine z_istore (pc := 45) dX5_told_45 (Nat.le_of_ble_eq_true rfl) rfl ?_
          refine z_join (fun j : Int32 → zSt → Option (Int32 × zSt) => ∀ (x12 : Int32) (S13 : zSt), Zm X mX5_told zJI G (0, 0) res S13 91 [some (.ref (G.1 0)), some (.int a1), some (.int a2), none, some (.int x6), some (.int x7), some (.int x12), none] [] (j x12 S13)) ?_ (fun k11 hk11 => ?_)
          · intro x12 S13
            refine z_iload (pc := 91) dX5_told_91 rfl ?_
            refine z_iload (pc := 93) dX5_told_93 rfl ?_
            refine z_iconst (pc := 95) (v := 1) dX5_told_95 (by decide) ?_
            refine z_pure (st0 := [.int x6]) 104 ((if x12 = 1 then 1 else 0)) ?_ (fun hJ => ?_)
            · refine z_iadd (pc := 104) dX5_told_104 ?_
              refine z_letI (fun w15 => ?_)
              refine z_istore (pc := 105) dX5_told_105 (Nat.le_of_ble_eq_true rfl) rfl ?_
              refine z_iinc (pc := 107) (w := x7 + 1) dX5_told_107 rfl (by rw [show Int32.ofInt 1 = 1 from by decide]) (Nat.le_of_ble_eq_true rfl) rfl ?_
              refine z_goto (pc := 110) 32 dX5_told_110 rfl ?_
              exact z_mask [true, true, true, false, true, true, false, false] (hrec5 _ _ _) rfl
            · refine z_icmpd_ne (pc := 96) 103 dX5_told_96 rfl (fun c16 => ?_) (fun c16 => ?_)
              · refine z_iconst (pc := 103) (v := 0) dX5_told_103 (by decide) ?_
                exact z_leaf hJ (by simp only [if_neg c16])
              · refine z_iconst (pc := 99) (v := 1) dX5_told_99 (by decide) ?_
                refine z_goto (pc := 100) 104 dX5_told_100 rfl ?_
                exact z_leaf hJ (by simp only [if_pos c16])
          · refine z_loopK (fun j : Int32 → Int32 → zSt → Option (Int32 × zSt) => ∀ (x18 : Int32) (x19 : Int32) (S20 : zSt), Zm X mX5_told zJI G (0, 0) res S20 47 [some (.ref (G.1 0)), some (.int a1), some (.int a2), none, some (.int x6), some (.int x7), some (.int x18), some (.int x19)] [] (j x18 x19 S20)) ?_ ?_ zfuel _ _ _
            · intro x18 x19 S20; exact z_none
            · intro rec17 hrec17 x18 x19 S20
              unfold LB_X5_told_1
              refine z_iload (pc := 47) dX5_told_47 rfl ?_
              refine z_aload_n (pc := 49) 0 dX5_told_49 rfl rfl ?_
              refine gf_X5_M_13_0 hG (pc := 50) dX5_told_50 ?_
              refine z_iload_n (pc := 53) 1 dX5_told_53 rfl rfl ?_
              refine z_chk (fun h21 => ?_)
              refine z_iaload (pc := 54) 3 4 (zGM_s3 hG) h21 dX5_told_54 ?_
              refine z_icmp_ge (pc := 55) 91 dX5_told_55 rfl ?_ ?_
              · exact z_mask [true, true, true, false, true, true, true, false] (hk11 _ _) rfl
              · refine z_iload (pc := 58) dX5_told_58 rfl ?_
                refine z_aload_n (pc := 60) 0 dX5_told_60 rfl rfl ?_
                refine z_iload_n (pc := 61) 1 dX5_told_61 rfl rfl ?_
                refine z_iload (pc := 62) dX5_told_62 rfl ?_
                refine z_callVi (pc := 64) _ _ 0 5 (ct_X5_cellOf hG _ _) mv_X5_cellOf q2022 rfl (zGM_s0 hG) rfl (Nat.le_of_ble_eq_true rfl) (Nat.le_of_ble_eq_true rfl) rfl rfl (Nat.le_of_ble_eq_true rfl) dX5_told_64 (fun r23 S22 => ?_)
                refine z_iload (pc := 67) dX5_told_67 rfl ?_
                refine z_ixor (pc := 69) dX5_told_69 ?_
                refine z_callSi (pc := 70) _ _ (ct_X5_bits  _) mv_X5_bits q1756 rfl (Nat.le_of_ble_eq_true rfl) (Nat.le_of_ble_eq_true rfl) rfl rfl (Nat.le_of_ble_eq_true rfl) dX5_told_70 (fun r25 S24 => ?_)
                refine z_iload_n (pc := 73) 2 dX5_told_73 rfl rfl ?_
                refine z_pure (st0 := [.int x18]) 82 ((if a2 < r25 then 0 else 1)) ?_ (fun hJ => ?_)
                · refine z_iadd (pc := 82) dX5_told_82 ?_
                  refine z_letI (fun w27 => ?_)
                  refine z_istore (pc := 83) dX5_told_83 (Nat.le_of_ble_eq_true rfl) rfl ?_
                  refine z_iinc (pc := 85) (w := x19 + 1) dX5_told_85 rfl (by rw [show Int32.ofInt 1 = 1 from by decide]) (Nat.le_of_ble_eq_true rfl) rfl ?_
                  refine z_goto (pc := 88) 47 dX5_told_88 rfl ?_
                  exact hrec17 _ _ _
                · refine z_icmpd_gt (pc := 74) 81 dX5_told_74 rfl (fun c28 => ?_) (fun c28 => ?_)
                  · refine z_iconst (pc := 81) (v := 0) dX5_told_81 (by decide) ?_
                    exact z_leaf hJ (by simp only [if_pos c28])
                  · refine z_iconst (pc := 77) (v := 1) dX5_told_77 (by decide) ?_
                    refine z_goto (pc := 78) 82 dX5_told_78 rfl ?_
                    exact z_leaf hJ (by simp only [if_neg c28])
    · refine z_iload_n (pc := 24) 3 dX5_told_24 rfl rfl ?_
      exact z_iret rfl dX5_told_25 rfl
  · refine z_if_ge (pc := 6) 14 dX5_told_6 rfl ?_ ?_
    · refine z_aload_n (pc := 14) 0 dX5_told_14 rfl rfl ?_
      refine z_iload_n (pc := 15) 1 dX5_told_15 rfl rfl ?_
      refine z_callVi (pc := 16) _ _ 0 5 (ct_X5_whyNot hG _) mv_X5_whyNot q2018 rfl (zGM_s0 hG) rfl (Nat.le_of_ble_eq_true rfl) (Nat.le_of_ble_eq_true rfl) rfl rfl (Nat.le_of_ble_eq_true rfl) dX5_told_16 (fun r30 S29 => ?_)
      exact hj2 _ _
    · refine z_bipush (pc := 9) (v := (-2)) dX5_told_9 (by decide) ?_
      refine z_goto (pc := 11) 19 dX5_told_11 rfl ?_
      exact hj2 _ _
abbrev mX5_biggestOf (nrec : Nat) : zMr := ("HiddenCubeModel", cX5_biggestOf, 9, (some .int), 3 + nrec, 0, 0, none)
def LB_X5_biggestOf_1 (a1 : Int32) (a3 : Int32) (x3 : Int32) (k7 : Int32 → zSt → Option (Int32 × zSt)) (rec15 : Int32 → Int32 → zSt → Option (Int32 × zSt)) (x16 : Int32) (x17 : Int32) (S18 : zSt) : Option (Int32 × zSt) :=
if x3 ≤ x17 then (k7 x16 S18) else (if x16 = 0 then (k7 x16 S18) else (zbind (F_X5_isBit a3 x17 S18) (fun r20 S19 =>
joinK (fun (v22 : Int32) (S23 : zSt) => rec15 v22 (x17 + 1) S23) (fun j21 : Int32 → zSt → Option (Int32 × zSt) =>
joinK (fun  (S25 : zSt) => j21 1 S25) (fun j24 : zSt → Option (Int32 × zSt) =>
if r20 = 0 then (j24 S19) else (zbind (F_X5_bits (x17 ^^^ x3) S19) (fun r27 S26 =>
if r27 < a1 then (j21 0 S26) else (j24 S26))))))))
def LB_X5_biggestOf_2 (a1 : Int32) (a3 : Int32) (a4 : Int32) (self : Int32 → Int32 → Int32 → Int32 → zSt → Option (Int32 × zSt)) (rec1 : Int32 → Int32 → zSt → Option (Int32 × zSt)) (x2 : Int32) (x3 : Int32) (S4 : zSt) : Option (Int32 × zSt) :=
zbind (F_X5_squares S4) (fun r6 S5 =>
if r6 ≤ x3 then (some (x2, S5)) else (joinK (fun (x8 : Int32) (S9 : zSt) => if x8 = 0 then (rec1 x2 (x3 + 1) S9) else (zbind (self a1 (x3 + 1) (a3 ||| ((1 : Int32) <<< (x3 &&& 31))) (a4 + 1) S9) (fun r11 S10 =>
zlet ((if r11 ≤ x2 then x2 else r11) : Int32) (fun w13 : Int32 =>
rec1 w13 (x3 + 1) S10)))) (fun k7 : Int32 → zSt → Option (Int32 × zSt) =>
loopK (fun _ _ _ => none) (LB_X5_biggestOf_1 a1 a3 x3 k7) zfuel 1 0 S5)))
def FB_X5_biggestOf (self : Int32 → Int32 → Int32 → Int32 → zSt → Option (Int32 × zSt)) (a1 : Int32) (a2 : Int32) (a3 : Int32) (a4 : Int32) (S : zSt) : Option (Int32 × zSt) :=
loopK (fun _ _ _ => none) (LB_X5_biggestOf_2 a1 a3 a4 self) zfuel a4 a2 S
def F_X5_biggestOf : Nat → Int32 → Int32 → Int32 → Int32 → zSt → Option (Int32 × zSt)
  | 0 => fun _ _ _ _ _ => none
  | nrec + 1 => FB_X5_biggestOf (F_X5_biggestOf nrec)
theorem mv_X5_biggestOf (nrec : Nat) : ZV (mX5_biggestOf nrec) yX5_biggestOf 4 := ⟨q2044, qs138, q155, q2045, rfl, by decide, by decide, by decide +kernel⟩
theorem ct_X5_biggestOf {G : zGw} (hG : zGM G) : ∀ (nrec : Nat) (a1 : Int32) (a2 : Int32) (a3 : Int32) (a4 : Int32), Zc (mX5_biggestOf nrec) yX5_biggestOf zJI G [.ref (G.1 0), .int a1, .int a2, .int a3, .int a4] (F_X5_biggestOf nrec a1 a2 a3 a4) := by
  intro nrec
  induction nrec with
  | zero =>
    intro a1 a2 a3 a4 l S res sz hfl hF
    cases hF
  | succ nrec ih =>
    intro a1 a2 a3 a4
    show Zc (mX5_biggestOf (nrec + 1)) yX5_biggestOf zJI G [.ref (G.1 0), .int a1, .int a2, .int a3, .int a4] (FB_X5_biggestOf (F_X5_biggestOf nrec) a1 a2 a3 a4)
    refine Zc_of [some (.ref (G.1 0)), some (.int a1), some (.int a2), some (.int a3), some (.int a4), none, none, none, none] (by decide) rfl rfl (Nat.le_of_ble_eq_true rfl) rfl (fun X S res => ?_)
    unfold FB_X5_biggestOf
    refine z_iload (pc := 0) dX5_biggestOf_0 rfl ?_
    refine z_istore (pc := 2) dX5_biggestOf_2 (Nat.le_of_ble_eq_true rfl) rfl ?_
    refine z_iload_n (pc := 4) 2 dX5_biggestOf_4 rfl rfl ?_
    refine z_istore (pc := 5) dX5_biggestOf_5 (Nat.le_of_ble_eq_true rfl) rfl ?_
    refine z_maskk [true, true, false, true, true, true, true, false, false] ?_
    refine z_loopK (fun j : Int32 → Int32 → zSt → Option (Int32 × zSt) => ∀ (x2 : Int32) (x3 : Int32) (S4 : zSt), Zm X (mX5_biggestOf (nrec + 1)) zJI G (0, 0) res S4 7 [some (.ref (G.1 0)), some (.int a1), none, some (.int a3), some (.int a4), some (.int x2), some (.int x3), none, none] [] (j x2 x3 S4)) ?_ ?_ zfuel _ _ _
    · intro x2 x3 S4; exact z_none
    · intro rec1 hrec1 x2 x3 S4
      unfold LB_X5_biggestOf_2
      refine z_iload (pc := 7) dX5_biggestOf_7 rfl ?_
      refine z_aload_n (pc := 9) 0 dX5_biggestOf_9 rfl rfl ?_
      refine z_callVi (pc := 10) _ _ 0 5 (ct_X5_squares hG) mv_X5_squares q1725 rfl (zGM_s0 hG) rfl (Nat.le_trans (m := 3) (Nat.le_of_ble_eq_true rfl) (Nat.le_add_right _ _)) (Nat.le_of_ble_eq_true rfl) rfl rfl (Nat.le_of_ble_eq_true rfl) dX5_biggestOf_10 (fun r6 S5 => ?_)
      refine z_icmp_ge (pc := 13) 119 dX5_biggestOf_13 rfl ?_ ?_
      · refine z_iload (pc := 119) dX5_biggestOf_119 rfl ?_
        exact z_iret rfl dX5_biggestOf_121 rfl
      · refine z_iconst (pc := 16) (v := 1) dX5_biggestOf_16 (by decide) ?_
        refine z_istore (pc := 17) dX5_biggestOf_17 (Nat.le_of_ble_eq_true rfl) rfl ?_
        refine z_iconst (pc := 19) (v := 0) dX5_biggestOf_19 (by decide) ?_
        refine z_istore (pc := 20) dX5_biggestOf_20 (Nat.le_of_ble_eq_true rfl) rfl ?_
        refine z_join (fun j : Int32 → zSt → Option (Int32 × zSt) => ∀ (x8 : Int32) (S9 : zSt), Zm X (mX5_biggestOf (nrec + 1)) zJI G (0, 0) res S9 68 [some (.ref (G.1 0)), some (.int a1), none, some (.int a3), some (.int a4), some (.int x2), some (.int x3), some (.int x8), none] [] (j x8 S9)) ?_ (fun k7 hk7 => ?_)
        · intro x8 S9
          refine z_iload (pc := 68) dX5_biggestOf_68 rfl ?_
          refine z_if_ne (pc := 70) 76 dX5_biggestOf_70 rfl ?_ ?_
          · refine z_aload_n (pc := 76) 0 dX5_biggestOf_76 rfl rfl ?_
            refine z_iload_n (pc := 77) 1 dX5_biggestOf_77 rfl rfl ?_
            refine z_iload (pc := 78) dX5_biggestOf_78 rfl ?_
            refine z_iconst (pc := 80) (v := 1) dX5_biggestOf_80 (by decide) ?_
            refine z_iadd (pc := 81) dX5_biggestOf_81 ?_
            refine z_iload_n (pc := 82) 3 dX5_biggestOf_82 rfl rfl ?_
            refine z_iconst (pc := 83) (v := 1) dX5_biggestOf_83 (by decide) ?_
            refine z_iload (pc := 84) dX5_biggestOf_84 rfl ?_
            refine z_ishl (pc := 86) dX5_biggestOf_86 ?_
            refine z_ior (pc := 87) dX5_biggestOf_87 ?_
            refine z_iload (pc := 88) dX5_biggestOf_88 rfl ?_
            refine z_iconst (pc := 90) (v := 1) dX5_biggestOf_90 (by decide) ?_
            refine z_iadd (pc := 91) dX5_biggestOf_91 ?_
            refine z_callVi (pc := 92) _ _ 0 5 (ih _ _ _ _) (mv_X5_biggestOf _) q2042 rfl (zGM_s0 hG) rfl (Nat.le_refl _) (Nat.le_of_ble_eq_true rfl) rfl rfl (Nat.le_of_ble_eq_true rfl) dX5_biggestOf_92 (fun r11 S10 => ?_)
            refine z_istore (pc := 95) dX5_biggestOf_95 (Nat.le_of_ble_eq_true rfl) rfl ?_
            refine z_iload (pc := 97) dX5_biggestOf_97 rfl ?_
            refine z_iload (pc := 99) dX5_biggestOf_99 rfl ?_
            refine z_pure (st0 := []) 111 ((if r11 ≤ x2 then x2 else r11)) ?_ (fun hJ => ?_)
            · refine z_letI (fun w13 => ?_)
              refine z_istore (pc := 111) dX5_biggestOf_111 (Nat.le_of_ble_eq_true rfl) rfl ?_
              refine z_iinc (pc := 113) (w := x3 + 1) dX5_biggestOf_113 rfl (by rw [show Int32.ofInt 1 = 1 from by decide]) (Nat.le_of_ble_eq_true rfl) rfl ?_
              refine z_goto (pc := 116) 7 dX5_biggestOf_116 rfl ?_
              exact z_mask [true, true, false, true, true, true, true, false, false] (hrec1 _ _ _) rfl
            · refine z_icmpd_le (pc := 101) 109 dX5_biggestOf_101 rfl (fun c14 => ?_) (fun c14 => ?_)
              · refine z_iload (pc := 109) dX5_biggestOf_109 rfl ?_
                exact z_leaf hJ (by simp only [if_pos c14])
              · refine z_iload (pc := 104) dX5_biggestOf_104 rfl ?_
                refine z_goto (pc := 106) 111 dX5_biggestOf_106 rfl ?_
                exact z_leaf hJ (by simp only [if_neg c14])
          · refine z_goto (pc := 73) 113 dX5_biggestOf_73 rfl ?_
            refine z_iinc (pc := 113) (w := x3 + 1) dX5_biggestOf_113 rfl (by rw [show Int32.ofInt 1 = 1 from by decide]) (Nat.le_of_ble_eq_true rfl) rfl ?_
            refine z_goto (pc := 116) 7 dX5_biggestOf_116 rfl ?_
            exact z_mask [true, true, false, true, true, true, true, false, false] (hrec1 _ _ _) rfl
        · refine z_loopK (fun j : Int32 → Int32 → zSt → Option (Int32 × zSt) => ∀ (x16 : Int32) (x17 : Int32) (S18 : zSt), Zm X (mX5_biggestOf (nrec + 1)) zJI G (0, 0) res S18 22 [some (.ref (G.1 0)), some (.int a1), none, some (.int a3), some (.int a4), some (.int x2), some (.int x3), some (.int x16), some (.int x17)] [] (j x16 x17 S18)) ?_ ?_ zfuel _ _ _
          · intro x16 x17 S18; exact z_none
          · intro rec15 hrec15 x16 x17 S18
            unfold LB_X5_biggestOf_1
            refine z_iload (pc := 22) dX5_biggestOf_22 rfl ?_
            refine z_iload (pc := 24) dX5_biggestOf_24 rfl ?_
            refine z_icmp_ge (pc := 26) 68 dX5_biggestOf_26 rfl ?_ ?_
            · exact z_mask [true, true, false, true, true, true, true, true, false] (hk7 _ _) rfl
            · refine z_iload (pc := 29) dX5_biggestOf_29 rfl ?_
              refine z_if_eq (pc := 31) 68 dX5_biggestOf_31 rfl ?_ ?_
              · exact z_mask [true, true, false, true, true, true, true, true, false] (hk7 _ _) rfl
              · refine z_iload_n (pc := 34) 3 dX5_biggestOf_34 rfl rfl ?_
                refine z_iload (pc := 35) dX5_biggestOf_35 rfl ?_
                refine z_callSi (pc := 37) _ _ (ct_X5_isBit  _ _) mv_X5_isBit q1737 rfl (Nat.le_trans (m := 3) (Nat.le_of_ble_eq_true rfl) (Nat.le_add_right _ _)) (Nat.le_of_ble_eq_true rfl) rfl rfl (Nat.le_of_ble_eq_true rfl) dX5_biggestOf_37 (fun r20 S19 => ?_)
                refine z_join (fun j : Int32 → zSt → Option (Int32 × zSt) => ∀ (v22 : Int32) (S23 : zSt), Zm X (mX5_biggestOf (nrec + 1)) zJI G (0, 0) res S23 60 [some (.ref (G.1 0)), some (.int a1), none, some (.int a3), some (.int a4), some (.int x2), some (.int x3), none, some (.int x17)] [.int v22] (j v22 S23)) ?_ (fun j21 hj21 => ?_)
                · intro v22 S23
                  refine z_istore (pc := 60) dX5_biggestOf_60 (Nat.le_of_ble_eq_true rfl) rfl ?_
                  refine z_iinc (pc := 62) (w := x17 + 1) dX5_biggestOf_62 rfl (by rw [show Int32.ofInt 1 = 1 from by decide]) (Nat.le_of_ble_eq_true rfl) rfl ?_
                  refine z_goto (pc := 65) 22 dX5_biggestOf_65 rfl ?_
                  exact hrec15 _ _ _
                · refine z_join (fun j : zSt → Option (Int32 × zSt) => ∀  (S25 : zSt), Zm X (mX5_biggestOf (nrec + 1)) zJI G (0, 0) res S25 55 [some (.ref (G.1 0)), some (.int a1), none, some (.int a3), some (.int a4), some (.int x2), some (.int x3), none, some (.int x17)] [] (j S25)) ?_ (fun j24 hj24 => ?_)
                  · intro S25
                    refine z_iconst (pc := 55) (v := 1) dX5_biggestOf_55 (by decide) ?_
                    refine z_goto (pc := 56) 60 dX5_biggestOf_56 rfl ?_
                    exact hj21 _ _
                  · refine z_if_eq (pc := 40) 55 dX5_biggestOf_40 rfl ?_ ?_
                    · exact z_mask [true, true, false, true, true, true, true, false, true] (hj24 _) rfl
                    · refine z_iload (pc := 43) dX5_biggestOf_43 rfl ?_
                      refine z_iload (pc := 45) dX5_biggestOf_45 rfl ?_
                      refine z_ixor (pc := 47) dX5_biggestOf_47 ?_
                      refine z_callSi (pc := 48) _ _ (ct_X5_bits  _) mv_X5_bits q1756 rfl (Nat.le_trans (m := 3) (Nat.le_of_ble_eq_true rfl) (Nat.le_add_right _ _)) (Nat.le_of_ble_eq_true rfl) rfl rfl (Nat.le_of_ble_eq_true rfl) dX5_biggestOf_48 (fun r27 S26 => ?_)
                      refine z_iload_n (pc := 51) 1 dX5_biggestOf_51 rfl rfl ?_
                      refine z_icmp_lt (pc := 52) 59 dX5_biggestOf_52 rfl ?_ ?_
                      · refine z_iconst (pc := 59) (v := 0) dX5_biggestOf_59 (by decide) ?_
                        exact z_mask [true, true, false, true, true, true, true, false, true] (hj21 _ _) rfl
                      · exact z_mask [true, true, false, true, true, true, true, false, true] (hj24 _) rfl
abbrev mX5_biggest : zMr := ("HiddenCubeModel", cX5_biggest, 3, (some .int), 44, 0, 0, none)
def F_X5_biggest (a1 : Int32) (S : zSt) : Option (Int32 × zSt) :=
zlet (sI S 0 0 0 : zSt) (fun S1 : zSt =>
zbind (F_X5_in ((a1).toInt64) 1 5 S1) (fun r3 S2 =>
if r3 = 0 then (some ((-2), S2)) else (zbind (F_X5_whyNoRounds S2) (fun r5 S4 =>
if r5 = 0 then (zbind (F_X5_biggestOf 40 a1 0 0 0 S4) (fun r7 S6 =>
some (r7, S6))) else (some (r5, S4))))))
theorem mv_X5_biggest : ZV mX5_biggest yX5_biggest 1 := ⟨q2039, q2040, q155, q2041, rfl, by decide, by decide, by decide +kernel⟩
theorem ct_X5_biggest {G : zGw} (hG : zGM G) (a1 : Int32) : Zc mX5_biggest yX5_biggest zJI G [.ref (G.1 0), .int a1] (F_X5_biggest a1) := by
  refine Zc_of [some (.ref (G.1 0)), some (.int a1), none] (by decide) rfl rfl (Nat.le_of_ble_eq_true rfl) rfl (fun X S res => ?_)
  unfold F_X5_biggest
  refine z_aload_n (pc := 0) 0 dX5_biggest_0 rfl rfl ?_
  refine z_iconst (pc := 1) (v := 0) dX5_biggest_1 (by decide) ?_
  refine pf_X5_M_131_0 hG (pc := 2) dX5_biggest_2 ?_
  refine z_letS (fun S1 => ?_)
  refine z_iload_n (pc := 5) 1 dX5_biggest_5 rfl rfl ?_
  refine z_i2l (pc := 6) dX5_biggest_6 ?_
  refine z_lconst (pc := 7) (v := 1) dX5_biggest_7 (by decide) ?_
  refine z_ldc2 (pc := 8) (v := 5) dX5_biggest_8 q1895 ?_
  refine z_callSi (pc := 11) _ _ (ct_X5_in  _ _ _) mv_X5_in q1578 rfl (Nat.le_of_ble_eq_true rfl) (Nat.le_of_ble_eq_true rfl) rfl rfl (Nat.le_of_ble_eq_true rfl) dX5_biggest_11 (fun r3 S2 => ?_)
  refine z_if_ne (pc := 14) 20 dX5_biggest_14 rfl ?_ ?_
  · refine z_aload_n (pc := 20) 0 dX5_biggest_20 rfl rfl ?_
    refine z_callVi (pc := 21) _ _ 0 5 (ct_X5_whyNoRounds hG) mv_X5_whyNoRounds q1941 rfl (zGM_s0 hG) rfl (Nat.le_of_ble_eq_true rfl) (Nat.le_of_ble_eq_true rfl) rfl rfl (Nat.le_of_ble_eq_true rfl) dX5_biggest_21 (fun r5 S4 => ?_)
    refine z_istore_n (pc := 24) 2 dX5_biggest_24 rfl (Nat.le_of_ble_eq_true rfl) rfl ?_
    refine z_iload_n (pc := 25) 2 dX5_biggest_25 rfl rfl ?_
    refine z_if_eq (pc := 26) 33 dX5_biggest_26 rfl ?_ ?_
    · refine z_aload_n (pc := 33) 0 dX5_biggest_33 rfl rfl ?_
      refine z_iload_n (pc := 34) 1 dX5_biggest_34 rfl rfl ?_
      refine z_iconst (pc := 35) (v := 0) dX5_biggest_35 (by decide) ?_
      refine z_iconst (pc := 36) (v := 0) dX5_biggest_36 (by decide) ?_
      refine z_iconst (pc := 37) (v := 0) dX5_biggest_37 (by decide) ?_
      refine z_callVi (pc := 38) _ _ 0 5 (ct_X5_biggestOf hG 40 _ _ _ _) (mv_X5_biggestOf _) q2042 rfl (zGM_s0 hG) rfl (Nat.le_of_ble_eq_true rfl) (Nat.le_of_ble_eq_true rfl) rfl rfl (Nat.le_of_ble_eq_true rfl) dX5_biggest_38 (fun r7 S6 => ?_)
      exact z_iret rfl dX5_biggest_41 rfl
    · refine z_iload_n (pc := 29) 2 dX5_biggest_29 rfl rfl ?_
      refine z_goto (pc := 30) 41 dX5_biggest_30 rfl ?_
      exact z_iret rfl dX5_biggest_41 rfl
  · refine z_bipush (pc := 17) (v := (-2)) dX5_biggest_17 (by decide) ?_
    exact z_iret rfl dX5_biggest_19 rfl
abbrev mX5_shadow : zMr := ("HiddenCubeModel", cX5_shadow, 3, (some .int), 4, 0, 0, none)
def F_X5_shadow (a1 : Int32) (a2 : Int32) (S : zSt) : Option (Int32 × zSt) :=
zlet (sI S 0 0 0 : zSt) (fun S1 : zSt =>
zbind (F_X5_isSquare ((a1).toInt64) S1) (fun r3 S2 =>
if r3 = 0 then (some ((-2), S2)) else (zbind (F_X5_isName a2 S2) (fun r5 S4 =>
if r5 = 0 then (some ((-2), S4)) else (some ((a1 &&& (((1 : Int32) <<< (a2 &&& 31)) - 1)) ||| ((a1 >>> ((a2 + 1) &&& 31)) <<< (a2 &&& 31)), S4))))))
theorem mv_X5_shadow : ZV mX5_shadow yX5_shadow 2 := ⟨q2047, q2048, q155, q2049, rfl, by decide, by decide, by decide +kernel⟩
theorem ct_X5_shadow {G : zGw} (hG : zGM G) (a1 : Int32) (a2 : Int32) : Zc mX5_shadow yX5_shadow zJI G [.ref (G.1 0), .int a1, .int a2] (F_X5_shadow a1 a2) := by
  refine Zc_of [some (.ref (G.1 0)), some (.int a1), some (.int a2)] (by decide) rfl rfl (Nat.le_of_ble_eq_true rfl) rfl (fun X S res => ?_)
  unfold F_X5_shadow
  refine z_aload_n (pc := 0) 0 dX5_shadow_0 rfl rfl ?_
  refine z_iconst (pc := 1) (v := 0) dX5_shadow_1 (by decide) ?_
  refine pf_X5_M_131_0 hG (pc := 2) dX5_shadow_2 ?_
  refine z_letS (fun S1 => ?_)
  refine z_aload_n (pc := 5) 0 dX5_shadow_5 rfl rfl ?_
  refine z_iload_n (pc := 6) 1 dX5_shadow_6 rfl rfl ?_
  refine z_i2l (pc := 7) dX5_shadow_7 ?_
  refine z_callVi (pc := 8) _ _ 0 5 (ct_X5_isSquare hG _) mv_X5_isSquare q1721 rfl (zGM_s0 hG) rfl (Nat.le_of_ble_eq_true rfl) (Nat.le_of_ble_eq_true rfl) rfl rfl (Nat.le_of_ble_eq_true rfl) dX5_shadow_8 (fun r3 S2 => ?_)
  refine z_if_eq (pc := 11) 40 dX5_shadow_11 rfl ?_ ?_
  · refine z_bipush (pc := 40) (v := (-2)) dX5_shadow_40 (by decide) ?_
    exact z_iret rfl dX5_shadow_42 rfl
  · refine z_aload_n (pc := 14) 0 dX5_shadow_14 rfl rfl ?_
    refine z_iload_n (pc := 15) 2 dX5_shadow_15 rfl rfl ?_
    refine z_callVi (pc := 16) _ _ 0 5 (ct_X5_isName hG _) mv_X5_isName q1713 rfl (zGM_s0 hG) rfl (Nat.le_of_ble_eq_true rfl) (Nat.le_of_ble_eq_true rfl) rfl rfl (Nat.le_of_ble_eq_true rfl) dX5_shadow_16 (fun r5 S4 => ?_)
    refine z_if_eq (pc := 19) 40 dX5_shadow_19 rfl ?_ ?_
    · refine z_bipush (pc := 40) (v := (-2)) dX5_shadow_40 (by decide) ?_
      exact z_iret rfl dX5_shadow_42 rfl
    · refine z_iload_n (pc := 22) 1 dX5_shadow_22 rfl rfl ?_
      refine z_iconst (pc := 23) (v := 1) dX5_shadow_23 (by decide) ?_
      refine z_iload_n (pc := 24) 2 dX5_shadow_24 rfl rfl ?_
      refine z_ishl (pc := 25) dX5_shadow_25 ?_
      refine z_iconst (pc := 26) (v := 1) dX5_shadow_26 (by decide) ?_
      refine z_isub (pc := 27) dX5_shadow_27 ?_
      refine z_iand (pc := 28) dX5_shadow_28 ?_
      refine z_iload_n (pc := 29) 1 dX5_shadow_29 rfl rfl ?_
      refine z_iload_n (pc := 30) 2 dX5_shadow_30 rfl rfl ?_
      refine z_iconst (pc := 31) (v := 1) dX5_shadow_31 (by decide) ?_
      refine z_iadd (pc := 32) dX5_shadow_32 ?_
      refine z_ishr (pc := 33) dX5_shadow_33 ?_
      refine z_iload_n (pc := 34) 2 dX5_shadow_34 rfl rfl ?_
      refine z_ishl (pc := 35) dX5_shadow_35 ?_
      refine z_ior (pc := 36) dX5_shadow_36 ?_
      refine z_goto (pc := 37) 42 dX5_shadow_37 rfl ?_
      exact z_iret rfl dX5_shadow_42 rfl
abbrev mX5_crossingsNow : zMr := ("HiddenCubeModel", cX5_crossingsNow, 5, (some .int), 3, 0, 0, none)
def LB_X5_crossingsNow_1 (x2 : Int32) (S3 : zSt) (x6 : Int32) (rec4 : Int32 → Int32 → Option (Int32 × zSt)) (rec7 : Int32 → Int32 → Option (Int32 × zSt)) (x8 : Int32) (x9 : Int32) : Option (Int32 × zSt) :=
if x2 ≤ x9 then (rec4 x8 (x6 + 1)) else (chk x6 80 (chk x9 80 (joinK (fun (v13 : Int32) => rec7 (x8 + v13) (x9 + 1)) (fun j12 : Int32 → Option (Int32 × zSt) =>
joinK (j12 0) (fun j14 : Option (Int32 × zSt) =>
if (S3.1 48 (x9).toNatClampNeg) ≤ (S3.1 48 (x6).toNatClampNeg) then (j14) else (chk x9 80 (chk x6 80 (if (S3.1 49 (x6).toNatClampNeg) ≤ (S3.1 48 (x9).toNatClampNeg) then (j14) else (chk x6 80 (chk x9 80 (if (S3.1 49 (x9).toNatClampNeg) ≤ (S3.1 49 (x6).toNatClampNeg) then (j14) else (j12 1))))))))))))
def LB_X5_crossingsNow_2 (x2 : Int32) (S3 : zSt) (rec4 : Int32 → Int32 → Option (Int32 × zSt)) (x5 : Int32) (x6 : Int32) : Option (Int32 × zSt) :=
if x2 ≤ x6 then (some (x5, S3)) else (loopK (fun _ _ => none) (LB_X5_crossingsNow_1 x2 S3 x6 rec4) zfuel x5 0)
def LB_X5_crossingsNow_3 (x21 : Int32) (rec19 : Int32 → Int32 → zSt → Option (Int32 × zSt)) (rec25 : Int32 → Int32 → zSt → Option (Int32 × zSt)) (x26 : Int32) (x27 : Int32) (S28 : zSt) : Option (Int32 × zSt) :=
chk 0 15 (if (S28.1 18 (0 : Int32).toNatClampNeg) ≤ x27 then (rec19 x26 (x21 + 1) S28) else (zlet (x21 ^^^ ((1 : Int32) <<< (x27 &&& 31)) : Int32) (fun w30 : Int32 =>
if w30 < x21 then (rec25 x26 (x27 + 1) S28) else (zbind (F_X5_isOpen x21 x27 S28) (fun r32 S31 =>
if r32 = 0 then (rec25 x26 (x27 + 1) S31) else (chk x21 32 (chk w30 32 (joinK (fun (v36 : Int32) => chk x26 80 (zlet (sI S31 48 (x26).toNatClampNeg v36 : zSt) (fun S38 : zSt =>
chk x21 32 (chk w30 32 (joinK (fun (v42 : Int32) => chk x26 80 (zlet (sI S38 49 (x26).toNatClampNeg v42 : zSt) (fun S44 : zSt =>
rec25 (x26 + 1) (x27 + 1) S44))) (fun j41 : Int32 → Option (Int32 × zSt) =>
if (S38.1 47 (w30).toNatClampNeg) ≤ (S38.1 47 (x21).toNatClampNeg) then (chk x21 32 (j41 (S38.1 47 (x21).toNatClampNeg))) else (chk w30 32 (j41 (S38.1 47 (w30).toNatClampNeg))))))))) (fun j35 : Int32 → Option (Int32 × zSt) =>
if (S31.1 47 (w30).toNatClampNeg) ≤ (S31.1 47 (x21).toNatClampNeg) then (chk w30 32 (j35 (S31.1 47 (w30).toNatClampNeg))) else (chk x21 32 (j35 (S31.1 47 (x21).toNatClampNeg))))))))))))
def LB_X5_crossingsNow_4 (k1 : Int32 → zSt → Option (Int32 × zSt)) (rec19 : Int32 → Int32 → zSt → Option (Int32 × zSt)) (x20 : Int32) (x21 : Int32) (S22 : zSt) : Option (Int32 × zSt) :=
zbind (F_X5_squares S22) (fun r24 S23 =>
if r24 ≤ x21 then (k1 x20 S23) else (loopK (fun _ _ _ => none) (LB_X5_crossingsNow_3 x21 rec19) zfuel x20 0 S23))
def F_X5_crossingsNow  (S : zSt) : Option (Int32 × zSt) :=
joinK (fun (x2 : Int32) (S3 : zSt) => loopK (fun _ _ => none) (LB_X5_crossingsNow_2 x2 S3) zfuel 0 0) (fun k1 : Int32 → zSt → Option (Int32 × zSt) =>
loopK (fun _ _ _ => none) (LB_X5_crossingsNow_4 k1) zfuel 0 0 S)
theorem mv_X5_crossingsNow : ZV mX5_crossingsNow yX5_crossingsNow 0 := ⟨q2056, qs139, q155, q2057, rfl, by decide, by decide, by decide +kernel⟩
theorem ct_X5_crossingsNow {G : zGw} (hG : zGM G)  : Zc mX5_crossingsNow yX5_crossingsNow zJI G [.ref (G.1 0)] (F_X5_crossingsNow) := by
  refine Zc_of [some (.ref (G.1 0)), none, none, none, none] (by decide) rfl rfl (Nat.le_of_ble_eq_true rfl) rfl (fun X S res => ?_)
  unfold F_X5_crossingsNow
  refine z_iconst (pc := 0) (v := 0) dX5_crossingsNow_0 (by decide) ?_
  refine z_istore_n (pc := 1) 1 dX5_crossingsNow_1 rfl (Nat.le_of_ble_eq_true rfl) rfl ?_
  refine z_iconst (pc := 2) (v := 0) dX5_crossingsNow_2 (by decide) ?_
  refine z_istore_n (pc := 3) 2 dX5_crossingsNow_3 rfl (Nat.le_of_ble_eq_true rfl) rfl ?_
  refine z_join (fun j : Int32 → zSt → Option (Int32 × zSt) => ∀ (x2 : Int32) (S3 : zSt), Zm X mX5_crossingsNow zJI G (0, 0) res S3 140 [some (.ref (G.1 0)), some (.int x2), none, none, none] [] (j x2 S3)) ?_ (fun k1 hk1 => ?_)
  · intro x2 S3
    refine z_iconst (pc := 140) (v := 0) dX5_crossingsNow_140 (by decide) ?_
    refine z_istore_n (pc := 141) 2 dX5_crossingsNow_141 rfl (Nat.le_of_ble_eq_true rfl) rfl ?_
    refine z_iconst (pc := 142) (v := 0) dX5_crossingsNow_142 (by decide) ?_
    refine z_istore_n (pc := 143) 3 dX5_crossingsNow_143 rfl (Nat.le_of_ble_eq_true rfl) rfl ?_
    refine z_loopK (fun j : Int32 → Int32 → Option (Int32 × zSt) => ∀ (x5 : Int32) (x6 : Int32), Zm X mX5_crossingsNow zJI G (0, 0) res S3 144 [some (.ref (G.1 0)), some (.int x2), some (.int x5), some (.int x6), none] [] (j x5 x6)) ?_ ?_ zfuel _ _
    · intro x5 x6; exact z_none
    · intro rec4 hrec4 x5 x6
      unfold LB_X5_crossingsNow_2
      refine z_iload_n (pc := 144) 3 dX5_crossingsNow_144 rfl rfl ?_
      refine z_iload_n (pc := 145) 1 dX5_crossingsNow_145 rfl rfl ?_
      refine z_icmp_ge (pc := 146) 226 dX5_crossingsNow_146 rfl ?_ ?_
      · refine z_iload_n (pc := 226) 2 dX5_crossingsNow_226 rfl rfl ?_
        exact z_iret rfl dX5_crossingsNow_227 rfl
      · refine z_iconst (pc := 149) (v := 0) dX5_crossingsNow_149 (by decide) ?_
        refine z_istore (pc := 150) dX5_crossingsNow_150 (Nat.le_of_ble_eq_true rfl) rfl ?_
        refine z_loopK (fun j : Int32 → Int32 → Option (Int32 × zSt) => ∀ (x8 : Int32) (x9 : Int32), Zm X mX5_crossingsNow zJI G (0, 0) res S3 152 [some (.ref (G.1 0)), some (.int x2), some (.int x8), some (.int x6), some (.int x9)] [] (j x8 x9)) ?_ ?_ zfuel _ _
        · intro x8 x9; exact z_none
        · intro rec7 hrec7 x8 x9
          unfold LB_X5_crossingsNow_1
          refine z_iload (pc := 152) dX5_crossingsNow_152 rfl ?_
          refine z_iload_n (pc := 154) 1 dX5_crossingsNow_154 rfl rfl ?_
          refine z_icmp_ge (pc := 155) 220 dX5_crossingsNow_155 rfl ?_ ?_
          · refine z_iinc (pc := 220) (w := x6 + 1) dX5_crossingsNow_220 rfl (by rw [show Int32.ofInt 1 = 1 from by decide]) (Nat.le_of_ble_eq_true rfl) rfl ?_
            refine z_goto (pc := 223) 144 dX5_crossingsNow_223 rfl ?_
            exact z_mask [true, true, true, true, false] (hrec4 _ _) rfl
          · refine z_iload_n (pc := 158) 2 dX5_crossingsNow_158 rfl rfl ?_
            refine z_aload_n (pc := 159) 0 dX5_crossingsNow_159 rfl rfl ?_
            refine gf_X5_M_110_0 hG (pc := 160) dX5_crossingsNow_160 ?_
            refine z_iload_n (pc := 163) 3 dX5_crossingsNow_163 rfl rfl ?_
            refine z_chk (fun h10 => ?_)
            refine z_iaload (pc := 164) 48 80 (zGM_s48 hG) h10 dX5_crossingsNow_164 ?_
            refine z_aload_n (pc := 165) 0 dX5_crossingsNow_165 rfl rfl ?_
            refine gf_X5_M_110_0 hG (pc := 166) dX5_crossingsNow_166 ?_
            refine z_iload (pc := 169) dX5_crossingsNow_169 rfl ?_
            refine z_chk (fun h11 => ?_)
            refine z_iaload (pc := 171) 48 80 (zGM_s48 hG) h11 dX5_crossingsNow_171 ?_
            refine z_join (fun j : Int32 → Option (Int32 × zSt) => ∀ (v13 : Int32), Zm X mX5_crossingsNow zJI G (0, 0) res S3 212 [some (.ref (G.1 0)), some (.int x2), none, some (.int x6), some (.int x9)] [.int v13, .int x8] (j v13)) ?_ (fun j12 hj12 => ?_)
            · intro v13
              refine z_iadd (pc := 212) dX5_crossingsNow_212 ?_
              refine z_istore_n (pc := 213) 2 dX5_crossingsNow_213 rfl (Nat.le_of_ble_eq_true rfl) rfl ?_
              refine z_iinc (pc := 214) (w := x9 + 1) dX5_crossingsNow_214 rfl (by rw [show Int32.ofInt 1 = 1 from by decide]) (Nat.le_of_ble_eq_true rfl) rfl ?_
              refine z_goto (pc := 217) 152 dX5_crossingsNow_217 rfl ?_
              exact hrec7 _ _
            · refine z_join (fun j : Option (Int32 × zSt) =>  Zm X mX5_crossingsNow zJI G (0, 0) res S3 211 [some (.ref (G.1 0)), some (.int x2), none, some (.int x6), some (.int x9)] [.int x8] (j)) ?_ (fun j14 hj14 => ?_)
              · show _
                refine z_iconst (pc := 211) (v := 0) dX5_crossingsNow_211 (by decide) ?_
                exact hj12 _
              · refine z_icmp_ge (pc := 172) 211 dX5_crossingsNow_172 rfl ?_ ?_
                · exact z_mask [true, true, false, true, true] (hj14) rfl
                · refine z_aload_n (pc := 175) 0 dX5_crossingsNow_175 rfl rfl ?_
                  refine gf_X5_M_110_0 hG (pc := 176) dX5_crossingsNow_176 ?_
                  refine z_iload (pc := 179) dX5_crossingsNow_179 rfl ?_
                  refine z_chk (fun h15 => ?_)
                  refine z_iaload (pc := 181) 48 80 (zGM_s48 hG) h15 dX5_crossingsNow_181 ?_
                  refine z_aload_n (pc := 182) 0 dX5_crossingsNow_182 rfl rfl ?_
                  refine gf_X5_M_113_0 hG (pc := 183) dX5_crossingsNow_183 ?_
                  refine z_iload_n (pc := 186) 3 dX5_crossingsNow_186 rfl rfl ?_
                  refine z_chk (fun h16 => ?_)
                  refine z_iaload (pc := 187) 49 80 (zGM_s49 hG) h16 dX5_crossingsNow_187 ?_
                  refine z_icmp_ge (pc := 188) 211 dX5_crossingsNow_188 rfl ?_ ?_
                  · exact z_mask [true, true, false, true, true] (hj14) rfl
                  · refine z_aload_n (pc := 191) 0 dX5_crossingsNow_191 rfl rfl ?_
                    refine gf_X5_M_113_0 hG (pc := 192) dX5_crossingsNow_192 ?_
                    refine z_iload_n (pc := 195) 3 dX5_crossingsNow_195 rfl rfl ?_
                    refine z_chk (fun h17 => ?_)
                    refine z_iaload (pc := 196) 49 80 (zGM_s49 hG) h17 dX5_crossingsNow_196 ?_
                    refine z_aload_n (pc := 197) 0 dX5_crossingsNow_197 rfl rfl ?_
                    refine gf_X5_M_113_0 hG (pc := 198) dX5_crossingsNow_198 ?_
                    refine z_iload (pc := 201) dX5_crossingsNow_201 rfl ?_
                    refine z_chk (fun h18 => ?_)
                    refine z_iaload (pc := 203) 49 80 (zGM_s49 hG) h18 dX5_crossingsNow_203 ?_
                    refine z_icmp_ge (pc := 204) 211 dX5_crossingsNow_204 rfl ?_ ?_
                    · exact z_mask [true, true, false, true, true] (hj14) rfl
                    · refine z_iconst (pc := 207) (v := 1) dX5_crossingsNow_207 (by decide) ?_
                      refine z_goto (pc := 208) 212 dX5_crossingsNow_208 rfl ?_
                      exact z_mask [true, true, false, true, true] (hj12 _) rfl
  · refine z_loopK (fun j : Int32 → Int32 → zSt → Option (Int32 × zSt) => ∀ (x20 : Int32) (x21 : Int32) (S22 : zSt), Zm X mX5_crossingsNow zJI G (0, 0) res S22 4 [some (.ref (G.1 0)), some (.int x20), some (.int x21), none, none] [] (j x20 x21 S22)) ?_ ?_ zfuel _ _ _
    · intro x20 x21 S22; exact z_none
    · intro rec19 hrec19 x20 x21 S22
      unfold LB_X5_crossingsNow_4
      refine z_iload_n (pc := 4) 2 dX5_crossingsNow_4 rfl rfl ?_
      refine z_aload_n (pc := 5) 0 dX5_crossingsNow_5 rfl rfl ?_
      refine z_callVi (pc := 6) _ _ 0 5 (ct_X5_squares hG) mv_X5_squares q1725 rfl (zGM_s0 hG) rfl (Nat.le_of_ble_eq_true rfl) (Nat.le_of_ble_eq_true rfl) rfl rfl (Nat.le_of_ble_eq_true rfl) dX5_crossingsNow_6 (fun r24 S23 => ?_)
      refine z_icmp_ge (pc := 9) 140 dX5_crossingsNow_9 rfl ?_ ?_
      · exact z_mask [true, true, false, false, false] (hk1 _ _) rfl
      · refine z_iconst (pc := 12) (v := 0) dX5_crossingsNow_12 (by decide) ?_
        refine z_istore_n (pc := 13) 3 dX5_crossingsNow_13 rfl (Nat.le_of_ble_eq_true rfl) rfl ?_
        refine z_loopK (fun j : Int32 → Int32 → zSt → Option (Int32 × zSt) => ∀ (x26 : Int32) (x27 : Int32) (S28 : zSt), Zm X mX5_crossingsNow zJI G (0, 0) res S28 14 [some (.ref (G.1 0)), some (.int x26), some (.int x21), some (.int x27), none] [] (j x26 x27 S28)) ?_ ?_ zfuel _ _ _
        · intro x26 x27 S28; exact z_none
        · intro rec25 hrec25 x26 x27 S28
          unfold LB_X5_crossingsNow_3
          refine z_iload_n (pc := 14) 3 dX5_crossingsNow_14 rfl rfl ?_
          refine z_aload_n (pc := 15) 0 dX5_crossingsNow_15 rfl rfl ?_
          refine gf_X5_M_34_0 hG (pc := 16) dX5_crossingsNow_16 ?_
          refine z_iconst (pc := 19) (v := 0) dX5_crossingsNow_19 (by decide) ?_
          refine z_chk (fun h29 => ?_)
          refine z_iaload (pc := 20) 18 15 (zGM_s18 hG) h29 dX5_crossingsNow_20 ?_
          refine z_icmp_ge (pc := 21) 134 dX5_crossingsNow_21 rfl ?_ ?_
          · refine z_iinc (pc := 134) (w := x21 + 1) dX5_crossingsNow_134 rfl (by rw [show Int32.ofInt 1 = 1 from by decide]) (Nat.le_of_ble_eq_true rfl) rfl ?_
            refine z_goto (pc := 137) 4 dX5_crossingsNow_137 rfl ?_
            exact z_mask [true, true, true, false, false] (hrec19 _ _ _) rfl
          · refine z_iload_n (pc := 24) 2 dX5_crossingsNow_24 rfl rfl ?_
            refine z_iconst (pc := 25) (v := 1) dX5_crossingsNow_25 (by decide) ?_
            refine z_iload_n (pc := 26) 3 dX5_crossingsNow_26 rfl rfl ?_
            refine z_ishl (pc := 27) dX5_crossingsNow_27 ?_
            refine z_ixor (pc := 28) dX5_crossingsNow_28 ?_
            refine z_letI (fun w30 => ?_)
            refine z_istore (pc := 29) dX5_crossingsNow_29 (Nat.le_of_ble_eq_true rfl) rfl ?_
            refine z_iload (pc := 31) dX5_crossingsNow_31 rfl ?_
            refine z_iload_n (pc := 33) 2 dX5_crossingsNow_33 rfl rfl ?_
            refine z_icmp_lt (pc := 34) 128 dX5_crossingsNow_34 rfl ?_ ?_
            · refine z_iinc (pc := 128) (w := x27 + 1) dX5_crossingsNow_128 rfl (by rw [show Int32.ofInt 1 = 1 from by decide]) (Nat.le_of_ble_eq_true rfl) rfl ?_
              refine z_goto (pc := 131) 14 dX5_crossingsNow_131 rfl ?_
              exact z_mask [true, true, true, true, false] (hrec25 _ _ _) rfl
            · refine z_aload_n (pc := 37) 0 dX5_crossingsNow_37 rfl rfl ?_
              refine z_iload_n (pc := 38) 2 dX5_crossingsNow_38 rfl rfl ?_
              refine z_iload_n (pc := 39) 3 dX5_crossingsNow_39 rfl rfl ?_
              refine z_callVi (pc := 40) _ _ 0 5 (ct_X5_isOpen hG _ _) mv_X5_isOpen q1733 rfl (zGM_s0 hG) rfl (Nat.le_of_ble_eq_true rfl) (Nat.le_of_ble_eq_true rfl) rfl rfl (Nat.le_of_ble_eq_true rfl) dX5_crossingsNow_40 (fun r32 S31 => ?_)
              refine z_if_ne (pc := 43) 49 dX5_crossingsNow_43 rfl ?_ ?_
              · refine z_aload_n (pc := 49) 0 dX5_crossingsNow_49 rfl rfl ?_
                refine gf_X5_M_110_0 hG (pc := 50) dX5_crossingsNow_50 ?_
                refine z_iload_n (pc := 53) 1 dX5_crossingsNow_53 rfl rfl ?_
                refine z_aload_n (pc := 54) 0 dX5_crossingsNow_54 rfl rfl ?_
                refine gf_X5_M_107_0 hG (pc := 55) dX5_crossingsNow_55 ?_
                refine z_iload_n (pc := 58) 2 dX5_crossingsNow_58 rfl rfl ?_
                refine z_chk (fun h33 => ?_)
                refine z_iaload (pc := 59) 47 32 (zGM_s47 hG) h33 dX5_crossingsNow_59 ?_
                refine z_aload_n (pc := 60) 0 dX5_crossingsNow_60 rfl rfl ?_
                refine gf_X5_M_107_0 hG (pc := 61) dX5_crossingsNow_61 ?_
                refine z_iload (pc := 64) dX5_crossingsNow_64 rfl ?_
                refine z_chk (fun h34 => ?_)
                refine z_iaload (pc := 66) 47 32 (zGM_s47 hG) h34 dX5_crossingsNow_66 ?_
                refine z_join (fun j : Int32 → Option (Int32 × zSt) => ∀ (v36 : Int32), Zm X mX5_crossingsNow zJI G (0, 0) res S31 86 [some (.ref (G.1 0)), some (.int x26), some (.int x21), some (.int x27), some (.int w30)] [.int v36, .int x26, .ref (G.1 48)] (j v36)) ?_ (fun j35 hj35 => ?_)
                · intro v36
                  refine z_chk (fun h37 => ?_)
                  refine z_iastore (pc := 86) 48 80 (zGM_s48 hG) h37 dX5_crossingsNow_86 ?_
                  refine z_letS (fun S38 => ?_)
                  refine z_aload_n (pc := 87) 0 dX5_crossingsNow_87 rfl rfl ?_
                  refine gf_X5_M_113_0 hG (pc := 88) dX5_crossingsNow_88 ?_
                  refine z_iload_n (pc := 91) 1 dX5_crossingsNow_91 rfl rfl ?_
                  refine z_aload_n (pc := 92) 0 dX5_crossingsNow_92 rfl rfl ?_
                  refine gf_X5_M_107_0 hG (pc := 93) dX5_crossingsNow_93 ?_
                  refine z_iload_n (pc := 96) 2 dX5_crossingsNow_96 rfl rfl ?_
                  refine z_chk (fun h39 => ?_)
                  refine z_iaload (pc := 97) 47 32 (zGM_s47 hG) h39 dX5_crossingsNow_97 ?_
                  refine z_aload_n (pc := 98) 0 dX5_crossingsNow_98 rfl rfl ?_
                  refine gf_X5_M_107_0 hG (pc := 99) dX5_crossingsNow_99 ?_
                  refine z_iload (pc := 102) dX5_crossingsNow_102 rfl ?_
                  refine z_chk (fun h40 => ?_)
                  refine z_iaload (pc := 104) 47 32 (zGM_s47 hG) h40 dX5_crossingsNow_104 ?_
                  refine z_join (fun j : Int32 → Option (Int32 × zSt) => ∀ (v42 : Int32), Zm X mX5_crossingsNow zJI G (0, 0) res S38 124 [some (.ref (G.1 0)), some (.int x26), some (.int x21), some (.int x27), none] [.int v42, .int x26, .ref (G.1 49)] (j v42)) ?_ (fun j41 hj41 => ?_)
                  · intro v42
                    refine z_chk (fun h43 => ?_)
                    refine z_iastore (pc := 124) 49 80 (zGM_s49 hG) h43 dX5_crossingsNow_124 ?_
                    refine z_letS (fun S44 => ?_)
                    refine z_iinc (pc := 125) (w := x26 + 1) dX5_crossingsNow_125 rfl (by rw [show Int32.ofInt 1 = 1 from by decide]) (Nat.le_of_ble_eq_true rfl) rfl ?_
                    refine z_iinc (pc := 128) (w := x27 + 1) dX5_crossingsNow_128 rfl (by rw [show Int32.ofInt 1 = 1 from by decide]) (Nat.le_of_ble_eq_true rfl) rfl ?_
                    refine z_goto (pc := 131) 14 dX5_crossingsNow_131 rfl ?_
                    exact hrec25 _ _ _
                  · refine z_icmp_ge (pc := 105) 118 dX5_crossingsNow_105 rfl ?_ ?_
                    · refine z_aload_n (pc := 118) 0 dX5_crossingsNow_118 rfl rfl ?_
                      refine gf_X5_M_107_0 hG (pc := 119) dX5_crossingsNow_119 ?_
                      refine z_iload_n (pc := 122) 2 dX5_crossingsNow_122 rfl rfl ?_
                      refine z_chk (fun h45 => ?_)
                      refine z_iaload (pc := 123) 47 32 (zGM_s47 hG) h45 dX5_crossingsNow_123 ?_
                      exact z_mask [true, true, true, true, false] (hj41 _) rfl
                    · refine z_aload_n (pc := 108) 0 dX5_crossingsNow_108 rfl rfl ?_
                      refine gf_X5_M_107_0 hG (pc := 109) dX5_crossingsNow_109 ?_
                      refine z_iload (pc := 112) dX5_crossingsNow_112 rfl ?_
                      refine z_chk (fun h46 => ?_)
                      refine z_iaload (pc := 114) 47 32 (zGM_s47 hG) h46 dX5_crossingsNow_114 ?_
                      refine z_goto (pc := 115) 124 dX5_crossingsNow_115 rfl ?_
                      exact z_mask [true, true, true, true, false] (hj41 _) rfl
                · refine z_icmp_ge (pc := 67) 79 dX5_crossingsNow_67 rfl ?_ ?_
                  · refine z_aload_n (pc := 79) 0 dX5_crossingsNow_79 rfl rfl ?_
                    refine gf_X5_M_107_0 hG (pc := 80) dX5_crossingsNow_80 ?_
                    refine z_iload (pc := 83) dX5_crossingsNow_83 rfl ?_
                    refine z_chk (fun h47 => ?_)
                    refine z_iaload (pc := 85) 47 32 (zGM_s47 hG) h47 dX5_crossingsNow_85 ?_
                    exact hj35 _
                  · refine z_aload_n (pc := 70) 0 dX5_crossingsNow_70 rfl rfl ?_
                    refine gf_X5_M_107_0 hG (pc := 71) dX5_crossingsNow_71 ?_
                    refine z_iload_n (pc := 74) 2 dX5_crossingsNow_74 rfl rfl ?_
                    refine z_chk (fun h48 => ?_)
                    refine z_iaload (pc := 75) 47 32 (zGM_s47 hG) h48 dX5_crossingsNow_75 ?_
                    refine z_goto (pc := 76) 86 dX5_crossingsNow_76 rfl ?_
                    exact hj35 _
              · refine z_goto (pc := 46) 128 dX5_crossingsNow_46 rfl ?_
                refine z_iinc (pc := 128) (w := x27 + 1) dX5_crossingsNow_128 rfl (by rw [show Int32.ofInt 1 = 1 from by decide]) (Nat.le_of_ble_eq_true rfl) rfl ?_
                refine z_goto (pc := 131) 14 dX5_crossingsNow_131 rfl ?_
                exact z_mask [true, true, true, true, false] (hrec25 _ _ _) rfl
abbrev mX5_crossings : zMr := ("HiddenCubeModel", cX5_crossings, 3, (some .int), 4, 0, 0, none)
def LB_X5_crossings_1 (a1 : Int32) (k12 : zSt → Option (Int32 × zSt)) (rec16 : Int32 → zSt → Option (Int32 × zSt)) (x17 : Int32) (S18 : zSt) : Option (Int32 × zSt) :=
chk a1 4 (if (S18.1 3 (a1).toNatClampNeg) ≤ x17 then (k12 S18) else (zlet ((60 * a1) + x17 : Int32) (fun w20 : Int32 =>
chk w20 240 (zbind (F_X5_isSquare (S18.2 4 (w20).toNatClampNeg) S18) (fun r23 S22 =>
if r23 = 0 then (some ((-2), S22)) else (zbind (F_X5_cellOf a1 x17 S22) (fun r25 S24 =>
chk r25 32 (if (S24.1 47 (r25).toNatClampNeg) = (-1) then (zbind (F_X5_cellOf a1 x17 S24) (fun r28 S27 =>
chk r28 32 (zlet (sI S27 47 (r28).toNatClampNeg x17 : zSt) (fun S30 : zSt =>
rec16 (x17 + 1) S30)))) else (some ((-2), S24))))))))))
def LB_X5_crossings_2 (k10 : zSt → Option (Int32 × zSt)) (rec31 : Int32 → zSt → Option (Int32 × zSt)) (x32 : Int32) (S33 : zSt) : Option (Int32 × zSt) :=
zbind (F_X5_squares S33) (fun r35 S34 =>
if r35 ≤ x32 then (k10 S34) else (chk x32 32 (zlet (sI S34 47 (x32).toNatClampNeg (-1) : zSt) (fun S37 : zSt =>
rec31 (x32 + 1) S37))))
def F_X5_crossings (a1 : Int32) (S : zSt) : Option (Int32 × zSt) :=
zlet (sI S 0 0 0 : zSt) (fun S1 : zSt =>
zbind (F_X5_isSlot a1 S1) (fun r3 S2 =>
if r3 = 0 then (some ((-2), S2)) else (zbind (F_X5_isTown S2) (fun r5 S4 =>
if r5 = 0 then (some ((-2), S4)) else (chk a1 4 (if (S4.1 2 (a1).toNatClampNeg) = (-1) then (some ((-6), S4)) else (chk a1 4 (zbind (F_X5_squares S4) (fun r9 S8 =>
if (S4.1 3 (a1).toNatClampNeg) = r9 then (joinK (fun  (S11 : zSt) => joinK (fun  (S13 : zSt) => zbind (F_X5_crossingsNow S13) (fun r15 S14 =>
some (r15, S14))) (fun k12 : zSt → Option (Int32 × zSt) =>
loopK (fun _ _ => none) (LB_X5_crossings_1 a1 k12) zfuel 0 S11)) (fun k10 : zSt → Option (Int32 × zSt) =>
loopK (fun _ _ => none) (LB_X5_crossings_2 k10) zfuel 0 S8)) else (some ((-7), S8)))))))))))
theorem mv_X5_crossings : ZV mX5_crossings yX5_crossings 1 := ⟨q2051, q2052, q155, q2053, rfl, by decide, by decide, by decide +kernel⟩
theorem ct_X5_crossings {G : zGw} (hG : zGM G) (a1 : Int32) : Zc mX5_crossings yX5_crossings zJI G [.ref (G.1 0), .int a1] (F_X5_crossings a1) := by
  refine Zc_of [some (.ref (G.1 0)), some (.int a1), none] (by decide) rfl rfl (Nat.le_of_ble_eq_true rfl) rfl (fun X S res => ?_)
  unfold F_X5_crossings
  refine z_aload_n (pc := 0) 0 dX5_crossings_0 rfl rfl ?_
  refine z_iconst (pc := 1) (v := 0) dX5_crossings_1 (by decide) ?_
  refine pf_X5_M_131_0 hG (pc := 2) dX5_crossings_2 ?_
  refine z_letS (fun S1 => ?_)
  refine z_iload_n (pc := 5) 1 dX5_crossings_5 rfl rfl ?_
  refine z_callSi (pc := 6) _ _ (ct_X5_isSlot  _) mv_X5_isSlot q1574 rfl (Nat.le_of_ble_eq_true rfl) (Nat.le_of_ble_eq_true rfl) rfl rfl (Nat.le_of_ble_eq_true rfl) dX5_crossings_6 (fun r3 S2 => ?_)
  refine z_if_eq (pc := 9) 19 dX5_crossings_9 rfl ?_ ?_
  · refine z_bipush (pc := 19) (v := (-2)) dX5_crossings_19 (by decide) ?_
    exact z_iret rfl dX5_crossings_21 rfl
  · refine z_aload_n (pc := 12) 0 dX5_crossings_12 rfl rfl ?_
    refine z_callVi (pc := 13) _ _ 0 5 (ct_X5_isTown hG) mv_X5_isTown q1729 rfl (zGM_s0 hG) rfl (Nat.le_of_ble_eq_true rfl) (Nat.le_of_ble_eq_true rfl) rfl rfl (Nat.le_of_ble_eq_true rfl) dX5_crossings_13 (fun r5 S4 => ?_)
    refine z_if_ne (pc := 16) 22 dX5_crossings_16 rfl ?_ ?_
    · refine z_aload_n (pc := 22) 0 dX5_crossings_22 rfl rfl ?_
      refine gf_X5_M_7_0 hG (pc := 23) dX5_crossings_23 ?_
      refine z_iload_n (pc := 26) 1 dX5_crossings_26 rfl rfl ?_
      refine z_chk (fun h6 => ?_)
      refine z_iaload (pc := 27) 2 4 (zGM_s2 hG) h6 dX5_crossings_27 ?_
      refine z_iconst (pc := 28) (v := (-1)) dX5_crossings_28 (by decide) ?_
      refine z_icmp_ne (pc := 29) 35 dX5_crossings_29 rfl ?_ ?_
      · refine z_aload_n (pc := 35) 0 dX5_crossings_35 rfl rfl ?_
        refine gf_X5_M_13_0 hG (pc := 36) dX5_crossings_36 ?_
        refine z_iload_n (pc := 39) 1 dX5_crossings_39 rfl rfl ?_
        refine z_chk (fun h7 => ?_)
        refine z_iaload (pc := 40) 3 4 (zGM_s3 hG) h7 dX5_crossings_40 ?_
        refine z_aload_n (pc := 41) 0 dX5_crossings_41 rfl rfl ?_
        refine z_callVi (pc := 42) _ _ 0 5 (ct_X5_squares hG) mv_X5_squares q1725 rfl (zGM_s0 hG) rfl (Nat.le_of_ble_eq_true rfl) (Nat.le_of_ble_eq_true rfl) rfl rfl (Nat.le_of_ble_eq_true rfl) dX5_crossings_42 (fun r9 S8 => ?_)
        refine z_icmp_eq (pc := 45) 51 dX5_crossings_45 rfl ?_ ?_
        · refine z_iconst (pc := 51) (v := 0) dX5_crossings_51 (by decide) ?_
          refine z_istore_n (pc := 52) 2 dX5_crossings_52 rfl (Nat.le_of_ble_eq_true rfl) rfl ?_
          refine z_join (fun j : zSt → Option (Int32 × zSt) => ∀  (S11 : zSt), Zm X mX5_crossings zJI G (0, 0) res S11 74 [some (.ref (G.1 0)), some (.int a1), none] [] (j S11)) ?_ (fun k10 hk10 => ?_)
          · intro S11
            refine z_iconst (pc := 74) (v := 0) dX5_crossings_74 (by decide) ?_
            refine z_istore_n (pc := 75) 2 dX5_crossings_75 rfl (Nat.le_of_ble_eq_true rfl) rfl ?_
            refine z_join (fun j : zSt → Option (Int32 × zSt) => ∀  (S13 : zSt), Zm X mX5_crossings zJI G (0, 0) res S13 140 [some (.ref (G.1 0)), none, none] [] (j S13)) ?_ (fun k12 hk12 => ?_)
            · intro S13
              refine z_aload_n (pc := 140) 0 dX5_crossings_140 rfl rfl ?_
              refine z_callVi (pc := 141) _ _ 0 5 (ct_X5_crossingsNow hG) mv_X5_crossingsNow q2054 rfl (zGM_s0 hG) rfl (Nat.le_of_ble_eq_true rfl) (Nat.le_of_ble_eq_true rfl) rfl rfl (Nat.le_of_ble_eq_true rfl) dX5_crossings_141 (fun r15 S14 => ?_)
              exact z_iret rfl dX5_crossings_144 rfl
            · refine z_loopK (fun j : Int32 → zSt → Option (Int32 × zSt) => ∀ (x17 : Int32) (S18 : zSt), Zm X mX5_crossings zJI G (0, 0) res S18 76 [some (.ref (G.1 0)), some (.int a1), some (.int x17)] [] (j x17 S18)) ?_ ?_ zfuel _ _
              · intro x17 S18; exact z_none
              · intro rec16 hrec16 x17 S18
                unfold LB_X5_crossings_1
                refine z_iload_n (pc := 76) 2 dX5_crossings_76 rfl rfl ?_
                refine z_aload_n (pc := 77) 0 dX5_crossings_77 rfl rfl ?_
                refine gf_X5_M_13_0 hG (pc := 78) dX5_crossings_78 ?_
                refine z_iload_n (pc := 81) 1 dX5_crossings_81 rfl rfl ?_
                refine z_chk (fun h19 => ?_)
                refine z_iaload (pc := 82) 3 4 (zGM_s3 hG) h19 dX5_crossings_82 ?_
                refine z_icmp_ge (pc := 83) 140 dX5_crossings_83 rfl ?_ ?_
                · exact z_mask [true, false, false] (hk12 _) rfl
                · refine z_aload_n (pc := 86) 0 dX5_crossings_86 rfl rfl ?_
                  refine z_aload_n (pc := 87) 0 dX5_crossings_87 rfl rfl ?_
                  refine gf_X5_M_16_0 hG (pc := 88) dX5_crossings_88 ?_
                  refine z_bipush (pc := 91) (v := 60) dX5_crossings_91 (by decide) ?_
                  refine z_iload_n (pc := 93) 1 dX5_crossings_93 rfl rfl ?_
                  refine z_imul (pc := 94) dX5_crossings_94 ?_
                  refine z_iload_n (pc := 95) 2 dX5_crossings_95 rfl rfl ?_
                  refine z_iadd (pc := 96) dX5_crossings_96 ?_
                  refine z_letI (fun w20 => ?_)
                  refine z_chk (fun h21 => ?_)
                  refine z_laload (pc := 97) 4 240 (zGM_s4 hG) h21 dX5_crossings_97 ?_
                  refine z_callVi (pc := 98) _ _ 0 5 (ct_X5_isSquare hG _) mv_X5_isSquare q1721 rfl (zGM_s0 hG) rfl (Nat.le_of_ble_eq_true rfl) (Nat.le_of_ble_eq_true rfl) rfl rfl (Nat.le_of_ble_eq_true rfl) dX5_crossings_98 (fun r23 S22 => ?_)
                  refine z_if_eq (pc := 101) 119 dX5_crossings_101 rfl ?_ ?_
                  · refine z_bipush (pc := 119) (v := (-2)) dX5_crossings_119 (by decide) ?_
                    exact z_iret rfl dX5_crossings_121 rfl
                  · refine z_aload_n (pc := 104) 0 dX5_crossings_104 rfl rfl ?_
                    refine gf_X5_M_107_0 hG (pc := 105) dX5_crossings_105 ?_
                    refine z_aload_n (pc := 108) 0 dX5_crossings_108 rfl rfl ?_
                    refine z_iload_n (pc := 109) 1 dX5_crossings_109 rfl rfl ?_
                    refine z_iload_n (pc := 110) 2 dX5_crossings_110 rfl rfl ?_
                    refine z_callVi (pc := 111) _ _ 0 5 (ct_X5_cellOf hG _ _) mv_X5_cellOf q2022 rfl (zGM_s0 hG) rfl (Nat.le_of_ble_eq_true rfl) (Nat.le_of_ble_eq_true rfl) rfl rfl (Nat.le_of_ble_eq_true rfl) dX5_crossings_111 (fun r25 S24 => ?_)
                    refine z_chk (fun h26 => ?_)
                    refine z_iaload (pc := 114) 47 32 (zGM_s47 hG) h26 dX5_crossings_114 ?_
                    refine z_iconst (pc := 115) (v := (-1)) dX5_crossings_115 (by decide) ?_
                    refine z_icmp_eq (pc := 116) 122 dX5_crossings_116 rfl ?_ ?_
                    · refine z_aload_n (pc := 122) 0 dX5_crossings_122 rfl rfl ?_
                      refine gf_X5_M_107_0 hG (pc := 123) dX5_crossings_123 ?_
                      refine z_aload_n (pc := 126) 0 dX5_crossings_126 rfl rfl ?_
                      refine z_iload_n (pc := 127) 1 dX5_crossings_127 rfl rfl ?_
                      refine z_iload_n (pc := 128) 2 dX5_crossings_128 rfl rfl ?_
                      refine z_callVi (pc := 129) _ _ 0 5 (ct_X5_cellOf hG _ _) mv_X5_cellOf q2022 rfl (zGM_s0 hG) rfl (Nat.le_of_ble_eq_true rfl) (Nat.le_of_ble_eq_true rfl) rfl rfl (Nat.le_of_ble_eq_true rfl) dX5_crossings_129 (fun r28 S27 => ?_)
                      refine z_iload_n (pc := 132) 2 dX5_crossings_132 rfl rfl ?_
                      refine z_chk (fun h29 => ?_)
                      refine z_iastore (pc := 133) 47 32 (zGM_s47 hG) h29 dX5_crossings_133 ?_
                      refine z_letS (fun S30 => ?_)
                      refine z_iinc (pc := 134) (w := x17 + 1) dX5_crossings_134 rfl (by rw [show Int32.ofInt 1 = 1 from by decide]) (Nat.le_of_ble_eq_true rfl) rfl ?_
                      refine z_goto (pc := 137) 76 dX5_crossings_137 rfl ?_
                      exact hrec16 _ _
                    · refine z_bipush (pc := 119) (v := (-2)) dX5_crossings_119 (by decide) ?_
                      exact z_iret rfl dX5_crossings_121 rfl
          · refine z_loopK (fun j : Int32 → zSt → Option (Int32 × zSt) => ∀ (x32 : Int32) (S33 : zSt), Zm X mX5_crossings zJI G (0, 0) res S33 53 [some (.ref (G.1 0)), some (.int a1), some (.int x32)] [] (j x32 S33)) ?_ ?_ zfuel _ _
            · intro x32 S33; exact z_none
            · intro rec31 hrec31 x32 S33
              unfold LB_X5_crossings_2
              refine z_iload_n (pc := 53) 2 dX5_crossings_53 rfl rfl ?_
              refine z_aload_n (pc := 54) 0 dX5_crossings_54 rfl rfl ?_
              refine z_callVi (pc := 55) _ _ 0 5 (ct_X5_squares hG) mv_X5_squares q1725 rfl (zGM_s0 hG) rfl (Nat.le_of_ble_eq_true rfl) (Nat.le_of_ble_eq_true rfl) rfl rfl (Nat.le_of_ble_eq_true rfl) dX5_crossings_55 (fun r35 S34 => ?_)
              refine z_icmp_ge (pc := 58) 74 dX5_crossings_58 rfl ?_ ?_
              · exact z_mask [true, true, false] (hk10 _) rfl
              · refine z_aload_n (pc := 61) 0 dX5_crossings_61 rfl rfl ?_
                refine gf_X5_M_107_0 hG (pc := 62) dX5_crossings_62 ?_
                refine z_iload_n (pc := 65) 2 dX5_crossings_65 rfl rfl ?_
                refine z_iconst (pc := 66) (v := (-1)) dX5_crossings_66 (by decide) ?_
                refine z_chk (fun h36 => ?_)
                refine z_iastore (pc := 67) 47 32 (zGM_s47 hG) h36 dX5_crossings_67 ?_
                refine z_letS (fun S37 => ?_)
                refine z_iinc (pc := 68) (w := x32 + 1) dX5_crossings_68 rfl (by rw [show Int32.ofInt 1 = 1 from by decide]) (Nat.le_of_ble_eq_true rfl) rfl ?_
                refine z_goto (pc := 71) 53 dX5_crossings_71 rfl ?_
                exact hrec31 _ _
        · refine z_bipush (pc := 48) (v := (-7)) dX5_crossings_48 (by decide) ?_
          exact z_iret rfl dX5_crossings_50 rfl
      · refine z_bipush (pc := 32) (v := (-6)) dX5_crossings_32 (by decide) ?_
        exact z_iret rfl dX5_crossings_34 rfl
    · refine z_bipush (pc := 19) (v := (-2)) dX5_crossings_19 (by decide) ?_
      exact z_iret rfl dX5_crossings_21 rfl
