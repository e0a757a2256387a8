/-! WALKS (written by gen/mkparts.py) -/
set_option maxRecDepth 100000
abbrev mX5_asks : zMr := ("HiddenCubeModel", cX5_asks, 3, none, 4, 0, 0, none)
def F_X5_asks (a1 : Int64) (S : zSt) : Option (Unit × zSt) :=
zbind (F_X5_takes a1 S) (fun r2 S1 =>
if r2 = 0 then (zbind (F_X5_fails 1 S1) (fun _ S3 =>
some ((), S3))) else (some ((), S1)))
theorem mv_X5_asks : ZV mX5_asks yX5_asks 1 := ⟨q1644, qs86, q155, q1645, rfl, by decide, by decide, by decide +kernel⟩
theorem ct_X5_asks {G : zGw} (hG : zGM G) (a1 : Int64) : Zc mX5_asks yX5_asks zJV G [.ref (G.1 0), .long a1] (F_X5_asks a1) := by
  refine Zc_of [some (.ref (G.1 0)), some (.long a1), none] (by decide) rfl rfl (Nat.le_of_ble_eq_true rfl) rfl (fun X S res => ?_)
  unfold F_X5_asks
  refine z_aload_n (pc := 0) 0 dX5_asks_0 rfl rfl ?_
  refine z_lload_n (pc := 1) 1 dX5_asks_1 rfl rfl ?_
  refine z_callVi (pc := 2) _ _ 0 5 (ct_X5_takes hG _) mv_X5_takes q1646 rfl (zGM_s0 hG) rfl (Nat.le_of_ble_eq_true rfl) (Nat.le_of_ble_eq_true rfl) rfl rfl (Nat.le_of_ble_eq_true rfl) dX5_asks_2 (fun r2 S1 => ?_)
  refine z_if_ne (pc := 5) 13 dX5_asks_5 rfl ?_ ?_
  · exact z_vret rfl dX5_asks_13 rfl
  · refine z_aload_n (pc := 8) 0 dX5_asks_8 rfl rfl ?_
    refine z_iconst (pc := 9) (v := 1) dX5_asks_9 (by decide) ?_
    refine z_callVv (pc := 10) _ _ 0 5 (ct_X5_fails hG _) mv_X5_fails q1654 rfl (zGM_s0 hG) rfl (Nat.le_of_ble_eq_true rfl) (Nat.le_of_ble_eq_true rfl) rfl rfl (Nat.le_of_ble_eq_true rfl) dX5_asks_10 (fun _ S3 => ?_)
    exact z_vret rfl dX5_asks_13 rfl
abbrev mX5_hasRead : zMr := ("HiddenCubeModel", cX5_hasRead, 2, (some .int), 1, 0, 0, none)
def F_X5_hasRead (a1 : Int32) (S : zSt) : Option (Int32 × zSt) :=
chk (12 + a1) 15 (some (S.1 18 (12 + a1).toNatClampNeg, S))
theorem mv_X5_hasRead : ZV mX5_hasRead yX5_hasRead 1 := ⟨q1669, qs92, q155, q1670, rfl, by decide, by decide, by decide +kernel⟩
theorem ct_X5_hasRead {G : zGw} (hG : zGM G) (a1 : Int32) : Zc mX5_hasRead yX5_hasRead zJI G [.ref (G.1 0), .int a1] (F_X5_hasRead a1) := by
  refine Zc_of [some (.ref (G.1 0)), some (.int a1)] (by decide) rfl rfl (Nat.le_of_ble_eq_true rfl) rfl (fun X S res => ?_)
  unfold F_X5_hasRead
  refine z_aload_n (pc := 0) 0 dX5_hasRead_0 rfl rfl ?_
  refine gf_X5_M_34_0 hG (pc := 1) dX5_hasRead_1 ?_
  refine z_bipush (pc := 4) (v := 12) dX5_hasRead_4 (by decide) ?_
  refine z_iload_n (pc := 6) 1 dX5_hasRead_6 rfl rfl ?_
  refine z_iadd (pc := 7) dX5_hasRead_7 ?_
  refine z_chk (fun h1 => ?_)
  refine z_iaload (pc := 8) 18 15 (zGM_s18 hG) h1 dX5_hasRead_8 ?_
  exact z_iret rfl dX5_hasRead_9 rfl
abbrev mX5_number : zMr := ("HiddenCubeModel", cX5_number, 4, (some .int), 3, 0, 0, none)
def F_X5_number (a1 : Int32) (a2 : Int32) (S : zSt) : Option (Int32 × zSt) :=
if (S.1 0 12) = 0 then (if (S.1 0 8) = 2 then (zbind (F_X5_in ((S.1 0 10).toInt64) ((a1).toInt64) ((a2).toInt64) S) (fun r2 S1 =>
if r2 = 0 then (zbind (F_X5_fails 2 S1) (fun _ S4 =>
some (a1, S4))) else (zbind (F_X5_next S1) (fun _ S3 =>
some (S1.1 0 10, S3))))) else (zbind (F_X5_fails 1 S) (fun _ S5 =>
some (a1, S5)))) else (some (a1, S))
theorem mv_X5_number : ZV mX5_number yX5_number 2 := ⟨q1684, qs95, q155, q1685, rfl, by decide, by decide, by decide +kernel⟩
theorem ct_X5_number {G : zGw} (hG : zGM G) (a1 : Int32) (a2 : Int32) : Zc mX5_number yX5_number zJI G [.ref (G.1 0), .int a1, .int a2] (F_X5_number a1 a2) := by
  refine Zc_of [some (.ref (G.1 0)), some (.int a1), some (.int a2), none] (by decide) rfl rfl (Nat.le_of_ble_eq_true rfl) rfl (fun X S res => ?_)
  unfold F_X5_number
  refine z_aload_n (pc := 0) 0 dX5_number_0 rfl rfl ?_
  refine gf_X5_M_183_0 hG (pc := 1) dX5_number_1 ?_
  refine z_if_eq (pc := 4) 9 dX5_number_4 rfl ?_ ?_
  · refine z_aload_n (pc := 9) 0 dX5_number_9 rfl rfl ?_
    refine gf_X5_M_172_0 hG (pc := 10) dX5_number_10 ?_
    refine z_iconst (pc := 13) (v := 2) dX5_number_13 (by decide) ?_
    refine z_icmp_eq (pc := 14) 24 dX5_number_14 rfl ?_ ?_
    · refine z_aload_n (pc := 24) 0 dX5_number_24 rfl rfl ?_
      refine gf_X5_M_165_0 hG (pc := 25) dX5_number_25 ?_
      refine z_i2l (pc := 28) dX5_number_28 ?_
      refine z_iload_n (pc := 29) 1 dX5_number_29 rfl rfl ?_
      refine z_i2l (pc := 30) dX5_number_30 ?_
      refine z_iload_n (pc := 31) 2 dX5_number_31 rfl rfl ?_
      refine z_i2l (pc := 32) dX5_number_32 ?_
      refine z_callSi (pc := 33) _ _ (ct_X5_in  _ _ _) mv_X5_in q1578 rfl (Nat.le_of_ble_eq_true rfl) (Nat.le_of_ble_eq_true rfl) rfl rfl (Nat.le_of_ble_eq_true rfl) dX5_number_33 (fun r2 S1 => ?_)
      refine z_if_ne (pc := 36) 46 dX5_number_36 rfl ?_ ?_
      · refine z_aload_n (pc := 46) 0 dX5_number_46 rfl rfl ?_
        refine gf_X5_M_165_0 hG (pc := 47) dX5_number_47 ?_
        refine z_istore_n (pc := 50) 3 dX5_number_50 rfl (Nat.le_of_ble_eq_true rfl) rfl ?_
        refine z_aload_n (pc := 51) 0 dX5_number_51 rfl rfl ?_
        refine z_callVv (pc := 52) _ _ 0 5 (ct_X5_next hG) mv_X5_next q1620 rfl (zGM_s0 hG) rfl (Nat.le_of_ble_eq_true rfl) (Nat.le_of_ble_eq_true rfl) rfl rfl (Nat.le_of_ble_eq_true rfl) dX5_number_52 (fun _ S3 => ?_)
        refine z_iload_n (pc := 55) 3 dX5_number_55 rfl rfl ?_
        exact z_iret rfl dX5_number_56 rfl
      · refine z_aload_n (pc := 39) 0 dX5_number_39 rfl rfl ?_
        refine z_iconst (pc := 40) (v := 2) dX5_number_40 (by decide) ?_
        refine z_callVv (pc := 41) _ _ 0 5 (ct_X5_fails hG _) mv_X5_fails q1654 rfl (zGM_s0 hG) rfl (Nat.le_of_ble_eq_true rfl) (Nat.le_of_ble_eq_true rfl) rfl rfl (Nat.le_of_ble_eq_true rfl) dX5_number_41 (fun _ S4 => ?_)
        refine z_iload_n (pc := 44) 1 dX5_number_44 rfl rfl ?_
        exact z_iret rfl dX5_number_45 rfl
    · refine z_aload_n (pc := 17) 0 dX5_number_17 rfl rfl ?_
      refine z_iconst (pc := 18) (v := 1) dX5_number_18 (by decide) ?_
      refine z_callVv (pc := 19) _ _ 0 5 (ct_X5_fails hG _) mv_X5_fails q1654 rfl (zGM_s0 hG) rfl (Nat.le_of_ble_eq_true rfl) (Nat.le_of_ble_eq_true rfl) rfl rfl (Nat.le_of_ble_eq_true rfl) dX5_number_19 (fun _ S5 => ?_)
      refine z_iload_n (pc := 22) 1 dX5_number_22 rfl rfl ?_
      exact z_iret rfl dX5_number_23 rfl
  · refine z_iload_n (pc := 7) 1 dX5_number_7 rfl rfl ?_
    exact z_iret rfl dX5_number_8 rfl
abbrev mX5_squareHere : zMr := ("HiddenCubeModel", cX5_squareHere, 1, (some .int), 4, 0, 0, none)
def F_X5_squareHere  (S : zSt) : Option (Int32 × zSt) :=
zbind (F_X5_hasRead 0 S) (fun r2 S1 =>
zbind (F_X5_number 0 (((1 : Int32) <<< (r2 &&& 31)) - 1) S1) (fun r4 S3 =>
some (r4, S3)))
theorem mv_X5_squareHere : ZV mX5_squareHere yX5_squareHere 0 := ⟨q1680, qs94, q155, q1681, rfl, by decide, by decide, by decide +kernel⟩
theorem ct_X5_squareHere {G : zGw} (hG : zGM G)  : Zc mX5_squareHere yX5_squareHere zJI G [.ref (G.1 0)] (F_X5_squareHere) := by
  refine Zc_of [some (.ref (G.1 0))] (by decide) rfl rfl (Nat.le_of_ble_eq_true rfl) rfl (fun X S res => ?_)
  unfold F_X5_squareHere
  refine z_aload_n (pc := 0) 0 dX5_squareHere_0 rfl rfl ?_
  refine z_iconst (pc := 1) (v := 0) dX5_squareHere_1 (by decide) ?_
  refine z_iconst (pc := 2) (v := 1) dX5_squareHere_2 (by decide) ?_
  refine z_aload_n (pc := 3) 0 dX5_squareHere_3 rfl rfl ?_
  refine z_iconst (pc := 4) (v := 0) dX5_squareHere_4 (by decide) ?_
  refine z_callVi (pc := 5) _ _ 0 5 (ct_X5_hasRead hG _) mv_X5_hasRead q1667 rfl (zGM_s0 hG) rfl (Nat.le_of_ble_eq_true rfl) (Nat.le_of_ble_eq_true rfl) rfl rfl (Nat.le_of_ble_eq_true rfl) dX5_squareHere_5 (fun r2 S1 => ?_)
  refine z_ishl (pc := 8) dX5_squareHere_8 ?_
  refine z_iconst (pc := 9) (v := 1) dX5_squareHere_9 (by decide) ?_
  refine z_isub (pc := 10) dX5_squareHere_10 ?_
  refine z_callVi (pc := 11) _ _ 0 5 (ct_X5_number hG _ _) mv_X5_number q1682 rfl (zGM_s0 hG) rfl (Nat.le_of_ble_eq_true rfl) (Nat.le_of_ble_eq_true rfl) rfl rfl (Nat.le_of_ble_eq_true rfl) dX5_squareHere_11 (fun r4 S3 => ?_)
  exact z_iret rfl dX5_squareHere_14 rfl
abbrev mX5_namedIn : zMr := ("HiddenCubeModel", cX5_namedIn, 5, (some .int), 1, 0, 0, none)
def LB_X5_namedIn_1 (a1 : Int32) (a2 : Int64) (S : zSt) (rec1 : Int32 → Option (Int32 × zSt)) (x2 : Int32) : Option (Int32 × zSt) :=
chk (3 * a1) 15 (if (S.1 18 (3 * a1).toNatClampNeg) ≤ x2 then (some ((-1), S)) else (chk ((5 * a1) + x2) 25 (if (lg_cmp (S.2 19 ((5 * a1) + x2).toNatClampNeg) a2) = 0 then (some (x2, S)) else (rec1 (x2 + 1)))))
def F_X5_namedIn (a1 : Int32) (a2 : Int64) (S : zSt) : Option (Int32 × zSt) :=
loopK (fun _ => none) (LB_X5_namedIn_1 a1 a2 S) zfuel 0
theorem mv_X5_namedIn : ZV mX5_namedIn yX5_namedIn 2 := ⟨q1665, qs91, q155, q1666, rfl, by decide, by decide, by decide +kernel⟩
theorem ct_X5_namedIn {G : zGw} (hG : zGM G) (a1 : Int32) (a2 : Int64) : Zc mX5_namedIn yX5_namedIn zJI G [.ref (G.1 0), .int a1, .long a2] (F_X5_namedIn a1 a2) := by
  refine Zc_of [some (.ref (G.1 0)), some (.int a1), some (.long a2), none, none] (by decide) rfl rfl (Nat.le_of_ble_eq_true rfl) rfl (fun X S res => ?_)
  unfold F_X5_namedIn
  refine z_iconst (pc := 0) (v := 0) dX5_namedIn_0 (by decide) ?_
  refine z_istore (pc := 1) dX5_namedIn_1 (Nat.le_of_ble_eq_true rfl) rfl ?_
  refine z_loopK (fun j : Int32 → Option (Int32 × zSt) => ∀ (x2 : Int32), Zm X mX5_namedIn zJI G (0, 0) res S 3 [some (.ref (G.1 0)), some (.int a1), some (.long a2), none, some (.int x2)] [] (j x2)) ?_ ?_ zfuel _
  · intro x2; exact z_none
  · intro rec1 hrec1 x2
    unfold LB_X5_namedIn_1
    refine z_iload (pc := 3) dX5_namedIn_3 rfl ?_
    refine z_aload_n (pc := 5) 0 dX5_namedIn_5 rfl rfl ?_
    refine gf_X5_M_34_0 hG (pc := 6) dX5_namedIn_6 ?_
    refine z_iconst (pc := 9) (v := 3) dX5_namedIn_9 (by decide) ?_
    refine z_iload_n (pc := 10) 1 dX5_namedIn_10 rfl rfl ?_
    refine z_imul (pc := 11) dX5_namedIn_11 ?_
    refine z_chk (fun h3 => ?_)
    refine z_iaload (pc := 12) 18 15 (zGM_s18 hG) h3 dX5_namedIn_12 ?_
    refine z_icmp_ge (pc := 13) 41 dX5_namedIn_13 rfl ?_ ?_
    · refine z_iconst (pc := 41) (v := (-1)) dX5_namedIn_41 (by decide) ?_
      exact z_iret rfl dX5_namedIn_42 rfl
    · refine z_aload_n (pc := 16) 0 dX5_namedIn_16 rfl rfl ?_
      refine gf_X5_M_37_0 hG (pc := 17) dX5_namedIn_17 ?_
      refine z_iconst (pc := 20) (v := 5) dX5_namedIn_20 (by decide) ?_
      refine z_iload_n (pc := 21) 1 dX5_namedIn_21 rfl rfl ?_
      refine z_imul (pc := 22) dX5_namedIn_22 ?_
      refine z_iload (pc := 23) dX5_namedIn_23 rfl ?_
      refine z_iadd (pc := 25) dX5_namedIn_25 ?_
      refine z_chk (fun h4 => ?_)
      refine z_laload (pc := 26) 19 25 (zGM_s19 hG) h4 dX5_namedIn_26 ?_
      refine z_lload_n (pc := 27) 2 dX5_namedIn_27 rfl rfl ?_
      refine z_lcmp (pc := 28) dX5_namedIn_28 ?_
      refine z_if_ne (pc := 29) 35 dX5_namedIn_29 rfl ?_ ?_
      · refine z_iinc (pc := 35) (w := x2 + 1) dX5_namedIn_35 rfl (by rw [show Int32.ofInt 1 = 1 from by decide]) (Nat.le_of_ble_eq_true rfl) rfl ?_
        refine z_goto (pc := 38) 3 dX5_namedIn_38 rfl ?_
        exact hrec1 _
      · refine z_iload (pc := 32) dX5_namedIn_32 rfl ?_
        exact z_iret rfl dX5_namedIn_34 rfl
abbrev mX5_shutLine : zMr := ("HiddenCubeModel", cX5_shutLine, 3, none, 5, 0, 0, none)
def F_X5_shutLine  (S : zSt) : Option (Unit × zSt) :=
zbind (F_X5_squareHere S) (fun r2 S1 =>
joinK (fun  (S4 : zSt) => if (S4.1 0 12) = 0 then (joinK (fun (v6 : Int32) (S7 : zSt) => joinK (fun  (S9 : zSt) => if (S9.1 0 12) = 0 then (zbind (F_X5_next S9) (fun _ S10 =>
chk (128 + r2) 160 (chk (128 + r2) 160 (zlet (sI S10 22 (128 + r2).toNatClampNeg ((S10.1 22 (128 + r2).toNatClampNeg) ||| ((1 : Int32) <<< (v6 &&& 31))) : zSt) (fun S13 : zSt =>
zlet (128 + (r2 ^^^ ((1 : Int32) <<< (v6 &&& 31))) : Int32) (fun w14 : Int32 =>
chk w14 160 (chk w14 160 (zlet (sI S13 22 (w14).toNatClampNeg ((S13.1 22 (w14).toNatClampNeg) ||| ((1 : Int32) <<< (v6 &&& 31))) : zSt) (fun S17 : zSt =>
some ((), S17)))))))))) else (some ((), S9))) (fun j8 : zSt → Option (Unit × zSt) =>
joinK (zbind (F_X5_fails 2 S7) (fun _ S19 =>
j8 S19)) (fun j18 : Option (Unit × zSt) =>
if v6 = (-1) then (j18) else (chk (128 + r2) 160 (if (((S7.1 22 (128 + r2).toNatClampNeg) >>> (v6 &&& 31)) &&& 1) = 1 then (j18) else (j8 S7)))))) (fun j5 : Int32 → zSt → Option (Unit × zSt) =>
if ((S4.1 0 7) - (S4.1 0 9)) ≤ 8 then (zbind (F_X5_namedIn 4 (S4.2 0 11) S4) (fun r22 S21 =>
j5 r22 S21)) else (j5 (-1) S4))) else (some ((), S4))) (fun j3 : zSt → Option (Unit × zSt) =>
if (S1.1 0 12) = 0 then (if (S1.1 0 8) = 1 then (j3 S1) else (zbind (F_X5_fails 1 S1) (fun _ S23 =>
j3 S23))) else (j3 S1)))
theorem mv_X5_shutLine : ZV mX5_shutLine yX5_shutLine 0 := ⟨q1691, qs96, q155, q1692, rfl, by decide, by decide, by decide +kernel⟩
theorem ct_X5_shutLine {G : zGw} (hG : zGM G)  : Zc mX5_shutLine yX5_shutLine zJV G [.ref (G.1 0)] (F_X5_shutLine) := by
  refine Zc_of [some (.ref (G.1 0)), none, none] (by decide) rfl rfl (Nat.le_of_ble_eq_true rfl) rfl (fun X S res => ?_)
  unfold F_X5_shutLine
  refine z_aload_n (pc := 0) 0 dX5_shutLine_0 rfl rfl ?_
  refine z_callVi (pc := 1) _ _ 0 5 (ct_X5_squareHere hG) mv_X5_squareHere q1678 rfl (zGM_s0 hG) rfl (Nat.le_of_ble_eq_true rfl) (Nat.le_of_ble_eq_true rfl) rfl rfl (Nat.le_of_ble_eq_true rfl) dX5_shutLine_1 (fun r2 S1 => ?_)
  refine z_istore_n (pc := 4) 1 dX5_shutLine_4 rfl (Nat.le_of_ble_eq_true rfl) rfl ?_
  refine z_aload_n (pc := 5) 0 dX5_shutLine_5 rfl rfl ?_
  refine gf_X5_M_183_0 hG (pc := 6) dX5_shutLine_6 ?_
  refine z_join (fun j : zSt → Option (Unit × zSt) => ∀  (S4 : zSt), Zm X mX5_shutLine zJV G (0, 0) res S4 25 [some (.ref (G.1 0)), some (.int r2), none] [] (j S4)) ?_ (fun j3 hj3 => ?_)
  · intro S4
    refine z_aload_n (pc := 25) 0 dX5_shutLine_25 rfl rfl ?_
    refine gf_X5_M_183_0 hG (pc := 26) dX5_shutLine_26 ?_
    refine z_if_eq (pc := 29) 33 dX5_shutLine_29 rfl ?_ ?_
    · refine z_aload_n (pc := 33) 0 dX5_shutLine_33 rfl rfl ?_
      refine gf_X5_M_155_0 hG (pc := 34) dX5_shutLine_34 ?_
      refine z_aload_n (pc := 37) 0 dX5_shutLine_37 rfl rfl ?_
      refine gf_X5_M_162_0 hG (pc := 38) dX5_shutLine_38 ?_
      refine z_isub (pc := 41) dX5_shutLine_41 ?_
      refine z_bipush (pc := 42) (v := 8) dX5_shutLine_42 (by decide) ?_
      refine z_join (fun j : Int32 → zSt → Option (Unit × zSt) => ∀ (v6 : Int32) (S7 : zSt), Zm X mX5_shutLine zJV G (0, 0) res S7 60 [some (.ref (G.1 0)), some (.int r2), none] [.int v6] (j v6 S7)) ?_ (fun j5 hj5 => ?_)
      · intro v6 S7
        refine z_istore_n (pc := 60) 2 dX5_shutLine_60 rfl (Nat.le_of_ble_eq_true rfl) rfl ?_
        refine z_iload_n (pc := 61) 2 dX5_shutLine_61 rfl rfl ?_
        refine z_iconst (pc := 62) (v := (-1)) dX5_shutLine_62 (by decide) ?_
        refine z_join (fun j : zSt → Option (Unit × zSt) => ∀  (S9 : zSt), Zm X mX5_shutLine zJV G (0, 0) res S9 89 [some (.ref (G.1 0)), some (.int r2), some (.int v6)] [] (j S9)) ?_ (fun j8 hj8 => ?_)
        · intro S9
          refine z_aload_n (pc := 89) 0 dX5_shutLine_89 rfl rfl ?_
          refine gf_X5_M_183_0 hG (pc := 90) dX5_shutLine_90 ?_
          refine z_if_eq (pc := 93) 97 dX5_shutLine_93 rfl ?_ ?_
          · refine z_aload_n (pc := 97) 0 dX5_shutLine_97 rfl rfl ?_
            refine z_callVv (pc := 98) _ _ 0 5 (ct_X5_next hG) mv_X5_next q1620 rfl (zGM_s0 hG) rfl (Nat.le_of_ble_eq_true rfl) (Nat.le_of_ble_eq_true rfl) rfl rfl (Nat.le_of_ble_eq_true rfl) dX5_shutLine_98 (fun _ S10 => ?_)
            refine z_aload_n (pc := 101) 0 dX5_shutLine_101 rfl rfl ?_
            refine gf_X5_M_46_0 hG (pc := 102) dX5_shutLine_102 ?_
            refine z_sipush (pc := 105) (v := 128) dX5_shutLine_105 (by decide) ?_
            refine z_iload_n (pc := 108) 1 dX5_shutLine_108 rfl rfl ?_
            refine z_iadd (pc := 109) dX5_shutLine_109 ?_
            refine z_dup2 (pc := 110) dX5_shutLine_110 rfl rfl ?_
            refine z_chk (fun h11 => ?_)
            refine z_iaload (pc := 111) 22 160 (zGM_s22 hG) h11 dX5_shutLine_111 ?_
            refine z_iconst (pc := 112) (v := 1) dX5_shutLine_112 (by decide) ?_
            refine z_iload_n (pc := 113) 2 dX5_shutLine_113 rfl rfl ?_
            refine z_ishl (pc := 114) dX5_shutLine_114 ?_
            refine z_ior (pc := 115) dX5_shutLine_115 ?_
            refine z_chk (fun h12 => ?_)
            refine z_iastore (pc := 116) 22 160 (zGM_s22 hG) h12 dX5_shutLine_116 ?_
            refine z_letS (fun S13 => ?_)
            refine z_aload_n (pc := 117) 0 dX5_shutLine_117 rfl rfl ?_
            refine gf_X5_M_46_0 hG (pc := 118) dX5_shutLine_118 ?_
            refine z_sipush (pc := 121) (v := 128) dX5_shutLine_121 (by decide) ?_
            refine z_iload_n (pc := 124) 1 dX5_shutLine_124 rfl rfl ?_
            refine z_iconst (pc := 125) (v := 1) dX5_shutLine_125 (by decide) ?_
            refine z_iload_n (pc := 126) 2 dX5_shutLine_126 rfl rfl ?_
            refine z_ishl (pc := 127) dX5_shutLine_127 ?_
            refine z_ixor (pc := 128) dX5_shutLine_128 ?_
            refine z_iadd (pc := 129) dX5_shutLine_129 ?_
            refine z_letI (fun w14 => ?_)
            refine z_dup2 (pc := 130) dX5_shutLine_130 rfl rfl ?_
            refine z_chk (fun h15 => ?_)
            refine z_iaload (pc := 131) 22 160 (zGM_s22 hG) h15 dX5_shutLine_131 ?_
            refine z_iconst (pc := 132) (v := 1) dX5_shutLine_132 (by decide) ?_
            refine z_iload_n (pc := 133) 2 dX5_shutLine_133 rfl rfl ?_
            refine z_ishl (pc := 134) dX5_shutLine_134 ?_
            refine z_ior (pc := 135) dX5_shutLine_135 ?_
            refine z_chk (fun h16 => ?_)
            refine z_iastore (pc := 136) 22 160 (zGM_s22 hG) h16 dX5_shutLine_136 ?_
            refine z_letS (fun S17 => ?_)
            exact z_vret rfl dX5_shutLine_137 rfl
          · exact z_vret rfl dX5_shutLine_96 rfl
        · refine z_join (fun j : Option (Unit × zSt) =>  Zm X mX5_shutLine zJV G (0, 0) res S7 84 [some (.ref (G.1 0)), some (.int r2), some (.int v6)] [] (j)) ?_ (fun j18 hj18 => ?_)
          · show _
            refine z_aload_n (pc := 84) 0 dX5_shutLine_84 rfl rfl ?_
            refine z_iconst (pc := 85) (v := 2) dX5_shutLine_85 (by decide) ?_
            refine z_callVv (pc := 86) _ _ 0 5 (ct_X5_fails hG _) mv_X5_fails q1654 rfl (zGM_s0 hG) rfl (Nat.le_of_ble_eq_true rfl) (Nat.le_of_ble_eq_true rfl) rfl rfl (Nat.le_of_ble_eq_true rfl) dX5_shutLine_86 (fun _ S19 => ?_)
            exact hj8 _
          · refine z_icmp_eq (pc := 63) 84 dX5_shutLine_63 rfl ?_ ?_
            · exact hj18 
            · refine z_aload_n (pc := 66) 0 dX5_shutLine_66 rfl rfl ?_
              refine gf_X5_M_46_0 hG (pc := 67) dX5_shutLine_67 ?_
              refine z_sipush (pc := 70) (v := 128) dX5_shutLine_70 (by decide) ?_
              refine z_iload_n (pc := 73) 1 dX5_shutLine_73 rfl rfl ?_
              refine z_iadd (pc := 74) dX5_shutLine_74 ?_
              refine z_chk (fun h20 => ?_)
              refine z_iaload (pc := 75) 22 160 (zGM_s22 hG) h20 dX5_shutLine_75 ?_
              refine z_iload_n (pc := 76) 2 dX5_shutLine_76 rfl rfl ?_
              refine z_ishr (pc := 77) dX5_shutLine_77 ?_
              refine z_iconst (pc := 78) (v := 1) dX5_shutLine_78 (by decide) ?_
              refine z_iand (pc := 79) dX5_shutLine_79 ?_
              refine z_iconst (pc := 80) (v := 1) dX5_shutLine_80 (by decide) ?_
              refine z_icmp_ne (pc := 81) 89 dX5_shutLine_81 rfl ?_ ?_
              · exact hj8 _
              · exact hj18 
      · refine z_icmp_le (pc := 44) 51 dX5_shutLine_44 rfl ?_ ?_
        · refine z_aload_n (pc := 51) 0 dX5_shutLine_51 rfl rfl ?_
          refine z_iconst (pc := 52) (v := 4) dX5_shutLine_52 (by decide) ?_
          refine z_aload_n (pc := 53) 0 dX5_shutLine_53 rfl rfl ?_
          refine gf_X5_M_168_0 hG (pc := 54) dX5_shutLine_54 ?_
          refine z_callVi (pc := 57) _ _ 0 5 (ct_X5_namedIn hG _ _) mv_X5_namedIn q1663 rfl (zGM_s0 hG) rfl (Nat.le_of_ble_eq_true rfl) (Nat.le_of_ble_eq_true rfl) rfl rfl (Nat.le_of_ble_eq_true rfl) dX5_shutLine_57 (fun r22 S21 => ?_)
          exact hj5 _ _
        · refine z_iconst (pc := 47) (v := (-1)) dX5_shutLine_47 (by decide) ?_
          refine z_goto (pc := 48) 60 dX5_shutLine_48 rfl ?_
          exact hj5 _ _
    · exact z_vret rfl dX5_shutLine_32 rfl
  · refine z_if_ne (pc := 9) 25 dX5_shutLine_9 rfl ?_ ?_
    · exact hj3 _
    · refine z_aload_n (pc := 12) 0 dX5_shutLine_12 rfl rfl ?_
      refine gf_X5_M_172_0 hG (pc := 13) dX5_shutLine_13 ?_
      refine z_iconst (pc := 16) (v := 1) dX5_shutLine_16 (by decide) ?_
      refine z_icmp_eq (pc := 17) 25 dX5_shutLine_17 rfl ?_ ?_
      · exact hj3 _
      · refine z_aload_n (pc := 20) 0 dX5_shutLine_20 rfl rfl ?_
        refine z_iconst (pc := 21) (v := 1) dX5_shutLine_21 (by decide) ?_
        refine z_callVv (pc := 22) _ _ 0 5 (ct_X5_fails hG _) mv_X5_fails q1654 rfl (zGM_s0 hG) rfl (Nat.le_of_ble_eq_true rfl) (Nat.le_of_ble_eq_true rfl) rfl rfl (Nat.le_of_ble_eq_true rfl) dX5_shutLine_22 (fun _ S23 => ?_)
        exact hj3 _
abbrev mX5_line : zMr := ("HiddenCubeModel", cX5_line, 5, none, 6, 0, 0, none)
def F_X5_line  (S : zSt) : Option (Unit × zSt) :=
zbind (F_X5_is 232608281 S) (fun r2 S1 =>
zbind (F_X5_is 1186537320 S1) (fun r4 S3 =>
joinK (fun  (S6 : zSt) => if (S6.1 0 12) = 0 then (if r2 = 0 then (if r4 = 0 then (zbind (F_X5_takes 380396 S6) (fun r8 S7 =>
if r8 = 0 then (zbind (F_X5_asks 330913661 S7) (fun _ S9 =>
zbind (F_X5_asks 47 S9) (fun _ S10 =>
joinK (fun  (S12 : zSt) => zbind (F_X5_squareHere S12) (fun r14 S13 =>
zbind (F_X5_isGood S13) (fun r16 S15 =>
if r16 = 0 then (some ((), S15)) else (chk 4 5 (chk 4 5 (zlet (sI S15 23 (4 : Int32).toNatClampNeg ((S15.1 23 (4 : Int32).toNatClampNeg) ||| ((1 : Int32) <<< (r14 &&& 31))) : zSt) (fun S19 : zSt =>
some ((), S19)))))))) (fun j11 : zSt → Option (Unit × zSt) =>
if (S10.1 0 12) = 0 then (if (S10.1 0 8) = 2 then (zbind (F_X5_hasRead 0 S10) (fun r21 S20 =>
if ((1 : Int32) <<< (r21 &&& 31)) ≤ (S10.1 0 10) then (j11 S20) else (chk 4 5 (if (((S20.1 23 (4 : Int32).toNatClampNeg) >>> ((S20.1 0 10) &&& 31)) &&& 1) = 1 then (zbind (F_X5_fails 2 S20) (fun _ S23 =>
j11 S23)) else (j11 S20))))) else (j11 S10)) else (j11 S10))))) else (zbind (F_X5_shutLine S7) (fun _ S24 =>
some ((), S24))))) else (zbind (F_X5_next S6) (fun _ S25 =>
zbind (F_X5_asks 131638 S25) (fun _ S26 =>
zbind (F_X5_squareHere S26) (fun r28 S27 =>
zbind (F_X5_asks 555 S27) (fun _ S29 =>
joinK (fun  (S31 : zSt) => zbind (F_X5_hasRead 2 S31) (fun r33 S32 =>
zlet (2 * (24 + r33) : Int32) (fun w34 : Int32 =>
chk w34 60 (zlet (sI S32 25 (w34).toNatClampNeg r28 : zSt) (fun S36 : zSt =>
zbind (F_X5_squareHere S36) (fun r38 S37 =>
chk (w34 + 1) 60 (zlet (sI S37 25 (w34 + 1).toNatClampNeg r38 : zSt) (fun S40 : zSt =>
chk 14 15 (chk 14 15 (zlet (sI S40 18 (14 : Int32).toNatClampNeg ((S40.1 18 (14 : Int32).toNatClampNeg) + 1) : zSt) (fun S43 : zSt =>
some ((), S43)))))))))))) (fun j30 : zSt → Option (Unit × zSt) =>
if (S29.1 0 12) = 0 then (if (S29.1 0 8) = 2 then (if (S29.1 0 10) = r28 then (zbind (F_X5_fails 2 S29) (fun _ S44 =>
j30 S44)) else (j30 S29)) else (j30 S29)) else (j30 S29)))))))) else (zbind (F_X5_next S6) (fun _ S45 =>
zbind (F_X5_asks 47 S45) (fun _ S46 =>
zbind (F_X5_hasRead 1 S46) (fun r48 S47 =>
zbind (F_X5_squareHere S47) (fun r50 S49 =>
chk (24 + r48) 30 (zlet (sI S49 24 (24 + r48).toNatClampNeg r50 : zSt) (fun S52 : zSt =>
chk 13 15 (chk 13 15 (zlet (sI S52 18 (13 : Int32).toNatClampNeg ((S52.1 18 (13 : Int32).toNatClampNeg) + 1) : zSt) (fun S55 : zSt =>
some ((), S55)))))))))))) else (some ((), S6))) (fun j5 : zSt → Option (Unit × zSt) =>
joinK (fun  (S57 : zSt) => zbind (F_X5_fails 3 S57) (fun _ S58 =>
j5 S58)) (fun j56 : zSt → Option (Unit × zSt) =>
joinK (fun  (S60 : zSt) => if r4 = 0 then (j5 S60) else (zbind (F_X5_hasRead 2 S60) (fun r62 S61 =>
if r62 = 6 then (j56 S61) else (j5 S61)))) (fun j59 : zSt → Option (Unit × zSt) =>
if r2 = 0 then (j59 S3) else (zbind (F_X5_hasRead 1 S3) (fun r64 S63 =>
if r64 = 6 then (j56 S63) else (j59 S63))))))))
theorem mv_X5_line : ZV mX5_line yX5_line 0 := ⟨q1673, qs93, q155, q1674, rfl, by decide, by decide, by decide +kernel⟩
theorem ct_X5_line {G : zGw} (hG : zGM G)  : Zc mX5_line yX5_line zJV G [.ref (G.1 0)] (F_X5_line) := by
  refine Zc_of [some (.ref (G.1 0)), none, none, none, none] (by decide) rfl rfl (Nat.le_of_ble_eq_true rfl) rfl (fun X S res => ?_)
  unfold F_X5_line
  refine z_aload_n (pc := 0) 0 dX5_line_0 rfl rfl ?_
  refine z_ldc2 (pc := 1) (v := 232608281) dX5_line_1 q1675 ?_
  refine z_callVi (pc := 4) _ _ 0 5 (ct_X5_is hG _) mv_X5_is q1650 rfl (zGM_s0 hG) rfl (Nat.le_of_ble_eq_true rfl) (Nat.le_of_ble_eq_true rfl) rfl rfl (Nat.le_of_ble_eq_true rfl) dX5_line_4 (fun r2 S1 => ?_)
  refine z_istore_n (pc := 7) 1 dX5_line_7 rfl (Nat.le_of_ble_eq_true rfl) rfl ?_
  refine z_aload_n (pc := 8) 0 dX5_line_8 rfl rfl ?_
  refine z_ldc2 (pc := 9) (v := 1186537320) dX5_line_9 q1676 ?_
  refine z_callVi (pc := 12) _ _ 0 5 (ct_X5_is hG _) mv_X5_is q1650 rfl (zGM_s0 hG) rfl (Nat.le_of_ble_eq_true rfl) (Nat.le_of_ble_eq_true rfl) rfl rfl (Nat.le_of_ble_eq_true rfl) dX5_line_12 (fun r4 S3 => ?_)
  refine z_istore_n (pc := 15) 2 dX5_line_15 rfl (Nat.le_of_ble_eq_true rfl) rfl ?_
  refine z_iload_n (pc := 16) 1 dX5_line_16 rfl rfl ?_
  refine z_join (fun j : zSt → Option (Unit × zSt) => ∀  (S6 : zSt), Zm X mX5_line zJV G (0, 0) res S6 49 [some (.ref (G.1 0)), some (.int r2), some (.int r4), none, none] [] (j S6)) ?_ (fun j5 hj5 => ?_)
  · intro S6
    refine z_aload_n (pc := 49) 0 dX5_line_49 rfl rfl ?_
    refine gf_X5_M_183_0 hG (pc := 50) dX5_line_50 ?_
    refine z_if_eq (pc := 53) 57 dX5_line_53 rfl ?_ ?_
    · refine z_iload_n (pc := 57) 1 dX5_line_57 rfl rfl ?_
      refine z_if_eq (pc := 58) 103 dX5_line_58 rfl ?_ ?_
      · refine z_iload_n (pc := 103) 2 dX5_line_103 rfl rfl ?_
        refine z_if_eq (pc := 104) 205 dX5_line_104 rfl ?_ ?_
        · refine z_aload_n (pc := 205) 0 dX5_line_205 rfl rfl ?_
          refine z_ldc2 (pc := 206) (v := 380396) dX5_line_206 q1688 ?_
          refine z_callVi (pc := 209) _ _ 0 5 (ct_X5_takes hG _) mv_X5_takes q1646 rfl (zGM_s0 hG) rfl (Nat.le_of_ble_eq_true rfl) (Nat.le_of_ble_eq_true rfl) rfl rfl (Nat.le_of_ble_eq_true rfl) dX5_line_209 (fun r8 S7 => ?_)
          refine z_if_eq (pc := 212) 222 dX5_line_212 rfl ?_ ?_
          · refine z_aload_n (pc := 222) 0 dX5_line_222 rfl rfl ?_
            refine z_ldc2 (pc := 223) (v := 330913661) dX5_line_223 q1693 ?_
            refine z_callVv (pc := 226) _ _ 0 5 (ct_X5_asks hG _) mv_X5_asks q1642 rfl (zGM_s0 hG) rfl (Nat.le_of_ble_eq_true rfl) (Nat.le_of_ble_eq_true rfl) rfl rfl (Nat.le_of_ble_eq_true rfl) dX5_line_226 (fun _ S9 => ?_)
            refine z_aload_n (pc := 229) 0 dX5_line_229 rfl rfl ?_
            refine z_ldc2 (pc := 230) (v := 47) dX5_line_230 q1677 ?_
            refine z_callVv (pc := 233) _ _ 0 5 (ct_X5_asks hG _) mv_X5_asks q1642 rfl (zGM_s0 hG) rfl (Nat.le_of_ble_eq_true rfl) (Nat.le_of_ble_eq_true rfl) rfl rfl (Nat.le_of_ble_eq_true rfl) dX5_line_233 (fun _ S10 => ?_)
            refine z_aload_n (pc := 236) 0 dX5_line_236 rfl rfl ?_
            refine gf_X5_M_183_0 hG (pc := 237) dX5_line_237 ?_
            refine z_join (fun j : zSt → Option (Unit × zSt) => ∀  (S12 : zSt), Zm X mX5_line zJV G (0, 0) res S12 287 [some (.ref (G.1 0)), none, none, none, none] [] (j S12)) ?_ (fun j11 hj11 => ?_)
            · intro S12
              refine z_aload_n (pc := 287) 0 dX5_line_287 rfl rfl ?_
              refine z_callVi (pc := 288) _ _ 0 5 (ct_X5_squareHere hG) mv_X5_squareHere q1678 rfl (zGM_s0 hG) rfl (Nat.le_of_ble_eq_true rfl) (Nat.le_of_ble_eq_true rfl) rfl rfl (Nat.le_of_ble_eq_true rfl) dX5_line_288 (fun r14 S13 => ?_)
              refine z_istore_n (pc := 291) 3 dX5_line_291 rfl (Nat.le_of_ble_eq_true rfl) rfl ?_
              refine z_aload_n (pc := 292) 0 dX5_line_292 rfl rfl ?_
              refine z_callVi (pc := 293) _ _ 0 5 (ct_X5_isGood hG) mv_X5_isGood q1633 rfl (zGM_s0 hG) rfl (Nat.le_of_ble_eq_true rfl) (Nat.le_of_ble_eq_true rfl) rfl rfl (Nat.le_of_ble_eq_true rfl) dX5_line_293 (fun r16 S15 => ?_)
              refine z_if_eq (pc := 296) 311 dX5_line_296 rfl ?_ ?_
              · exact z_vret rfl dX5_line_311 rfl
              · refine z_aload_n (pc := 299) 0 dX5_line_299 rfl rfl ?_
                refine gf_X5_M_49_0 hG (pc := 300) dX5_line_300 ?_
                refine z_iconst (pc := 303) (v := 4) dX5_line_303 (by decide) ?_
                refine z_dup2 (pc := 304) dX5_line_304 rfl rfl ?_
                refine z_chk (fun h17 => ?_)
                refine z_iaload (pc := 305) 23 5 (zGM_s23 hG) h17 dX5_line_305 ?_
                refine z_iconst (pc := 306) (v := 1) dX5_line_306 (by decide) ?_
                refine z_iload_n (pc := 307) 3 dX5_line_307 rfl rfl ?_
                refine z_ishl (pc := 308) dX5_line_308 ?_
                refine z_ior (pc := 309) dX5_line_309 ?_
                refine z_chk (fun h18 => ?_)
                refine z_iastore (pc := 310) 23 5 (zGM_s23 hG) h18 dX5_line_310 ?_
                refine z_letS (fun S19 => ?_)
                exact z_vret rfl dX5_line_311 rfl
            · refine z_if_ne (pc := 240) 287 dX5_line_240 rfl ?_ ?_
              · exact z_mask [true, false, false, false, false] (hj11 _) rfl
              · refine z_aload_n (pc := 243) 0 dX5_line_243 rfl rfl ?_
                refine gf_X5_M_172_0 hG (pc := 244) dX5_line_244 ?_
                refine z_iconst (pc := 247) (v := 2) dX5_line_247 (by decide) ?_
                refine z_icmp_ne (pc := 248) 287 dX5_line_248 rfl ?_ ?_
                · exact z_mask [true, false, false, false, false] (hj11 _) rfl
                · refine z_aload_n (pc := 251) 0 dX5_line_251 rfl rfl ?_
                  refine gf_X5_M_165_0 hG (pc := 252) dX5_line_252 ?_
                  refine z_iconst (pc := 255) (v := 1) dX5_line_255 (by decide) ?_
                  refine z_aload_n (pc := 256) 0 dX5_line_256 rfl rfl ?_
                  refine z_iconst (pc := 257) (v := 0) dX5_line_257 (by decide) ?_
                  refine z_callVi (pc := 258) _ _ 0 5 (ct_X5_hasRead hG _) mv_X5_hasRead q1667 rfl (zGM_s0 hG) rfl (Nat.le_of_ble_eq_true rfl) (Nat.le_of_ble_eq_true rfl) rfl rfl (Nat.le_of_ble_eq_true rfl) dX5_line_258 (fun r21 S20 => ?_)
                  refine z_ishl (pc := 261) dX5_line_261 ?_
                  refine z_icmp_ge (pc := 262) 287 dX5_line_262 rfl ?_ ?_
                  · exact z_mask [true, false, false, false, false] (hj11 _) rfl
                  · refine z_aload_n (pc := 265) 0 dX5_line_265 rfl rfl ?_
                    refine gf_X5_M_49_0 hG (pc := 266) dX5_line_266 ?_
                    refine z_iconst (pc := 269) (v := 4) dX5_line_269 (by decide) ?_
                    refine z_chk (fun h22 => ?_)
                    refine z_iaload (pc := 270) 23 5 (zGM_s23 hG) h22 dX5_line_270 ?_
                    refine z_aload_n (pc := 271) 0 dX5_line_271 rfl rfl ?_
                    refine gf_X5_M_165_0 hG (pc := 272) dX5_line_272 ?_
                    refine z_ishr (pc := 275) dX5_line_275 ?_
                    refine z_iconst (pc := 276) (v := 1) dX5_line_276 (by decide) ?_
                    refine z_iand (pc := 277) dX5_line_277 ?_
                    refine z_iconst (pc := 278) (v := 1) dX5_line_278 (by decide) ?_
                    refine z_icmp_ne (pc := 279) 287 dX5_line_279 rfl ?_ ?_
                    · exact z_mask [true, false, false, false, false] (hj11 _) rfl
                    · refine z_aload_n (pc := 282) 0 dX5_line_282 rfl rfl ?_
                      refine z_iconst (pc := 283) (v := 2) dX5_line_283 (by decide) ?_
                      refine z_callVv (pc := 284) _ _ 0 5 (ct_X5_fails hG _) mv_X5_fails q1654 rfl (zGM_s0 hG) rfl (Nat.le_of_ble_eq_true rfl) (Nat.le_of_ble_eq_true rfl) rfl rfl (Nat.le_of_ble_eq_true rfl) dX5_line_284 (fun _ S23 => ?_)
                      exact z_mask [true, false, false, false, false] (hj11 _) rfl
          · refine z_aload_n (pc := 215) 0 dX5_line_215 rfl rfl ?_
            refine z_callVv (pc := 216) _ _ 0 5 (ct_X5_shutLine hG) mv_X5_shutLine q1689 rfl (zGM_s0 hG) rfl (Nat.le_of_ble_eq_true rfl) (Nat.le_of_ble_eq_true rfl) rfl rfl (Nat.le_of_ble_eq_true rfl) dX5_line_216 (fun _ S24 => ?_)
            refine z_goto (pc := 219) 311 dX5_line_219 rfl ?_
            exact z_vret rfl dX5_line_311 rfl
        · refine z_aload_n (pc := 107) 0 dX5_line_107 rfl rfl ?_
          refine z_callVv (pc := 108) _ _ 0 5 (ct_X5_next hG) mv_X5_next q1620 rfl (zGM_s0 hG) rfl (Nat.le_of_ble_eq_true rfl) (Nat.le_of_ble_eq_true rfl) rfl rfl (Nat.le_of_ble_eq_true rfl) dX5_line_108 (fun _ S25 => ?_)
          refine z_aload_n (pc := 111) 0 dX5_line_111 rfl rfl ?_
          refine z_ldc2 (pc := 112) (v := 131638) dX5_line_112 q1686 ?_
          refine z_callVv (pc := 115) _ _ 0 5 (ct_X5_asks hG _) mv_X5_asks q1642 rfl (zGM_s0 hG) rfl (Nat.le_of_ble_eq_true rfl) (Nat.le_of_ble_eq_true rfl) rfl rfl (Nat.le_of_ble_eq_true rfl) dX5_line_115 (fun _ S26 => ?_)
          refine z_aload_n (pc := 118) 0 dX5_line_118 rfl rfl ?_
          refine z_callVi (pc := 119) _ _ 0 5 (ct_X5_squareHere hG) mv_X5_squareHere q1678 rfl (zGM_s0 hG) rfl (Nat.le_of_ble_eq_true rfl) (Nat.le_of_ble_eq_true rfl) rfl rfl (Nat.le_of_ble_eq_true rfl) dX5_line_119 (fun r28 S27 => ?_)
          refine z_istore_n (pc := 122) 3 dX5_line_122 rfl (Nat.le_of_ble_eq_true rfl) rfl ?_
          refine z_aload_n (pc := 123) 0 dX5_line_123 rfl rfl ?_
          refine z_ldc2 (pc := 124) (v := 555) dX5_line_124 q1687 ?_
          refine z_callVv (pc := 127) _ _ 0 5 (ct_X5_asks hG _) mv_X5_asks q1642 rfl (zGM_s0 hG) rfl (Nat.le_of_ble_eq_true rfl) (Nat.le_of_ble_eq_true rfl) rfl rfl (Nat.le_of_ble_eq_true rfl) dX5_line_127 (fun _ S29 => ?_)
          refine z_aload_n (pc := 130) 0 dX5_line_130 rfl rfl ?_
          refine gf_X5_M_183_0 hG (pc := 131) dX5_line_131 ?_
          refine z_join (fun j : zSt → Option (Unit × zSt) => ∀  (S31 : zSt), Zm X mX5_line zJV G (0, 0) res S31 158 [some (.ref (G.1 0)), none, none, some (.int r28), none] [] (j S31)) ?_ (fun j30 hj30 => ?_)
          · intro S31
            refine z_iconst (pc := 158) (v := 2) dX5_line_158 (by decide) ?_
            refine z_bipush (pc := 159) (v := 24) dX5_line_159 (by decide) ?_
            refine z_aload_n (pc := 161) 0 dX5_line_161 rfl rfl ?_
            refine z_iconst (pc := 162) (v := 2) dX5_line_162 (by decide) ?_
            refine z_callVi (pc := 163) _ _ 0 5 (ct_X5_hasRead hG _) mv_X5_hasRead q1667 rfl (zGM_s0 hG) rfl (Nat.le_of_ble_eq_true rfl) (Nat.le_of_ble_eq_true rfl) rfl rfl (Nat.le_of_ble_eq_true rfl) dX5_line_163 (fun r33 S32 => ?_)
            refine z_iadd (pc := 166) dX5_line_166 ?_
            refine z_imul (pc := 167) dX5_line_167 ?_
            refine z_letI (fun w34 => ?_)
            refine z_istore (pc := 168) dX5_line_168 (Nat.le_of_ble_eq_true rfl) rfl ?_
            refine z_aload_n (pc := 170) 0 dX5_line_170 rfl rfl ?_
            refine gf_X5_M_55_0 hG (pc := 171) dX5_line_171 ?_
            refine z_iload (pc := 174) dX5_line_174 rfl ?_
            refine z_iload_n (pc := 176) 3 dX5_line_176 rfl rfl ?_
            refine z_chk (fun h35 => ?_)
            refine z_iastore (pc := 177) 25 60 (zGM_s25 hG) h35 dX5_line_177 ?_
            refine z_letS (fun S36 => ?_)
            refine z_aload_n (pc := 178) 0 dX5_line_178 rfl rfl ?_
            refine gf_X5_M_55_0 hG (pc := 179) dX5_line_179 ?_
            refine z_iload (pc := 182) dX5_line_182 rfl ?_
            refine z_iconst (pc := 184) (v := 1) dX5_line_184 (by decide) ?_
            refine z_iadd (pc := 185) dX5_line_185 ?_
            refine z_aload_n (pc := 186) 0 dX5_line_186 rfl rfl ?_
            refine z_callVi (pc := 187) _ _ 0 5 (ct_X5_squareHere hG) mv_X5_squareHere q1678 rfl (zGM_s0 hG) rfl (Nat.le_of_ble_eq_true rfl) (Nat.le_of_ble_eq_true rfl) rfl rfl (Nat.le_of_ble_eq_true rfl) dX5_line_187 (fun r38 S37 => ?_)
            refine z_chk (fun h39 => ?_)
            refine z_iastore (pc := 190) 25 60 (zGM_s25 hG) h39 dX5_line_190 ?_
            refine z_letS (fun S40 => ?_)
            refine z_aload_n (pc := 191) 0 dX5_line_191 rfl rfl ?_
            refine gf_X5_M_34_0 hG (pc := 192) dX5_line_192 ?_
            refine z_bipush (pc := 195) (v := 14) dX5_line_195 (by decide) ?_
            refine z_dup2 (pc := 197) dX5_line_197 rfl rfl ?_
            refine z_chk (fun h41 => ?_)
            refine z_iaload (pc := 198) 18 15 (zGM_s18 hG) h41 dX5_line_198 ?_
            refine z_iconst (pc := 199) (v := 1) dX5_line_199 (by decide) ?_
            refine z_iadd (pc := 200) dX5_line_200 ?_
            refine z_chk (fun h42 => ?_)
            refine z_iastore (pc := 201) 18 15 (zGM_s18 hG) h42 dX5_line_201 ?_
            refine z_letS (fun S43 => ?_)
            refine z_goto (pc := 202) 311 dX5_line_202 rfl ?_
            exact z_vret rfl dX5_line_311 rfl
          · refine z_if_ne (pc := 134) 158 dX5_line_134 rfl ?_ ?_
            · exact z_mask [true, false, false, true, false] (hj30 _) rfl
            · refine z_aload_n (pc := 137) 0 dX5_line_137 rfl rfl ?_
              refine gf_X5_M_172_0 hG (pc := 138) dX5_line_138 ?_
              refine z_iconst (pc := 141) (v := 2) dX5_line_141 (by decide) ?_
              refine z_icmp_ne (pc := 142) 158 dX5_line_142 rfl ?_ ?_
              · exact z_mask [true, false, false, true, false] (hj30 _) rfl
              · refine z_aload_n (pc := 145) 0 dX5_line_145 rfl rfl ?_
                refine gf_X5_M_165_0 hG (pc := 146) dX5_line_146 ?_
                refine z_iload_n (pc := 149) 3 dX5_line_149 rfl rfl ?_
                refine z_icmp_ne (pc := 150) 158 dX5_line_150 rfl ?_ ?_
                · exact z_mask [true, false, false, true, false] (hj30 _) rfl
                · refine z_aload_n (pc := 153) 0 dX5_line_153 rfl rfl ?_
                  refine z_iconst (pc := 154) (v := 2) dX5_line_154 (by decide) ?_
                  refine z_callVv (pc := 155) _ _ 0 5 (ct_X5_fails hG _) mv_X5_fails q1654 rfl (zGM_s0 hG) rfl (Nat.le_of_ble_eq_true rfl) (Nat.le_of_ble_eq_true rfl) rfl rfl (Nat.le_of_ble_eq_true rfl) dX5_line_155 (fun _ S44 => ?_)
                  exact z_mask [true, false, false, true, false] (hj30 _) rfl
      · refine z_aload_n (pc := 61) 0 dX5_line_61 rfl rfl ?_
        refine z_callVv (pc := 62) _ _ 0 5 (ct_X5_next hG) mv_X5_next q1620 rfl (zGM_s0 hG) rfl (Nat.le_of_ble_eq_true rfl) (Nat.le_of_ble_eq_true rfl) rfl rfl (Nat.le_of_ble_eq_true rfl) dX5_line_62 (fun _ S45 => ?_)
        refine z_aload_n (pc := 65) 0 dX5_line_65 rfl rfl ?_
        refine z_ldc2 (pc := 66) (v := 47) dX5_line_66 q1677 ?_
        refine z_callVv (pc := 69) _ _ 0 5 (ct_X5_asks hG _) mv_X5_asks q1642 rfl (zGM_s0 hG) rfl (Nat.le_of_ble_eq_true rfl) (Nat.le_of_ble_eq_true rfl) rfl rfl (Nat.le_of_ble_eq_true rfl) dX5_line_69 (fun _ S46 => ?_)
        refine z_aload_n (pc := 72) 0 dX5_line_72 rfl rfl ?_
        refine gf_X5_M_52_0 hG (pc := 73) dX5_line_73 ?_
        refine z_bipush (pc := 76) (v := 24) dX5_line_76 (by decide) ?_
        refine z_aload_n (pc := 78) 0 dX5_line_78 rfl rfl ?_
        refine z_iconst (pc := 79) (v := 1) dX5_line_79 (by decide) ?_
        refine z_callVi (pc := 80) _ _ 0 5 (ct_X5_hasRead hG _) mv_X5_hasRead q1667 rfl (zGM_s0 hG) rfl (Nat.le_of_ble_eq_true rfl) (Nat.le_of_ble_eq_true rfl) rfl rfl (Nat.le_of_ble_eq_true rfl) dX5_line_80 (fun r48 S47 => ?_)
        refine z_iadd (pc := 83) dX5_line_83 ?_
        refine z_aload_n (pc := 84) 0 dX5_line_84 rfl rfl ?_
        refine z_callVi (pc := 85) _ _ 0 5 (ct_X5_squareHere hG) mv_X5_squareHere q1678 rfl (zGM_s0 hG) rfl (Nat.le_of_ble_eq_true rfl) (Nat.le_of_ble_eq_true rfl) rfl rfl (Nat.le_of_ble_eq_true rfl) dX5_line_85 (fun r50 S49 => ?_)
        refine z_chk (fun h51 => ?_)
        refine z_iastore (pc := 88) 24 30 (zGM_s24 hG) h51 dX5_line_88 ?_
        refine z_letS (fun S52 => ?_)
        refine z_aload_n (pc := 89) 0 dX5_line_89 rfl rfl ?_
        refine gf_X5_M_34_0 hG (pc := 90) dX5_line_90 ?_
        refine z_bipush (pc := 93) (v := 13) dX5_line_93 (by decide) ?_
        refine z_dup2 (pc := 95) dX5_line_95 rfl rfl ?_
        refine z_chk (fun h53 => ?_)
        refine z_iaload (pc := 96) 18 15 (zGM_s18 hG) h53 dX5_line_96 ?_
        refine z_iconst (pc := 97) (v := 1) dX5_line_97 (by decide) ?_
        refine z_iadd (pc := 98) dX5_line_98 ?_
        refine z_chk (fun h54 => ?_)
        refine z_iastore (pc := 99) 18 15 (zGM_s18 hG) h54 dX5_line_99 ?_
        refine z_letS (fun S55 => ?_)
        refine z_goto (pc := 100) 311 dX5_line_100 rfl ?_
        exact z_vret rfl dX5_line_311 rfl
    · exact z_vret rfl dX5_line_56 rfl
  · refine z_join (fun j : zSt → Option (Unit × zSt) => ∀  (S57 : zSt), Zm X mX5_line zJV G (0, 0) res S57 44 [some (.ref (G.1 0)), some (.int r2), some (.int r4), none, none] [] (j S57)) ?_ (fun j56 hj56 => ?_)
    · intro S57
      refine z_aload_n (pc := 44) 0 dX5_line_44 rfl rfl ?_
      refine z_iconst (pc := 45) (v := 3) dX5_line_45 (by decide) ?_
      refine z_callVv (pc := 46) _ _ 0 5 (ct_X5_fails hG _) mv_X5_fails q1654 rfl (zGM_s0 hG) rfl (Nat.le_of_ble_eq_true rfl) (Nat.le_of_ble_eq_true rfl) rfl rfl (Nat.le_of_ble_eq_true rfl) dX5_line_46 (fun _ S58 => ?_)
      exact hj5 _
    · refine z_join (fun j : zSt → Option (Unit × zSt) => ∀  (S60 : zSt), Zm X mX5_line zJV G (0, 0) res S60 30 [some (.ref (G.1 0)), some (.int r2), some (.int r4), none, none] [] (j S60)) ?_ (fun j59 hj59 => ?_)
      · intro S60
        refine z_iload_n (pc := 30) 2 dX5_line_30 rfl rfl ?_
        refine z_if_eq (pc := 31) 49 dX5_line_31 rfl ?_ ?_
        · exact hj5 _
        · refine z_aload_n (pc := 34) 0 dX5_line_34 rfl rfl ?_
          refine z_iconst (pc := 35) (v := 2) dX5_line_35 (by decide) ?_
          refine z_callVi (pc := 36) _ _ 0 5 (ct_X5_hasRead hG _) mv_X5_hasRead q1667 rfl (zGM_s0 hG) rfl (Nat.le_of_ble_eq_true rfl) (Nat.le_of_ble_eq_true rfl) rfl rfl (Nat.le_of_ble_eq_true rfl) dX5_line_36 (fun r62 S61 => ?_)
          refine z_bipush (pc := 39) (v := 6) dX5_line_39 (by decide) ?_
          refine z_icmp_ne (pc := 41) 49 dX5_line_41 rfl ?_ ?_
          · exact hj5 _
          · exact hj56 _
      · refine z_if_eq (pc := 17) 30 dX5_line_17 rfl ?_ ?_
        · exact hj59 _
        · refine z_aload_n (pc := 20) 0 dX5_line_20 rfl rfl ?_
          refine z_iconst (pc := 21) (v := 1) dX5_line_21 (by decide) ?_
          refine z_callVi (pc := 22) _ _ 0 5 (ct_X5_hasRead hG _) mv_X5_hasRead q1667 rfl (zGM_s0 hG) rfl (Nat.le_of_ble_eq_true rfl) (Nat.le_of_ble_eq_true rfl) rfl rfl (Nat.le_of_ble_eq_true rfl) dX5_line_22 (fun r64 S63 => ?_)
          refine z_bipush (pc := 25) (v := 6) dX5_line_25 (by decide) ?_
          refine z_icmp_eq (pc := 27) 44 dX5_line_27 rfl ?_ ?_
          · exact hj56 _
          · exact hj59 _
abbrev mX5_nameHere : zMr := ("HiddenCubeModel", cX5_nameHere, 4, none, 3, 0, 0, none)
def LB_X5_nameHere_1 (w1 : Int32) (r5 : Int32) (k10 : zSt → Option (Unit × zSt)) (rec16 : Int32 → zSt → Option (Unit × zSt)) (x17 : Int32) (S18 : zSt) : Option (Unit × zSt) :=
if w1 ≤ x17 then (k10 S18) else (zlet ((S18.1 0 9) + x17 : Int32) (fun w19 : Int32 =>
chk w19 1400 (zlet ((8 * (20 + r5)) + x17 : Int32) (fun w21 : Int32 =>
chk w21 200 (zlet (sI S18 21 (w21).toNatClampNeg (S18.1 6 (w19).toNatClampNeg) : zSt) (fun S23 : zSt =>
rec16 (x17 + 1) S23))))))
def F_X5_nameHere  (S : zSt) : Option (Unit × zSt) :=
if (S.1 0 12) = 0 then (if (S.1 0 8) = 1 then (zlet ((S.1 0 7) - (S.1 0 9) : Int32) (fun w1 : Int32 =>
joinK (fun  (S3 : zSt) => if (S3.1 0 12) = 0 then (zbind (F_X5_hasRead 0 S3) (fun r5 S4 =>
chk (20 + r5) 25 (zlet (sL S4 19 (20 + r5).toNatClampNeg (S4.2 0 11) : zSt) (fun S7 : zSt =>
chk (20 + r5) 25 (zlet (sI S7 20 (20 + r5).toNatClampNeg w1 : zSt) (fun S9 : zSt =>
joinK (fun  (S11 : zSt) => chk 12 15 (chk 12 15 (zlet (sI S11 18 (12 : Int32).toNatClampNeg ((S11.1 18 (12 : Int32).toNatClampNeg) + 1) : zSt) (fun S14 : zSt =>
zbind (F_X5_next S14) (fun _ S15 =>
some ((), S15)))))) (fun k10 : zSt → Option (Unit × zSt) =>
loopK (fun _ _ => none) (LB_X5_nameHere_1 w1 r5 k10) zfuel 0 S9))))))) else (some ((), S3))) (fun j2 : zSt → Option (Unit × zSt) =>
joinK (fun  (S25 : zSt) => zbind (F_X5_fails 2 S25) (fun _ S26 =>
j2 S26)) (fun j24 : zSt → Option (Unit × zSt) =>
if 8 < w1 then (j24 S) else (zbind (F_X5_namedIn 4 (S.2 0 11) S) (fun r28 S27 =>
if r28 = (-1) then (zbind (F_X5_hasRead 0 S27) (fun r30 S29 =>
if r30 = 5 then (zbind (F_X5_fails 3 S29) (fun _ S31 =>
j2 S31)) else (j2 S29))) else (j24 S27))))))) else (zbind (F_X5_fails 1 S) (fun _ S32 =>
some ((), S32)))) else (some ((), S))
theorem mv_X5_nameHere : ZV mX5_nameHere yX5_nameHere 0 := ⟨q1661, qs90, q155, q1662, rfl, by decide, by decide, by decide +kernel⟩
theorem ct_X5_nameHere {G : zGw} (hG : zGM G)  : Zc mX5_nameHere yX5_nameHere zJV G [.ref (G.1 0)] (F_X5_nameHere) := by
  refine Zc_of [some (.ref (G.1 0)), none, none, none] (by decide) rfl rfl (Nat.le_of_ble_eq_true rfl) rfl (fun X S res => ?_)
  unfold F_X5_nameHere
  refine z_aload_n (pc := 0) 0 dX5_nameHere_0 rfl rfl ?_
  refine gf_X5_M_183_0 hG (pc := 1) dX5_nameHere_1 ?_
  refine z_if_eq (pc := 4) 8 dX5_nameHere_4 rfl ?_ ?_
  · refine z_aload_n (pc := 8) 0 dX5_nameHere_8 rfl rfl ?_
    refine gf_X5_M_172_0 hG (pc := 9) dX5_nameHere_9 ?_
    refine z_iconst (pc := 12) (v := 1) dX5_nameHere_12 (by decide) ?_
    refine z_icmp_eq (pc := 13) 22 dX5_nameHere_13 rfl ?_ ?_
    · refine z_aload_n (pc := 22) 0 dX5_nameHere_22 rfl rfl ?_
      refine gf_X5_M_155_0 hG (pc := 23) dX5_nameHere_23 ?_
      refine z_aload_n (pc := 26) 0 dX5_nameHere_26 rfl rfl ?_
      refine gf_X5_M_162_0 hG (pc := 27) dX5_nameHere_27 ?_
      refine z_isub (pc := 30) dX5_nameHere_30 ?_
      refine z_letI (fun w1 => ?_)
      refine z_istore_n (pc := 31) 1 dX5_nameHere_31 rfl (Nat.le_of_ble_eq_true rfl) rfl ?_
      refine z_iload_n (pc := 32) 1 dX5_nameHere_32 rfl rfl ?_
      refine z_bipush (pc := 33) (v := 8) dX5_nameHere_33 (by decide) ?_
      refine z_join (fun j : zSt → Option (Unit × zSt) => ∀  (S3 : zSt), Zm X mX5_nameHere zJV G (0, 0) res S3 73 [some (.ref (G.1 0)), some (.int w1), none, none] [] (j S3)) ?_ (fun j2 hj2 => ?_)
      · intro S3
        refine z_aload_n (pc := 73) 0 dX5_nameHere_73 rfl rfl ?_
        refine gf_X5_M_183_0 hG (pc := 74) dX5_nameHere_74 ?_
        refine z_if_eq (pc := 77) 81 dX5_nameHere_77 rfl ?_ ?_
        · refine z_bipush (pc := 81) (v := 20) dX5_nameHere_81 (by decide) ?_
          refine z_aload_n (pc := 83) 0 dX5_nameHere_83 rfl rfl ?_
          refine z_iconst (pc := 84) (v := 0) dX5_nameHere_84 (by decide) ?_
          refine z_callVi (pc := 85) _ _ 0 5 (ct_X5_hasRead hG _) mv_X5_hasRead q1667 rfl (zGM_s0 hG) rfl (Nat.le_of_ble_eq_true rfl) (Nat.le_of_ble_eq_true rfl) rfl rfl (Nat.le_of_ble_eq_true rfl) dX5_nameHere_85 (fun r5 S4 => ?_)
          refine z_iadd (pc := 88) dX5_nameHere_88 ?_
          refine z_istore_n (pc := 89) 2 dX5_nameHere_89 rfl (Nat.le_of_ble_eq_true rfl) rfl ?_
          refine z_aload_n (pc := 90) 0 dX5_nameHere_90 rfl rfl ?_
          refine gf_X5_M_37_0 hG (pc := 91) dX5_nameHere_91 ?_
          refine z_iload_n (pc := 94) 2 dX5_nameHere_94 rfl rfl ?_
          refine z_aload_n (pc := 95) 0 dX5_nameHere_95 rfl rfl ?_
          refine gf_X5_M_168_0 hG (pc := 96) dX5_nameHere_96 ?_
          refine z_chk (fun h6 => ?_)
          refine z_lastore (pc := 99) 19 25 (zGM_s19 hG) h6 dX5_nameHere_99 ?_
          refine z_letS (fun S7 => ?_)
          refine z_aload_n (pc := 100) 0 dX5_nameHere_100 rfl rfl ?_
          refine gf_X5_M_40_0 hG (pc := 101) dX5_nameHere_101 ?_
          refine z_iload_n (pc := 104) 2 dX5_nameHere_104 rfl rfl ?_
          refine z_iload_n (pc := 105) 1 dX5_nameHere_105 rfl rfl ?_
          refine z_chk (fun h8 => ?_)
          refine z_iastore (pc := 106) 20 25 (zGM_s20 hG) h8 dX5_nameHere_106 ?_
          refine z_letS (fun S9 => ?_)
          refine z_iconst (pc := 107) (v := 0) dX5_nameHere_107 (by decide) ?_
          refine z_istore_n (pc := 108) 3 dX5_nameHere_108 rfl (Nat.le_of_ble_eq_true rfl) rfl ?_
          refine z_join (fun j : zSt → Option (Unit × zSt) => ∀  (S11 : zSt), Zm X mX5_nameHere zJV G (0, 0) res S11 142 [some (.ref (G.1 0)), none, none, none] [] (j S11)) ?_ (fun k10 hk10 => ?_)
          · intro S11
            refine z_aload_n (pc := 142) 0 dX5_nameHere_142 rfl rfl ?_
            refine gf_X5_M_34_0 hG (pc := 143) dX5_nameHere_143 ?_
            refine z_bipush (pc := 146) (v := 12) dX5_nameHere_146 (by decide) ?_
            refine z_dup2 (pc := 148) dX5_nameHere_148 rfl rfl ?_
            refine z_chk (fun h12 => ?_)
            refine z_iaload (pc := 149) 18 15 (zGM_s18 hG) h12 dX5_nameHere_149 ?_
            refine z_iconst (pc := 150) (v := 1) dX5_nameHere_150 (by decide) ?_
            refine z_iadd (pc := 151) dX5_nameHere_151 ?_
            refine z_chk (fun h13 => ?_)
            refine z_iastore (pc := 152) 18 15 (zGM_s18 hG) h13 dX5_nameHere_152 ?_
            refine z_letS (fun S14 => ?_)
            refine z_aload_n (pc := 153) 0 dX5_nameHere_153 rfl rfl ?_
            refine z_callVv (pc := 154) _ _ 0 5 (ct_X5_next hG) mv_X5_next q1620 rfl (zGM_s0 hG) rfl (Nat.le_of_ble_eq_true rfl) (Nat.le_of_ble_eq_true rfl) rfl rfl (Nat.le_of_ble_eq_true rfl) dX5_nameHere_154 (fun _ S15 => ?_)
            exact z_vret rfl dX5_nameHere_157 rfl
          · refine z_loopK (fun j : Int32 → zSt → Option (Unit × zSt) => ∀ (x17 : Int32) (S18 : zSt), Zm X mX5_nameHere zJV G (0, 0) res S18 109 [some (.ref (G.1 0)), some (.int w1), some (.int (20 + r5)), some (.int x17)] [] (j x17 S18)) ?_ ?_ zfuel _ _
            · intro x17 S18; exact z_none
            · intro rec16 hrec16 x17 S18
              unfold LB_X5_nameHere_1
              refine z_iload_n (pc := 109) 3 dX5_nameHere_109 rfl rfl ?_
              refine z_iload_n (pc := 110) 1 dX5_nameHere_110 rfl rfl ?_
              refine z_icmp_ge (pc := 111) 142 dX5_nameHere_111 rfl ?_ ?_
              · exact z_mask [true, false, false, false] (hk10 _) rfl
              · refine z_aload_n (pc := 114) 0 dX5_nameHere_114 rfl rfl ?_
                refine gf_X5_M_43_0 hG (pc := 115) dX5_nameHere_115 ?_
                refine z_bipush (pc := 118) (v := 8) dX5_nameHere_118 (by decide) ?_
                refine z_iload_n (pc := 120) 2 dX5_nameHere_120 rfl rfl ?_
                refine z_imul (pc := 121) dX5_nameHere_121 ?_
                refine z_iload_n (pc := 122) 3 dX5_nameHere_122 rfl rfl ?_
                refine z_iadd (pc := 123) dX5_nameHere_123 ?_
                refine z_aload_n (pc := 124) 0 dX5_nameHere_124 rfl rfl ?_
                refine gf_X5_M_23_0 hG (pc := 125) dX5_nameHere_125 ?_
                refine z_aload_n (pc := 128) 0 dX5_nameHere_128 rfl rfl ?_
                refine gf_X5_M_162_0 hG (pc := 129) dX5_nameHere_129 ?_
                refine z_iload_n (pc := 132) 3 dX5_nameHere_132 rfl rfl ?_
                refine z_iadd (pc := 133) dX5_nameHere_133 ?_
                refine z_letI (fun w19 => ?_)
                refine z_chk (fun h20 => ?_)
                refine z_baload (pc := 134) 6 1400 (zGM_s6 hG) h20 dX5_nameHere_134 ?_
                refine z_letI2 (fun w21 => ?_)
                refine z_chk (fun h22 => ?_)
                refine z_iastore (pc := 135) 21 200 (zGM_s21 hG) h22 dX5_nameHere_135 ?_
                refine z_letS (fun S23 => ?_)
                refine z_iinc (pc := 136) (w := x17 + 1) dX5_nameHere_136 rfl (by rw [show Int32.ofInt 1 = 1 from by decide]) (Nat.le_of_ble_eq_true rfl) rfl ?_
                refine z_goto (pc := 139) 109 dX5_nameHere_139 rfl ?_
                exact hrec16 _ _
        · exact z_vret rfl dX5_nameHere_80 rfl
      · refine z_join (fun j : zSt → Option (Unit × zSt) => ∀  (S25 : zSt), Zm X mX5_nameHere zJV G (0, 0) res S25 51 [some (.ref (G.1 0)), some (.int w1), none, none] [] (j S25)) ?_ (fun j24 hj24 => ?_)
        · intro S25
          refine z_aload_n (pc := 51) 0 dX5_nameHere_51 rfl rfl ?_
          refine z_iconst (pc := 52) (v := 2) dX5_nameHere_52 (by decide) ?_
          refine z_callVv (pc := 53) _ _ 0 5 (ct_X5_fails hG _) mv_X5_fails q1654 rfl (zGM_s0 hG) rfl (Nat.le_of_ble_eq_true rfl) (Nat.le_of_ble_eq_true rfl) rfl rfl (Nat.le_of_ble_eq_true rfl) dX5_nameHere_53 (fun _ S26 => ?_)
          refine z_goto (pc := 56) 73 dX5_nameHere_56 rfl ?_
          exact hj2 _
        · refine z_icmp_gt (pc := 35) 51 dX5_nameHere_35 rfl ?_ ?_
          · exact hj24 _
          · refine z_aload_n (pc := 38) 0 dX5_nameHere_38 rfl rfl ?_
            refine z_iconst (pc := 39) (v := 4) dX5_nameHere_39 (by decide) ?_
            refine z_aload_n (pc := 40) 0 dX5_nameHere_40 rfl rfl ?_
            refine gf_X5_M_168_0 hG (pc := 41) dX5_nameHere_41 ?_
            refine z_callVi (pc := 44) _ _ 0 5 (ct_X5_namedIn hG _ _) mv_X5_namedIn q1663 rfl (zGM_s0 hG) rfl (Nat.le_of_ble_eq_true rfl) (Nat.le_of_ble_eq_true rfl) rfl rfl (Nat.le_of_ble_eq_true rfl) dX5_nameHere_44 (fun r28 S27 => ?_)
            refine z_iconst (pc := 47) (v := (-1)) dX5_nameHere_47 (by decide) ?_
            refine z_icmp_eq (pc := 48) 59 dX5_nameHere_48 rfl ?_ ?_
            · refine z_aload_n (pc := 59) 0 dX5_nameHere_59 rfl rfl ?_
              refine z_iconst (pc := 60) (v := 0) dX5_nameHere_60 (by decide) ?_
              refine z_callVi (pc := 61) _ _ 0 5 (ct_X5_hasRead hG _) mv_X5_hasRead q1667 rfl (zGM_s0 hG) rfl (Nat.le_of_ble_eq_true rfl) (Nat.le_of_ble_eq_true rfl) rfl rfl (Nat.le_of_ble_eq_true rfl) dX5_nameHere_61 (fun r30 S29 => ?_)
              refine z_iconst (pc := 64) (v := 5) dX5_nameHere_64 (by decide) ?_
              refine z_icmp_ne (pc := 65) 73 dX5_nameHere_65 rfl ?_ ?_
              · exact hj2 _
              · refine z_aload_n (pc := 68) 0 dX5_nameHere_68 rfl rfl ?_
                refine z_iconst (pc := 69) (v := 3) dX5_nameHere_69 (by decide) ?_
                refine z_callVv (pc := 70) _ _ 0 5 (ct_X5_fails hG _) mv_X5_fails q1654 rfl (zGM_s0 hG) rfl (Nat.le_of_ble_eq_true rfl) (Nat.le_of_ble_eq_true rfl) rfl rfl (Nat.le_of_ble_eq_true rfl) dX5_nameHere_70 (fun _ S31 => ?_)
                exact hj2 _
            · exact hj24 _
    · refine z_aload_n (pc := 16) 0 dX5_nameHere_16 rfl rfl ?_
      refine z_iconst (pc := 17) (v := 1) dX5_nameHere_17 (by decide) ?_
      refine z_callVv (pc := 18) _ _ 0 5 (ct_X5_fails hG _) mv_X5_fails q1654 rfl (zGM_s0 hG) rfl (Nat.le_of_ble_eq_true rfl) (Nat.le_of_ble_eq_true rfl) rfl rfl (Nat.le_of_ble_eq_true rfl) dX5_nameHere_18 (fun _ S32 => ?_)
      exact z_vret rfl dX5_nameHere_21 rfl
  · exact z_vret rfl dX5_nameHere_7 rfl
abbrev mX5_first : zMr := ("HiddenCubeModel", cX5_first, 1, none, 5, 0, 0, none)
def LB_X5_first_1 (rec5 : zSt → Option (Unit × zSt))  (S6 : zSt) : Option (Unit × zSt) :=
zbind (F_X5_isGood S6) (fun r8 S7 =>
if r8 = 0 then (some ((), S7)) else (if (S7.1 0 8) = 1 then (zbind (F_X5_nameHere S7) (fun _ S9 =>
rec5 S9)) else (some ((), S7))))
def F_X5_first  (S : zSt) : Option (Unit × zSt) :=
zbind (F_X5_asks 405230 S) (fun _ S1 =>
zbind (F_X5_asks 7469488 S1) (fun _ S2 =>
zbind (F_X5_nameHere S2) (fun _ S3 =>
zbind (F_X5_nameHere S3) (fun _ S4 =>
loopK (fun _ => none) (LB_X5_first_1) zfuel S4))))
theorem mv_X5_first : ZV mX5_first yX5_first 0 := ⟨q1639, qs85, q155, q1640, rfl, by decide, by decide, by decide +kernel⟩
theorem ct_X5_first {G : zGw} (hG : zGM G)  : Zc mX5_first yX5_first zJV G [.ref (G.1 0)] (F_X5_first) := by
  refine Zc_of [some (.ref (G.1 0))] (by decide) rfl rfl (Nat.le_of_ble_eq_true rfl) rfl (fun X S res => ?_)
  unfold F_X5_first
  refine z_aload_n (pc := 0) 0 dX5_first_0 rfl rfl ?_
  refine z_ldc2 (pc := 1) (v := 405230) dX5_first_1 q1641 ?_
  refine z_callVv (pc := 4) _ _ 0 5 (ct_X5_asks hG _) mv_X5_asks q1642 rfl (zGM_s0 hG) rfl (Nat.le_of_ble_eq_true rfl) (Nat.le_of_ble_eq_true rfl) rfl rfl (Nat.le_of_ble_eq_true rfl) dX5_first_4 (fun _ S1 => ?_)
  refine z_aload_n (pc := 7) 0 dX5_first_7 rfl rfl ?_
  refine z_ldc2 (pc := 8) (v := 7469488) dX5_first_8 q1658 ?_
  refine z_callVv (pc := 11) _ _ 0 5 (ct_X5_asks hG _) mv_X5_asks q1642 rfl (zGM_s0 hG) rfl (Nat.le_of_ble_eq_true rfl) (Nat.le_of_ble_eq_true rfl) rfl rfl (Nat.le_of_ble_eq_true rfl) dX5_first_11 (fun _ S2 => ?_)
  refine z_aload_n (pc := 14) 0 dX5_first_14 rfl rfl ?_
  refine z_callVv (pc := 15) _ _ 0 5 (ct_X5_nameHere hG) mv_X5_nameHere q1659 rfl (zGM_s0 hG) rfl (Nat.le_of_ble_eq_true rfl) (Nat.le_of_ble_eq_true rfl) rfl rfl (Nat.le_of_ble_eq_true rfl) dX5_first_15 (fun _ S3 => ?_)
  refine z_aload_n (pc := 18) 0 dX5_first_18 rfl rfl ?_
  refine z_callVv (pc := 19) _ _ 0 5 (ct_X5_nameHere hG) mv_X5_nameHere q1659 rfl (zGM_s0 hG) rfl (Nat.le_of_ble_eq_true rfl) (Nat.le_of_ble_eq_true rfl) rfl rfl (Nat.le_of_ble_eq_true rfl) dX5_first_19 (fun _ S4 => ?_)
  refine z_loopK (fun j : zSt → Option (Unit × zSt) => ∀  (S6 : zSt), Zm X mX5_first zJV G (0, 0) res S6 22 [some (.ref (G.1 0))] [] (j S6)) ?_ ?_ zfuel _
  · intro S6; exact z_none
  · intro rec5 hrec5 S6
    unfold LB_X5_first_1
    refine z_aload_n (pc := 22) 0 dX5_first_22 rfl rfl ?_
    refine z_callVi (pc := 23) _ _ 0 5 (ct_X5_isGood hG) mv_X5_isGood q1633 rfl (zGM_s0 hG) rfl (Nat.le_of_ble_eq_true rfl) (Nat.le_of_ble_eq_true rfl) rfl rfl (Nat.le_of_ble_eq_true rfl) dX5_first_23 (fun r8 S7 => ?_)
    refine z_if_eq (pc := 26) 44 dX5_first_26 rfl ?_ ?_
    · exact z_vret rfl dX5_first_44 rfl
    · refine z_aload_n (pc := 29) 0 dX5_first_29 rfl rfl ?_
      refine gf_X5_M_172_0 hG (pc := 30) dX5_first_30 ?_
      refine z_iconst (pc := 33) (v := 1) dX5_first_33 (by decide) ?_
      refine z_icmp_ne (pc := 34) 44 dX5_first_34 rfl ?_ ?_
      · exact z_vret rfl dX5_first_44 rfl
      · refine z_aload_n (pc := 37) 0 dX5_first_37 rfl rfl ?_
        refine z_callVv (pc := 38) _ _ 0 5 (ct_X5_nameHere hG) mv_X5_nameHere q1659 rfl (zGM_s0 hG) rfl (Nat.le_of_ble_eq_true rfl) (Nat.le_of_ble_eq_true rfl) rfl rfl (Nat.le_of_ble_eq_true rfl) dX5_first_38 (fun _ S9 => ?_)
        refine z_goto (pc := 41) 22 dX5_first_41 rfl ?_
        exact hrec5 _
abbrev mX5_town : zMr := ("HiddenCubeModel", cX5_town, 1, (some .int), 7, 0, 0, none)
def LB_X5_town_1 (k4 : zSt → Option (Int32 × zSt)) (rec9 : zSt → Option (Int32 × zSt))  (S10 : zSt) : Option (Int32 × zSt) :=
zbind (F_X5_isGood S10) (fun r12 S11 =>
if r12 = 0 then (k4 S11) else (if (S11.1 0 8) = 0 then (k4 S11) else (chk 4 5 (joinK (fun  (S15 : zSt) => zbind (F_X5_isGood S15) (fun r17 S16 =>
joinK (fun  (S19 : zSt) => chk 4 5 (chk 4 5 (zlet (sI S19 17 (4 : Int32).toNatClampNeg ((S19.1 17 (4 : Int32).toNatClampNeg) + 1) : zSt) (fun S22 : zSt =>
rec9 S22)))) (fun j18 : zSt → Option (Int32 × zSt) =>
if r17 = 0 then (j18 S16) else (zbind (F_X5_ends S16) (fun _ S23 =>
j18 S23))))) (fun j14 : zSt → Option (Int32 × zSt) =>
if (S11.1 17 (4 : Int32).toNatClampNeg) = 0 then (zbind (F_X5_first S11) (fun _ S25 =>
j14 S25)) else (zbind (F_X5_line S11) (fun _ S24 =>
j14 S24)))))))
def F_X5_town  (S : zSt) : Option (Int32 × zSt) :=
zlet (sI S 0 0 0 : zSt) (fun S1 : zSt =>
zbind (F_X5_clears S1) (fun _ S2 =>
zbind (F_X5_begins S2) (fun _ S3 =>
joinK (fun  (S5 : zSt) => zbind (F_X5_isOver S5) (fun _ S6 =>
if (S6.1 0 12) = 0 then (zbind (F_X5_copyTown 4 0 S6) (fun _ S7 =>
chk 0 5 (some (S7.1 17 (0 : Int32).toNatClampNeg, S7)))) else (some ((-4), S6)))) (fun k4 : zSt → Option (Int32 × zSt) =>
loopK (fun _ => none) (LB_X5_town_1 k4) zfuel S3))))
theorem mv_X5_town : ZV mX5_town yX5_town 0 := ⟨q1609, q1610, q155, q1611, rfl, by decide, by decide, by decide +kernel⟩
theorem ct_X5_town {G : zGw} (hG : zGM G)  : Zc mX5_town yX5_town zJI G [.ref (G.1 0)] (F_X5_town) := by
  refine Zc_of [some (.ref (G.1 0))] (by decide) rfl rfl (Nat.le_of_ble_eq_true rfl) rfl (fun X S res => ?_)
  unfold F_X5_town
  refine z_aload_n (pc := 0) 0 dX5_town_0 rfl rfl ?_
  refine z_iconst (pc := 1) (v := 0) dX5_town_1 (by decide) ?_
  refine pf_X5_M_131_0 hG (pc := 2) dX5_town_2 ?_
  refine z_letS (fun S1 => ?_)
  refine z_aload_n (pc := 5) 0 dX5_town_5 rfl rfl ?_
  refine z_callVv (pc := 6) _ _ 0 5 (ct_X5_clears hG) mv_X5_clears q1612 rfl (zGM_s0 hG) rfl (Nat.le_of_ble_eq_true rfl) (Nat.le_of_ble_eq_true rfl) rfl rfl (Nat.le_of_ble_eq_true rfl) dX5_town_6 (fun _ S2 => ?_)
  refine z_aload_n (pc := 9) 0 dX5_town_9 rfl rfl ?_
  refine z_callVv (pc := 10) _ _ 0 5 (ct_X5_begins hG) mv_X5_begins q1616 rfl (zGM_s0 hG) rfl (Nat.le_of_ble_eq_true rfl) (Nat.le_of_ble_eq_true rfl) rfl rfl (Nat.le_of_ble_eq_true rfl) dX5_town_10 (fun _ S3 => ?_)
  refine z_join (fun j : zSt → Option (Int32 × zSt) => ∀  (S5 : zSt), Zm X mX5_town zJI G (0, 0) res S5 71 [some (.ref (G.1 0))] [] (j S5)) ?_ (fun k4 hk4 => ?_)
  · intro S5
    refine z_aload_n (pc := 71) 0 dX5_town_71 rfl rfl ?_
    refine z_callVv (pc := 72) _ _ 0 5 (ct_X5_isOver hG) mv_X5_isOver q1698 rfl (zGM_s0 hG) rfl (Nat.le_of_ble_eq_true rfl) (Nat.le_of_ble_eq_true rfl) rfl rfl (Nat.le_of_ble_eq_true rfl) dX5_town_72 (fun _ S6 => ?_)
    refine z_aload_n (pc := 75) 0 dX5_town_75 rfl rfl ?_
    refine gf_X5_M_183_0 hG (pc := 76) dX5_town_76 ?_
    refine z_if_eq (pc := 79) 85 dX5_town_79 rfl ?_ ?_
    · refine z_aload_n (pc := 85) 0 dX5_town_85 rfl rfl ?_
      refine z_iconst (pc := 86) (v := 4) dX5_town_86 (by decide) ?_
      refine z_iconst (pc := 87) (v := 0) dX5_town_87 (by decide) ?_
      refine z_callVv (pc := 88) _ _ 0 5 (ct_X5_copyTown hG _ _) mv_X5_copyTown q1702 rfl (zGM_s0 hG) rfl (Nat.le_of_ble_eq_true rfl) (Nat.le_of_ble_eq_true rfl) rfl rfl (Nat.le_of_ble_eq_true rfl) dX5_town_88 (fun _ S7 => ?_)
      refine z_aload_n (pc := 91) 0 dX5_town_91 rfl rfl ?_
      refine gf_X5_M_31_0 hG (pc := 92) dX5_town_92 ?_
      refine z_iconst (pc := 95) (v := 0) dX5_town_95 (by decide) ?_
      refine z_chk (fun h8 => ?_)
      refine z_iaload (pc := 96) 17 5 (zGM_s17 hG) h8 dX5_town_96 ?_
      exact z_iret rfl dX5_town_97 rfl
    · refine z_bipush (pc := 82) (v := (-4)) dX5_town_82 (by decide) ?_
      exact z_iret rfl dX5_town_84 rfl
  · refine z_loopK (fun j : zSt → Option (Int32 × zSt) => ∀  (S10 : zSt), Zm X mX5_town zJI G (0, 0) res S10 13 [some (.ref (G.1 0))] [] (j S10)) ?_ ?_ zfuel _
    · intro S10; exact z_none
    · intro rec9 hrec9 S10
      unfold LB_X5_town_1
      refine z_aload_n (pc := 13) 0 dX5_town_13 rfl rfl ?_
      refine z_callVi (pc := 14) _ _ 0 5 (ct_X5_isGood hG) mv_X5_isGood q1633 rfl (zGM_s0 hG) rfl (Nat.le_of_ble_eq_true rfl) (Nat.le_of_ble_eq_true rfl) rfl rfl (Nat.le_of_ble_eq_true rfl) dX5_town_14 (fun r12 S11 => ?_)
      refine z_if_eq (pc := 17) 71 dX5_town_17 rfl ?_ ?_
      · exact hk4 _
      · refine z_aload_n (pc := 20) 0 dX5_town_20 rfl rfl ?_
        refine gf_X5_M_172_0 hG (pc := 21) dX5_town_21 ?_
        refine z_if_eq (pc := 24) 71 dX5_town_24 rfl ?_ ?_
        · exact hk4 _
        · refine z_aload_n (pc := 27) 0 dX5_town_27 rfl rfl ?_
          refine gf_X5_M_31_0 hG (pc := 28) dX5_town_28 ?_
          refine z_iconst (pc := 31) (v := 4) dX5_town_31 (by decide) ?_
          refine z_chk (fun h13 => ?_)
          refine z_iaload (pc := 32) 17 5 (zGM_s17 hG) h13 dX5_town_32 ?_
          refine z_join (fun j : zSt → Option (Int32 × zSt) => ∀  (S15 : zSt), Zm X mX5_town zJI G (0, 0) res S15 47 [some (.ref (G.1 0))] [] (j S15)) ?_ (fun j14 hj14 => ?_)
          · intro S15
            refine z_aload_n (pc := 47) 0 dX5_town_47 rfl rfl ?_
            refine z_callVi (pc := 48) _ _ 0 5 (ct_X5_isGood hG) mv_X5_isGood q1633 rfl (zGM_s0 hG) rfl (Nat.le_of_ble_eq_true rfl) (Nat.le_of_ble_eq_true rfl) rfl rfl (Nat.le_of_ble_eq_true rfl) dX5_town_48 (fun r17 S16 => ?_)
            refine z_join (fun j : zSt → Option (Int32 × zSt) => ∀  (S19 : zSt), Zm X mX5_town zJI G (0, 0) res S19 58 [some (.ref (G.1 0))] [] (j S19)) ?_ (fun j18 hj18 => ?_)
            · intro S19
              refine z_aload_n (pc := 58) 0 dX5_town_58 rfl rfl ?_
              refine gf_X5_M_31_0 hG (pc := 59) dX5_town_59 ?_
              refine z_iconst (pc := 62) (v := 4) dX5_town_62 (by decide) ?_
              refine z_dup2 (pc := 63) dX5_town_63 rfl rfl ?_
              refine z_chk (fun h20 => ?_)
              refine z_iaload (pc := 64) 17 5 (zGM_s17 hG) h20 dX5_town_64 ?_
              refine z_iconst (pc := 65) (v := 1) dX5_town_65 (by decide) ?_
              refine z_iadd (pc := 66) dX5_town_66 ?_
              refine z_chk (fun h21 => ?_)
              refine z_iastore (pc := 67) 17 5 (zGM_s17 hG) h21 dX5_town_67 ?_
              refine z_letS (fun S22 => ?_)
              refine z_goto (pc := 68) 13 dX5_town_68 rfl ?_
              exact hrec9 _
            · refine z_if_eq (pc := 51) 58 dX5_town_51 rfl ?_ ?_
              · exact hj18 _
              · refine z_aload_n (pc := 54) 0 dX5_town_54 rfl rfl ?_
                refine z_callVv (pc := 55) _ _ 0 5 (ct_X5_ends hG) mv_X5_ends q1694 rfl (zGM_s0 hG) rfl (Nat.le_of_ble_eq_true rfl) (Nat.le_of_ble_eq_true rfl) rfl rfl (Nat.le_of_ble_eq_true rfl) dX5_town_55 (fun _ S23 => ?_)
                exact hj18 _
          · refine z_if_ne (pc := 33) 43 dX5_town_33 rfl ?_ ?_
            · refine z_aload_n (pc := 43) 0 dX5_town_43 rfl rfl ?_
              refine z_callVv (pc := 44) _ _ 0 5 (ct_X5_line hG) mv_X5_line q1671 rfl (zGM_s0 hG) rfl (Nat.le_of_ble_eq_true rfl) (Nat.le_of_ble_eq_true rfl) rfl rfl (Nat.le_of_ble_eq_true rfl) dX5_town_44 (fun _ S24 => ?_)
              exact hj14 _
            · refine z_aload_n (pc := 36) 0 dX5_town_36 rfl rfl ?_
              refine z_callVv (pc := 37) _ _ 0 5 (ct_X5_first hG) mv_X5_first q1637 rfl (zGM_s0 hG) rfl (Nat.le_of_ble_eq_true rfl) (Nat.le_of_ble_eq_true rfl) rfl rfl (Nat.le_of_ble_eq_true rfl) dX5_town_37 (fun _ S25 => ?_)
              refine z_goto (pc := 40) 47 dX5_town_40 rfl ?_
              exact hj14 _
abbrev mX5_isName : zMr := ("HiddenCubeModel", cX5_isName, 2, (some .boolean), 2, 0, 0, none)
def F_X5_isName (a1 : Int32) (S : zSt) : Option (Int32 × zSt) :=
chk 0 15 (zbind (F_X5_in ((a1).toInt64) 0 (((S.1 18 (0 : Int32).toNatClampNeg) - 1).toInt64) S) (fun r3 S2 =>
some (r3 &&& 1, S2)))
theorem mv_X5_isName : ZV mX5_isName yX5_isName 1 := ⟨q1715, qs100, q155, q1716, rfl, by decide, by decide, by decide +kernel⟩
theorem ct_X5_isName {G : zGw} (hG : zGM G) (a1 : Int32) : Zc mX5_isName yX5_isName zJI G [.ref (G.1 0), .int a1] (F_X5_isName a1) := by
  refine Zc_of [some (.ref (G.1 0)), some (.int a1)] (by decide) rfl rfl (Nat.le_of_ble_eq_true rfl) rfl (fun X S res => ?_)
  unfold F_X5_isName
  refine z_iload_n (pc := 0) 1 dX5_isName_0 rfl rfl ?_
  refine z_i2l (pc := 1) dX5_isName_1 ?_
  refine z_lconst (pc := 2) (v := 0) dX5_isName_2 (by decide) ?_
  refine z_aload_n (pc := 3) 0 dX5_isName_3 rfl rfl ?_
  refine gf_X5_M_34_0 hG (pc := 4) dX5_isName_4 ?_
  refine z_iconst (pc := 7) (v := 0) dX5_isName_7 (by decide) ?_
  refine z_chk (fun h1 => ?_)
  refine z_iaload (pc := 8) 18 15 (zGM_s18 hG) h1 dX5_isName_8 ?_
  refine z_iconst (pc := 9) (v := 1) dX5_isName_9 (by decide) ?_
  refine z_isub (pc := 10) dX5_isName_10 ?_
  refine z_i2l (pc := 11) dX5_isName_11 ?_
  refine z_callSi (pc := 12) _ _ (ct_X5_in  _ _ _) mv_X5_in q1578 rfl (Nat.le_of_ble_eq_true rfl) (Nat.le_of_ble_eq_true rfl) rfl rfl (Nat.le_of_ble_eq_true rfl) dX5_isName_12 (fun r3 S2 => ?_)
  exact z_zret rfl rfl dX5_isName_15 rfl
abbrev mX5_letter : zMr := ("HiddenCubeModel", cX5_letter, 3, (some .int), 3, 0, 0, none)
def F_X5_letter (a1 : Int32) (a2 : Int32) (S : zSt) : Option (Int32 × zSt) :=
zlet (sI S 0 0 0 : zSt) (fun S1 : zSt =>
zbind (F_X5_isName a1 S1) (fun r3 S2 =>
if r3 = 0 then (some ((-2), S2)) else (chk a1 25 (zbind (F_X5_in ((a2).toInt64) 0 (((S2.1 20 (a1).toNatClampNeg) - 1).toInt64) S2) (fun r6 S5 =>
if r6 = 0 then (some ((-1), S5)) else (chk ((8 * a1) + a2) 200 (some (S5.1 21 ((8 * a1) + a2).toNatClampNeg, S5))))))))
theorem mv_X5_letter : ZV mX5_letter yX5_letter 2 := ⟨q1710, q1711, q155, q1712, rfl, by decide, by decide, by decide +kernel⟩
theorem ct_X5_letter {G : zGw} (hG : zGM G) (a1 : Int32) (a2 : Int32) : Zc mX5_letter yX5_letter zJI G [.ref (G.1 0), .int a1, .int a2] (F_X5_letter a1 a2) := by
  refine Zc_of [some (.ref (G.1 0)), some (.int a1), some (.int a2)] (by decide) rfl rfl (Nat.le_of_ble_eq_true rfl) rfl (fun X S res => ?_)
  unfold F_X5_letter
  refine z_aload_n (pc := 0) 0 dX5_letter_0 rfl rfl ?_
  refine z_iconst (pc := 1) (v := 0) dX5_letter_1 (by decide) ?_
  refine pf_X5_M_131_0 hG (pc := 2) dX5_letter_2 ?_
  refine z_letS (fun S1 => ?_)
  refine z_aload_n (pc := 5) 0 dX5_letter_5 rfl rfl ?_
  refine z_iload_n (pc := 6) 1 dX5_letter_6 rfl rfl ?_
  refine z_callVi (pc := 7) _ _ 0 5 (ct_X5_isName hG _) mv_X5_isName q1713 rfl (zGM_s0 hG) rfl (Nat.le_of_ble_eq_true rfl) (Nat.le_of_ble_eq_true rfl) rfl rfl (Nat.le_of_ble_eq_true rfl) dX5_letter_7 (fun r3 S2 => ?_)
  refine z_if_ne (pc := 10) 18 dX5_letter_10 rfl ?_ ?_
  · refine z_iload_n (pc := 18) 2 dX5_letter_18 rfl rfl ?_
    refine z_i2l (pc := 19) dX5_letter_19 ?_
    refine z_lconst (pc := 20) (v := 0) dX5_letter_20 (by decide) ?_
    refine z_aload_n (pc := 21) 0 dX5_letter_21 rfl rfl ?_
    refine gf_X5_M_40_0 hG (pc := 22) dX5_letter_22 ?_
    refine z_iload_n (pc := 25) 1 dX5_letter_25 rfl rfl ?_
    refine z_chk (fun h4 => ?_)
    refine z_iaload (pc := 26) 20 25 (zGM_s20 hG) h4 dX5_letter_26 ?_
    refine z_iconst (pc := 27) (v := 1) dX5_letter_27 (by decide) ?_
    refine z_isub (pc := 28) dX5_letter_28 ?_
    refine z_i2l (pc := 29) dX5_letter_29 ?_
    refine z_callSi (pc := 30) _ _ (ct_X5_in  _ _ _) mv_X5_in q1578 rfl (Nat.le_of_ble_eq_true rfl) (Nat.le_of_ble_eq_true rfl) rfl rfl (Nat.le_of_ble_eq_true rfl) dX5_letter_30 (fun r6 S5 => ?_)
    refine z_if_eq (pc := 33) 50 dX5_letter_33 rfl ?_ ?_
    · refine z_iconst (pc := 50) (v := (-1)) dX5_letter_50 (by decide) ?_
      exact z_iret rfl dX5_letter_51 rfl
    · refine z_aload_n (pc := 36) 0 dX5_letter_36 rfl rfl ?_
      refine gf_X5_M_43_0 hG (pc := 37) dX5_letter_37 ?_
      refine z_bipush (pc := 40) (v := 8) dX5_letter_40 (by decide) ?_
      refine z_iload_n (pc := 42) 1 dX5_letter_42 rfl rfl ?_
      refine z_imul (pc := 43) dX5_letter_43 ?_
      refine z_iload_n (pc := 44) 2 dX5_letter_44 rfl rfl ?_
      refine z_iadd (pc := 45) dX5_letter_45 ?_
      refine z_chk (fun h7 => ?_)
      refine z_iaload (pc := 46) 21 200 (zGM_s21 hG) h7 dX5_letter_46 ?_
      refine z_goto (pc := 47) 51 dX5_letter_47 rfl ?_
      exact z_iret rfl dX5_letter_51 rfl
  · refine z_bipush (pc := 13) (v := (-2)) dX5_letter_13 (by decide) ?_
    refine z_goto (pc := 15) 51 dX5_letter_15 rfl ?_
    exact z_iret rfl dX5_letter_51 rfl
abbrev mX5_isTown : zMr := ("HiddenCubeModel", cX5_isTown, 1, (some .boolean), 1, 0, 0, none)
def F_X5_isTown  (S : zSt) : Option (Int32 × zSt) :=
chk 0 5 (if (S.1 17 (0 : Int32).toNatClampNeg) ≤ 0 then (some (0, S)) else (some (1, S)))
theorem mv_X5_isTown : ZV mX5_isTown yX5_isTown 0 := ⟨q1731, qs103, q155, q1732, rfl, by decide, by decide, by decide +kernel⟩
theorem ct_X5_isTown {G : zGw} (hG : zGM G)  : Zc mX5_isTown yX5_isTown zJI G [.ref (G.1 0)] (F_X5_isTown) := by
  refine Zc_of [some (.ref (G.1 0))] (by decide) rfl rfl (Nat.le_of_ble_eq_true rfl) rfl (fun X S res => ?_)
  unfold F_X5_isTown
  refine z_aload_n (pc := 0) 0 dX5_isTown_0 rfl rfl ?_
  refine gf_X5_M_31_0 hG (pc := 1) dX5_isTown_1 ?_
  refine z_iconst (pc := 4) (v := 0) dX5_isTown_4 (by decide) ?_
  refine z_chk (fun h1 => ?_)
  refine z_iaload (pc := 5) 17 5 (zGM_s17 hG) h1 dX5_isTown_5 ?_
  refine z_if_le (pc := 6) 13 dX5_isTown_6 rfl ?_ ?_
  · refine z_iconst (pc := 13) (v := 0) dX5_isTown_13 (by decide) ?_
    exact z_zret0 rfl dX5_isTown_14 rfl
  · refine z_iconst (pc := 9) (v := 1) dX5_isTown_9 (by decide) ?_
    refine z_goto (pc := 10) 14 dX5_isTown_10 rfl ?_
    exact z_zret1 rfl dX5_isTown_14 rfl
abbrev mX5_squares : zMr := ("HiddenCubeModel", cX5_squares, 1, (some .int), 2, 0, 0, none)
def F_X5_squares  (S : zSt) : Option (Int32 × zSt) :=
zbind (F_X5_isTown S) (fun r2 S1 =>
if r2 = 0 then (some (0, S1)) else (chk 0 15 (some ((1 : Int32) <<< ((S1.1 18 (0 : Int32).toNatClampNeg) &&& 31), S1))))
theorem mv_X5_squares : ZV mX5_squares yX5_squares 0 := ⟨q1727, qs102, q155, q1728, rfl, by decide, by decide, by decide +kernel⟩
theorem ct_X5_squares {G : zGw} (hG : zGM G)  : Zc mX5_squares yX5_squares zJI G [.ref (G.1 0)] (F_X5_squares) := by
  refine Zc_of [some (.ref (G.1 0))] (by decide) rfl rfl (Nat.le_of_ble_eq_true rfl) rfl (fun X S res => ?_)
  unfold F_X5_squares
  refine z_aload_n (pc := 0) 0 dX5_squares_0 rfl rfl ?_
  refine z_callVi (pc := 1) _ _ 0 5 (ct_X5_isTown hG) mv_X5_isTown q1729 rfl (zGM_s0 hG) rfl (Nat.le_of_ble_eq_true rfl) (Nat.le_of_ble_eq_true rfl) rfl rfl (Nat.le_of_ble_eq_true rfl) dX5_squares_1 (fun r2 S1 => ?_)
  refine z_if_eq (pc := 4) 18 dX5_squares_4 rfl ?_ ?_
  · refine z_iconst (pc := 18) (v := 0) dX5_squares_18 (by decide) ?_
    exact z_iret rfl dX5_squares_19 rfl
  · refine z_iconst (pc := 7) (v := 1) dX5_squares_7 (by decide) ?_
    refine z_aload_n (pc := 8) 0 dX5_squares_8 rfl rfl ?_
    refine gf_X5_M_34_0 hG (pc := 9) dX5_squares_9 ?_
    refine z_iconst (pc := 12) (v := 0) dX5_squares_12 (by decide) ?_
    refine z_chk (fun h3 => ?_)
    refine z_iaload (pc := 13) 18 15 (zGM_s18 hG) h3 dX5_squares_13 ?_
    refine z_ishl (pc := 14) dX5_squares_14 ?_
    refine z_goto (pc := 15) 19 dX5_squares_15 rfl ?_
    exact z_iret rfl dX5_squares_19 rfl
abbrev mX5_isSquare : zMr := ("HiddenCubeModel", cX5_isSquare, 3, (some .boolean), 3, 0, 0, none)
def F_X5_isSquare (a1 : Int64) (S : zSt) : Option (Int32 × zSt) :=
zbind (F_X5_squares S) (fun r2 S1 =>
zbind (F_X5_in a1 0 (((r2).toInt64) - 1) S1) (fun r4 S3 =>
some (r4 &&& 1, S3)))
theorem mv_X5_isSquare : ZV mX5_isSquare yX5_isSquare 1 := ⟨q1723, qs101, q155, q1724, rfl, by decide, by decide, by decide +kernel⟩
theorem ct_X5_isSquare {G : zGw} (hG : zGM G) (a1 : Int64) : Zc mX5_isSquare yX5_isSquare zJI G [.ref (G.1 0), .long a1] (F_X5_isSquare a1) := by
  refine Zc_of [some (.ref (G.1 0)), some (.long a1), none] (by decide) rfl rfl (Nat.le_of_ble_eq_true rfl) rfl (fun X S res => ?_)
  unfold F_X5_isSquare
  refine z_lload_n (pc := 0) 1 dX5_isSquare_0 rfl rfl ?_
  refine z_lconst (pc := 1) (v := 0) dX5_isSquare_1 (by decide) ?_
  refine z_aload_n (pc := 2) 0 dX5_isSquare_2 rfl rfl ?_
  refine z_callVi (pc := 3) _ _ 0 5 (ct_X5_squares hG) mv_X5_squares q1725 rfl (zGM_s0 hG) rfl (Nat.le_of_ble_eq_true rfl) (Nat.le_of_ble_eq_true rfl) rfl rfl (Nat.le_of_ble_eq_true rfl) dX5_isSquare_3 (fun r2 S1 => ?_)
  refine z_i2l (pc := 6) dX5_isSquare_6 ?_
  refine z_lconst (pc := 7) (v := 1) dX5_isSquare_7 (by decide) ?_
  refine z_lsub (pc := 8) dX5_isSquare_8 ?_
  refine z_callSi (pc := 9) _ _ (ct_X5_in  _ _ _) mv_X5_in q1578 rfl (Nat.le_of_ble_eq_true rfl) (Nat.le_of_ble_eq_true rfl) rfl rfl (Nat.le_of_ble_eq_true rfl) dX5_isSquare_9 (fun r4 S3 => ?_)
  exact z_zret rfl rfl dX5_isSquare_12 rfl
abbrev mX5_isBit : zMr := ("HiddenCubeModel", cX5_isBit, 2, (some .boolean), 1, 0, 0, none)
def F_X5_isBit (a1 : Int32) (a2 : Int32) (S : zSt) : Option (Int32 × zSt) :=
if ((a1 >>> (a2 &&& 31)) &&& 1) = 1 then (some (1, S)) else (some (0, S))
theorem mv_X5_isBit : ZS mX5_isBit yX5_isBit 2 := ⟨q1738, q155, q1739, by decide, by decide, by decide +kernel⟩
theorem ct_X5_isBit {G : zGw} (a1 : Int32) (a2 : Int32) : Zc mX5_isBit yX5_isBit zJI G [.int a1, .int a2] (F_X5_isBit a1 a2) := by
  refine Zc_of [some (.int a1), some (.int a2)] (by decide) rfl rfl (Nat.le_of_ble_eq_true rfl) rfl (fun X S res => ?_)
  unfold F_X5_isBit
  refine z_iload_n (pc := 0) 0 dX5_isBit_0 rfl rfl ?_
  refine z_iload_n (pc := 1) 1 dX5_isBit_1 rfl rfl ?_
  refine z_ishr (pc := 2) dX5_isBit_2 ?_
  refine z_iconst (pc := 3) (v := 1) dX5_isBit_3 (by decide) ?_
  refine z_iand (pc := 4) dX5_isBit_4 ?_
  refine z_iconst (pc := 5) (v := 1) dX5_isBit_5 (by decide) ?_
  refine z_icmp_ne (pc := 6) 13 dX5_isBit_6 rfl ?_ ?_
  · refine z_iconst (pc := 13) (v := 0) dX5_isBit_13 (by decide) ?_
    exact z_zret0 rfl dX5_isBit_14 rfl
  · refine z_iconst (pc := 9) (v := 1) dX5_isBit_9 (by decide) ?_
    refine z_goto (pc := 10) 14 dX5_isBit_10 rfl ?_
    exact z_zret1 rfl dX5_isBit_14 rfl
abbrev mX5_isOpen : zMr := ("HiddenCubeModel", cX5_isOpen, 3, (some .boolean), 2, 0, 0, none)
def F_X5_isOpen (a1 : Int32) (a2 : Int32) (S : zSt) : Option (Int32 × zSt) :=
chk a1 160 (zbind (F_X5_isBit (S.1 22 (a1).toNatClampNeg) a2 S) (fun r3 S2 =>
if r3 = 0 then (some (1, S2)) else (some (0, S2))))
theorem mv_X5_isOpen : ZV mX5_isOpen yX5_isOpen 2 := ⟨q1735, qs104, q155, q1736, rfl, by decide, by decide, by decide +kernel⟩
theorem ct_X5_isOpen {G : zGw} (hG : zGM G) (a1 : Int32) (a2 : Int32) : Zc mX5_isOpen yX5_isOpen zJI G [.ref (G.1 0), .int a1, .int a2] (F_X5_isOpen a1 a2) := by
  refine Zc_of [some (.ref (G.1 0)), some (.int a1), some (.int a2)] (by decide) rfl rfl (Nat.le_of_ble_eq_true rfl) rfl (fun X S res => ?_)
  unfold F_X5_isOpen
  refine z_aload_n (pc := 0) 0 dX5_isOpen_0 rfl rfl ?_
  refine gf_X5_M_46_0 hG (pc := 1) dX5_isOpen_1 ?_
  refine z_iload_n (pc := 4) 1 dX5_isOpen_4 rfl rfl ?_
  refine z_chk (fun h1 => ?_)
  refine z_iaload (pc := 5) 22 160 (zGM_s22 hG) h1 dX5_isOpen_5 ?_
  refine z_iload_n (pc := 6) 2 dX5_isOpen_6 rfl rfl ?_
  refine z_callSi (pc := 7) _ _ (ct_X5_isBit  _ _) mv_X5_isBit q1737 rfl (Nat.le_of_ble_eq_true rfl) (Nat.le_of_ble_eq_true rfl) rfl rfl (Nat.le_of_ble_eq_true rfl) dX5_isOpen_7 (fun r3 S2 => ?_)
  refine z_if_ne (pc := 10) 17 dX5_isOpen_10 rfl ?_ ?_
  · refine z_iconst (pc := 17) (v := 0) dX5_isOpen_17 (by decide) ?_
    exact z_zret0 rfl dX5_isOpen_18 rfl
  · refine z_iconst (pc := 13) (v := 1) dX5_isOpen_13 (by decide) ?_
    refine z_goto (pc := 14) 18 dX5_isOpen_14 rfl ?_
    exact z_zret1 rfl dX5_isOpen_18 rfl
abbrev mX5_open : zMr := ("HiddenCubeModel", cX5_open, 3, (some .int), 4, 0, 0, none)
def F_X5_open (a1 : Int32) (a2 : Int32) (S : zSt) : Option (Int32 × zSt) :=
zlet (sI S 0 0 0 : zSt) (fun S1 : zSt =>
zbind (F_X5_isSquare ((a1).toInt64) S1) (fun r3 S2 =>
if r3 = 0 then (some ((-2), S2)) else (zbind (F_X5_isName a2 S2) (fun r5 S4 =>
if r5 = 0 then (some ((-2), S4)) else (zbind (F_X5_isOpen a1 a2 S4) (fun r7 S6 =>
if r7 = 0 then (some (0, S6)) else (some (1, S6))))))))
theorem mv_X5_open : ZV mX5_open yX5_open 2 := ⟨q1718, q1719, q155, q1720, rfl, by decide, by decide, by decide +kernel⟩
theorem ct_X5_open {G : zGw} (hG : zGM G) (a1 : Int32) (a2 : Int32) : Zc mX5_open yX5_open zJI G [.ref (G.1 0), .int a1, .int a2] (F_X5_open a1 a2) := by
  refine Zc_of [some (.ref (G.1 0)), some (.int a1), some (.int a2)] (by decide) rfl rfl (Nat.le_of_ble_eq_true rfl) rfl (fun X S res => ?_)
  unfold F_X5_open
  refine z_aload_n (pc := 0) 0 dX5_open_0 rfl rfl ?_
  refine z_iconst (pc := 1) (v := 0) dX5_open_1 (by decide) ?_
  refine pf_X5_M_131_0 hG (pc := 2) dX5_open_2 ?_
  refine z_letS (fun S1 => ?_)
  refine z_aload_n (pc := 5) 0 dX5_open_5 rfl rfl ?_
  refine z_iload_n (pc := 6) 1 dX5_open_6 rfl rfl ?_
  refine z_i2l (pc := 7) dX5_open_7 ?_
  refine z_callVi (pc := 8) _ _ 0 5 (ct_X5_isSquare hG _) mv_X5_isSquare q1721 rfl (zGM_s0 hG) rfl (Nat.le_of_ble_eq_true rfl) (Nat.le_of_ble_eq_true rfl) rfl rfl (Nat.le_of_ble_eq_true rfl) dX5_open_8 (fun r3 S2 => ?_)
  refine z_if_eq (pc := 11) 39 dX5_open_11 rfl ?_ ?_
  · refine z_bipush (pc := 39) (v := (-2)) dX5_open_39 (by decide) ?_
    exact z_iret rfl dX5_open_41 rfl
  · refine z_aload_n (pc := 14) 0 dX5_open_14 rfl rfl ?_
    refine z_iload_n (pc := 15) 2 dX5_open_15 rfl rfl ?_
    refine z_callVi (pc := 16) _ _ 0 5 (ct_X5_isName hG _) mv_X5_isName q1713 rfl (zGM_s0 hG) rfl (Nat.le_of_ble_eq_true rfl) (Nat.le_of_ble_eq_true rfl) rfl rfl (Nat.le_of_ble_eq_true rfl) dX5_open_16 (fun r5 S4 => ?_)
    refine z_if_eq (pc := 19) 39 dX5_open_19 rfl ?_ ?_
    · refine z_bipush (pc := 39) (v := (-2)) dX5_open_39 (by decide) ?_
      exact z_iret rfl dX5_open_41 rfl
    · refine z_aload_n (pc := 22) 0 dX5_open_22 rfl rfl ?_
      refine z_iload_n (pc := 23) 1 dX5_open_23 rfl rfl ?_
      refine z_iload_n (pc := 24) 2 dX5_open_24 rfl rfl ?_
      refine z_callVi (pc := 25) _ _ 0 5 (ct_X5_isOpen hG _ _) mv_X5_isOpen q1733 rfl (zGM_s0 hG) rfl (Nat.le_of_ble_eq_true rfl) (Nat.le_of_ble_eq_true rfl) rfl rfl (Nat.le_of_ble_eq_true rfl) dX5_open_25 (fun r7 S6 => ?_)
      refine z_if_eq (pc := 28) 35 dX5_open_28 rfl ?_ ?_
      · refine z_iconst (pc := 35) (v := 0) dX5_open_35 (by decide) ?_
        refine z_goto (pc := 36) 41 dX5_open_36 rfl ?_
        exact z_iret rfl dX5_open_41 rfl
      · refine z_iconst (pc := 31) (v := 1) dX5_open_31 (by decide) ?_
        refine z_goto (pc := 32) 41 dX5_open_32 rfl ?_
        exact z_iret rfl dX5_open_41 rfl
abbrev mX5_step : zMr := ("HiddenCubeModel", cX5_step, 3, (some .int), 4, 0, 0, none)
def F_X5_step (a1 : Int32) (a2 : Int32) (S : zSt) : Option (Int32 × zSt) :=
zlet (sI S 0 0 0 : zSt) (fun S1 : zSt =>
zbind (F_X5_isSquare ((a1).toInt64) S1) (fun r3 S2 =>
if r3 = 0 then (some ((-2), S2)) else (zbind (F_X5_isName a2 S2) (fun r5 S4 =>
if r5 = 0 then (some ((-2), S4)) else (zbind (F_X5_isOpen a1 a2 S4) (fun r7 S6 =>
if r7 = 0 then (some ((-1), S6)) else (some (a1 ^^^ ((1 : Int32) <<< (a2 &&& 31)), S6))))))))
theorem mv_X5_step : ZV mX5_step yX5_step 2 := ⟨q1741, q1742, q155, q1743, rfl, by decide, by decide, by decide +kernel⟩
theorem ct_X5_step {G : zGw} (hG : zGM G) (a1 : Int32) (a2 : Int32) : Zc mX5_step yX5_step zJI G [.ref (G.1 0), .int a1, .int a2] (F_X5_step a1 a2) := by
  refine Zc_of [some (.ref (G.1 0)), some (.int a1), some (.int a2)] (by decide) rfl rfl (Nat.le_of_ble_eq_true rfl) rfl (fun X S res => ?_)
  unfold F_X5_step
  refine z_aload_n (pc := 0) 0 dX5_step_0 rfl rfl ?_
  refine z_iconst (pc := 1) (v := 0) dX5_step_1 (by decide) ?_
  refine pf_X5_M_131_0 hG (pc := 2) dX5_step_2 ?_
  refine z_letS (fun S1 => ?_)
  refine z_aload_n (pc := 5) 0 dX5_step_5 rfl rfl ?_
  refine z_iload_n (pc := 6) 1 dX5_step_6 rfl rfl ?_
  refine z_i2l (pc := 7) dX5_step_7 ?_
  refine z_callVi (pc := 8) _ _ 0 5 (ct_X5_isSquare hG _) mv_X5_isSquare q1721 rfl (zGM_s0 hG) rfl (Nat.le_of_ble_eq_true rfl) (Nat.le_of_ble_eq_true rfl) rfl rfl (Nat.le_of_ble_eq_true rfl) dX5_step_8 (fun r3 S2 => ?_)
  refine z_if_eq (pc := 11) 43 dX5_step_11 rfl ?_ ?_
  · refine z_bipush (pc := 43) (v := (-2)) dX5_step_43 (by decide) ?_
    exact z_iret rfl dX5_step_45 rfl
  · refine z_aload_n (pc := 14) 0 dX5_step_14 rfl rfl ?_
    refine z_iload_n (pc := 15) 2 dX5_step_15 rfl rfl ?_
    refine z_callVi (pc := 16) _ _ 0 5 (ct_X5_isName hG _) mv_X5_isName q1713 rfl (zGM_s0 hG) rfl (Nat.le_of_ble_eq_true rfl) (Nat.le_of_ble_eq_true rfl) rfl rfl (Nat.le_of_ble_eq_true rfl) dX5_step_16 (fun r5 S4 => ?_)
    refine z_if_eq (pc := 19) 43 dX5_step_19 rfl ?_ ?_
    · refine z_bipush (pc := 43) (v := (-2)) dX5_step_43 (by decide) ?_
      exact z_iret rfl dX5_step_45 rfl
    · refine z_aload_n (pc := 22) 0 dX5_step_22 rfl rfl ?_
      refine z_iload_n (pc := 23) 1 dX5_step_23 rfl rfl ?_
      refine z_iload_n (pc := 24) 2 dX5_step_24 rfl rfl ?_
      refine z_callVi (pc := 25) _ _ 0 5 (ct_X5_isOpen hG _ _) mv_X5_isOpen q1733 rfl (zGM_s0 hG) rfl (Nat.le_of_ble_eq_true rfl) (Nat.le_of_ble_eq_true rfl) rfl rfl (Nat.le_of_ble_eq_true rfl) dX5_step_25 (fun r7 S6 => ?_)
      refine z_if_eq (pc := 28) 39 dX5_step_28 rfl ?_ ?_
      · refine z_iconst (pc := 39) (v := (-1)) dX5_step_39 (by decide) ?_
        refine z_goto (pc := 40) 45 dX5_step_40 rfl ?_
        exact z_iret rfl dX5_step_45 rfl
      · refine z_iload_n (pc := 31) 1 dX5_step_31 rfl rfl ?_
        refine z_iconst (pc := 32) (v := 1) dX5_step_32 (by decide) ?_
        refine z_iload_n (pc := 33) 2 dX5_step_33 rfl rfl ?_
        refine z_ishl (pc := 34) dX5_step_34 ?_
        refine z_ixor (pc := 35) dX5_step_35 ?_
        refine z_goto (pc := 36) 45 dX5_step_36 rfl ?_
        exact z_iret rfl dX5_step_45 rfl
abbrev mX5_sets : zMr := ("HiddenCubeModel", cX5_sets, 5, none, 1, 0, 0, none)
def F_X5_sets (a1 : Int32) (a2 : Int32) (a3 : Int32) (S : zSt) : Option (Unit × zSt) :=
joinK (fun (v2 : Int32) => chk a1 160 (zlet (sI S 22 (a1).toNatClampNeg v2 : zSt) (fun S4 : zSt =>
zlet (a1 ^^^ ((1 : Int32) <<< (a2 &&& 31)) : Int32) (fun w5 : Int32 =>
joinK (fun (v7 : Int32) => chk w5 160 (zlet (sI S4 22 (w5).toNatClampNeg v7 : zSt) (fun S9 : zSt =>
some ((), S9)))) (fun j6 : Int32 → Option (Unit × zSt) =>
if a3 = 0 then (chk w5 160 (j6 ((S4.1 22 (w5).toNatClampNeg) &&& (((1 : Int32) <<< (a2 &&& 31)) ^^^ (-1))))) else (chk w5 160 (j6 ((S4.1 22 (w5).toNatClampNeg) ||| ((1 : Int32) <<< (a2 &&& 31)))))))))) (fun j1 : Int32 → Option (Unit × zSt) =>
if a3 = 0 then (chk a1 160 (j1 ((S.1 22 (a1).toNatClampNeg) &&& (((1 : Int32) <<< (a2 &&& 31)) ^^^ (-1))))) else (chk a1 160 (j1 ((S.1 22 (a1).toNatClampNeg) ||| ((1 : Int32) <<< (a2 &&& 31))))))
theorem mv_X5_sets : ZV mX5_sets yX5_sets 3 := ⟨q1750, qs105, q155, q1751, rfl, by decide, by decide, by decide +kernel⟩
theorem ct_X5_sets {G : zGw} (hG : zGM G) (a1 : Int32) (a2 : Int32) (a3 : Int32) : Zc mX5_sets yX5_sets zJV G [.ref (G.1 0), .int a1, .int a2, .int a3] (F_X5_sets a1 a2 a3) := by
  refine Zc_of [some (.ref (G.1 0)), some (.int a1), some (.int a2), some (.int a3), none] (by decide) rfl rfl (Nat.le_of_ble_eq_true rfl) rfl (fun X S res => ?_)
  unfold F_X5_sets
  refine z_aload_n (pc := 0) 0 dX5_sets_0 rfl rfl ?_
  refine gf_X5_M_46_0 hG (pc := 1) dX5_sets_1 ?_
  refine z_iload_n (pc := 4) 1 dX5_sets_4 rfl rfl ?_
  refine z_iload_n (pc := 5) 3 dX5_sets_5 rfl rfl ?_
  refine z_join (fun j : Int32 → Option (Unit × zSt) => ∀ (v2 : Int32), Zm X mX5_sets zJV G (0, 0) res S 34 [some (.ref (G.1 0)), some (.int a1), some (.int a2), some (.int a3), none] [.int v2, .int a1, .ref (G.1 22)] (j v2)) ?_ (fun j1 hj1 => ?_)
  · intro v2
    refine z_chk (fun h3 => ?_)
    refine z_iastore (pc := 34) 22 160 (zGM_s22 hG) h3 dX5_sets_34 ?_
    refine z_letS (fun S4 => ?_)
    refine z_iload_n (pc := 35) 1 dX5_sets_35 rfl rfl ?_
    refine z_iconst (pc := 36) (v := 1) dX5_sets_36 (by decide) ?_
    refine z_iload_n (pc := 37) 2 dX5_sets_37 rfl rfl ?_
    refine z_ishl (pc := 38) dX5_sets_38 ?_
    refine z_ixor (pc := 39) dX5_sets_39 ?_
    refine z_letI (fun w5 => ?_)
    refine z_istore (pc := 40) dX5_sets_40 (Nat.le_of_ble_eq_true rfl) rfl ?_
    refine z_aload_n (pc := 42) 0 dX5_sets_42 rfl rfl ?_
    refine gf_X5_M_46_0 hG (pc := 43) dX5_sets_43 ?_
    refine z_iload (pc := 46) dX5_sets_46 rfl ?_
    refine z_iload_n (pc := 48) 3 dX5_sets_48 rfl rfl ?_
    refine z_join (fun j : Int32 → Option (Unit × zSt) => ∀ (v7 : Int32), Zm X mX5_sets zJV G (0, 0) res S4 79 [none, none, none, none, none] [.int v7, .int w5, .ref (G.1 22)] (j v7)) ?_ (fun j6 hj6 => ?_)
    · intro v7
      refine z_chk (fun h8 => ?_)
      refine z_iastore (pc := 79) 22 160 (zGM_s22 hG) h8 dX5_sets_79 ?_
      refine z_letS (fun S9 => ?_)
      exact z_vret rfl dX5_sets_80 rfl
    · refine z_if_eq (pc := 49) 66 dX5_sets_49 rfl ?_ ?_
      · refine z_aload_n (pc := 66) 0 dX5_sets_66 rfl rfl ?_
        refine gf_X5_M_46_0 hG (pc := 67) dX5_sets_67 ?_
        refine z_iload (pc := 70) dX5_sets_70 rfl ?_
        refine z_chk (fun h10 => ?_)
        refine z_iaload (pc := 72) 22 160 (zGM_s22 hG) h10 dX5_sets_72 ?_
        refine z_iconst (pc := 73) (v := 1) dX5_sets_73 (by decide) ?_
        refine z_iload_n (pc := 74) 2 dX5_sets_74 rfl rfl ?_
        refine z_ishl (pc := 75) dX5_sets_75 ?_
        refine z_iconst (pc := 76) (v := (-1)) dX5_sets_76 (by decide) ?_
        refine z_ixor (pc := 77) dX5_sets_77 ?_
        refine z_iand (pc := 78) dX5_sets_78 ?_
        exact z_mask [false, false, false, false, false] (hj6 _) rfl
      · refine z_aload_n (pc := 52) 0 dX5_sets_52 rfl rfl ?_
        refine gf_X5_M_46_0 hG (pc := 53) dX5_sets_53 ?_
        refine z_iload (pc := 56) dX5_sets_56 rfl ?_
        refine z_chk (fun h11 => ?_)
        refine z_iaload (pc := 58) 22 160 (zGM_s22 hG) h11 dX5_sets_58 ?_
        refine z_iconst (pc := 59) (v := 1) dX5_sets_59 (by decide) ?_
        refine z_iload_n (pc := 60) 2 dX5_sets_60 rfl rfl ?_
        refine z_ishl (pc := 61) dX5_sets_61 ?_
        refine z_ior (pc := 62) dX5_sets_62 ?_
        refine z_goto (pc := 63) 79 dX5_sets_63 rfl ?_
        exact z_mask [false, false, false, false, false] (hj6 _) rfl
  · refine z_if_eq (pc := 6) 22 dX5_sets_6 rfl ?_ ?_
    · refine z_aload_n (pc := 22) 0 dX5_sets_22 rfl rfl ?_
      refine gf_X5_M_46_0 hG (pc := 23) dX5_sets_23 ?_
      refine z_iload_n (pc := 26) 1 dX5_sets_26 rfl rfl ?_
      refine z_chk (fun h12 => ?_)
      refine z_iaload (pc := 27) 22 160 (zGM_s22 hG) h12 dX5_sets_27 ?_
      refine z_iconst (pc := 28) (v := 1) dX5_sets_28 (by decide) ?_
      refine z_iload_n (pc := 29) 2 dX5_sets_29 rfl rfl ?_
      refine z_ishl (pc := 30) dX5_sets_30 ?_
      refine z_iconst (pc := 31) (v := (-1)) dX5_sets_31 (by decide) ?_
      refine z_ixor (pc := 32) dX5_sets_32 ?_
      refine z_iand (pc := 33) dX5_sets_33 ?_
      exact hj1 _
    · refine z_aload_n (pc := 9) 0 dX5_sets_9 rfl rfl ?_
      refine gf_X5_M_46_0 hG (pc := 10) dX5_sets_10 ?_
      refine z_iload_n (pc := 13) 1 dX5_sets_13 rfl rfl ?_
      refine z_chk (fun h13 => ?_)
      refine z_iaload (pc := 14) 22 160 (zGM_s22 hG) h13 dX5_sets_14 ?_
      refine z_iconst (pc := 15) (v := 1) dX5_sets_15 (by decide) ?_
      refine z_iload_n (pc := 16) 2 dX5_sets_16 rfl rfl ?_
      refine z_ishl (pc := 17) dX5_sets_17 ?_
      refine z_ior (pc := 18) dX5_sets_18 ?_
      refine z_goto (pc := 19) 34 dX5_sets_19 rfl ?_
      exact hj1 _
abbrev mX5_shut : zMr := ("HiddenCubeModel", cX5_shut, 5, (some .int), 4, 0, 0, none)
def F_X5_shut (a1 : Int32) (a2 : Int32) (a3 : Int32) (S : zSt) : Option (Int32 × zSt) :=
zlet (sI S 0 0 0 : zSt) (fun S1 : zSt =>
zbind (F_X5_isSquare ((a1).toInt64) S1) (fun r3 S2 =>
if r3 = 0 then (some ((-2), S2)) else (zbind (F_X5_isName a2 S2) (fun r5 S4 =>
if r5 = 0 then (some ((-2), S4)) else (zbind (F_X5_in ((a3).toInt64) 0 1 S4) (fun r7 S6 =>
if r7 = 0 then (some ((-2), S6)) else (chk a1 160 (zlet (((S6.1 22 (a1).toNatClampNeg) >>> (a2 &&& 31)) &&& 1 : Int32) (fun w9 : Int32 =>
zbind (F_X5_sets a1 a2 (if a3 = 1 then 1 else 0) S6) (fun _ S11 =>
some (w9, S11)))))))))))
theorem mv_X5_shut : ZV mX5_shut yX5_shut 3 := ⟨q1745, q1746, q155, q1747, rfl, by decide, by decide, by decide +kernel⟩
theorem ct_X5_shut {G : zGw} (hG : zGM G) (a1 : Int32) (a2 : Int32) (a3 : Int32) : Zc mX5_shut yX5_shut zJI G [.ref (G.1 0), .int a1, .int a2, .int a3] (F_X5_shut a1 a2 a3) := by
  refine Zc_of [some (.ref (G.1 0)), some (.int a1), some (.int a2), some (.int a3), none] (by decide) rfl rfl (Nat.le_of_ble_eq_true rfl) rfl (fun X S res => ?_)
  unfold F_X5_shut
  refine z_aload_n (pc := 0) 0 dX5_shut_0 rfl rfl ?_
  refine z_iconst (pc := 1) (v := 0) dX5_shut_1 (by decide) ?_
  refine pf_X5_M_131_0 hG (pc := 2) dX5_shut_2 ?_
  refine z_letS (fun S1 => ?_)
  refine z_aload_n (pc := 5) 0 dX5_shut_5 rfl rfl ?_
  refine z_iload_n (pc := 6) 1 dX5_shut_6 rfl rfl ?_
  refine z_i2l (pc := 7) dX5_shut_7 ?_
  refine z_callVi (pc := 8) _ _ 0 5 (ct_X5_isSquare hG _) mv_X5_isSquare q1721 rfl (zGM_s0 hG) rfl (Nat.le_of_ble_eq_true rfl) (Nat.le_of_ble_eq_true rfl) rfl rfl (Nat.le_of_ble_eq_true rfl) dX5_shut_8 (fun r3 S2 => ?_)
  refine z_if_eq (pc := 11) 32 dX5_shut_11 rfl ?_ ?_
  · refine z_bipush (pc := 32) (v := (-2)) dX5_shut_32 (by decide) ?_
    exact z_iret rfl dX5_shut_34 rfl
  · refine z_aload_n (pc := 14) 0 dX5_shut_14 rfl rfl ?_
    refine z_iload_n (pc := 15) 2 dX5_shut_15 rfl rfl ?_
    refine z_callVi (pc := 16) _ _ 0 5 (ct_X5_isName hG _) mv_X5_isName q1713 rfl (zGM_s0 hG) rfl (Nat.le_of_ble_eq_true rfl) (Nat.le_of_ble_eq_true rfl) rfl rfl (Nat.le_of_ble_eq_true rfl) dX5_shut_16 (fun r5 S4 => ?_)
    refine z_if_eq (pc := 19) 32 dX5_shut_19 rfl ?_ ?_
    · refine z_bipush (pc := 32) (v := (-2)) dX5_shut_32 (by decide) ?_
      exact z_iret rfl dX5_shut_34 rfl
    · refine z_iload_n (pc := 22) 3 dX5_shut_22 rfl rfl ?_
      refine z_i2l (pc := 23) dX5_shut_23 ?_
      refine z_lconst (pc := 24) (v := 0) dX5_shut_24 (by decide) ?_
      refine z_lconst (pc := 25) (v := 1) dX5_shut_25 (by decide) ?_
      refine z_callSi (pc := 26) _ _ (ct_X5_in  _ _ _) mv_X5_in q1578 rfl (Nat.le_of_ble_eq_true rfl) (Nat.le_of_ble_eq_true rfl) rfl rfl (Nat.le_of_ble_eq_true rfl) dX5_shut_26 (fun r7 S6 => ?_)
      refine z_if_ne (pc := 29) 35 dX5_shut_29 rfl ?_ ?_
      · refine z_aload_n (pc := 35) 0 dX5_shut_35 rfl rfl ?_
        refine gf_X5_M_46_0 hG (pc := 36) dX5_shut_36 ?_
        refine z_iload_n (pc := 39) 1 dX5_shut_39 rfl rfl ?_
        refine z_chk (fun h8 => ?_)
        refine z_iaload (pc := 40) 22 160 (zGM_s22 hG) h8 dX5_shut_40 ?_
        refine z_iload_n (pc := 41) 2 dX5_shut_41 rfl rfl ?_
        refine z_ishr (pc := 42) dX5_shut_42 ?_
        refine z_iconst (pc := 43) (v := 1) dX5_shut_43 (by decide) ?_
        refine z_iand (pc := 44) dX5_shut_44 ?_
        refine z_letI (fun w9 => ?_)
        refine z_istore (pc := 45) dX5_shut_45 (Nat.le_of_ble_eq_true rfl) rfl ?_
        refine z_aload_n (pc := 47) 0 dX5_shut_47 rfl rfl ?_
        refine z_iload_n (pc := 48) 1 dX5_shut_48 rfl rfl ?_
        refine z_iload_n (pc := 49) 2 dX5_shut_49 rfl rfl ?_
        refine z_iload_n (pc := 50) 3 dX5_shut_50 rfl rfl ?_
        refine z_iconst (pc := 51) (v := 1) dX5_shut_51 (by decide) ?_
        refine z_pure (st0 := [.int a2, .int a1, .ref (G.1 0)]) 60 ((if a3 = 1 then 1 else 0)) ?_ (fun hJ => ?_)
        · refine z_callVv (pc := 60) _ _ 0 5 (ct_X5_sets hG _ _ _) mv_X5_sets q1748 rfl (zGM_s0 hG) rfl (Nat.le_of_ble_eq_true rfl) (Nat.le_of_ble_eq_true rfl) rfl rfl (Nat.le_of_ble_eq_true rfl) dX5_shut_60 (fun _ S11 => ?_)
          refine z_iload (pc := 63) dX5_shut_63 rfl ?_
          exact z_iret rfl dX5_shut_65 rfl
        · refine z_icmpd_ne (pc := 52) 59 dX5_shut_52 rfl (fun c12 => ?_) (fun c12 => ?_)
          · refine z_iconst (pc := 59) (v := 0) dX5_shut_59 (by decide) ?_
            exact z_leaf hJ (by simp only [if_neg c12])
          · refine z_iconst (pc := 55) (v := 1) dX5_shut_55 (by decide) ?_
            refine z_goto (pc := 56) 60 dX5_shut_56 rfl ?_
            exact z_leaf hJ (by simp only [if_pos c12])
      · refine z_bipush (pc := 32) (v := (-2)) dX5_shut_32 (by decide) ?_
        exact z_iret rfl dX5_shut_34 rfl
abbrev mX5_bits : zMr := ("HiddenCubeModel", cX5_bits, 3, (some .int), 1, 0, 0, none)
def LB_X5_bits_1 (S : zSt) (rec1 : Int32 → Int32 → Option (Int32 × zSt)) (x2 : Int32) (x3 : Int32) : Option (Int32 × zSt) :=
if x3 = 0 then (some (x2, S)) else (zlet (x3 &&& (x3 - 1) : Int32) (fun w4 : Int32 =>
rec1 (x2 + 1) w4))
def F_X5_bits (a1 : Int32) (S : zSt) : Option (Int32 × zSt) :=
loopK (fun _ _ => none) (LB_X5_bits_1 S) zfuel 0 a1
theorem mv_X5_bits : ZS mX5_bits yX5_bits 1 := ⟨q1757, q155, q1758, by decide, by decide, by decide +kernel⟩
theorem ct_X5_bits {G : zGw} (a1 : Int32) : Zc mX5_bits yX5_bits zJI G [.int a1] (F_X5_bits a1) := by
  refine Zc_of [some (.int a1), none, none] (by decide) rfl rfl (Nat.le_of_ble_eq_true rfl) rfl (fun X S res => ?_)
  unfold F_X5_bits
  refine z_iconst (pc := 0) (v := 0) dX5_bits_0 (by decide) ?_
  refine z_istore_n (pc := 1) 1 dX5_bits_1 rfl (Nat.le_of_ble_eq_true rfl) rfl ?_
  refine z_iload_n (pc := 2) 0 dX5_bits_2 rfl rfl ?_
  refine z_istore_n (pc := 3) 2 dX5_bits_3 rfl (Nat.le_of_ble_eq_true rfl) rfl ?_
  refine z_maskk [false, true, true] ?_
  refine z_loopK (fun j : Int32 → Int32 → Option (Int32 × zSt) => ∀ (x2 : Int32) (x3 : Int32), Zm X mX5_bits zJI G (0, 0) res S 4 [none, some (.int x2), some (.int x3)] [] (j x2 x3)) ?_ ?_ zfuel _ _
  · intro x2 x3; exact z_none
  · intro rec1 hrec1 x2 x3
    unfold LB_X5_bits_1
    refine z_iload_n (pc := 4) 2 dX5_bits_4 rfl rfl ?_
    refine z_if_eq (pc := 5) 20 dX5_bits_5 rfl ?_ ?_
    · refine z_iload_n (pc := 20) 1 dX5_bits_20 rfl rfl ?_
      exact z_iret rfl dX5_bits_21 rfl
    · refine z_iinc (pc := 8) (w := x2 + 1) dX5_bits_8 rfl (by rw [show Int32.ofInt 1 = 1 from by decide]) (Nat.le_of_ble_eq_true rfl) rfl ?_
      refine z_iload_n (pc := 11) 2 dX5_bits_11 rfl rfl ?_
      refine z_iload_n (pc := 12) 2 dX5_bits_12 rfl rfl ?_
      refine z_iconst (pc := 13) (v := 1) dX5_bits_13 (by decide) ?_
      refine z_isub (pc := 14) dX5_bits_14 ?_
      refine z_iand (pc := 15) dX5_bits_15 ?_
      refine z_letI (fun w4 => ?_)
      refine z_istore_n (pc := 16) 2 dX5_bits_16 rfl (Nat.le_of_ble_eq_true rfl) rfl ?_
      refine z_goto (pc := 17) 4 dX5_bits_17 rfl ?_
      exact hrec1 _ _
abbrev mX5_ways : zMr := ("HiddenCubeModel", cX5_ways, 2, (some .int), 4, 0, 0, none)
def F_X5_ways (a1 : Int32) (S : zSt) : Option (Int32 × zSt) :=
zlet (sI S 0 0 0 : zSt) (fun S1 : zSt =>
zbind (F_X5_isSquare ((a1).toInt64) S1) (fun r3 S2 =>
if r3 = 0 then (some ((-2), S2)) else (chk 0 15 (chk a1 160 (zbind (F_X5_bits (S2.1 22 (a1).toNatClampNeg) S2) (fun r7 S6 =>
some ((S2.1 18 (0 : Int32).toNatClampNeg) - r7, S6)))))))
theorem mv_X5_ways : ZV mX5_ways yX5_ways 1 := ⟨q1753, q1754, q155, q1755, rfl, by decide, by decide, by decide +kernel⟩
theorem ct_X5_ways {G : zGw} (hG : zGM G) (a1 : Int32) : Zc mX5_ways yX5_ways zJI G [.ref (G.1 0), .int a1] (F_X5_ways a1) := by
  refine Zc_of [some (.ref (G.1 0)), some (.int a1)] (by decide) rfl rfl (Nat.le_of_ble_eq_true rfl) rfl (fun X S res => ?_)
  unfold F_X5_ways
  refine z_aload_n (pc := 0) 0 dX5_ways_0 rfl rfl ?_
  refine z_iconst (pc := 1) (v := 0) dX5_ways_1 (by decide) ?_
  refine pf_X5_M_131_0 hG (pc := 2) dX5_ways_2 ?_
  refine z_letS (fun S1 => ?_)
  refine z_aload_n (pc := 5) 0 dX5_ways_5 rfl rfl ?_
  refine z_iload_n (pc := 6) 1 dX5_ways_6 rfl rfl ?_
  refine z_i2l (pc := 7) dX5_ways_7 ?_
  refine z_callVi (pc := 8) _ _ 0 5 (ct_X5_isSquare hG _) mv_X5_isSquare q1721 rfl (zGM_s0 hG) rfl (Nat.le_of_ble_eq_true rfl) (Nat.le_of_ble_eq_true rfl) rfl rfl (Nat.le_of_ble_eq_true rfl) dX5_ways_8 (fun r3 S2 => ?_)
  refine z_if_eq (pc := 11) 33 dX5_ways_11 rfl ?_ ?_
  · refine z_bipush (pc := 33) (v := (-2)) dX5_ways_33 (by decide) ?_
    exact z_iret rfl dX5_ways_35 rfl
  · refine z_aload_n (pc := 14) 0 dX5_ways_14 rfl rfl ?_
    refine gf_X5_M_34_0 hG (pc := 15) dX5_ways_15 ?_
    refine z_iconst (pc := 18) (v := 0) dX5_ways_18 (by decide) ?_
    refine z_chk (fun h4 => ?_)
    refine z_iaload (pc := 19) 18 15 (zGM_s18 hG) h4 dX5_ways_19 ?_
    refine z_aload_n (pc := 20) 0 dX5_ways_20 rfl rfl ?_
    refine gf_X5_M_46_0 hG (pc := 21) dX5_ways_21 ?_
    refine z_iload_n (pc := 24) 1 dX5_ways_24 rfl rfl ?_
    refine z_chk (fun h5 => ?_)
    refine z_iaload (pc := 25) 22 160 (zGM_s22 hG) h5 dX5_ways_25 ?_
    refine z_callSi (pc := 26) _ _ (ct_X5_bits  _) mv_X5_bits q1756 rfl (Nat.le_of_ble_eq_true rfl) (Nat.le_of_ble_eq_true rfl) rfl rfl (Nat.le_of_ble_eq_true rfl) dX5_ways_26 (fun r7 S6 => ?_)
    refine z_isub (pc := 29) dX5_ways_29 ?_
    refine z_goto (pc := 30) 35 dX5_ways_30 rfl ?_
    exact z_iret rfl dX5_ways_35 rfl
abbrev mX5_opposite : zMr := ("HiddenCubeModel", cX5_opposite, 2, (some .int), 4, 0, 0, none)
def F_X5_opposite (a1 : Int32) (S : zSt) : Option (Int32 × zSt) :=
zlet (sI S 0 0 0 : zSt) (fun S1 : zSt =>
zbind (F_X5_isSquare ((a1).toInt64) S1) (fun r3 S2 =>
if r3 = 0 then (some ((-2), S2)) else (zbind (F_X5_squares S2) (fun r5 S4 =>
some ((r5 - 1) - a1, S4)))))
theorem mv_X5_opposite : ZV mX5_opposite yX5_opposite 1 := ⟨q1760, q1761, q155, q1762, rfl, by decide, by decide, by decide +kernel⟩
theorem ct_X5_opposite {G : zGw} (hG : zGM G) (a1 : Int32) : Zc mX5_opposite yX5_opposite zJI G [.ref (G.1 0), .int a1] (F_X5_opposite a1) := by
  refine Zc_of [some (.ref (G.1 0)), some (.int a1)] (by decide) rfl rfl (Nat.le_of_ble_eq_true rfl) rfl (fun X S res => ?_)
  unfold F_X5_opposite
  refine z_aload_n (pc := 0) 0 dX5_opposite_0 rfl rfl ?_
  refine z_iconst (pc := 1) (v := 0) dX5_opposite_1 (by decide) ?_
  refine pf_X5_M_131_0 hG (pc := 2) dX5_opposite_2 ?_
  refine z_letS (fun S1 => ?_)
  refine z_aload_n (pc := 5) 0 dX5_opposite_5 rfl rfl ?_
  refine z_iload_n (pc := 6) 1 dX5_opposite_6 rfl rfl ?_
  refine z_i2l (pc := 7) dX5_opposite_7 ?_
  refine z_callVi (pc := 8) _ _ 0 5 (ct_X5_isSquare hG _) mv_X5_isSquare q1721 rfl (zGM_s0 hG) rfl (Nat.le_of_ble_eq_true rfl) (Nat.le_of_ble_eq_true rfl) rfl rfl (Nat.le_of_ble_eq_true rfl) dX5_opposite_8 (fun r3 S2 => ?_)
  refine z_if_eq (pc := 11) 25 dX5_opposite_11 rfl ?_ ?_
  · refine z_bipush (pc := 25) (v := (-2)) dX5_opposite_25 (by decide) ?_
    exact z_iret rfl dX5_opposite_27 rfl
  · refine z_aload_n (pc := 14) 0 dX5_opposite_14 rfl rfl ?_
    refine z_callVi (pc := 15) _ _ 0 5 (ct_X5_squares hG) mv_X5_squares q1725 rfl (zGM_s0 hG) rfl (Nat.le_of_ble_eq_true rfl) (Nat.le_of_ble_eq_true rfl) rfl rfl (Nat.le_of_ble_eq_true rfl) dX5_opposite_15 (fun r5 S4 => ?_)
    refine z_iconst (pc := 18) (v := 1) dX5_opposite_18 (by decide) ?_
    refine z_isub (pc := 19) dX5_opposite_19 ?_
    refine z_iload_n (pc := 20) 1 dX5_opposite_20 rfl rfl ?_
    refine z_isub (pc := 21) dX5_opposite_21 ?_
    refine z_goto (pc := 22) 27 dX5_opposite_22 rfl ?_
    exact z_iret rfl dX5_opposite_27 rfl
abbrev mX5_apart : zMr := ("HiddenCubeModel", cX5_apart, 3, (some .int), 4, 0, 0, none)
def F_X5_apart (a1 : Int32) (a2 : Int32) (S : zSt) : Option (Int32 × zSt) :=
zlet (sI S 0 0 0 : zSt) (fun S1 : zSt =>
zbind (F_X5_isSquare ((a1).toInt64) S1) (fun r3 S2 =>
if r3 = 0 then (some ((-2), S2)) else (zbind (F_X5_isSquare ((a2).toInt64) S2) (fun r5 S4 =>
if r5 = 0 then (some ((-2), S4)) else (zbind (F_X5_bits (a1 ^^^ a2) S4) (fun r7 S6 =>
some (r7, S6)))))))
theorem mv_X5_apart : ZV mX5_apart yX5_apart 2 := ⟨q1764, q1765, q155, q1766, rfl, by decide, by decide, by decide +kernel⟩
theorem ct_X5_apart {G : zGw} (hG : zGM G) (a1 : Int32) (a2 : Int32) : Zc mX5_apart yX5_apart zJI G [.ref (G.1 0), .int a1, .int a2] (F_X5_apart a1 a2) := by
  refine Zc_of [some (.ref (G.1 0)), some (.int a1), some (.int a2)] (by decide) rfl rfl (Nat.le_of_ble_eq_true rfl) rfl (fun X S res => ?_)
  unfold F_X5_apart
  refine z_aload_n (pc := 0) 0 dX5_apart_0 rfl rfl ?_
  refine z_iconst (pc := 1) (v := 0) dX5_apart_1 (by decide) ?_
  refine pf_X5_M_131_0 hG (pc := 2) dX5_apart_2 ?_
  refine z_letS (fun S1 => ?_)
  refine z_aload_n (pc := 5) 0 dX5_apart_5 rfl rfl ?_
  refine z_iload_n (pc := 6) 1 dX5_apart_6 rfl rfl ?_
  refine z_i2l (pc := 7) dX5_apart_7 ?_
  refine z_callVi (pc := 8) _ _ 0 5 (ct_X5_isSquare hG _) mv_X5_isSquare q1721 rfl (zGM_s0 hG) rfl (Nat.le_of_ble_eq_true rfl) (Nat.le_of_ble_eq_true rfl) rfl rfl (Nat.le_of_ble_eq_true rfl) dX5_apart_8 (fun r3 S2 => ?_)
  refine z_if_eq (pc := 11) 32 dX5_apart_11 rfl ?_ ?_
  · refine z_bipush (pc := 32) (v := (-2)) dX5_apart_32 (by decide) ?_
    exact z_iret rfl dX5_apart_34 rfl
  · refine z_aload_n (pc := 14) 0 dX5_apart_14 rfl rfl ?_
    refine z_iload_n (pc := 15) 2 dX5_apart_15 rfl rfl ?_
    refine z_i2l (pc := 16) dX5_apart_16 ?_
    refine z_callVi (pc := 17) _ _ 0 5 (ct_X5_isSquare hG _) mv_X5_isSquare q1721 rfl (zGM_s0 hG) rfl (Nat.le_of_ble_eq_true rfl) (Nat.le_of_ble_eq_true rfl) rfl rfl (Nat.le_of_ble_eq_true rfl) dX5_apart_17 (fun r5 S4 => ?_)
    refine z_if_eq (pc := 20) 32 dX5_apart_20 rfl ?_ ?_
    · refine z_bipush (pc := 32) (v := (-2)) dX5_apart_32 (by decide) ?_
      exact z_iret rfl dX5_apart_34 rfl
    · refine z_iload_n (pc := 23) 1 dX5_apart_23 rfl rfl ?_
      refine z_iload_n (pc := 24) 2 dX5_apart_24 rfl rfl ?_
      refine z_ixor (pc := 25) dX5_apart_25 ?_
      refine z_callSi (pc := 26) _ _ (ct_X5_bits  _) mv_X5_bits q1756 rfl (Nat.le_of_ble_eq_true rfl) (Nat.le_of_ble_eq_true rfl) rfl rfl (Nat.le_of_ble_eq_true rfl) dX5_apart_26 (fun r7 S6 => ?_)
      refine z_goto (pc := 29) 34 dX5_apart_29 rfl ?_
      exact z_iret rfl dX5_apart_34 rfl
abbrev mX5_streetsOf : zMr := ("HiddenCubeModel", cX5_streetsOf, 4, (some .int), 3, 0, 0, none)
def LB_X5_streetsOf_1 (a1 : Int32) (rec1 : Int32 → Int32 → zSt → Option (Int32 × zSt)) (x2 : Int32) (x3 : Int32) (S4 : zSt) : Option (Int32 × zSt) :=
zbind (F_X5_squares S4) (fun r6 S5 =>
if r6 ≤ x3 then (some (x2, S5)) else (zbind (F_X5_isBit x3 a1 S5) (fun r8 S7 =>
joinK (fun (v10 : Int32) (S11 : zSt) => rec1 (x2 + v10) (x3 + 1) S11) (fun j9 : Int32 → zSt → Option (Int32 × zSt) =>
joinK (fun  (S13 : zSt) => j9 0 S13) (fun j12 : zSt → Option (Int32 × zSt) =>
if r8 = 0 then (zbind (F_X5_isOpen x3 a1 S7) (fun r15 S14 =>
if r15 = 0 then (j12 S14) else (j9 1 S14))) else (j12 S7))))))
def F_X5_streetsOf (a1 : Int32) (S : zSt) : Option (Int32 × zSt) :=
loopK (fun _ _ _ => none) (LB_X5_streetsOf_1 a1) zfuel 0 0 S
theorem mv_X5_streetsOf : ZV mX5_streetsOf yX5_streetsOf 1 := ⟨q1773, qs106, q155, q1774, rfl, by decide, by decide, by decide +kernel⟩
theorem ct_X5_streetsOf {G : zGw} (hG : zGM G) (a1 : Int32) : Zc mX5_streetsOf yX5_streetsOf zJI G [.ref (G.1 0), .int a1] (F_X5_streetsOf a1) := by
  refine Zc_of [some (.ref (G.1 0)), some (.int a1), none, none] (by decide) rfl rfl (Nat.le_of_ble_eq_true rfl) rfl (fun X S res => ?_)
  unfold F_X5_streetsOf
  refine z_iconst (pc := 0) (v := 0) dX5_streetsOf_0 (by decide) ?_
  refine z_istore_n (pc := 1) 2 dX5_streetsOf_1 rfl (Nat.le_of_ble_eq_true rfl) rfl ?_
  refine z_iconst (pc := 2) (v := 0) dX5_streetsOf_2 (by decide) ?_
  refine z_istore_n (pc := 3) 3 dX5_streetsOf_3 rfl (Nat.le_of_ble_eq_true rfl) rfl ?_
  refine z_loopK (fun j : Int32 → Int32 → zSt → Option (Int32 × zSt) => ∀ (x2 : Int32) (x3 : Int32) (S4 : zSt), Zm X mX5_streetsOf zJI G (0, 0) res S4 4 [some (.ref (G.1 0)), some (.int a1), some (.int x2), some (.int x3)] [] (j x2 x3 S4)) ?_ ?_ zfuel _ _ _
  · intro x2 x3 S4; exact z_none
  · intro rec1 hrec1 x2 x3 S4
    unfold LB_X5_streetsOf_1
    refine z_iload_n (pc := 4) 3 dX5_streetsOf_4 rfl rfl ?_
    refine z_aload_n (pc := 5) 0 dX5_streetsOf_5 rfl rfl ?_
    refine z_callVi (pc := 6) _ _ 0 5 (ct_X5_squares hG) mv_X5_squares q1725 rfl (zGM_s0 hG) rfl (Nat.le_of_ble_eq_true rfl) (Nat.le_of_ble_eq_true rfl) rfl rfl (Nat.le_of_ble_eq_true rfl) dX5_streetsOf_6 (fun r6 S5 => ?_)
    refine z_icmp_ge (pc := 9) 43 dX5_streetsOf_9 rfl ?_ ?_
    · refine z_iload_n (pc := 43) 2 dX5_streetsOf_43 rfl rfl ?_
      exact z_iret rfl dX5_streetsOf_44 rfl
    · refine z_iload_n (pc := 12) 2 dX5_streetsOf_12 rfl rfl ?_
      refine z_iload_n (pc := 13) 3 dX5_streetsOf_13 rfl rfl ?_
      refine z_iload_n (pc := 14) 1 dX5_streetsOf_14 rfl rfl ?_
      refine z_callSi (pc := 15) _ _ (ct_X5_isBit  _ _) mv_X5_isBit q1737 rfl (Nat.le_of_ble_eq_true rfl) (Nat.le_of_ble_eq_true rfl) rfl rfl (Nat.le_of_ble_eq_true rfl) dX5_streetsOf_15 (fun r8 S7 => ?_)
      refine z_join (fun j : Int32 → zSt → Option (Int32 × zSt) => ∀ (v10 : Int32) (S11 : zSt), Zm X mX5_streetsOf zJI G (0, 0) res S11 35 [some (.ref (G.1 0)), some (.int a1), none, some (.int x3)] [.int v10, .int x2] (j v10 S11)) ?_ (fun j9 hj9 => ?_)
      · intro v10 S11
        refine z_iadd (pc := 35) dX5_streetsOf_35 ?_
        refine z_istore_n (pc := 36) 2 dX5_streetsOf_36 rfl (Nat.le_of_ble_eq_true rfl) rfl ?_
        refine z_iinc (pc := 37) (w := x3 + 1) dX5_streetsOf_37 rfl (by rw [show Int32.ofInt 1 = 1 from by decide]) (Nat.le_of_ble_eq_true rfl) rfl ?_
        refine z_goto (pc := 40) 4 dX5_streetsOf_40 rfl ?_
        exact hrec1 _ _ _
      · refine z_join (fun j : zSt → Option (Int32 × zSt) => ∀  (S13 : zSt), Zm X mX5_streetsOf zJI G (0, 0) res S13 34 [some (.ref (G.1 0)), some (.int a1), none, some (.int x3)] [.int x2] (j S13)) ?_ (fun j12 hj12 => ?_)
        · intro S13
          refine z_iconst (pc := 34) (v := 0) dX5_streetsOf_34 (by decide) ?_
          exact hj9 _ _
        · refine z_if_ne (pc := 18) 34 dX5_streetsOf_18 rfl ?_ ?_
          · exact z_mask [true, true, false, true] (hj12 _) rfl
          · refine z_aload_n (pc := 21) 0 dX5_streetsOf_21 rfl rfl ?_
            refine z_iload_n (pc := 22) 3 dX5_streetsOf_22 rfl rfl ?_
            refine z_iload_n (pc := 23) 1 dX5_streetsOf_23 rfl rfl ?_
            refine z_callVi (pc := 24) _ _ 0 5 (ct_X5_isOpen hG _ _) mv_X5_isOpen q1733 rfl (zGM_s0 hG) rfl (Nat.le_of_ble_eq_true rfl) (Nat.le_of_ble_eq_true rfl) rfl rfl (Nat.le_of_ble_eq_true rfl) dX5_streetsOf_24 (fun r15 S14 => ?_)
            refine z_if_eq (pc := 27) 34 dX5_streetsOf_27 rfl ?_ ?_
            · exact z_mask [true, true, false, true] (hj12 _) rfl
            · refine z_iconst (pc := 30) (v := 1) dX5_streetsOf_30 (by decide) ?_
              refine z_goto (pc := 31) 35 dX5_streetsOf_31 rfl ?_
              exact z_mask [true, true, false, true] (hj9 _ _) rfl
abbrev mX5_streets : zMr := ("HiddenCubeModel", cX5_streets, 2, (some .int), 4, 0, 0, none)
def F_X5_streets (a1 : Int32) (S : zSt) : Option (Int32 × zSt) :=
zlet (sI S 0 0 0 : zSt) (fun S1 : zSt =>
zbind (F_X5_isName a1 S1) (fun r3 S2 =>
if r3 = 0 then (some ((-2), S2)) else (zbind (F_X5_streetsOf a1 S2) (fun r5 S4 =>
some (r5, S4)))))
theorem mv_X5_streets : ZV mX5_streets yX5_streets 1 := ⟨q1768, q1769, q155, q1770, rfl, by decide, by decide, by decide +kernel⟩
theorem ct_X5_streets {G : zGw} (hG : zGM G) (a1 : Int32) : Zc mX5_streets yX5_streets zJI G [.ref (G.1 0), .int a1] (F_X5_streets a1) := by
  refine Zc_of [some (.ref (G.1 0)), some (.int a1)] (by decide) rfl rfl (Nat.le_of_ble_eq_true rfl) rfl (fun X S res => ?_)
  unfold F_X5_streets
  refine z_aload_n (pc := 0) 0 dX5_streets_0 rfl rfl ?_
  refine z_iconst (pc := 1) (v := 0) dX5_streets_1 (by decide) ?_
  refine pf_X5_M_131_0 hG (pc := 2) dX5_streets_2 ?_
  refine z_letS (fun S1 => ?_)
  refine z_aload_n (pc := 5) 0 dX5_streets_5 rfl rfl ?_
  refine z_iload_n (pc := 6) 1 dX5_streets_6 rfl rfl ?_
  refine z_callVi (pc := 7) _ _ 0 5 (ct_X5_isName hG _) mv_X5_isName q1713 rfl (zGM_s0 hG) rfl (Nat.le_of_ble_eq_true rfl) (Nat.le_of_ble_eq_true rfl) rfl rfl (Nat.le_of_ble_eq_true rfl) dX5_streets_7 (fun r3 S2 => ?_)
  refine z_if_eq (pc := 10) 21 dX5_streets_10 rfl ?_ ?_
  · refine z_bipush (pc := 21) (v := (-2)) dX5_streets_21 (by decide) ?_
    exact z_iret rfl dX5_streets_23 rfl
  · refine z_aload_n (pc := 13) 0 dX5_streets_13 rfl rfl ?_
    refine z_iload_n (pc := 14) 1 dX5_streets_14 rfl rfl ?_
    refine z_callVi (pc := 15) _ _ 0 5 (ct_X5_streetsOf hG _) mv_X5_streetsOf q1771 rfl (zGM_s0 hG) rfl (Nat.le_of_ble_eq_true rfl) (Nat.le_of_ble_eq_true rfl) rfl rfl (Nat.le_of_ble_eq_true rfl) dX5_streets_15 (fun r5 S4 => ?_)
    refine z_goto (pc := 18) 23 dX5_streets_18 rfl ?_
    exact z_iret rfl dX5_streets_23 rfl
