/-! WALKS (written by gen/mkparts.py) -/
set_option maxRecDepth 100000
abbrev mX0_puts : zMr := ("HiddenCube", cX0_puts, 3, none, 1, 0, 0, none)
def LB_X0_puts_1 (a1 : Int32) (rec1 : Int32 → zSt → Option (Unit × zSt)) (x2 : Int32) (S3 : zSt) : Option (Unit × zSt) :=
if x2 < 0 then (some ((), S3)) else (chk (S3.1 0 2) 1400 (zlet (sI S3 12 (S3.1 0 2).toNatClampNeg (((a1 >>> (x2 &&& 31)).toInt8.toInt32).toInt8.toInt32) : zSt) (fun S5 : zSt =>
zlet (sI S5 0 2 ((S5.1 0 2) + 1) : zSt) (fun S6 : zSt =>
rec1 (x2 + (-8)) S6))))
def F_X0_puts (a1 : Int32) (S : zSt) : Option (Unit × zSt) :=
loopK (fun _ _ => none) (LB_X0_puts_1 a1) zfuel 24 S
theorem mv_X0_puts : ZV mX0_puts yX0_puts 1 := ⟨q423, qs0, q150, q424, rfl, by decide, by decide, by decide +kernel⟩
theorem ct_X0_puts {G : zGw} (hG : zGC G) (a1 : Int32) : Zc mX0_puts yX0_puts zJV G [.ref (G.1 0), .int a1] (F_X0_puts a1) := by
  refine Zc_of [some (.ref (G.1 0)), some (.int a1), none] (by decide) rfl rfl (Nat.le_of_ble_eq_true rfl) rfl (fun X S res => ?_)
  unfold F_X0_puts
  refine z_bipush (pc := 0) (v := 24) dX0_puts_0 (by decide) ?_
  refine z_istore_n (pc := 2) 2 dX0_puts_2 rfl (Nat.le_of_ble_eq_true rfl) rfl ?_
  refine z_loopK (fun j : Int32 → zSt → Option (Unit × zSt) => ∀ (x2 : Int32) (S3 : zSt), Zm X mX0_puts zJV G (0, 0) res S3 3 [some (.ref (G.1 0)), some (.int a1), some (.int x2)] [] (j x2 S3)) ?_ ?_ zfuel _ _
  · intro x2 S3; exact z_none
  · intro rec1 hrec1 x2 S3
    unfold LB_X0_puts_1
    refine z_iload_n (pc := 3) 2 dX0_puts_3 rfl rfl ?_
    refine z_if_lt (pc := 4) 36 dX0_puts_4 rfl ?_ ?_
    · exact z_vret rfl dX0_puts_36 rfl
    · refine z_aload_n (pc := 7) 0 dX0_puts_7 rfl rfl ?_
      refine gf_X0_C_16_0 hG (pc := 8) dX0_puts_8 ?_
      refine z_aload_n (pc := 11) 0 dX0_puts_11 rfl rfl ?_
      refine gf_X0_C_126_0 hG (pc := 12) dX0_puts_12 ?_
      refine z_iload_n (pc := 15) 1 dX0_puts_15 rfl rfl ?_
      refine z_iload_n (pc := 16) 2 dX0_puts_16 rfl rfl ?_
      refine z_ishr (pc := 17) dX0_puts_17 ?_
      refine z_i2b (pc := 18) dX0_puts_18 ?_
      refine z_chk (fun h4 => ?_)
      refine z_bastore (pc := 19) 12 1400 (zGC_s12 hG) h4 dX0_puts_19 ?_
      refine z_letS (fun S5 => ?_)
      refine z_aload_n (pc := 20) 0 dX0_puts_20 rfl rfl ?_
      refine z_dup (pc := 21) dX0_puts_21 rfl ?_
      refine gf_X0_C_126_0 hG (pc := 22) dX0_puts_22 ?_
      refine z_iconst (pc := 25) (v := 1) dX0_puts_25 (by decide) ?_
      refine z_iadd (pc := 26) dX0_puts_26 ?_
      refine pf_X0_C_126_0 hG (pc := 27) dX0_puts_27 ?_
      refine z_letS (fun S6 => ?_)
      refine z_iinc (pc := 30) (w := x2 + (-8)) dX0_puts_30 rfl (by rw [show Int32.ofInt (-8) = (-8) from by decide]) (Nat.le_of_ble_eq_true rfl) rfl ?_
      refine z_goto (pc := 33) 3 dX0_puts_33 rfl ?_
      exact hrec1 _ _
abbrev mX0_feed : zMr := ("HiddenCube", cX0_feed, 6, (some .int), 2, 0, 0, none)
def F_X0_feed (a1 : Int32) (a2 : Int32) (a3 : Int32) (a4 : Int32) (a5 : Int32) (S : zSt) : Option (Int32 × zSt) :=
if ((S.1 0 2) + 20) ≤ 1400 then (zbind (F_X0_puts a1 S) (fun _ S1 =>
zbind (F_X0_puts a2 S1) (fun _ S2 =>
zbind (F_X0_puts a3 S2) (fun _ S3 =>
zbind (F_X0_puts a4 S3) (fun _ S4 =>
zbind (F_X0_puts a5 S4) (fun _ S5 =>
some (S5.1 0 2, S5))))))) else (some ((-1), S))
theorem mv_X0_feed : ZV mX0_feed yX0_feed 5 := ⟨q418, q419, q150, q420, rfl, by decide, by decide, by decide +kernel⟩
theorem ct_X0_feed {G : zGw} (hG : zGC G) (a1 : Int32) (a2 : Int32) (a3 : Int32) (a4 : Int32) (a5 : Int32) : Zc mX0_feed yX0_feed zJI G [.ref (G.1 0), .int a1, .int a2, .int a3, .int a4, .int a5] (F_X0_feed a1 a2 a3 a4 a5) := by
  refine Zc_of [some (.ref (G.1 0)), some (.int a1), some (.int a2), some (.int a3), some (.int a4), some (.int a5)] (by decide) rfl rfl (Nat.le_of_ble_eq_true rfl) rfl (fun X S res => ?_)
  unfold F_X0_feed
  refine z_aload_n (pc := 0) 0 dX0_feed_0 rfl rfl ?_
  refine gf_X0_C_126_0 hG (pc := 1) dX0_feed_1 ?_
  refine z_bipush (pc := 4) (v := 20) dX0_feed_4 (by decide) ?_
  refine z_iadd (pc := 6) dX0_feed_6 ?_
  refine z_sipush (pc := 7) (v := 1400) dX0_feed_7 (by decide) ?_
  refine z_icmp_le (pc := 10) 15 dX0_feed_10 rfl ?_ ?_
  · refine z_aload_n (pc := 15) 0 dX0_feed_15 rfl rfl ?_
    refine z_iload_n (pc := 16) 1 dX0_feed_16 rfl rfl ?_
    refine z_callVv (pc := 17) _ _ 0 0 (ct_X0_puts hG _) mv_X0_puts q421 rfl (zGC_s0 hG) rfl (Nat.le_of_ble_eq_true rfl) (Nat.le_of_ble_eq_true rfl) rfl rfl (Nat.le_of_ble_eq_true rfl) dX0_feed_17 (fun _ S1 => ?_)
    refine z_aload_n (pc := 20) 0 dX0_feed_20 rfl rfl ?_
    refine z_iload_n (pc := 21) 2 dX0_feed_21 rfl rfl ?_
    refine z_callVv (pc := 22) _ _ 0 0 (ct_X0_puts hG _) mv_X0_puts q421 rfl (zGC_s0 hG) rfl (Nat.le_of_ble_eq_true rfl) (Nat.le_of_ble_eq_true rfl) rfl rfl (Nat.le_of_ble_eq_true rfl) dX0_feed_22 (fun _ S2 => ?_)
    refine z_aload_n (pc := 25) 0 dX0_feed_25 rfl rfl ?_
    refine z_iload_n (pc := 26) 3 dX0_feed_26 rfl rfl ?_
    refine z_callVv (pc := 27) _ _ 0 0 (ct_X0_puts hG _) mv_X0_puts q421 rfl (zGC_s0 hG) rfl (Nat.le_of_ble_eq_true rfl) (Nat.le_of_ble_eq_true rfl) rfl rfl (Nat.le_of_ble_eq_true rfl) dX0_feed_27 (fun _ S3 => ?_)
    refine z_aload_n (pc := 30) 0 dX0_feed_30 rfl rfl ?_
    refine z_iload (pc := 31) dX0_feed_31 rfl ?_
    refine z_callVv (pc := 33) _ _ 0 0 (ct_X0_puts hG _) mv_X0_puts q421 rfl (zGC_s0 hG) rfl (Nat.le_of_ble_eq_true rfl) (Nat.le_of_ble_eq_true rfl) rfl rfl (Nat.le_of_ble_eq_true rfl) dX0_feed_33 (fun _ S4 => ?_)
    refine z_aload_n (pc := 36) 0 dX0_feed_36 rfl rfl ?_
    refine z_iload (pc := 37) dX0_feed_37 rfl ?_
    refine z_callVv (pc := 39) _ _ 0 0 (ct_X0_puts hG _) mv_X0_puts q421 rfl (zGC_s0 hG) rfl (Nat.le_of_ble_eq_true rfl) (Nat.le_of_ble_eq_true rfl) rfl rfl (Nat.le_of_ble_eq_true rfl) dX0_feed_39 (fun _ S5 => ?_)
    refine z_aload_n (pc := 42) 0 dX0_feed_42 rfl rfl ?_
    refine gf_X0_C_126_0 hG (pc := 43) dX0_feed_43 ?_
    exact z_iret rfl dX0_feed_46 rfl
  · refine z_iconst (pc := 13) (v := (-1)) dX0_feed_13 (by decide) ?_
    exact z_iret rfl dX0_feed_14 rfl
abbrev mX0_isIn : zMr := ("HiddenCube", cX0_isIn, 6, (some .boolean), 1, 0, 0, none)
def F_X0_isIn (a1 : Int64) (a2 : Int64) (a3 : Int64) (S : zSt) : Option (Int32 × zSt) :=
if (lg_cmp a1 a2) < 0 then (some (0, S)) else (if 0 < (lg_cmp a1 a3) then (some (0, S)) else (some (1, S)))
theorem mv_X0_isIn : ZS mX0_isIn yX0_isIn 3 := ⟨q430, q150, q431, by decide, by decide, by decide +kernel⟩
theorem ct_X0_isIn {G : zGw} (a1 : Int64) (a2 : Int64) (a3 : Int64) : Zc mX0_isIn yX0_isIn zJI G [.long a1, .long a2, .long a3] (F_X0_isIn a1 a2 a3) := by
  refine Zc_of [some (.long a1), none, some (.long a2), none, some (.long a3), none] (by decide) rfl rfl (Nat.le_of_ble_eq_true rfl) rfl (fun X S res => ?_)
  unfold F_X0_isIn
  refine z_lload_n (pc := 0) 0 dX0_isIn_0 rfl rfl ?_
  refine z_lload_n (pc := 1) 2 dX0_isIn_1 rfl rfl ?_
  refine z_lcmp (pc := 2) dX0_isIn_2 ?_
  refine z_if_lt (pc := 3) 17 dX0_isIn_3 rfl ?_ ?_
  · refine z_iconst (pc := 17) (v := 0) dX0_isIn_17 (by decide) ?_
    exact z_zret0 rfl dX0_isIn_18 rfl
  · refine z_lload_n (pc := 6) 0 dX0_isIn_6 rfl rfl ?_
    refine z_lload (pc := 7) dX0_isIn_7 rfl ?_
    refine z_lcmp (pc := 9) dX0_isIn_9 ?_
    refine z_if_gt (pc := 10) 17 dX0_isIn_10 rfl ?_ ?_
    · refine z_iconst (pc := 17) (v := 0) dX0_isIn_17 (by decide) ?_
      exact z_zret0 rfl dX0_isIn_18 rfl
    · refine z_iconst (pc := 13) (v := 1) dX0_isIn_13 (by decide) ?_
      refine z_goto (pc := 14) 18 dX0_isIn_14 rfl ?_
      exact z_zret1 rfl dX0_isIn_18 rfl
abbrev mX0_end : zMr := ("HiddenCube", cX0_end, 2, (some .int), 2, 0, 0, none)
def F_X0_end (a1 : Int32) (S : zSt) : Option (Int32 × zSt) :=
zbind (F_X0_isIn ((a1).toInt64) 0 ((S.1 0 2).toInt64) S) (fun r2 S1 =>
if r2 = 0 then (some ((-1), S1)) else (zlet (sI S1 0 2 a1 : zSt) (fun S3 : zSt =>
some (a1, S3))))
theorem mv_X0_end : ZV mX0_end yX0_end 1 := ⟨q426, q427, q150, q428, rfl, by decide, by decide, by decide +kernel⟩
theorem ct_X0_end {G : zGw} (hG : zGC G) (a1 : Int32) : Zc mX0_end yX0_end zJI G [.ref (G.1 0), .int a1] (F_X0_end a1) := by
  refine Zc_of [some (.ref (G.1 0)), some (.int a1)] (by decide) rfl rfl (Nat.le_of_ble_eq_true rfl) rfl (fun X S res => ?_)
  unfold F_X0_end
  refine z_iload_n (pc := 0) 1 dX0_end_0 rfl rfl ?_
  refine z_i2l (pc := 1) dX0_end_1 ?_
  refine z_lconst (pc := 2) (v := 0) dX0_end_2 (by decide) ?_
  refine z_aload_n (pc := 3) 0 dX0_end_3 rfl rfl ?_
  refine gf_X0_C_126_0 hG (pc := 4) dX0_end_4 ?_
  refine z_i2l (pc := 7) dX0_end_7 ?_
  refine z_callSi (pc := 8) _ _ (ct_X0_isIn  _ _ _) mv_X0_isIn q429 rfl (Nat.le_of_ble_eq_true rfl) (Nat.le_of_ble_eq_true rfl) rfl rfl (Nat.le_of_ble_eq_true rfl) dX0_end_8 (fun r2 S1 => ?_)
  refine z_if_ne (pc := 11) 16 dX0_end_11 rfl ?_ ?_
  · refine z_aload_n (pc := 16) 0 dX0_end_16 rfl rfl ?_
    refine z_iload_n (pc := 17) 1 dX0_end_17 rfl rfl ?_
    refine pf_X0_C_126_0 hG (pc := 18) dX0_end_18 ?_
    refine z_letS (fun S3 => ?_)
    refine z_iload_n (pc := 21) 1 dX0_end_21 rfl rfl ?_
    exact z_iret rfl dX0_end_22 rfl
  · refine z_iconst (pc := 14) (v := (-1)) dX0_end_14 (by decide) ?_
    exact z_iret rfl dX0_end_15 rfl
abbrev mX0_has : zMr := ("HiddenCube", cX0_has, 2, (some .boolean), 1, 0, 0, none)
def F_X0_has (a1 : Int32) (a2 : Int32) (S : zSt) : Option (Int32 × zSt) :=
if ((iushr a1 a2) &&& 1) = 1 then (some (1, S)) else (some (0, S))
theorem mv_X0_has : ZS mX0_has yX0_has 2 := ⟨q682, q150, q683, by decide, by decide, by decide +kernel⟩
theorem ct_X0_has {G : zGw} (a1 : Int32) (a2 : Int32) : Zc mX0_has yX0_has zJI G [.int a1, .int a2] (F_X0_has a1 a2) := by
  refine Zc_of [some (.int a1), some (.int a2)] (by decide) rfl rfl (Nat.le_of_ble_eq_true rfl) rfl (fun X S res => ?_)
  unfold F_X0_has
  refine z_iload_n (pc := 0) 0 dX0_has_0 rfl rfl ?_
  refine z_iload_n (pc := 1) 1 dX0_has_1 rfl rfl ?_
  refine z_iushr (pc := 2) dX0_has_2 ?_
  refine z_iconst (pc := 3) (v := 1) dX0_has_3 (by decide) ?_
  refine z_iand (pc := 4) dX0_has_4 ?_
  refine z_iconst (pc := 5) (v := 1) dX0_has_5 (by decide) ?_
  refine z_icmp_ne (pc := 6) 13 dX0_has_6 rfl ?_ ?_
  · refine z_iconst (pc := 13) (v := 0) dX0_has_13 (by decide) ?_
    exact z_zret0 rfl dX0_has_14 rfl
  · refine z_iconst (pc := 9) (v := 1) dX0_has_9 (by decide) ?_
    refine z_goto (pc := 10) 14 dX0_has_10 rfl ?_
    exact z_zret1 rfl dX0_has_14 rfl
abbrev mX0_fault : zMr := ("HiddenCube", cX0_fault, 2, (some .int), 1, 0, 0, none)
def F_X0_fault (a1 : Int32) (S : zSt) : Option (Int32 × zSt) :=
if a1 = 0 then (some (S.1 0 3, S)) else (if a1 = 1 then (some (S.1 0 4, S)) else (some ((-1), S)))
theorem mv_X0_fault : ZV mX0_fault yX0_fault 1 := ⟨q708, q709, q150, q710, rfl, by decide, by decide, by decide +kernel⟩
theorem ct_X0_fault {G : zGw} (hG : zGC G) (a1 : Int32) : Zc mX0_fault yX0_fault zJI G [.ref (G.1 0), .int a1] (F_X0_fault a1) := by
  refine Zc_of [some (.ref (G.1 0)), some (.int a1)] (by decide) rfl rfl (Nat.le_of_ble_eq_true rfl) rfl (fun X S res => ?_)
  unfold F_X0_fault
  refine z_iload_n (pc := 0) 1 dX0_fault_0 rfl rfl ?_
  refine z_if_ne (pc := 1) 11 dX0_fault_1 rfl ?_ ?_
  · refine z_iload_n (pc := 11) 1 dX0_fault_11 rfl rfl ?_
    refine z_iconst (pc := 12) (v := 1) dX0_fault_12 (by decide) ?_
    refine z_icmp_ne (pc := 13) 23 dX0_fault_13 rfl ?_ ?_
    · refine z_iconst (pc := 23) (v := (-1)) dX0_fault_23 (by decide) ?_
      exact z_iret rfl dX0_fault_24 rfl
    · refine z_aload_n (pc := 16) 0 dX0_fault_16 rfl rfl ?_
      refine gf_X0_C_20_0 hG (pc := 17) dX0_fault_17 ?_
      refine z_goto (pc := 20) 24 dX0_fault_20 rfl ?_
      exact z_iret rfl dX0_fault_24 rfl
  · refine z_aload_n (pc := 4) 0 dX0_fault_4 rfl rfl ?_
    refine gf_X0_C_144_0 hG (pc := 5) dX0_fault_5 ?_
    refine z_goto (pc := 8) 24 dX0_fault_8 rfl ?_
    exact z_iret rfl dX0_fault_24 rfl
abbrev mX0_isName : zMr := ("HiddenCube", cX0_isName, 2, (some .boolean), 2, 0, 0, none)
def F_X0_isName (a1 : Int32) (S : zSt) : Option (Int32 × zSt) :=
zbind (F_X0_isIn ((a1).toInt64) 0 (((S.1 1 0) - 1).toInt64) S) (fun r2 S1 =>
some (r2 &&& 1, S1))
theorem mv_X0_isName : ZV mX0_isName yX0_isName 1 := ⟨q717, qs19, q150, q718, rfl, by decide, by decide, by decide +kernel⟩
theorem ct_X0_isName {G : zGw} (hG : zGC G) (a1 : Int32) : Zc mX0_isName yX0_isName zJI G [.ref (G.1 0), .int a1] (F_X0_isName a1) := by
  refine Zc_of [some (.ref (G.1 0)), some (.int a1)] (by decide) rfl rfl (Nat.le_of_ble_eq_true rfl) rfl (fun X S res => ?_)
  unfold F_X0_isName
  refine z_iload_n (pc := 0) 1 dX0_isName_0 rfl rfl ?_
  refine z_i2l (pc := 1) dX0_isName_1 ?_
  refine z_lconst (pc := 2) (v := 0) dX0_isName_2 (by decide) ?_
  refine z_aload_n (pc := 3) 0 dX0_isName_3 rfl rfl ?_
  refine gf_X0_C_10_0 hG (pc := 4) dX0_isName_4 ?_
  refine gf_X0_C_158_1 hG (pc := 7) dX0_isName_7 ?_
  refine z_iconst (pc := 10) (v := 1) dX0_isName_10 (by decide) ?_
  refine z_isub (pc := 11) dX0_isName_11 ?_
  refine z_i2l (pc := 12) dX0_isName_12 ?_
  refine z_callSi (pc := 13) _ _ (ct_X0_isIn  _ _ _) mv_X0_isIn q429 rfl (Nat.le_of_ble_eq_true rfl) (Nat.le_of_ble_eq_true rfl) rfl rfl (Nat.le_of_ble_eq_true rfl) dX0_isName_13 (fun r2 S1 => ?_)
  exact z_zret rfl rfl dX0_isName_16 rfl
abbrev mX0_letter : zMr := ("HiddenCube", cX0_letter, 3, (some .int), 3, 0, 0, none)
def F_X0_letter (a1 : Int32) (a2 : Int32) (S : zSt) : Option (Int32 × zSt) :=
zbind (F_X0_isName a1 S) (fun r2 S1 =>
if r2 = 0 then (some ((-2), S1)) else (chk a1 5 (zbind (F_X0_isIn ((a2).toInt64) 0 (((S1.1 3 (a1).toNatClampNeg) - 1).toInt64) S1) (fun r5 S4 =>
if r5 = 0 then (some ((-1), S4)) else (chk ((8 * a1) + a2) 40 (some (S4.1 2 ((8 * a1) + a2).toNatClampNeg, S4)))))))
theorem mv_X0_letter : ZV mX0_letter yX0_letter 2 := ⟨q712, q713, q150, q714, rfl, by decide, by decide, by decide +kernel⟩
theorem ct_X0_letter {G : zGw} (hG : zGC G) (a1 : Int32) (a2 : Int32) : Zc mX0_letter yX0_letter zJI G [.ref (G.1 0), .int a1, .int a2] (F_X0_letter a1 a2) := by
  refine Zc_of [some (.ref (G.1 0)), some (.int a1), some (.int a2)] (by decide) rfl rfl (Nat.le_of_ble_eq_true rfl) rfl (fun X S res => ?_)
  unfold F_X0_letter
  refine z_aload_n (pc := 0) 0 dX0_letter_0 rfl rfl ?_
  refine z_iload_n (pc := 1) 1 dX0_letter_1 rfl rfl ?_
  refine z_callVi (pc := 2) _ _ 0 0 (ct_X0_isName hG _) mv_X0_isName q715 rfl (zGC_s0 hG) rfl (Nat.le_of_ble_eq_true rfl) (Nat.le_of_ble_eq_true rfl) rfl rfl (Nat.le_of_ble_eq_true rfl) dX0_letter_2 (fun r2 S1 => ?_)
  refine z_if_ne (pc := 5) 13 dX0_letter_5 rfl ?_ ?_
  · refine z_iload_n (pc := 13) 2 dX0_letter_13 rfl rfl ?_
    refine z_i2l (pc := 14) dX0_letter_14 ?_
    refine z_lconst (pc := 15) (v := 0) dX0_letter_15 (by decide) ?_
    refine z_aload_n (pc := 16) 0 dX0_letter_16 rfl rfl ?_
    refine gf_X0_C_10_0 hG (pc := 17) dX0_letter_17 ?_
    refine gf_X0_C_175_1 hG (pc := 20) dX0_letter_20 ?_
    refine z_iload_n (pc := 23) 1 dX0_letter_23 rfl rfl ?_
    refine z_chk (fun h3 => ?_)
    refine z_iaload (pc := 24) 3 5 (zGC_s3 hG) h3 dX0_letter_24 ?_
    refine z_iconst (pc := 25) (v := 1) dX0_letter_25 (by decide) ?_
    refine z_isub (pc := 26) dX0_letter_26 ?_
    refine z_i2l (pc := 27) dX0_letter_27 ?_
    refine z_callSi (pc := 28) _ _ (ct_X0_isIn  _ _ _) mv_X0_isIn q429 rfl (Nat.le_of_ble_eq_true rfl) (Nat.le_of_ble_eq_true rfl) rfl rfl (Nat.le_of_ble_eq_true rfl) dX0_letter_28 (fun r5 S4 => ?_)
    refine z_if_eq (pc := 31) 51 dX0_letter_31 rfl ?_ ?_
    · refine z_iconst (pc := 51) (v := (-1)) dX0_letter_51 (by decide) ?_
      exact z_iret rfl dX0_letter_52 rfl
    · refine z_aload_n (pc := 34) 0 dX0_letter_34 rfl rfl ?_
      refine gf_X0_C_10_0 hG (pc := 35) dX0_letter_35 ?_
      refine gf_X0_C_178_1 hG (pc := 38) dX0_letter_38 ?_
      refine z_bipush (pc := 41) (v := 8) dX0_letter_41 (by decide) ?_
      refine z_iload_n (pc := 43) 1 dX0_letter_43 rfl rfl ?_
      refine z_imul (pc := 44) dX0_letter_44 ?_
      refine z_iload_n (pc := 45) 2 dX0_letter_45 rfl rfl ?_
      refine z_iadd (pc := 46) dX0_letter_46 ?_
      refine z_chk (fun h6 => ?_)
      refine z_baload (pc := 47) 2 40 (zGC_s2 hG) h6 dX0_letter_47 ?_
      refine z_goto (pc := 48) 52 dX0_letter_48 rfl ?_
      exact z_iret rfl dX0_letter_52 rfl
  · refine z_bipush (pc := 8) (v := (-2)) dX0_letter_8 (by decide) ?_
    refine z_goto (pc := 10) 52 dX0_letter_10 rfl ?_
    exact z_iret rfl dX0_letter_52 rfl
abbrev mX1_squares : zMr := ("HiddenCube$Town", cX1_squares, 1, (some .int), 1, 0, 0, none)
def F_X1_squares (b : Nat)  (S : zSt) : Option (Int32 × zSt) :=
if (S.1 b 0) = 0 then (some (0, S)) else (some ((1 : Int32) <<< ((S.1 b 0) &&& 31), S))
theorem mv_X1_squares : ZV mX1_squares yX1_squares 0 := ⟨q670, q671, q151, q672, rfl, by decide, by decide, by decide +kernel⟩
theorem ct_X1_squares {G : zGw} {b : Nat} (hT : zGT G b)  : Zc mX1_squares yX1_squares zJI G [.ref (G.1 b)] (F_X1_squares b) := by
  refine Zc_of [some (.ref (G.1 b))] (by decide) rfl rfl (Nat.le_of_ble_eq_true rfl) rfl (fun X S res => ?_)
  unfold F_X1_squares
  refine z_aload_n (pc := 0) 0 dX1_squares_0 rfl rfl ?_
  refine gf_X1_T_31_b hT (pc := 1) dX1_squares_1 ?_
  refine z_if_ne (pc := 4) 11 dX1_squares_4 rfl ?_ ?_
  · refine z_iconst (pc := 11) (v := 1) dX1_squares_11 (by decide) ?_
    refine z_aload_n (pc := 12) 0 dX1_squares_12 rfl rfl ?_
    refine gf_X1_T_31_b hT (pc := 13) dX1_squares_13 ?_
    refine z_ishl (pc := 16) dX1_squares_16 ?_
    exact z_iret rfl dX1_squares_17 rfl
  · refine z_iconst (pc := 7) (v := 0) dX1_squares_7 (by decide) ?_
    refine z_goto (pc := 8) 17 dX1_squares_8 rfl ?_
    exact z_iret rfl dX1_squares_17 rfl
abbrev mX0_isSquare : zMr := ("HiddenCube", cX0_isSquare, 3, (some .boolean), 2, 0, 0, none)
def F_X0_isSquare (a1 : Int64) (S : zSt) : Option (Int32 × zSt) :=
zbind (F_X1_squares 1 S) (fun r2 S1 =>
zbind (F_X0_isIn a1 0 ((r2 - 1).toInt64) S1) (fun r4 S3 =>
some (r4 &&& 1, S3)))
theorem mv_X0_isSquare : ZV mX0_isSquare yX0_isSquare 1 := ⟨q725, qs20, q150, q726, rfl, by decide, by decide, by decide +kernel⟩
theorem ct_X0_isSquare {G : zGw} (hG : zGC G) (a1 : Int64) : Zc mX0_isSquare yX0_isSquare zJI G [.ref (G.1 0), .long a1] (F_X0_isSquare a1) := by
  refine Zc_of [some (.ref (G.1 0)), some (.long a1), none] (by decide) rfl rfl (Nat.le_of_ble_eq_true rfl) rfl (fun X S res => ?_)
  unfold F_X0_isSquare
  refine z_lload_n (pc := 0) 1 dX0_isSquare_0 rfl rfl ?_
  refine z_lconst (pc := 1) (v := 0) dX0_isSquare_1 (by decide) ?_
  refine z_aload_n (pc := 2) 0 dX0_isSquare_2 rfl rfl ?_
  refine gf_X0_C_10_0 hG (pc := 3) dX0_isSquare_3 ?_
  refine z_callVi (pc := 6) _ _ 1 1 (ct_X1_squares (zGC_T hG)) mv_X1_squares q727 rfl (zGC_s1 hG) rfl (Nat.le_of_ble_eq_true rfl) (Nat.le_of_ble_eq_true rfl) rfl rfl (Nat.le_of_ble_eq_true rfl) dX0_isSquare_6 (fun r2 S1 => ?_)
  refine z_iconst (pc := 9) (v := 1) dX0_isSquare_9 (by decide) ?_
  refine z_isub (pc := 10) dX0_isSquare_10 ?_
  refine z_i2l (pc := 11) dX0_isSquare_11 ?_
  refine z_callSi (pc := 12) _ _ (ct_X0_isIn  _ _ _) mv_X0_isIn q429 rfl (Nat.le_of_ble_eq_true rfl) (Nat.le_of_ble_eq_true rfl) rfl rfl (Nat.le_of_ble_eq_true rfl) dX0_isSquare_12 (fun r4 S3 => ?_)
  exact z_zret rfl rfl dX0_isSquare_15 rfl
abbrev mX1_isOpen : zMr := ("HiddenCube$Town", cX1_isOpen, 3, (some .boolean), 2, 0, 0, none)
def F_X1_isOpen (b : Nat) (a1 : Int32) (a2 : Int32) (S : zSt) : Option (Int32 × zSt) :=
chk a1 32 (zbind (F_X0_has (S.1 (b + 6) (a1).toNatClampNeg) a2 S) (fun r3 S2 =>
if r3 = 0 then (some (1, S2)) else (some (0, S2))))
theorem mv_X1_isOpen : ZV mX1_isOpen yX1_isOpen 2 := ⟨q678, q679, q151, q680, rfl, by decide, by decide, by decide +kernel⟩
theorem ct_X1_isOpen {G : zGw} {b : Nat} (hT : zGT G b) (a1 : Int32) (a2 : Int32) : Zc mX1_isOpen yX1_isOpen zJI G [.ref (G.1 b), .int a1, .int a2] (F_X1_isOpen b a1 a2) := by
  refine Zc_of [some (.ref (G.1 b)), some (.int a1), some (.int a2)] (by decide) rfl rfl (Nat.le_of_ble_eq_true rfl) rfl (fun X S res => ?_)
  unfold F_X1_isOpen
  refine z_aload_n (pc := 0) 0 dX1_isOpen_0 rfl rfl ?_
  refine gf_X1_T_28_b hT (pc := 1) dX1_isOpen_1 ?_
  refine z_iload_n (pc := 4) 1 dX1_isOpen_4 rfl rfl ?_
  refine z_chk (fun h1 => ?_)
  refine z_iaload (pc := 5) (b + 6) 32 (zGT_a6 hT) h1 dX1_isOpen_5 ?_
  refine z_iload_n (pc := 6) 2 dX1_isOpen_6 rfl rfl ?_
  refine z_callSNi (pc := 7) _ _ (ct_X0_has  _ _) mv_X0_has (by decide) rfl (Nat.le_of_ble_eq_true rfl) (Nat.le_of_ble_eq_true rfl) rfl rfl (Nat.le_of_ble_eq_true rfl) dX1_isOpen_7 (fun r3 S2 => ?_)
  refine z_if_ne (pc := 10) 17 dX1_isOpen_10 rfl ?_ ?_
  · refine z_iconst (pc := 17) (v := 0) dX1_isOpen_17 (by decide) ?_
    exact z_zret0 rfl dX1_isOpen_18 rfl
  · refine z_iconst (pc := 13) (v := 1) dX1_isOpen_13 (by decide) ?_
    refine z_goto (pc := 14) 18 dX1_isOpen_14 rfl ?_
    exact z_zret1 rfl dX1_isOpen_18 rfl
abbrev mX0_open : zMr := ("HiddenCube", cX0_open, 3, (some .int), 3, 0, 0, none)
def F_X0_open (a1 : Int32) (a2 : Int32) (S : zSt) : Option (Int32 × zSt) :=
zbind (F_X0_isSquare ((a1).toInt64) S) (fun r2 S1 =>
if r2 = 0 then (some ((-2), S1)) else (zbind (F_X0_isName a2 S1) (fun r4 S3 =>
if r4 = 0 then (some ((-2), S3)) else (zbind (F_X1_isOpen 1 a1 a2 S3) (fun r6 S5 =>
if r6 = 0 then (some (0, S5)) else (some (1, S5)))))))
theorem mv_X0_open : ZV mX0_open yX0_open 2 := ⟨q720, q721, q150, q722, rfl, by decide, by decide, by decide +kernel⟩
theorem ct_X0_open {G : zGw} (hG : zGC G) (a1 : Int32) (a2 : Int32) : Zc mX0_open yX0_open zJI G [.ref (G.1 0), .int a1, .int a2] (F_X0_open a1 a2) := by
  refine Zc_of [some (.ref (G.1 0)), some (.int a1), some (.int a2)] (by decide) rfl rfl (Nat.le_of_ble_eq_true rfl) rfl (fun X S res => ?_)
  unfold F_X0_open
  refine z_aload_n (pc := 0) 0 dX0_open_0 rfl rfl ?_
  refine z_iload_n (pc := 1) 1 dX0_open_1 rfl rfl ?_
  refine z_i2l (pc := 2) dX0_open_2 ?_
  refine z_callVi (pc := 3) _ _ 0 0 (ct_X0_isSquare hG _) mv_X0_isSquare q723 rfl (zGC_s0 hG) rfl (Nat.le_of_ble_eq_true rfl) (Nat.le_of_ble_eq_true rfl) rfl rfl (Nat.le_of_ble_eq_true rfl) dX0_open_3 (fun r2 S1 => ?_)
  refine z_if_eq (pc := 6) 17 dX0_open_6 rfl ?_ ?_
  · refine z_bipush (pc := 17) (v := (-2)) dX0_open_17 (by decide) ?_
    refine z_goto (pc := 19) 39 dX0_open_19 rfl ?_
    exact z_iret rfl dX0_open_39 rfl
  · refine z_aload_n (pc := 9) 0 dX0_open_9 rfl rfl ?_
    refine z_iload_n (pc := 10) 2 dX0_open_10 rfl rfl ?_
    refine z_callVi (pc := 11) _ _ 0 0 (ct_X0_isName hG _) mv_X0_isName q715 rfl (zGC_s0 hG) rfl (Nat.le_of_ble_eq_true rfl) (Nat.le_of_ble_eq_true rfl) rfl rfl (Nat.le_of_ble_eq_true rfl) dX0_open_11 (fun r4 S3 => ?_)
    refine z_if_ne (pc := 14) 22 dX0_open_14 rfl ?_ ?_
    · refine z_aload_n (pc := 22) 0 dX0_open_22 rfl rfl ?_
      refine gf_X0_C_10_0 hG (pc := 23) dX0_open_23 ?_
      refine z_iload_n (pc := 26) 1 dX0_open_26 rfl rfl ?_
      refine z_iload_n (pc := 27) 2 dX0_open_27 rfl rfl ?_
      refine z_callVi (pc := 28) _ _ 1 1 (ct_X1_isOpen (zGC_T hG) _ _) mv_X1_isOpen q728 rfl (zGC_s1 hG) rfl (Nat.le_of_ble_eq_true rfl) (Nat.le_of_ble_eq_true rfl) rfl rfl (Nat.le_of_ble_eq_true rfl) dX0_open_28 (fun r6 S5 => ?_)
      refine z_if_eq (pc := 31) 38 dX0_open_31 rfl ?_ ?_
      · refine z_iconst (pc := 38) (v := 0) dX0_open_38 (by decide) ?_
        exact z_iret rfl dX0_open_39 rfl
      · refine z_iconst (pc := 34) (v := 1) dX0_open_34 (by decide) ?_
        refine z_goto (pc := 35) 39 dX0_open_35 rfl ?_
        exact z_iret rfl dX0_open_39 rfl
    · refine z_bipush (pc := 17) (v := (-2)) dX0_open_17 (by decide) ?_
      refine z_goto (pc := 19) 39 dX0_open_19 rfl ?_
      exact z_iret rfl dX0_open_39 rfl
abbrev mX0_step : zMr := ("HiddenCube", cX0_step, 3, (some .int), 3, 0, 0, none)
def F_X0_step (a1 : Int32) (a2 : Int32) (S : zSt) : Option (Int32 × zSt) :=
zbind (F_X0_isSquare ((a1).toInt64) S) (fun r2 S1 =>
if r2 = 0 then (some ((-2), S1)) else (zbind (F_X0_isName a2 S1) (fun r4 S3 =>
if r4 = 0 then (some ((-2), S3)) else (zbind (F_X1_isOpen 1 a1 a2 S3) (fun r6 S5 =>
if r6 = 0 then (some ((-1), S5)) else (some (a1 ^^^ ((1 : Int32) <<< (a2 &&& 31)), S5)))))))
theorem mv_X0_step : ZV mX0_step yX0_step 2 := ⟨q730, q731, q150, q732, rfl, by decide, by decide, by decide +kernel⟩
theorem ct_X0_step {G : zGw} (hG : zGC G) (a1 : Int32) (a2 : Int32) : Zc mX0_step yX0_step zJI G [.ref (G.1 0), .int a1, .int a2] (F_X0_step a1 a2) := by
  refine Zc_of [some (.ref (G.1 0)), some (.int a1), some (.int a2)] (by decide) rfl rfl (Nat.le_of_ble_eq_true rfl) rfl (fun X S res => ?_)
  unfold F_X0_step
  refine z_aload_n (pc := 0) 0 dX0_step_0 rfl rfl ?_
  refine z_iload_n (pc := 1) 1 dX0_step_1 rfl rfl ?_
  refine z_i2l (pc := 2) dX0_step_2 ?_
  refine z_callVi (pc := 3) _ _ 0 0 (ct_X0_isSquare hG _) mv_X0_isSquare q723 rfl (zGC_s0 hG) rfl (Nat.le_of_ble_eq_true rfl) (Nat.le_of_ble_eq_true rfl) rfl rfl (Nat.le_of_ble_eq_true rfl) dX0_step_3 (fun r2 S1 => ?_)
  refine z_if_eq (pc := 6) 17 dX0_step_6 rfl ?_ ?_
  · refine z_bipush (pc := 17) (v := (-2)) dX0_step_17 (by decide) ?_
    refine z_goto (pc := 19) 43 dX0_step_19 rfl ?_
    exact z_iret rfl dX0_step_43 rfl
  · refine z_aload_n (pc := 9) 0 dX0_step_9 rfl rfl ?_
    refine z_iload_n (pc := 10) 2 dX0_step_10 rfl rfl ?_
    refine z_callVi (pc := 11) _ _ 0 0 (ct_X0_isName hG _) mv_X0_isName q715 rfl (zGC_s0 hG) rfl (Nat.le_of_ble_eq_true rfl) (Nat.le_of_ble_eq_true rfl) rfl rfl (Nat.le_of_ble_eq_true rfl) dX0_step_11 (fun r4 S3 => ?_)
    refine z_if_ne (pc := 14) 22 dX0_step_14 rfl ?_ ?_
    · refine z_aload_n (pc := 22) 0 dX0_step_22 rfl rfl ?_
      refine gf_X0_C_10_0 hG (pc := 23) dX0_step_23 ?_
      refine z_iload_n (pc := 26) 1 dX0_step_26 rfl rfl ?_
      refine z_iload_n (pc := 27) 2 dX0_step_27 rfl rfl ?_
      refine z_callVi (pc := 28) _ _ 1 1 (ct_X1_isOpen (zGC_T hG) _ _) mv_X1_isOpen q728 rfl (zGC_s1 hG) rfl (Nat.le_of_ble_eq_true rfl) (Nat.le_of_ble_eq_true rfl) rfl rfl (Nat.le_of_ble_eq_true rfl) dX0_step_28 (fun r6 S5 => ?_)
      refine z_if_eq (pc := 31) 42 dX0_step_31 rfl ?_ ?_
      · refine z_iconst (pc := 42) (v := (-1)) dX0_step_42 (by decide) ?_
        exact z_iret rfl dX0_step_43 rfl
      · refine z_iload_n (pc := 34) 1 dX0_step_34 rfl rfl ?_
        refine z_iconst (pc := 35) (v := 1) dX0_step_35 (by decide) ?_
        refine z_iload_n (pc := 36) 2 dX0_step_36 rfl rfl ?_
        refine z_ishl (pc := 37) dX0_step_37 ?_
        refine z_ixor (pc := 38) dX0_step_38 ?_
        refine z_goto (pc := 39) 43 dX0_step_39 rfl ?_
        exact z_iret rfl dX0_step_43 rfl
    · refine z_bipush (pc := 17) (v := (-2)) dX0_step_17 (by decide) ?_
      refine z_goto (pc := 19) 43 dX0_step_19 rfl ?_
      exact z_iret rfl dX0_step_43 rfl
abbrev mX0_isOneOf : zMr := ("HiddenCube", cX0_isOneOf, 2, (some .boolean), 2, 0, 0, none)
def F_X0_isOneOf (a1 : Int32) (a2 : Int32) (S : zSt) : Option (Int32 × zSt) :=
zbind (F_X0_isIn ((a1).toInt64) 0 ((a2 - 1).toInt64) S) (fun r2 S1 =>
some (r2 &&& 1, S1))
theorem mv_X0_isOneOf : ZS mX0_isOneOf yX0_isOneOf 2 := ⟨q738, q150, q739, by decide, by decide, by decide +kernel⟩
theorem ct_X0_isOneOf {G : zGw} (a1 : Int32) (a2 : Int32) : Zc mX0_isOneOf yX0_isOneOf zJI G [.int a1, .int a2] (F_X0_isOneOf a1 a2) := by
  refine Zc_of [some (.int a1), some (.int a2)] (by decide) rfl rfl (Nat.le_of_ble_eq_true rfl) rfl (fun X S res => ?_)
  unfold F_X0_isOneOf
  refine z_iload_n (pc := 0) 0 dX0_isOneOf_0 rfl rfl ?_
  refine z_i2l (pc := 1) dX0_isOneOf_1 ?_
  refine z_lconst (pc := 2) (v := 0) dX0_isOneOf_2 (by decide) ?_
  refine z_iload_n (pc := 3) 1 dX0_isOneOf_3 rfl rfl ?_
  refine z_iconst (pc := 4) (v := 1) dX0_isOneOf_4 (by decide) ?_
  refine z_isub (pc := 5) dX0_isOneOf_5 ?_
  refine z_i2l (pc := 6) dX0_isOneOf_6 ?_
  refine z_callSi (pc := 7) _ _ (ct_X0_isIn  _ _ _) mv_X0_isIn q429 rfl (Nat.le_of_ble_eq_true rfl) (Nat.le_of_ble_eq_true rfl) rfl rfl (Nat.le_of_ble_eq_true rfl) dX0_isOneOf_7 (fun r2 S1 => ?_)
  exact z_zret rfl rfl dX0_isOneOf_10 rfl
abbrev mX1_sets : zMr := ("HiddenCube$Town", cX1_sets, 5, none, 1, 0, 0, none)
def F_X1_sets (b : Nat) (a1 : Int32) (a2 : Int32) (a3 : Int32) (S : zSt) : Option (Unit × zSt) :=
zlet (a1 ^^^ ((1 : Int32) <<< (a2 &&& 31)) : Int32) (fun w1 : Int32 =>
chk a1 32 (chk a1 32 (zlet (sI S (b + 6) (a1).toNatClampNeg (((S.1 (b + 6) (a1).toNatClampNeg) &&& (((1 : Int32) <<< (a2 &&& 31)) ^^^ (-1))) ||| (a3 <<< (a2 &&& 31))) : zSt) (fun S4 : zSt =>
chk w1 32 (chk w1 32 (zlet (sI S4 (b + 6) (w1).toNatClampNeg (((S4.1 (b + 6) (w1).toNatClampNeg) &&& (((1 : Int32) <<< (a2 &&& 31)) ^^^ (-1))) ||| (a3 <<< (a2 &&& 31))) : zSt) (fun S7 : zSt =>
some ((), S7))))))))
theorem mv_X1_sets : ZV mX1_sets yX1_sets 3 := ⟨q685, q686, q151, q687, rfl, by decide, by decide, by decide +kernel⟩
theorem ct_X1_sets {G : zGw} {b : Nat} (hT : zGT G b) (a1 : Int32) (a2 : Int32) (a3 : Int32) : Zc mX1_sets yX1_sets zJV G [.ref (G.1 b), .int a1, .int a2, .int a3] (F_X1_sets b a1 a2 a3) := by
  refine Zc_of [some (.ref (G.1 b)), some (.int a1), some (.int a2), some (.int a3), none] (by decide) rfl rfl (Nat.le_of_ble_eq_true rfl) rfl (fun X S res => ?_)
  unfold F_X1_sets
  refine z_iload_n (pc := 0) 1 dX1_sets_0 rfl rfl ?_
  refine z_iconst (pc := 1) (v := 1) dX1_sets_1 (by decide) ?_
  refine z_iload_n (pc := 2) 2 dX1_sets_2 rfl rfl ?_
  refine z_ishl (pc := 3) dX1_sets_3 ?_
  refine z_ixor (pc := 4) dX1_sets_4 ?_
  refine z_letI (fun w1 => ?_)
  refine z_istore (pc := 5) dX1_sets_5 (Nat.le_of_ble_eq_true rfl) rfl ?_
  refine z_aload_n (pc := 7) 0 dX1_sets_7 rfl rfl ?_
  refine gf_X1_T_28_b hT (pc := 8) dX1_sets_8 ?_
  refine z_iload_n (pc := 11) 1 dX1_sets_11 rfl rfl ?_
  refine z_aload_n (pc := 12) 0 dX1_sets_12 rfl rfl ?_
  refine gf_X1_T_28_b hT (pc := 13) dX1_sets_13 ?_
  refine z_iload_n (pc := 16) 1 dX1_sets_16 rfl rfl ?_
  refine z_chk (fun h2 => ?_)
  refine z_iaload (pc := 17) (b + 6) 32 (zGT_a6 hT) h2 dX1_sets_17 ?_
  refine z_iconst (pc := 18) (v := 1) dX1_sets_18 (by decide) ?_
  refine z_iload_n (pc := 19) 2 dX1_sets_19 rfl rfl ?_
  refine z_ishl (pc := 20) dX1_sets_20 ?_
  refine z_iconst (pc := 21) (v := (-1)) dX1_sets_21 (by decide) ?_
  refine z_ixor (pc := 22) dX1_sets_22 ?_
  refine z_iand (pc := 23) dX1_sets_23 ?_
  refine z_iload_n (pc := 24) 3 dX1_sets_24 rfl rfl ?_
  refine z_iload_n (pc := 25) 2 dX1_sets_25 rfl rfl ?_
  refine z_ishl (pc := 26) dX1_sets_26 ?_
  refine z_ior (pc := 27) dX1_sets_27 ?_
  refine z_chk (fun h3 => ?_)
  refine z_iastore (pc := 28) (b + 6) 32 (zGT_a6 hT) h3 dX1_sets_28 ?_
  refine z_letS (fun S4 => ?_)
  refine z_aload_n (pc := 29) 0 dX1_sets_29 rfl rfl ?_
  refine gf_X1_T_28_b hT (pc := 30) dX1_sets_30 ?_
  refine z_iload (pc := 33) dX1_sets_33 rfl ?_
  refine z_aload_n (pc := 35) 0 dX1_sets_35 rfl rfl ?_
  refine gf_X1_T_28_b hT (pc := 36) dX1_sets_36 ?_
  refine z_iload (pc := 39) dX1_sets_39 rfl ?_
  refine z_chk (fun h5 => ?_)
  refine z_iaload (pc := 41) (b + 6) 32 (zGT_a6 hT) h5 dX1_sets_41 ?_
  refine z_iconst (pc := 42) (v := 1) dX1_sets_42 (by decide) ?_
  refine z_iload_n (pc := 43) 2 dX1_sets_43 rfl rfl ?_
  refine z_ishl (pc := 44) dX1_sets_44 ?_
  refine z_iconst (pc := 45) (v := (-1)) dX1_sets_45 (by decide) ?_
  refine z_ixor (pc := 46) dX1_sets_46 ?_
  refine z_iand (pc := 47) dX1_sets_47 ?_
  refine z_iload_n (pc := 48) 3 dX1_sets_48 rfl rfl ?_
  refine z_iload_n (pc := 49) 2 dX1_sets_49 rfl rfl ?_
  refine z_ishl (pc := 50) dX1_sets_50 ?_
  refine z_ior (pc := 51) dX1_sets_51 ?_
  refine z_chk (fun h6 => ?_)
  refine z_iastore (pc := 52) (b + 6) 32 (zGT_a6 hT) h6 dX1_sets_52 ?_
  refine z_letS (fun S7 => ?_)
  exact z_vret rfl dX1_sets_53 rfl
abbrev mX0_shut : zMr := ("HiddenCube", cX0_shut, 5, (some .int), 3, 0, 0, none)
def F_X0_shut (a1 : Int32) (a2 : Int32) (a3 : Int32) (S : zSt) : Option (Int32 × zSt) :=
zbind (F_X0_isSquare ((a1).toInt64) S) (fun r2 S1 =>
if r2 = 0 then (some ((-2), S1)) else (zbind (F_X0_isName a2 S1) (fun r4 S3 =>
if r4 = 0 then (some ((-2), S3)) else (zbind (F_X0_isOneOf a3 2 S3) (fun r6 S5 =>
if r6 = 0 then (some ((-2), S5)) else (zbind (F_X1_isOpen 1 a1 a2 S5) (fun r8 S7 =>
zlet ((if r8 = 0 then 1 else 0) : Int32) (fun w10 : Int32 =>
zbind (F_X1_sets 1 a1 a2 a3 S7) (fun _ S11 =>
some (w10, S11))))))))))
theorem mv_X0_shut : ZV mX0_shut yX0_shut 3 := ⟨q734, q735, q150, q736, rfl, by decide, by decide, by decide +kernel⟩
theorem ct_X0_shut {G : zGw} (hG : zGC G) (a1 : Int32) (a2 : Int32) (a3 : Int32) : Zc mX0_shut yX0_shut zJI G [.ref (G.1 0), .int a1, .int a2, .int a3] (F_X0_shut a1 a2 a3) := by
  refine Zc_of [some (.ref (G.1 0)), some (.int a1), some (.int a2), some (.int a3), none] (by decide) rfl rfl (Nat.le_of_ble_eq_true rfl) rfl (fun X S res => ?_)
  unfold F_X0_shut
  refine z_aload_n (pc := 0) 0 dX0_shut_0 rfl rfl ?_
  refine z_iload_n (pc := 1) 1 dX0_shut_1 rfl rfl ?_
  refine z_i2l (pc := 2) dX0_shut_2 ?_
  refine z_callVi (pc := 3) _ _ 0 0 (ct_X0_isSquare hG _) mv_X0_isSquare q723 rfl (zGC_s0 hG) rfl (Nat.le_of_ble_eq_true rfl) (Nat.le_of_ble_eq_true rfl) rfl rfl (Nat.le_of_ble_eq_true rfl) dX0_shut_3 (fun r2 S1 => ?_)
  refine z_if_eq (pc := 6) 25 dX0_shut_6 rfl ?_ ?_
  · refine z_bipush (pc := 25) (v := (-2)) dX0_shut_25 (by decide) ?_
    exact z_iret rfl dX0_shut_27 rfl
  · refine z_aload_n (pc := 9) 0 dX0_shut_9 rfl rfl ?_
    refine z_iload_n (pc := 10) 2 dX0_shut_10 rfl rfl ?_
    refine z_callVi (pc := 11) _ _ 0 0 (ct_X0_isName hG _) mv_X0_isName q715 rfl (zGC_s0 hG) rfl (Nat.le_of_ble_eq_true rfl) (Nat.le_of_ble_eq_true rfl) rfl rfl (Nat.le_of_ble_eq_true rfl) dX0_shut_11 (fun r4 S3 => ?_)
    refine z_if_eq (pc := 14) 25 dX0_shut_14 rfl ?_ ?_
    · refine z_bipush (pc := 25) (v := (-2)) dX0_shut_25 (by decide) ?_
      exact z_iret rfl dX0_shut_27 rfl
    · refine z_iload_n (pc := 17) 3 dX0_shut_17 rfl rfl ?_
      refine z_iconst (pc := 18) (v := 2) dX0_shut_18 (by decide) ?_
      refine z_callSi (pc := 19) _ _ (ct_X0_isOneOf  _ _) mv_X0_isOneOf q737 rfl (Nat.le_of_ble_eq_true rfl) (Nat.le_of_ble_eq_true rfl) rfl rfl (Nat.le_of_ble_eq_true rfl) dX0_shut_19 (fun r6 S5 => ?_)
      refine z_if_ne (pc := 22) 28 dX0_shut_22 rfl ?_ ?_
      · refine z_aload_n (pc := 28) 0 dX0_shut_28 rfl rfl ?_
        refine gf_X0_C_10_0 hG (pc := 29) dX0_shut_29 ?_
        refine z_iload_n (pc := 32) 1 dX0_shut_32 rfl rfl ?_
        refine z_iload_n (pc := 33) 2 dX0_shut_33 rfl rfl ?_
        refine z_callVi (pc := 34) _ _ 1 1 (ct_X1_isOpen (zGC_T hG) _ _) mv_X1_isOpen q728 rfl (zGC_s1 hG) rfl (Nat.le_of_ble_eq_true rfl) (Nat.le_of_ble_eq_true rfl) rfl rfl (Nat.le_of_ble_eq_true rfl) dX0_shut_34 (fun r8 S7 => ?_)
        refine z_pure (st0 := []) 45 ((if r8 = 0 then 1 else 0)) ?_ (fun hJ => ?_)
        · refine z_letI (fun w10 => ?_)
          refine z_istore (pc := 45) dX0_shut_45 (Nat.le_of_ble_eq_true rfl) rfl ?_
          refine z_aload_n (pc := 47) 0 dX0_shut_47 rfl rfl ?_
          refine gf_X0_C_10_0 hG (pc := 48) dX0_shut_48 ?_
          refine z_iload_n (pc := 51) 1 dX0_shut_51 rfl rfl ?_
          refine z_iload_n (pc := 52) 2 dX0_shut_52 rfl rfl ?_
          refine z_iload_n (pc := 53) 3 dX0_shut_53 rfl rfl ?_
          refine z_callVv (pc := 54) _ _ 1 1 (ct_X1_sets (zGC_T hG) _ _ _) mv_X1_sets q740 rfl (zGC_s1 hG) rfl (Nat.le_of_ble_eq_true rfl) (Nat.le_of_ble_eq_true rfl) rfl rfl (Nat.le_of_ble_eq_true rfl) dX0_shut_54 (fun _ S11 => ?_)
          refine z_iload (pc := 57) dX0_shut_57 rfl ?_
          exact z_iret rfl dX0_shut_59 rfl
        · refine z_ifd_eq (pc := 37) 44 dX0_shut_37 rfl (fun c12 => ?_) (fun c12 => ?_)
          · refine z_iconst (pc := 44) (v := 1) dX0_shut_44 (by decide) ?_
            exact z_leaf hJ (by simp only [if_pos c12])
          · refine z_iconst (pc := 40) (v := 0) dX0_shut_40 (by decide) ?_
            refine z_goto (pc := 41) 45 dX0_shut_41 rfl ?_
            exact z_leaf hJ (by simp only [if_neg c12])
      · refine z_bipush (pc := 25) (v := (-2)) dX0_shut_25 (by decide) ?_
        exact z_iret rfl dX0_shut_27 rfl
abbrev mJ7_bitCount : zMr := ("java/lang/Integer", cJ7_bitCount, 1, (some .int), 1, 0, 0, none)
def F_J7_bitCount (a1 : Int32) (S : zSt) : Option (Int32 × zSt) :=
zlet (a1 - ((iushr a1 1) &&& 1431655765) : Int32) (fun w1 : Int32 =>
zlet ((w1 &&& 858993459) + ((iushr w1 2) &&& 858993459) : Int32) (fun w2 : Int32 =>
zlet ((w2 + (iushr w2 4)) &&& 252645135 : Int32) (fun w3 : Int32 =>
zlet (w3 + (iushr w3 8) : Int32) (fun w4 : Int32 =>
zlet (w4 + (iushr w4 16) : Int32) (fun w5 : Int32 =>
some (w5 &&& 63, S))))))
theorem mv_J7_bitCount : ZS mJ7_bitCount yJ7_bitCount 1 := ⟨q750, q167, q751, by decide, by decide, by decide +kernel⟩
theorem ct_J7_bitCount {G : zGw} (a1 : Int32) : Zc mJ7_bitCount yJ7_bitCount zJI G [.int a1] (F_J7_bitCount a1) := by
  refine Zc_ofF [some (.int a1)] (by decide +kernel) rfl rfl (Nat.le_of_ble_eq_true rfl) rfl (fun X S res => ?_)
  unfold F_J7_bitCount
  refine z_iload_n (pc := 0) 0 dJ7_bitCount_0 rfl rfl ?_
  refine z_iload_n (pc := 1) 0 dJ7_bitCount_1 rfl rfl ?_
  refine z_iconst (pc := 2) (v := 1) dJ7_bitCount_2 (by decide) ?_
  refine z_iushr (pc := 3) dJ7_bitCount_3 ?_
  refine z_ldcw (pc := 4) (v := 1431655765) dJ7_bitCount_4 q752 ?_
  refine z_iand (pc := 7) dJ7_bitCount_7 ?_
  refine z_isub (pc := 8) dJ7_bitCount_8 ?_
  refine z_letI (fun w1 => ?_)
  refine z_istore_n (pc := 9) 0 dJ7_bitCount_9 rfl (Nat.le_of_ble_eq_true rfl) rfl ?_
  refine z_iload_n (pc := 10) 0 dJ7_bitCount_10 rfl rfl ?_
  refine z_ldcw (pc := 11) (v := 858993459) dJ7_bitCount_11 q753 ?_
  refine z_iand (pc := 14) dJ7_bitCount_14 ?_
  refine z_iload_n (pc := 15) 0 dJ7_bitCount_15 rfl rfl ?_
  refine z_iconst (pc := 16) (v := 2) dJ7_bitCount_16 (by decide) ?_
  refine z_iushr (pc := 17) dJ7_bitCount_17 ?_
  refine z_ldcw (pc := 18) (v := 858993459) dJ7_bitCount_18 q753 ?_
  refine z_iand (pc := 21) dJ7_bitCount_21 ?_
  refine z_iadd (pc := 22) dJ7_bitCount_22 ?_
  refine z_letI (fun w2 => ?_)
  refine z_istore_n (pc := 23) 0 dJ7_bitCount_23 rfl (Nat.le_of_ble_eq_true rfl) rfl ?_
  refine z_iload_n (pc := 24) 0 dJ7_bitCount_24 rfl rfl ?_
  refine z_iload_n (pc := 25) 0 dJ7_bitCount_25 rfl rfl ?_
  refine z_iconst (pc := 26) (v := 4) dJ7_bitCount_26 (by decide) ?_
  refine z_iushr (pc := 27) dJ7_bitCount_27 ?_
  refine z_iadd (pc := 28) dJ7_bitCount_28 ?_
  refine z_ldcw (pc := 29) (v := 252645135) dJ7_bitCount_29 q754 ?_
  refine z_iand (pc := 32) dJ7_bitCount_32 ?_
  refine z_letI (fun w3 => ?_)
  refine z_istore_n (pc := 33) 0 dJ7_bitCount_33 rfl (Nat.le_of_ble_eq_true rfl) rfl ?_
  refine z_iload_n (pc := 34) 0 dJ7_bitCount_34 rfl rfl ?_
  refine z_iload_n (pc := 35) 0 dJ7_bitCount_35 rfl rfl ?_
  refine z_bipush (pc := 36) (v := 8) dJ7_bitCount_36 (by decide) ?_
  refine z_iushr (pc := 38) dJ7_bitCount_38 ?_
  refine z_iadd (pc := 39) dJ7_bitCount_39 ?_
  refine z_letI (fun w4 => ?_)
  refine z_istore_n (pc := 40) 0 dJ7_bitCount_40 rfl (Nat.le_of_ble_eq_true rfl) rfl ?_
  refine z_iload_n (pc := 41) 0 dJ7_bitCount_41 rfl rfl ?_
  refine z_iload_n (pc := 42) 0 dJ7_bitCount_42 rfl rfl ?_
  refine z_bipush (pc := 43) (v := 16) dJ7_bitCount_43 (by decide) ?_
  refine z_iushr (pc := 45) dJ7_bitCount_45 ?_
  refine z_iadd (pc := 46) dJ7_bitCount_46 ?_
  refine z_letI (fun w5 => ?_)
  refine z_istore_n (pc := 47) 0 dJ7_bitCount_47 rfl (Nat.le_of_ble_eq_true rfl) rfl ?_
  refine z_iload_n (pc := 48) 0 dJ7_bitCount_48 rfl rfl ?_
  refine z_bipush (pc := 49) (v := 63) dJ7_bitCount_49 (by decide) ?_
  refine z_iand (pc := 51) dJ7_bitCount_51 ?_
  exact z_iret rfl dJ7_bitCount_52 rfl
abbrev mX0_waysOf : zMr := ("HiddenCube", cX0_waysOf, 2, (some .int), 2, 0, 0, none)
def F_X0_waysOf (a1 : Int32) (S : zSt) : Option (Int32 × zSt) :=
chk a1 32 (zbind (F_J7_bitCount (S.1 7 (a1).toNatClampNeg) S) (fun r3 S2 =>
some ((S.1 1 0) - r3, S2)))
theorem mv_X0_waysOf : ZV mX0_waysOf yX0_waysOf 1 := ⟨q747, qs21, q150, q748, rfl, by decide, by decide, by decide +kernel⟩
theorem ct_X0_waysOf {G : zGw} (hG : zGC G) (a1 : Int32) : Zc mX0_waysOf yX0_waysOf zJI G [.ref (G.1 0), .int a1] (F_X0_waysOf a1) := by
  refine Zc_of [some (.ref (G.1 0)), some (.int a1)] (by decide) rfl rfl (Nat.le_of_ble_eq_true rfl) rfl (fun X S res => ?_)
  unfold F_X0_waysOf
  refine z_aload_n (pc := 0) 0 dX0_waysOf_0 rfl rfl ?_
  refine gf_X0_C_10_0 hG (pc := 1) dX0_waysOf_1 ?_
  refine gf_X0_C_158_1 hG (pc := 4) dX0_waysOf_4 ?_
  refine z_aload_n (pc := 7) 0 dX0_waysOf_7 rfl rfl ?_
  refine gf_X0_C_10_0 hG (pc := 8) dX0_waysOf_8 ?_
  refine gf_X0_C_192_1 hG (pc := 11) dX0_waysOf_11 ?_
  refine z_iload_n (pc := 14) 1 dX0_waysOf_14 rfl rfl ?_
  refine z_chk (fun h1 => ?_)
  refine z_iaload (pc := 15) 7 32 (zGC_s7 hG) h1 dX0_waysOf_15 ?_
  refine z_callSi (pc := 16) _ _ (ct_J7_bitCount  _) mv_J7_bitCount q749 rfl (Nat.le_of_ble_eq_true rfl) (Nat.le_of_ble_eq_true rfl) rfl rfl (Nat.le_of_ble_eq_true rfl) dX0_waysOf_16 (fun r3 S2 => ?_)
  refine z_isub (pc := 19) dX0_waysOf_19 ?_
  exact z_iret rfl dX0_waysOf_20 rfl
abbrev mX0_ways : zMr := ("HiddenCube", cX0_ways, 2, (some .int), 3, 0, 0, none)
def F_X0_ways (a1 : Int32) (S : zSt) : Option (Int32 × zSt) :=
zbind (F_X0_isSquare ((a1).toInt64) S) (fun r2 S1 =>
if r2 = 0 then (some ((-2), S1)) else (zbind (F_X0_waysOf a1 S1) (fun r4 S3 =>
some (r4, S3))))
theorem mv_X0_ways : ZV mX0_ways yX0_ways 1 := ⟨q742, q743, q150, q744, rfl, by decide, by decide, by decide +kernel⟩
theorem ct_X0_ways {G : zGw} (hG : zGC G) (a1 : Int32) : Zc mX0_ways yX0_ways zJI G [.ref (G.1 0), .int a1] (F_X0_ways a1) := by
  refine Zc_of [some (.ref (G.1 0)), some (.int a1)] (by decide) rfl rfl (Nat.le_of_ble_eq_true rfl) rfl (fun X S res => ?_)
  unfold F_X0_ways
  refine z_aload_n (pc := 0) 0 dX0_ways_0 rfl rfl ?_
  refine z_iload_n (pc := 1) 1 dX0_ways_1 rfl rfl ?_
  refine z_i2l (pc := 2) dX0_ways_2 ?_
  refine z_callVi (pc := 3) _ _ 0 0 (ct_X0_isSquare hG _) mv_X0_isSquare q723 rfl (zGC_s0 hG) rfl (Nat.le_of_ble_eq_true rfl) (Nat.le_of_ble_eq_true rfl) rfl rfl (Nat.le_of_ble_eq_true rfl) dX0_ways_3 (fun r2 S1 => ?_)
  refine z_if_eq (pc := 6) 17 dX0_ways_6 rfl ?_ ?_
  · refine z_bipush (pc := 17) (v := (-2)) dX0_ways_17 (by decide) ?_
    exact z_iret rfl dX0_ways_19 rfl
  · refine z_aload_n (pc := 9) 0 dX0_ways_9 rfl rfl ?_
    refine z_iload_n (pc := 10) 1 dX0_ways_10 rfl rfl ?_
    refine z_callVi (pc := 11) _ _ 0 0 (ct_X0_waysOf hG _) mv_X0_waysOf q745 rfl (zGC_s0 hG) rfl (Nat.le_of_ble_eq_true rfl) (Nat.le_of_ble_eq_true rfl) rfl rfl (Nat.le_of_ble_eq_true rfl) dX0_ways_11 (fun r4 S3 => ?_)
    refine z_goto (pc := 14) 19 dX0_ways_14 rfl ?_
    exact z_iret rfl dX0_ways_19 rfl
abbrev mX0_opposite : zMr := ("HiddenCube", cX0_opposite, 2, (some .int), 3, 0, 0, none)
def F_X0_opposite (a1 : Int32) (S : zSt) : Option (Int32 × zSt) :=
zbind (F_X0_isSquare ((a1).toInt64) S) (fun r2 S1 =>
if r2 = 0 then (some ((-2), S1)) else (zbind (F_X1_squares 1 S1) (fun r4 S3 =>
some (a1 ^^^ (r4 - 1), S3))))
theorem mv_X0_opposite : ZV mX0_opposite yX0_opposite 1 := ⟨q756, q757, q150, q758, rfl, by decide, by decide, by decide +kernel⟩
theorem ct_X0_opposite {G : zGw} (hG : zGC G) (a1 : Int32) : Zc mX0_opposite yX0_opposite zJI G [.ref (G.1 0), .int a1] (F_X0_opposite a1) := by
  refine Zc_of [some (.ref (G.1 0)), some (.int a1)] (by decide) rfl rfl (Nat.le_of_ble_eq_true rfl) rfl (fun X S res => ?_)
  unfold F_X0_opposite
  refine z_aload_n (pc := 0) 0 dX0_opposite_0 rfl rfl ?_
  refine z_iload_n (pc := 1) 1 dX0_opposite_1 rfl rfl ?_
  refine z_i2l (pc := 2) dX0_opposite_2 ?_
  refine z_callVi (pc := 3) _ _ 0 0 (ct_X0_isSquare hG _) mv_X0_isSquare q723 rfl (zGC_s0 hG) rfl (Nat.le_of_ble_eq_true rfl) (Nat.le_of_ble_eq_true rfl) rfl rfl (Nat.le_of_ble_eq_true rfl) dX0_opposite_3 (fun r2 S1 => ?_)
  refine z_if_eq (pc := 6) 23 dX0_opposite_6 rfl ?_ ?_
  · refine z_bipush (pc := 23) (v := (-2)) dX0_opposite_23 (by decide) ?_
    exact z_iret rfl dX0_opposite_25 rfl
  · refine z_iload_n (pc := 9) 1 dX0_opposite_9 rfl rfl ?_
    refine z_aload_n (pc := 10) 0 dX0_opposite_10 rfl rfl ?_
    refine gf_X0_C_10_0 hG (pc := 11) dX0_opposite_11 ?_
    refine z_callVi (pc := 14) _ _ 1 1 (ct_X1_squares (zGC_T hG)) mv_X1_squares q727 rfl (zGC_s1 hG) rfl (Nat.le_of_ble_eq_true rfl) (Nat.le_of_ble_eq_true rfl) rfl rfl (Nat.le_of_ble_eq_true rfl) dX0_opposite_14 (fun r4 S3 => ?_)
    refine z_iconst (pc := 17) (v := 1) dX0_opposite_17 (by decide) ?_
    refine z_isub (pc := 18) dX0_opposite_18 ?_
    refine z_ixor (pc := 19) dX0_opposite_19 ?_
    refine z_goto (pc := 20) 25 dX0_opposite_20 rfl ?_
    exact z_iret rfl dX0_opposite_25 rfl
abbrev mX0_apart : zMr := ("HiddenCube", cX0_apart, 3, (some .int), 3, 0, 0, none)
def F_X0_apart (a1 : Int32) (a2 : Int32) (S : zSt) : Option (Int32 × zSt) :=
zbind (F_X0_isSquare ((a1).toInt64) S) (fun r2 S1 =>
if r2 = 0 then (some ((-2), S1)) else (zbind (F_X0_isSquare ((a2).toInt64) S1) (fun r4 S3 =>
if r4 = 0 then (some ((-2), S3)) else (zbind (F_J7_bitCount (a1 ^^^ a2) S3) (fun r6 S5 =>
some (r6, S5))))))
theorem mv_X0_apart : ZV mX0_apart yX0_apart 2 := ⟨q760, q761, q150, q762, rfl, by decide, by decide, by decide +kernel⟩
theorem ct_X0_apart {G : zGw} (hG : zGC G) (a1 : Int32) (a2 : Int32) : Zc mX0_apart yX0_apart zJI G [.ref (G.1 0), .int a1, .int a2] (F_X0_apart a1 a2) := by
  refine Zc_of [some (.ref (G.1 0)), some (.int a1), some (.int a2)] (by decide) rfl rfl (Nat.le_of_ble_eq_true rfl) rfl (fun X S res => ?_)
  unfold F_X0_apart
  refine z_aload_n (pc := 0) 0 dX0_apart_0 rfl rfl ?_
  refine z_iload_n (pc := 1) 1 dX0_apart_1 rfl rfl ?_
  refine z_i2l (pc := 2) dX0_apart_2 ?_
  refine z_callVi (pc := 3) _ _ 0 0 (ct_X0_isSquare hG _) mv_X0_isSquare q723 rfl (zGC_s0 hG) rfl (Nat.le_of_ble_eq_true rfl) (Nat.le_of_ble_eq_true rfl) rfl rfl (Nat.le_of_ble_eq_true rfl) dX0_apart_3 (fun r2 S1 => ?_)
  refine z_if_eq (pc := 6) 27 dX0_apart_6 rfl ?_ ?_
  · refine z_bipush (pc := 27) (v := (-2)) dX0_apart_27 (by decide) ?_
    exact z_iret rfl dX0_apart_29 rfl
  · refine z_aload_n (pc := 9) 0 dX0_apart_9 rfl rfl ?_
    refine z_iload_n (pc := 10) 2 dX0_apart_10 rfl rfl ?_
    refine z_i2l (pc := 11) dX0_apart_11 ?_
    refine z_callVi (pc := 12) _ _ 0 0 (ct_X0_isSquare hG _) mv_X0_isSquare q723 rfl (zGC_s0 hG) rfl (Nat.le_of_ble_eq_true rfl) (Nat.le_of_ble_eq_true rfl) rfl rfl (Nat.le_of_ble_eq_true rfl) dX0_apart_12 (fun r4 S3 => ?_)
    refine z_if_eq (pc := 15) 27 dX0_apart_15 rfl ?_ ?_
    · refine z_bipush (pc := 27) (v := (-2)) dX0_apart_27 (by decide) ?_
      exact z_iret rfl dX0_apart_29 rfl
    · refine z_iload_n (pc := 18) 1 dX0_apart_18 rfl rfl ?_
      refine z_iload_n (pc := 19) 2 dX0_apart_19 rfl rfl ?_
      refine z_ixor (pc := 20) dX0_apart_20 ?_
      refine z_callSi (pc := 21) _ _ (ct_J7_bitCount  _) mv_J7_bitCount q749 rfl (Nat.le_of_ble_eq_true rfl) (Nat.le_of_ble_eq_true rfl) rfl rfl (Nat.le_of_ble_eq_true rfl) dX0_apart_21 (fun r6 S5 => ?_)
      refine z_goto (pc := 24) 29 dX0_apart_24 rfl ?_
      exact z_iret rfl dX0_apart_29 rfl
abbrev mX0_streets : zMr := ("HiddenCube", cX0_streets, 4, (some .int), 3, 0, 0, none)
def LB_X0_streets_1 (a1 : Int32) (rec3 : Int32 → Int32 → zSt → Option (Int32 × zSt)) (x4 : Int32) (x5 : Int32) (S6 : zSt) : Option (Int32 × zSt) :=
zbind (F_X1_squares 1 S6) (fun r8 S7 =>
if r8 ≤ x5 then (some (x4, S7)) else (zbind (F_X0_has x5 a1 S7) (fun r10 S9 =>
joinK (fun (v12 : Int32) (S13 : zSt) => rec3 (x4 + v12) (x5 + 1) S13) (fun j11 : Int32 → zSt → Option (Int32 × zSt) =>
joinK (fun  (S15 : zSt) => j11 0 S15) (fun j14 : zSt → Option (Int32 × zSt) =>
if r10 = 0 then (zbind (F_X1_isOpen 1 x5 a1 S9) (fun r17 S16 =>
if r17 = 0 then (j14 S16) else (j11 1 S16))) else (j14 S9))))))
def F_X0_streets (a1 : Int32) (S : zSt) : Option (Int32 × zSt) :=
zbind (F_X0_isName a1 S) (fun r2 S1 =>
if r2 = 0 then (some ((-2), S1)) else (loopK (fun _ _ _ => none) (LB_X0_streets_1 a1) zfuel 0 0 S1))
theorem mv_X0_streets : ZV mX0_streets yX0_streets 1 := ⟨q764, q765, q150, q766, rfl, by decide, by decide, by decide +kernel⟩
theorem ct_X0_streets {G : zGw} (hG : zGC G) (a1 : Int32) : Zc mX0_streets yX0_streets zJI G [.ref (G.1 0), .int a1] (F_X0_streets a1) := by
  refine Zc_of [some (.ref (G.1 0)), some (.int a1), none, none] (by decide) rfl rfl (Nat.le_of_ble_eq_true rfl) rfl (fun X S res => ?_)
  unfold F_X0_streets
  refine z_aload_n (pc := 0) 0 dX0_streets_0 rfl rfl ?_
  refine z_iload_n (pc := 1) 1 dX0_streets_1 rfl rfl ?_
  refine z_callVi (pc := 2) _ _ 0 0 (ct_X0_isName hG _) mv_X0_isName q715 rfl (zGC_s0 hG) rfl (Nat.le_of_ble_eq_true rfl) (Nat.le_of_ble_eq_true rfl) rfl rfl (Nat.le_of_ble_eq_true rfl) dX0_streets_2 (fun r2 S1 => ?_)
  refine z_if_ne (pc := 5) 11 dX0_streets_5 rfl ?_ ?_
  · refine z_iconst (pc := 11) (v := 0) dX0_streets_11 (by decide) ?_
    refine z_istore_n (pc := 12) 2 dX0_streets_12 rfl (Nat.le_of_ble_eq_true rfl) rfl ?_
    refine z_iconst (pc := 13) (v := 0) dX0_streets_13 (by decide) ?_
    refine z_istore_n (pc := 14) 3 dX0_streets_14 rfl (Nat.le_of_ble_eq_true rfl) rfl ?_
    refine z_loopK (fun j : Int32 → Int32 → zSt → Option (Int32 × zSt) => ∀ (x4 : Int32) (x5 : Int32) (S6 : zSt), Zm X mX0_streets zJI G (0, 0) res S6 15 [some (.ref (G.1 0)), some (.int a1), some (.int x4), some (.int x5)] [] (j x4 x5 S6)) ?_ ?_ zfuel _ _ _
    · intro x4 x5 S6; exact z_none
    · intro rec3 hrec3 x4 x5 S6
      unfold LB_X0_streets_1
      refine z_iload_n (pc := 15) 3 dX0_streets_15 rfl rfl ?_
      refine z_aload_n (pc := 16) 0 dX0_streets_16 rfl rfl ?_
      refine gf_X0_C_10_0 hG (pc := 17) dX0_streets_17 ?_
      refine z_callVi (pc := 20) _ _ 1 1 (ct_X1_squares (zGC_T hG)) mv_X1_squares q727 rfl (zGC_s1 hG) rfl (Nat.le_of_ble_eq_true rfl) (Nat.le_of_ble_eq_true rfl) rfl rfl (Nat.le_of_ble_eq_true rfl) dX0_streets_20 (fun r8 S7 => ?_)
      refine z_icmp_ge (pc := 23) 60 dX0_streets_23 rfl ?_ ?_
      · refine z_iload_n (pc := 60) 2 dX0_streets_60 rfl rfl ?_
        exact z_iret rfl dX0_streets_61 rfl
      · refine z_iload_n (pc := 26) 2 dX0_streets_26 rfl rfl ?_
        refine z_iload_n (pc := 27) 3 dX0_streets_27 rfl rfl ?_
        refine z_iload_n (pc := 28) 1 dX0_streets_28 rfl rfl ?_
        refine z_callSi (pc := 29) _ _ (ct_X0_has  _ _) mv_X0_has q767 rfl (Nat.le_of_ble_eq_true rfl) (Nat.le_of_ble_eq_true rfl) rfl rfl (Nat.le_of_ble_eq_true rfl) dX0_streets_29 (fun r10 S9 => ?_)
        refine z_join (fun j : Int32 → zSt → Option (Int32 × zSt) => ∀ (v12 : Int32) (S13 : zSt), Zm X mX0_streets zJI G (0, 0) res S13 52 [some (.ref (G.1 0)), some (.int a1), none, some (.int x5)] [.int v12, .int x4] (j v12 S13)) ?_ (fun j11 hj11 => ?_)
        · intro v12 S13
          refine z_iadd (pc := 52) dX0_streets_52 ?_
          refine z_istore_n (pc := 53) 2 dX0_streets_53 rfl (Nat.le_of_ble_eq_true rfl) rfl ?_
          refine z_iinc (pc := 54) (w := x5 + 1) dX0_streets_54 rfl (by rw [show Int32.ofInt 1 = 1 from by decide]) (Nat.le_of_ble_eq_true rfl) rfl ?_
          refine z_goto (pc := 57) 15 dX0_streets_57 rfl ?_
          exact hrec3 _ _ _
        · refine z_join (fun j : zSt → Option (Int32 × zSt) => ∀  (S15 : zSt), Zm X mX0_streets zJI G (0, 0) res S15 51 [some (.ref (G.1 0)), some (.int a1), none, some (.int x5)] [.int x4] (j S15)) ?_ (fun j14 hj14 => ?_)
          · intro S15
            refine z_iconst (pc := 51) (v := 0) dX0_streets_51 (by decide) ?_
            exact hj11 _ _
          · refine z_if_ne (pc := 32) 51 dX0_streets_32 rfl ?_ ?_
            · exact z_mask [true, true, false, true] (hj14 _) rfl
            · refine z_aload_n (pc := 35) 0 dX0_streets_35 rfl rfl ?_
              refine gf_X0_C_10_0 hG (pc := 36) dX0_streets_36 ?_
              refine z_iload_n (pc := 39) 3 dX0_streets_39 rfl rfl ?_
              refine z_iload_n (pc := 40) 1 dX0_streets_40 rfl rfl ?_
              refine z_callVi (pc := 41) _ _ 1 1 (ct_X1_isOpen (zGC_T hG) _ _) mv_X1_isOpen q728 rfl (zGC_s1 hG) rfl (Nat.le_of_ble_eq_true rfl) (Nat.le_of_ble_eq_true rfl) rfl rfl (Nat.le_of_ble_eq_true rfl) dX0_streets_41 (fun r17 S16 => ?_)
              refine z_if_eq (pc := 44) 51 dX0_streets_44 rfl ?_ ?_
              · exact z_mask [true, true, false, true] (hj14 _) rfl
              · refine z_iconst (pc := 47) (v := 1) dX0_streets_47 (by decide) ?_
                refine z_goto (pc := 48) 52 dX0_streets_48 rfl ?_
                exact z_mask [true, true, false, true] (hj11 _ _) rfl
  · refine z_bipush (pc := 8) (v := (-2)) dX0_streets_8 (by decide) ?_
    exact z_iret rfl dX0_streets_10 rfl
abbrev mX2_goes_w8 : zMr := ("HiddenCube$Walk", cX2_goes, 3, (some .boolean), 3, 0, 0, none)
def F_X2_goes_w8 (a1 : Int32) (a2 : Int32) (S : zSt) : Option (Int32 × zSt) :=
zbind (F_X1_isOpen 1 a1 a2 S) (fun r2 S1 =>
some (r2 &&& 1, S1))
theorem mv_X2_goes_w8 : ZV mX2_goes_w8 yX2_goes 2 := ⟨q784, q785, q152, q791, rfl, by decide, by decide, by decide +kernel⟩
theorem ct_X2_goes_w8 {G : zGw} (hG : zGC G) (a1 : Int32) (a2 : Int32) : Zc mX2_goes_w8 yX2_goes zJI G [.ref (G.1 8), .int a1, .int a2] (F_X2_goes_w8 a1 a2) := by
  refine Zc_of [some (.ref (G.1 8)), some (.int a1), some (.int a2)] (by decide) rfl rfl (Nat.le_of_ble_eq_true rfl) rfl (fun X S res => ?_)
  unfold F_X2_goes_w8
  refine z_aload_n (pc := 0) 0 dX2_goes_0 rfl rfl ?_
  refine gf_X2_C_3_8 hG (pc := 1) dX2_goes_1 ?_
  refine gf_X2_C_19_0 hG (pc := 4) dX2_goes_4 ?_
  refine z_iload_n (pc := 7) 1 dX2_goes_7 rfl rfl ?_
  refine z_iload_n (pc := 8) 2 dX2_goes_8 rfl rfl ?_
  refine z_callVi (pc := 9) _ _ 1 1 (ct_X1_isOpen (zGC_T hG) _ _) mv_X1_isOpen q792 rfl (zGC_s1 hG) rfl (Nat.le_of_ble_eq_true rfl) (Nat.le_of_ble_eq_true rfl) rfl rfl (Nat.le_of_ble_eq_true rfl) dX2_goes_9 (fun r2 S1 => ?_)
  exact z_zret rfl rfl dX2_goes_12 rfl
abbrev mX2_spreads_w8 : zMr := ("HiddenCube$Walk", cX2_spreads, 6, none, 4, 0, 0, none)
def LB_X2_spreads_w8_1 (x6 : Int32) (x11 : Int32) (rec10 : Int32 → zSt → Option (Unit × zSt)) (rec16 : Int32 → zSt → Option (Unit × zSt)) (x17 : Int32) (S18 : zSt) : Option (Unit × zSt) :=
if (S18.1 1 0) ≤ x17 then (rec10 (x11 + 1) S18) else (zlet (x11 ^^^ ((1 : Int32) <<< (x17 &&& 31)) : Int32) (fun w19 : Int32 =>
zbind (F_X2_goes_w8 x11 x17 S18) (fun r21 S20 =>
if r21 = 0 then (rec16 (x17 + 1) S20) else (chk w19 32 (if (S20.1 9 (w19).toNatClampNeg) = (-1) then (chk w19 32 (zlet (sI S20 9 (w19).toNatClampNeg (x6 + 1) : zSt) (fun S24 : zSt =>
rec16 (x17 + 1) S24))) else (rec16 (x17 + 1) S20))))))
def LB_X2_spreads_w8_2 (x6 : Int32) (rec5 : Int32 → zSt → Option (Unit × zSt)) (rec10 : Int32 → zSt → Option (Unit × zSt)) (x11 : Int32) (S12 : zSt) : Option (Unit × zSt) :=
zbind (F_X1_squares 1 S12) (fun r14 S13 =>
if r14 ≤ x11 then (rec5 (x6 + 1) S13) else (chk x11 32 (if (S13.1 9 (x11).toNatClampNeg) = x6 then (loopK (fun _ _ => none) (LB_X2_spreads_w8_1 x6 x11 rec10) zfuel 0 S13) else (rec10 (x11 + 1) S13))))
def LB_X2_spreads_w8_3 (rec5 : Int32 → zSt → Option (Unit × zSt)) (x6 : Int32) (S7 : zSt) : Option (Unit × zSt) :=
zbind (F_X1_squares 1 S7) (fun r9 S8 =>
if r9 ≤ x6 then (some ((), S8)) else (loopK (fun _ _ => none) (LB_X2_spreads_w8_2 x6 rec5) zfuel 0 S8))
def LB_X2_spreads_w8_4 (k1 : zSt → Option (Unit × zSt)) (rec25 : Int32 → zSt → Option (Unit × zSt)) (x26 : Int32) (S27 : zSt) : Option (Unit × zSt) :=
if 32 ≤ x26 then (k1 S27) else (chk x26 32 (zlet (sI S27 9 (x26).toNatClampNeg (-1) : zSt) (fun S29 : zSt =>
rec25 (x26 + 1) S29)))
def F_X2_spreads_w8 (a1 : Int32) (S : zSt) : Option (Unit × zSt) :=
joinK (fun  (S2 : zSt) => chk a1 32 (zlet (sI S2 9 (a1).toNatClampNeg 0 : zSt) (fun S4 : zSt =>
loopK (fun _ _ => none) (LB_X2_spreads_w8_3) zfuel 0 S4))) (fun k1 : zSt → Option (Unit × zSt) =>
loopK (fun _ _ => none) (LB_X2_spreads_w8_4 k1) zfuel 0 S)
theorem mv_X2_spreads_w8 : ZV mX2_spreads_w8 yX2_spreads 1 := ⟨q777, q778, q152, q781, rfl, by decide, by decide, by decide +kernel⟩
theorem ct_X2_spreads_w8 {G : zGw} (hG : zGC G) (a1 : Int32) : Zc mX2_spreads_w8 yX2_spreads zJV G [.ref (G.1 8), .int a1] (F_X2_spreads_w8 a1) := by
  refine Zc_of [some (.ref (G.1 8)), some (.int a1), none, none, none, none] (by decide) rfl rfl (Nat.le_of_ble_eq_true rfl) rfl (fun X S res => ?_)
  unfold F_X2_spreads_w8
  refine z_iconst (pc := 0) (v := 0) dX2_spreads_0 (by decide) ?_
  refine z_istore_n (pc := 1) 2 dX2_spreads_1 rfl (Nat.le_of_ble_eq_true rfl) rfl ?_
  refine z_join (fun j : zSt → Option (Unit × zSt) => ∀  (S2 : zSt), Zm X mX2_spreads_w8 zJV G (0, 0) res S2 21 [some (.ref (G.1 8)), some (.int a1), none, none, none, none] [] (j S2)) ?_ (fun k1 hk1 => ?_)
  · intro S2
    refine z_aload_n (pc := 21) 0 dX2_spreads_21 rfl rfl ?_
    refine gf_X2_C_15_8 hG (pc := 22) dX2_spreads_22 ?_
    refine z_iload_n (pc := 25) 1 dX2_spreads_25 rfl rfl ?_
    refine z_iconst (pc := 26) (v := 0) dX2_spreads_26 (by decide) ?_
    refine z_chk (fun h3 => ?_)
    refine z_iastore (pc := 27) 9 32 (zGC_s9 hG) h3 dX2_spreads_27 ?_
    refine z_letS (fun S4 => ?_)
    refine z_iconst (pc := 28) (v := 0) dX2_spreads_28 (by decide) ?_
    refine z_istore_n (pc := 29) 2 dX2_spreads_29 rfl (Nat.le_of_ble_eq_true rfl) rfl ?_
    refine z_maskk [true, false, true, false, false, false] ?_
    refine z_loopK (fun j : Int32 → zSt → Option (Unit × zSt) => ∀ (x6 : Int32) (S7 : zSt), Zm X mX2_spreads_w8 zJV G (0, 0) res S7 30 [some (.ref (G.1 8)), none, some (.int x6), none, none, none] [] (j x6 S7)) ?_ ?_ zfuel _ _
    · intro x6 S7; exact z_none
    · intro rec5 hrec5 x6 S7
      unfold LB_X2_spreads_w8_3
      refine z_iload_n (pc := 30) 2 dX2_spreads_30 rfl rfl ?_
      refine z_aload_n (pc := 31) 0 dX2_spreads_31 rfl rfl ?_
      refine gf_X2_C_3_8 hG (pc := 32) dX2_spreads_32 ?_
      refine gf_X2_C_19_0 hG (pc := 35) dX2_spreads_35 ?_
      refine z_callVi (pc := 38) _ _ 1 1 (ct_X1_squares (zGC_T hG)) mv_X1_squares q782 rfl (zGC_s1 hG) rfl (Nat.le_of_ble_eq_true rfl) (Nat.le_of_ble_eq_true rfl) rfl rfl (Nat.le_of_ble_eq_true rfl) dX2_spreads_38 (fun r9 S8 => ?_)
      refine z_icmp_ge (pc := 41) 148 dX2_spreads_41 rfl ?_ ?_
      · exact z_vret rfl dX2_spreads_148 rfl
      · refine z_iconst (pc := 44) (v := 0) dX2_spreads_44 (by decide) ?_
        refine z_istore_n (pc := 45) 3 dX2_spreads_45 rfl (Nat.le_of_ble_eq_true rfl) rfl ?_
        refine z_loopK (fun j : Int32 → zSt → Option (Unit × zSt) => ∀ (x11 : Int32) (S12 : zSt), Zm X mX2_spreads_w8 zJV G (0, 0) res S12 46 [some (.ref (G.1 8)), none, some (.int x6), some (.int x11), none, none] [] (j x11 S12)) ?_ ?_ zfuel _ _
        · intro x11 S12; exact z_none
        · intro rec10 hrec10 x11 S12
          unfold LB_X2_spreads_w8_2
          refine z_iload_n (pc := 46) 3 dX2_spreads_46 rfl rfl ?_
          refine z_aload_n (pc := 47) 0 dX2_spreads_47 rfl rfl ?_
          refine gf_X2_C_3_8 hG (pc := 48) dX2_spreads_48 ?_
          refine gf_X2_C_19_0 hG (pc := 51) dX2_spreads_51 ?_
          refine z_callVi (pc := 54) _ _ 1 1 (ct_X1_squares (zGC_T hG)) mv_X1_squares q782 rfl (zGC_s1 hG) rfl (Nat.le_of_ble_eq_true rfl) (Nat.le_of_ble_eq_true rfl) rfl rfl (Nat.le_of_ble_eq_true rfl) dX2_spreads_54 (fun r14 S13 => ?_)
          refine z_icmp_ge (pc := 57) 142 dX2_spreads_57 rfl ?_ ?_
          · refine z_iinc (pc := 142) (w := x6 + 1) dX2_spreads_142 rfl (by rw [show Int32.ofInt 1 = 1 from by decide]) (Nat.le_of_ble_eq_true rfl) rfl ?_
            refine z_goto (pc := 145) 30 dX2_spreads_145 rfl ?_
            exact z_mask [true, false, true, false, false, false] (hrec5 _ _) rfl
          · refine z_aload_n (pc := 60) 0 dX2_spreads_60 rfl rfl ?_
            refine gf_X2_C_15_8 hG (pc := 61) dX2_spreads_61 ?_
            refine z_iload_n (pc := 64) 3 dX2_spreads_64 rfl rfl ?_
            refine z_chk (fun h15 => ?_)
            refine z_iaload (pc := 65) 9 32 (zGC_s9 hG) h15 dX2_spreads_65 ?_
            refine z_iload_n (pc := 66) 2 dX2_spreads_66 rfl rfl ?_
            refine z_icmp_eq (pc := 67) 73 dX2_spreads_67 rfl ?_ ?_
            · refine z_iconst (pc := 73) (v := 0) dX2_spreads_73 (by decide) ?_
              refine z_istore (pc := 74) dX2_spreads_74 (Nat.le_of_ble_eq_true rfl) rfl ?_
              refine z_loopK (fun j : Int32 → zSt → Option (Unit × zSt) => ∀ (x17 : Int32) (S18 : zSt), Zm X mX2_spreads_w8 zJV G (0, 0) res S18 76 [some (.ref (G.1 8)), none, some (.int x6), some (.int x11), some (.int x17), none] [] (j x17 S18)) ?_ ?_ zfuel _ _
              · intro x17 S18; exact z_none
              · intro rec16 hrec16 x17 S18
                unfold LB_X2_spreads_w8_1
                refine z_iload (pc := 76) dX2_spreads_76 rfl ?_
                refine z_aload_n (pc := 78) 0 dX2_spreads_78 rfl rfl ?_
                refine gf_X2_C_3_8 hG (pc := 79) dX2_spreads_79 ?_
                refine gf_X2_C_19_0 hG (pc := 82) dX2_spreads_82 ?_
                refine gf_X2_C_33_1 hG (pc := 85) dX2_spreads_85 ?_
                refine z_icmp_ge (pc := 88) 136 dX2_spreads_88 rfl ?_ ?_
                · refine z_iinc (pc := 136) (w := x11 + 1) dX2_spreads_136 rfl (by rw [show Int32.ofInt 1 = 1 from by decide]) (Nat.le_of_ble_eq_true rfl) rfl ?_
                  refine z_goto (pc := 139) 46 dX2_spreads_139 rfl ?_
                  exact z_mask [true, false, true, true, false, false] (hrec10 _ _) rfl
                · refine z_iload_n (pc := 91) 3 dX2_spreads_91 rfl rfl ?_
                  refine z_iconst (pc := 92) (v := 1) dX2_spreads_92 (by decide) ?_
                  refine z_iload (pc := 93) dX2_spreads_93 rfl ?_
                  refine z_ishl (pc := 95) dX2_spreads_95 ?_
                  refine z_ixor (pc := 96) dX2_spreads_96 ?_
                  refine z_letI (fun w19 => ?_)
                  refine z_istore (pc := 97) dX2_spreads_97 (Nat.le_of_ble_eq_true rfl) rfl ?_
                  refine z_aload_n (pc := 99) 0 dX2_spreads_99 rfl rfl ?_
                  refine z_iload_n (pc := 100) 3 dX2_spreads_100 rfl rfl ?_
                  refine z_iload (pc := 101) dX2_spreads_101 rfl ?_
                  refine z_callVi (pc := 103) _ _ 8 2 (ct_X2_goes_w8 hG _ _) mv_X2_goes_w8 q783 rfl (zGC_s8 hG) rfl (Nat.le_of_ble_eq_true rfl) (Nat.le_of_ble_eq_true rfl) rfl rfl (Nat.le_of_ble_eq_true rfl) dX2_spreads_103 (fun r21 S20 => ?_)
                  refine z_if_eq (pc := 106) 130 dX2_spreads_106 rfl ?_ ?_
                  · refine z_iinc (pc := 130) (w := x17 + 1) dX2_spreads_130 rfl (by rw [show Int32.ofInt 1 = 1 from by decide]) (Nat.le_of_ble_eq_true rfl) rfl ?_
                    refine z_goto (pc := 133) 76 dX2_spreads_133 rfl ?_
                    exact z_mask [true, false, true, true, true, false] (hrec16 _ _) rfl
                  · refine z_aload_n (pc := 109) 0 dX2_spreads_109 rfl rfl ?_
                    refine gf_X2_C_15_8 hG (pc := 110) dX2_spreads_110 ?_
                    refine z_iload (pc := 113) dX2_spreads_113 rfl ?_
                    refine z_chk (fun h22 => ?_)
                    refine z_iaload (pc := 115) 9 32 (zGC_s9 hG) h22 dX2_spreads_115 ?_
                    refine z_iconst (pc := 116) (v := (-1)) dX2_spreads_116 (by decide) ?_
                    refine z_icmp_ne (pc := 117) 130 dX2_spreads_117 rfl ?_ ?_
                    · refine z_iinc (pc := 130) (w := x17 + 1) dX2_spreads_130 rfl (by rw [show Int32.ofInt 1 = 1 from by decide]) (Nat.le_of_ble_eq_true rfl) rfl ?_
                      refine z_goto (pc := 133) 76 dX2_spreads_133 rfl ?_
                      exact z_mask [true, false, true, true, true, false] (hrec16 _ _) rfl
                    · refine z_aload_n (pc := 120) 0 dX2_spreads_120 rfl rfl ?_
                      refine gf_X2_C_15_8 hG (pc := 121) dX2_spreads_121 ?_
                      refine z_iload (pc := 124) dX2_spreads_124 rfl ?_
                      refine z_iload_n (pc := 126) 2 dX2_spreads_126 rfl rfl ?_
                      refine z_iconst (pc := 127) (v := 1) dX2_spreads_127 (by decide) ?_
                      refine z_iadd (pc := 128) dX2_spreads_128 ?_
                      refine z_chk (fun h23 => ?_)
                      refine z_iastore (pc := 129) 9 32 (zGC_s9 hG) h23 dX2_spreads_129 ?_
                      refine z_letS (fun S24 => ?_)
                      refine z_iinc (pc := 130) (w := x17 + 1) dX2_spreads_130 rfl (by rw [show Int32.ofInt 1 = 1 from by decide]) (Nat.le_of_ble_eq_true rfl) rfl ?_
                      refine z_goto (pc := 133) 76 dX2_spreads_133 rfl ?_
                      exact z_mask [true, false, true, true, true, false] (hrec16 _ _) rfl
            · refine z_goto (pc := 70) 136 dX2_spreads_70 rfl ?_
              refine z_iinc (pc := 136) (w := x11 + 1) dX2_spreads_136 rfl (by rw [show Int32.ofInt 1 = 1 from by decide]) (Nat.le_of_ble_eq_true rfl) rfl ?_
              refine z_goto (pc := 139) 46 dX2_spreads_139 rfl ?_
              exact hrec10 _ _
  · refine z_loopK (fun j : Int32 → zSt → Option (Unit × zSt) => ∀ (x26 : Int32) (S27 : zSt), Zm X mX2_spreads_w8 zJV G (0, 0) res S27 2 [some (.ref (G.1 8)), some (.int a1), some (.int x26), none, none, none] [] (j x26 S27)) ?_ ?_ zfuel _ _
    · intro x26 S27; exact z_none
    · intro rec25 hrec25 x26 S27
      unfold LB_X2_spreads_w8_4
      refine z_iload_n (pc := 2) 2 dX2_spreads_2 rfl rfl ?_
      refine z_bipush (pc := 3) (v := 32) dX2_spreads_3 (by decide) ?_
      refine z_icmp_ge (pc := 5) 21 dX2_spreads_5 rfl ?_ ?_
      · exact z_mask [true, true, false, false, false, false] (hk1 _) rfl
      · refine z_aload_n (pc := 8) 0 dX2_spreads_8 rfl rfl ?_
        refine gf_X2_C_15_8 hG (pc := 9) dX2_spreads_9 ?_
        refine z_iload_n (pc := 12) 2 dX2_spreads_12 rfl rfl ?_
        refine z_iconst (pc := 13) (v := (-1)) dX2_spreads_13 (by decide) ?_
        refine z_chk (fun h28 => ?_)
        refine z_iastore (pc := 14) 9 32 (zGC_s9 hG) h28 dX2_spreads_14 ?_
        refine z_letS (fun S29 => ?_)
        refine z_iinc (pc := 15) (w := x26 + 1) dX2_spreads_15 rfl (by rw [show Int32.ofInt 1 = 1 from by decide]) (Nat.le_of_ble_eq_true rfl) rfl ?_
        refine z_goto (pc := 18) 2 dX2_spreads_18 rfl ?_
        exact hrec25 _ _
abbrev mX0_farOf : zMr := ("HiddenCube", cX0_farOf, 3, (some .int), 5, 0, 0, none)
def F_X0_farOf (a1 : Int32) (a2 : Int32) (S : zSt) : Option (Int32 × zSt) :=
zbind (F_X2_spreads_w8 a1 S) (fun _ S1 =>
chk a2 32 (some (S1.1 9 (a2).toNatClampNeg, S1)))
theorem mv_X0_farOf : ZV mX0_farOf yX0_farOf 2 := ⟨q774, qs22, q150, q775, rfl, by decide, by decide, by decide +kernel⟩
theorem ct_X0_farOf {G : zGw} (hG : zGC G) (a1 : Int32) (a2 : Int32) : Zc mX0_farOf yX0_farOf zJI G [.ref (G.1 0), .int a1, .int a2] (F_X0_farOf a1 a2) := by
  refine Zc_of [some (.ref (G.1 0)), some (.int a1), some (.int a2)] (by decide) rfl rfl (Nat.le_of_ble_eq_true rfl) rfl (fun X S res => ?_)
  unfold F_X0_farOf
  refine z_aload_n (pc := 0) 0 dX0_farOf_0 rfl rfl ?_
  refine gf_X0_C_29_0 hG (pc := 1) dX0_farOf_1 ?_
  refine z_iload_n (pc := 4) 1 dX0_farOf_4 rfl rfl ?_
  refine z_callVv (pc := 5) _ _ 8 2 (ct_X2_spreads_w8 hG _) mv_X2_spreads_w8 q776 rfl (zGC_s8 hG) rfl (Nat.le_of_ble_eq_true rfl) (Nat.le_of_ble_eq_true rfl) rfl rfl (Nat.le_of_ble_eq_true rfl) dX0_farOf_5 (fun _ S1 => ?_)
  refine z_aload_n (pc := 8) 0 dX0_farOf_8 rfl rfl ?_
  refine gf_X0_C_29_0 hG (pc := 9) dX0_farOf_9 ?_
  refine gf_X0_C_210_8 hG (pc := 12) dX0_farOf_12 ?_
  refine z_iload_n (pc := 15) 2 dX0_farOf_15 rfl rfl ?_
  refine z_chk (fun h2 => ?_)
  refine z_iaload (pc := 16) 9 32 (zGC_s9 hG) h2 dX0_farOf_16 ?_
  exact z_iret rfl dX0_farOf_17 rfl
abbrev mX0_far : zMr := ("HiddenCube", cX0_far, 3, (some .int), 6, 0, 0, none)
def F_X0_far (a1 : Int32) (a2 : Int32) (S : zSt) : Option (Int32 × zSt) :=
zbind (F_X0_isSquare ((a1).toInt64) S) (fun r2 S1 =>
if r2 = 0 then (some ((-2), S1)) else (zbind (F_X0_isSquare ((a2).toInt64) S1) (fun r4 S3 =>
if r4 = 0 then (some ((-2), S3)) else (zbind (F_X0_farOf a1 a2 S3) (fun r6 S5 =>
some (r6, S5))))))
theorem mv_X0_far : ZV mX0_far yX0_far 2 := ⟨q769, q770, q150, q771, rfl, by decide, by decide, by decide +kernel⟩
theorem ct_X0_far {G : zGw} (hG : zGC G) (a1 : Int32) (a2 : Int32) : Zc mX0_far yX0_far zJI G [.ref (G.1 0), .int a1, .int a2] (F_X0_far a1 a2) := by
  refine Zc_of [some (.ref (G.1 0)), some (.int a1), some (.int a2)] (by decide) rfl rfl (Nat.le_of_ble_eq_true rfl) rfl (fun X S res => ?_)
  unfold F_X0_far
  refine z_aload_n (pc := 0) 0 dX0_far_0 rfl rfl ?_
  refine z_iload_n (pc := 1) 1 dX0_far_1 rfl rfl ?_
  refine z_i2l (pc := 2) dX0_far_2 ?_
  refine z_callVi (pc := 3) _ _ 0 0 (ct_X0_isSquare hG _) mv_X0_isSquare q723 rfl (zGC_s0 hG) rfl (Nat.le_of_ble_eq_true rfl) (Nat.le_of_ble_eq_true rfl) rfl rfl (Nat.le_of_ble_eq_true rfl) dX0_far_3 (fun r2 S1 => ?_)
  refine z_if_eq (pc := 6) 27 dX0_far_6 rfl ?_ ?_
  · refine z_bipush (pc := 27) (v := (-2)) dX0_far_27 (by decide) ?_
    exact z_iret rfl dX0_far_29 rfl
  · refine z_aload_n (pc := 9) 0 dX0_far_9 rfl rfl ?_
    refine z_iload_n (pc := 10) 2 dX0_far_10 rfl rfl ?_
    refine z_i2l (pc := 11) dX0_far_11 ?_
    refine z_callVi (pc := 12) _ _ 0 0 (ct_X0_isSquare hG _) mv_X0_isSquare q723 rfl (zGC_s0 hG) rfl (Nat.le_of_ble_eq_true rfl) (Nat.le_of_ble_eq_true rfl) rfl rfl (Nat.le_of_ble_eq_true rfl) dX0_far_12 (fun r4 S3 => ?_)
    refine z_if_eq (pc := 15) 27 dX0_far_15 rfl ?_ ?_
    · refine z_bipush (pc := 27) (v := (-2)) dX0_far_27 (by decide) ?_
      exact z_iret rfl dX0_far_29 rfl
    · refine z_aload_n (pc := 18) 0 dX0_far_18 rfl rfl ?_
      refine z_iload_n (pc := 19) 1 dX0_far_19 rfl rfl ?_
      refine z_iload_n (pc := 20) 2 dX0_far_20 rfl rfl ?_
      refine z_callVi (pc := 21) _ _ 0 0 (ct_X0_farOf hG _ _) mv_X0_farOf q772 rfl (zGC_s0 hG) rfl (Nat.le_of_ble_eq_true rfl) (Nat.le_of_ble_eq_true rfl) rfl rfl (Nat.le_of_ble_eq_true rfl) dX0_far_21 (fun r6 S5 => ?_)
      refine z_goto (pc := 24) 29 dX0_far_24 rfl ?_
      exact z_iret rfl dX0_far_29 rfl
abbrev mX0_many : zMr := ("HiddenCube", cX0_many, 6, (some .int), 5, 0, 0, none)
def LB_X0_many_1 (x15 : Int32) (x19 : Int32) (rec18 : Int32 → zSt → Option (Int32 × zSt)) (rec23 : Int32 → zSt → Option (Int32 × zSt)) (x24 : Int32) (S25 : zSt) : Option (Int32 × zSt) :=
if (S25.1 1 0) ≤ x24 then (rec18 (x19 + 1) S25) else (chk x19 32 (if (S25.1 9 (x19).toNatClampNeg) = x15 then (zbind (F_X2_goes_w8 x19 x24 S25) (fun r28 S27 =>
if r28 = 0 then (rec23 (x24 + 1) S27) else (zlet (x19 ^^^ ((1 : Int32) <<< (x24 &&& 31)) : Int32) (fun w29 : Int32 =>
chk w29 32 (if (S27.1 9 (w29).toNatClampNeg) = (x15 + 1) then (zlet (x19 ^^^ ((1 : Int32) <<< (x24 &&& 31)) : Int32) (fun w31 : Int32 =>
chk w31 32 (chk x19 32 (chk w31 32 (zlet (sI S27 13 (w31).toNatClampNeg ((S27.1 13 (w31).toNatClampNeg) + (S27.1 13 (x19).toNatClampNeg)) : zSt) (fun S35 : zSt =>
rec23 (x24 + 1) S35)))))) else (rec23 (x24 + 1) S27)))))) else (rec18 (x19 + 1) S25)))
def LB_X0_many_2 (x15 : Int32) (rec14 : Int32 → zSt → Option (Int32 × zSt)) (rec18 : Int32 → zSt → Option (Int32 × zSt)) (x19 : Int32) (S20 : zSt) : Option (Int32 × zSt) :=
zbind (F_X1_squares 1 S20) (fun r22 S21 =>
if r22 ≤ x19 then (rec14 (x15 + 1) S21) else (loopK (fun _ _ => none) (LB_X0_many_1 x15 x19 rec18) zfuel 0 S21))
def LB_X0_many_3 (a2 : Int32) (k11 : zSt → Option (Int32 × zSt)) (rec14 : Int32 → zSt → Option (Int32 × zSt)) (x15 : Int32) (S16 : zSt) : Option (Int32 × zSt) :=
chk a2 32 (if (S16.1 9 (a2).toNatClampNeg) ≤ x15 then (k11 S16) else (loopK (fun _ _ => none) (LB_X0_many_2 x15 rec14) zfuel 0 S16))
def LB_X0_many_4 (k7 : zSt → Option (Int32 × zSt)) (rec36 : Int32 → zSt → Option (Int32 × zSt)) (x37 : Int32) (S38 : zSt) : Option (Int32 × zSt) :=
if 32 ≤ x37 then (k7 S38) else (chk x37 32 (zlet (sI S38 13 (x37).toNatClampNeg 0 : zSt) (fun S40 : zSt =>
rec36 (x37 + 1) S40)))
def F_X0_many (a1 : Int32) (a2 : Int32) (S : zSt) : Option (Int32 × zSt) :=
zbind (F_X0_isSquare ((a1).toInt64) S) (fun r2 S1 =>
if r2 = 0 then (some ((-2), S1)) else (zbind (F_X0_isSquare ((a2).toInt64) S1) (fun r4 S3 =>
if r4 = 0 then (some ((-2), S3)) else (zbind (F_X2_spreads_w8 a1 S3) (fun _ S5 =>
chk a2 32 (if (S5.1 9 (a2).toNatClampNeg) = (-1) then (some (0, S5)) else (joinK (fun  (S8 : zSt) => chk a1 32 (zlet (sI S8 13 (a1).toNatClampNeg 1 : zSt) (fun S10 : zSt =>
joinK (fun  (S12 : zSt) => chk a2 32 (some (S12.1 13 (a2).toNatClampNeg, S12))) (fun k11 : zSt → Option (Int32 × zSt) =>
loopK (fun _ _ => none) (LB_X0_many_3 a2 k11) zfuel 0 S10)))) (fun k7 : zSt → Option (Int32 × zSt) =>
loopK (fun _ _ => none) (LB_X0_many_4 k7) zfuel 0 S5))))))))
theorem mv_X0_many : ZV mX0_many yX0_many 2 := ⟨q794, q795, q150, q796, rfl, by decide, by decide, by decide +kernel⟩
theorem ct_X0_many {G : zGw} (hG : zGC G) (a1 : Int32) (a2 : Int32) : Zc mX0_many yX0_many zJI G [.ref (G.1 0), .int a1, .int a2] (F_X0_many a1 a2) := by
  refine Zc_of [some (.ref (G.1 0)), some (.int a1), some (.int a2), none, none, none] (by decide) rfl rfl (Nat.le_of_ble_eq_true rfl) rfl (fun X S res => ?_)
  unfold F_X0_many
  refine z_aload_n (pc := 0) 0 dX0_many_0 rfl rfl ?_
  refine z_iload_n (pc := 1) 1 dX0_many_1 rfl rfl ?_
  refine z_i2l (pc := 2) dX0_many_2 ?_
  refine z_callVi (pc := 3) _ _ 0 0 (ct_X0_isSquare hG _) mv_X0_isSquare q723 rfl (zGC_s0 hG) rfl (Nat.le_of_ble_eq_true rfl) (Nat.le_of_ble_eq_true rfl) rfl rfl (Nat.le_of_ble_eq_true rfl) dX0_many_3 (fun r2 S1 => ?_)
  refine z_if_eq (pc := 6) 18 dX0_many_6 rfl ?_ ?_
  · refine z_bipush (pc := 18) (v := (-2)) dX0_many_18 (by decide) ?_
    exact z_iret rfl dX0_many_20 rfl
  · refine z_aload_n (pc := 9) 0 dX0_many_9 rfl rfl ?_
    refine z_iload_n (pc := 10) 2 dX0_many_10 rfl rfl ?_
    refine z_i2l (pc := 11) dX0_many_11 ?_
    refine z_callVi (pc := 12) _ _ 0 0 (ct_X0_isSquare hG _) mv_X0_isSquare q723 rfl (zGC_s0 hG) rfl (Nat.le_of_ble_eq_true rfl) (Nat.le_of_ble_eq_true rfl) rfl rfl (Nat.le_of_ble_eq_true rfl) dX0_many_12 (fun r4 S3 => ?_)
    refine z_if_ne (pc := 15) 21 dX0_many_15 rfl ?_ ?_
    · refine z_aload_n (pc := 21) 0 dX0_many_21 rfl rfl ?_
      refine gf_X0_C_29_0 hG (pc := 22) dX0_many_22 ?_
      refine z_iload_n (pc := 25) 1 dX0_many_25 rfl rfl ?_
      refine z_callVv (pc := 26) _ _ 8 2 (ct_X2_spreads_w8 hG _) mv_X2_spreads_w8 q776 rfl (zGC_s8 hG) rfl (Nat.le_of_ble_eq_true rfl) (Nat.le_of_ble_eq_true rfl) rfl rfl (Nat.le_of_ble_eq_true rfl) dX0_many_26 (fun _ S5 => ?_)
      refine z_aload_n (pc := 29) 0 dX0_many_29 rfl rfl ?_
      refine gf_X0_C_29_0 hG (pc := 30) dX0_many_30 ?_
      refine gf_X0_C_210_8 hG (pc := 33) dX0_many_33 ?_
      refine z_iload_n (pc := 36) 2 dX0_many_36 rfl rfl ?_
      refine z_chk (fun h6 => ?_)
      refine z_iaload (pc := 37) 9 32 (zGC_s9 hG) h6 dX0_many_37 ?_
      refine z_iconst (pc := 38) (v := (-1)) dX0_many_38 (by decide) ?_
      refine z_icmp_ne (pc := 39) 44 dX0_many_39 rfl ?_ ?_
      · refine z_iconst (pc := 44) (v := 0) dX0_many_44 (by decide) ?_
        refine z_istore_n (pc := 45) 3 dX0_many_45 rfl (Nat.le_of_ble_eq_true rfl) rfl ?_
        refine z_join (fun j : zSt → Option (Int32 × zSt) => ∀  (S8 : zSt), Zm X mX0_many zJI G (0, 0) res S8 65 [some (.ref (G.1 0)), some (.int a1), some (.int a2), none, none, none] [] (j S8)) ?_ (fun k7 hk7 => ?_)
        · intro S8
          refine z_aload_n (pc := 65) 0 dX0_many_65 rfl rfl ?_
          refine gf_X0_C_40_0 hG (pc := 66) dX0_many_66 ?_
          refine z_iload_n (pc := 69) 1 dX0_many_69 rfl rfl ?_
          refine z_iconst (pc := 70) (v := 1) dX0_many_70 (by decide) ?_
          refine z_chk (fun h9 => ?_)
          refine z_iastore (pc := 71) 13 32 (zGC_s13 hG) h9 dX0_many_71 ?_
          refine z_letS (fun S10 => ?_)
          refine z_iconst (pc := 72) (v := 0) dX0_many_72 (by decide) ?_
          refine z_istore_n (pc := 73) 3 dX0_many_73 rfl (Nat.le_of_ble_eq_true rfl) rfl ?_
          refine z_join (fun j : zSt → Option (Int32 × zSt) => ∀  (S12 : zSt), Zm X mX0_many zJI G (0, 0) res S12 206 [some (.ref (G.1 0)), none, some (.int a2), none, none, none] [] (j S12)) ?_ (fun k11 hk11 => ?_)
          · intro S12
            refine z_aload_n (pc := 206) 0 dX0_many_206 rfl rfl ?_
            refine gf_X0_C_40_0 hG (pc := 207) dX0_many_207 ?_
            refine z_iload_n (pc := 210) 2 dX0_many_210 rfl rfl ?_
            refine z_chk (fun h13 => ?_)
            refine z_iaload (pc := 211) 13 32 (zGC_s13 hG) h13 dX0_many_211 ?_
            exact z_iret rfl dX0_many_212 rfl
          · refine z_maskk [true, false, true, true, false, false] ?_
            refine z_loopK (fun j : Int32 → zSt → Option (Int32 × zSt) => ∀ (x15 : Int32) (S16 : zSt), Zm X mX0_many zJI G (0, 0) res S16 74 [some (.ref (G.1 0)), none, some (.int a2), some (.int x15), none, none] [] (j x15 S16)) ?_ ?_ zfuel _ _
            · intro x15 S16; exact z_none
            · intro rec14 hrec14 x15 S16
              unfold LB_X0_many_3
              refine z_iload_n (pc := 74) 3 dX0_many_74 rfl rfl ?_
              refine z_aload_n (pc := 75) 0 dX0_many_75 rfl rfl ?_
              refine gf_X0_C_29_0 hG (pc := 76) dX0_many_76 ?_
              refine gf_X0_C_210_8 hG (pc := 79) dX0_many_79 ?_
              refine z_iload_n (pc := 82) 2 dX0_many_82 rfl rfl ?_
              refine z_chk (fun h17 => ?_)
              refine z_iaload (pc := 83) 9 32 (zGC_s9 hG) h17 dX0_many_83 ?_
              refine z_icmp_ge (pc := 84) 206 dX0_many_84 rfl ?_ ?_
              · exact z_mask [true, false, true, false, false, false] (hk11 _) rfl
              · refine z_iconst (pc := 87) (v := 0) dX0_many_87 (by decide) ?_
                refine z_istore (pc := 88) dX0_many_88 (Nat.le_of_ble_eq_true rfl) rfl ?_
                refine z_loopK (fun j : Int32 → zSt → Option (Int32 × zSt) => ∀ (x19 : Int32) (S20 : zSt), Zm X mX0_many zJI G (0, 0) res S20 90 [some (.ref (G.1 0)), none, some (.int a2), some (.int x15), some (.int x19), none] [] (j x19 S20)) ?_ ?_ zfuel _ _
                · intro x19 S20; exact z_none
                · intro rec18 hrec18 x19 S20
                  unfold LB_X0_many_2
                  refine z_iload (pc := 90) dX0_many_90 rfl ?_
                  refine z_aload_n (pc := 92) 0 dX0_many_92 rfl rfl ?_
                  refine gf_X0_C_10_0 hG (pc := 93) dX0_many_93 ?_
                  refine z_callVi (pc := 96) _ _ 1 1 (ct_X1_squares (zGC_T hG)) mv_X1_squares q727 rfl (zGC_s1 hG) rfl (Nat.le_of_ble_eq_true rfl) (Nat.le_of_ble_eq_true rfl) rfl rfl (Nat.le_of_ble_eq_true rfl) dX0_many_96 (fun r22 S21 => ?_)
                  refine z_icmp_ge (pc := 99) 200 dX0_many_99 rfl ?_ ?_
                  · refine z_iinc (pc := 200) (w := x15 + 1) dX0_many_200 rfl (by rw [show Int32.ofInt 1 = 1 from by decide]) (Nat.le_of_ble_eq_true rfl) rfl ?_
                    refine z_goto (pc := 203) 74 dX0_many_203 rfl ?_
                    exact z_mask [true, false, true, true, false, false] (hrec14 _ _) rfl
                  · refine z_iconst (pc := 102) (v := 0) dX0_many_102 (by decide) ?_
                    refine z_istore (pc := 103) dX0_many_103 (Nat.le_of_ble_eq_true rfl) rfl ?_
                    refine z_loopK (fun j : Int32 → zSt → Option (Int32 × zSt) => ∀ (x24 : Int32) (S25 : zSt), Zm X mX0_many zJI G (0, 0) res S25 105 [some (.ref (G.1 0)), none, some (.int a2), some (.int x15), some (.int x19), some (.int x24)] [] (j x24 S25)) ?_ ?_ zfuel _ _
                    · intro x24 S25; exact z_none
                    · intro rec23 hrec23 x24 S25
                      unfold LB_X0_many_1
                      refine z_iload (pc := 105) dX0_many_105 rfl ?_
                      refine z_aload_n (pc := 107) 0 dX0_many_107 rfl rfl ?_
                      refine gf_X0_C_10_0 hG (pc := 108) dX0_many_108 ?_
                      refine gf_X0_C_158_1 hG (pc := 111) dX0_many_111 ?_
                      refine z_icmp_ge (pc := 114) 194 dX0_many_114 rfl ?_ ?_
                      · refine z_iinc (pc := 194) (w := x19 + 1) dX0_many_194 rfl (by rw [show Int32.ofInt 1 = 1 from by decide]) (Nat.le_of_ble_eq_true rfl) rfl ?_
                        refine z_goto (pc := 197) 90 dX0_many_197 rfl ?_
                        exact z_mask [true, false, true, true, true, false] (hrec18 _ _) rfl
                      · refine z_aload_n (pc := 117) 0 dX0_many_117 rfl rfl ?_
                        refine gf_X0_C_29_0 hG (pc := 118) dX0_many_118 ?_
                        refine gf_X0_C_210_8 hG (pc := 121) dX0_many_121 ?_
                        refine z_iload (pc := 124) dX0_many_124 rfl ?_
                        refine z_chk (fun h26 => ?_)
                        refine z_iaload (pc := 126) 9 32 (zGC_s9 hG) h26 dX0_many_126 ?_
                        refine z_iload_n (pc := 127) 3 dX0_many_127 rfl rfl ?_
                        refine z_icmp_ne (pc := 128) 194 dX0_many_128 rfl ?_ ?_
                        · refine z_iinc (pc := 194) (w := x19 + 1) dX0_many_194 rfl (by rw [show Int32.ofInt 1 = 1 from by decide]) (Nat.le_of_ble_eq_true rfl) rfl ?_
                          refine z_goto (pc := 197) 90 dX0_many_197 rfl ?_
                          exact z_mask [true, false, true, true, true, false] (hrec18 _ _) rfl
                        · refine z_aload_n (pc := 131) 0 dX0_many_131 rfl rfl ?_
                          refine gf_X0_C_29_0 hG (pc := 132) dX0_many_132 ?_
                          refine z_iload (pc := 135) dX0_many_135 rfl ?_
                          refine z_iload (pc := 137) dX0_many_137 rfl ?_
                          refine z_callVi (pc := 139) _ _ 8 2 (ct_X2_goes_w8 hG _ _) mv_X2_goes_w8 q797 rfl (zGC_s8 hG) rfl (Nat.le_of_ble_eq_true rfl) (Nat.le_of_ble_eq_true rfl) rfl rfl (Nat.le_of_ble_eq_true rfl) dX0_many_139 (fun r28 S27 => ?_)
                          refine z_if_eq (pc := 142) 188 dX0_many_142 rfl ?_ ?_
                          · refine z_iinc (pc := 188) (w := x24 + 1) dX0_many_188 rfl (by rw [show Int32.ofInt 1 = 1 from by decide]) (Nat.le_of_ble_eq_true rfl) rfl ?_
                            refine z_goto (pc := 191) 105 dX0_many_191 rfl ?_
                            exact hrec23 _ _
                          · refine z_aload_n (pc := 145) 0 dX0_many_145 rfl rfl ?_
                            refine gf_X0_C_29_0 hG (pc := 146) dX0_many_146 ?_
                            refine gf_X0_C_210_8 hG (pc := 149) dX0_many_149 ?_
                            refine z_iload (pc := 152) dX0_many_152 rfl ?_
                            refine z_iconst (pc := 154) (v := 1) dX0_many_154 (by decide) ?_
                            refine z_iload (pc := 155) dX0_many_155 rfl ?_
                            refine z_ishl (pc := 157) dX0_many_157 ?_
                            refine z_ixor (pc := 158) dX0_many_158 ?_
                            refine z_letI (fun w29 => ?_)
                            refine z_chk (fun h30 => ?_)
                            refine z_iaload (pc := 159) 9 32 (zGC_s9 hG) h30 dX0_many_159 ?_
                            refine z_iload_n (pc := 160) 3 dX0_many_160 rfl rfl ?_
                            refine z_iconst (pc := 161) (v := 1) dX0_many_161 (by decide) ?_
                            refine z_iadd (pc := 162) dX0_many_162 ?_
                            refine z_icmp_ne (pc := 163) 188 dX0_many_163 rfl ?_ ?_
                            · refine z_iinc (pc := 188) (w := x24 + 1) dX0_many_188 rfl (by rw [show Int32.ofInt 1 = 1 from by decide]) (Nat.le_of_ble_eq_true rfl) rfl ?_
                              refine z_goto (pc := 191) 105 dX0_many_191 rfl ?_
                              exact hrec23 _ _
                            · refine z_aload_n (pc := 166) 0 dX0_many_166 rfl rfl ?_
                              refine gf_X0_C_40_0 hG (pc := 167) dX0_many_167 ?_
                              refine z_iload (pc := 170) dX0_many_170 rfl ?_
                              refine z_iconst (pc := 172) (v := 1) dX0_many_172 (by decide) ?_
                              refine z_iload (pc := 173) dX0_many_173 rfl ?_
                              refine z_ishl (pc := 175) dX0_many_175 ?_
                              refine z_ixor (pc := 176) dX0_many_176 ?_
                              refine z_letI (fun w31 => ?_)
                              refine z_dup2 (pc := 177) dX0_many_177 rfl rfl ?_
                              refine z_chk (fun h32 => ?_)
                              refine z_iaload (pc := 178) 13 32 (zGC_s13 hG) h32 dX0_many_178 ?_
                              refine z_aload_n (pc := 179) 0 dX0_many_179 rfl rfl ?_
                              refine gf_X0_C_40_0 hG (pc := 180) dX0_many_180 ?_
                              refine z_iload (pc := 183) dX0_many_183 rfl ?_
                              refine z_chk (fun h33 => ?_)
                              refine z_iaload (pc := 185) 13 32 (zGC_s13 hG) h33 dX0_many_185 ?_
                              refine z_iadd (pc := 186) dX0_many_186 ?_
                              refine z_chk (fun h34 => ?_)
                              refine z_iastore (pc := 187) 13 32 (zGC_s13 hG) h34 dX0_many_187 ?_
                              refine z_letS (fun S35 => ?_)
                              refine z_iinc (pc := 188) (w := x24 + 1) dX0_many_188 rfl (by rw [show Int32.ofInt 1 = 1 from by decide]) (Nat.le_of_ble_eq_true rfl) rfl ?_
                              refine z_goto (pc := 191) 105 dX0_many_191 rfl ?_
                              exact hrec23 _ _
        · refine z_loopK (fun j : Int32 → zSt → Option (Int32 × zSt) => ∀ (x37 : Int32) (S38 : zSt), Zm X mX0_many zJI G (0, 0) res S38 46 [some (.ref (G.1 0)), some (.int a1), some (.int a2), some (.int x37), none, none] [] (j x37 S38)) ?_ ?_ zfuel _ _
          · intro x37 S38; exact z_none
          · intro rec36 hrec36 x37 S38
            unfold LB_X0_many_4
            refine z_iload_n (pc := 46) 3 dX0_many_46 rfl rfl ?_
            refine z_bipush (pc := 47) (v := 32) dX0_many_47 (by decide) ?_
            refine z_icmp_ge (pc := 49) 65 dX0_many_49 rfl ?_ ?_
            · exact z_mask [true, true, true, false, false, false] (hk7 _) rfl
            · refine z_aload_n (pc := 52) 0 dX0_many_52 rfl rfl ?_
              refine gf_X0_C_40_0 hG (pc := 53) dX0_many_53 ?_
              refine z_iload_n (pc := 56) 3 dX0_many_56 rfl rfl ?_
              refine z_iconst (pc := 57) (v := 0) dX0_many_57 (by decide) ?_
              refine z_chk (fun h39 => ?_)
              refine z_iastore (pc := 58) 13 32 (zGC_s13 hG) h39 dX0_many_58 ?_
              refine z_letS (fun S40 => ?_)
              refine z_iinc (pc := 59) (w := x37 + 1) dX0_many_59 rfl (by rw [show Int32.ofInt 1 = 1 from by decide]) (Nat.le_of_ble_eq_true rfl) rfl ?_
              refine z_goto (pc := 62) 46 dX0_many_62 rfl ?_
              exact hrec36 _ _
      · refine z_iconst (pc := 42) (v := 0) dX0_many_42 (by decide) ?_
        exact z_iret rfl dX0_many_43 rfl
    · refine z_bipush (pc := 18) (v := (-2)) dX0_many_18 (by decide) ?_
      exact z_iret rfl dX0_many_20 rfl
abbrev mX0_nextTo : zMr := ("HiddenCube", cX0_nextTo, 6, (some .int), 4, 0, 0, none)
def LB_X0_nextTo_1 (a1 : Int32) (a2 : Int32) (rec1 : Int32 → Int32 → zSt → Option (Int32 × zSt)) (x2 : Int32) (x3 : Int32) (S4 : zSt) : Option (Int32 × zSt) :=
if (S4.1 1 0) ≤ x3 then (some (x2, S4)) else (zlet (a1 ^^^ ((1 : Int32) <<< (x3 &&& 31)) : Int32) (fun w5 : Int32 =>
if x3 = a2 then (rec1 x2 (x3 + 1) S4) else (zbind (F_X2_goes_w8 a1 x3 S4) (fun r7 S6 =>
if r7 = 0 then (rec1 x2 (x3 + 1) S6) else (chk w5 32 (chk a1 32 (if (S6.1 9 (w5).toNatClampNeg) = ((S6.1 9 (a1).toNatClampNeg) - 1) then (joinK (rec1 w5 (x3 + 1) S6) (fun j10 : Option (Int32 × zSt) =>
if x2 = (-1) then (j10) else (if x2 ≤ w5 then (rec1 x2 (x3 + 1) S6) else (j10)))) else (rec1 x2 (x3 + 1) S6))))))))
def F_X0_nextTo (a1 : Int32) (a2 : Int32) (S : zSt) : Option (Int32 × zSt) :=
loopK (fun _ _ _ => none) (LB_X0_nextTo_1 a1 a2) zfuel (-1) 0 S
theorem mv_X0_nextTo : ZV mX0_nextTo yX0_nextTo 2 := ⟨q804, qs23, q150, q805, rfl, by decide, by decide, by decide +kernel⟩
theorem ct_X0_nextTo {G : zGw} (hG : zGC G) (a1 : Int32) (a2 : Int32) : Zc mX0_nextTo yX0_nextTo zJI G [.ref (G.1 0), .int a1, .int a2] (F_X0_nextTo a1 a2) := by
  refine Zc_of [some (.ref (G.1 0)), some (.int a1), some (.int a2), none, none, none] (by decide) rfl rfl (Nat.le_of_ble_eq_true rfl) rfl (fun X S res => ?_)
  unfold F_X0_nextTo
  refine z_iconst (pc := 0) (v := (-1)) dX0_nextTo_0 (by decide) ?_
  refine z_istore_n (pc := 1) 3 dX0_nextTo_1 rfl (Nat.le_of_ble_eq_true rfl) rfl ?_
  refine z_iconst (pc := 2) (v := 0) dX0_nextTo_2 (by decide) ?_
  refine z_istore (pc := 3) dX0_nextTo_3 (Nat.le_of_ble_eq_true rfl) rfl ?_
  refine z_loopK (fun j : Int32 → Int32 → zSt → Option (Int32 × zSt) => ∀ (x2 : Int32) (x3 : Int32) (S4 : zSt), Zm X mX0_nextTo zJI G (0, 0) res S4 5 [some (.ref (G.1 0)), some (.int a1), some (.int a2), some (.int x2), some (.int x3), none] [] (j x2 x3 S4)) ?_ ?_ zfuel _ _ _
  · intro x2 x3 S4; exact z_none
  · intro rec1 hrec1 x2 x3 S4
    unfold LB_X0_nextTo_1
    refine z_iload (pc := 5) dX0_nextTo_5 rfl ?_
    refine z_aload_n (pc := 7) 0 dX0_nextTo_7 rfl rfl ?_
    refine gf_X0_C_10_0 hG (pc := 8) dX0_nextTo_8 ?_
    refine gf_X0_C_158_1 hG (pc := 11) dX0_nextTo_11 ?_
    refine z_icmp_ge (pc := 14) 88 dX0_nextTo_14 rfl ?_ ?_
    · refine z_iload_n (pc := 88) 3 dX0_nextTo_88 rfl rfl ?_
      exact z_iret rfl dX0_nextTo_89 rfl
    · refine z_iload_n (pc := 17) 1 dX0_nextTo_17 rfl rfl ?_
      refine z_iconst (pc := 18) (v := 1) dX0_nextTo_18 (by decide) ?_
      refine z_iload (pc := 19) dX0_nextTo_19 rfl ?_
      refine z_ishl (pc := 21) dX0_nextTo_21 ?_
      refine z_ixor (pc := 22) dX0_nextTo_22 ?_
      refine z_letI (fun w5 => ?_)
      refine z_istore (pc := 23) dX0_nextTo_23 (Nat.le_of_ble_eq_true rfl) rfl ?_
      refine z_iload (pc := 25) dX0_nextTo_25 rfl ?_
      refine z_iload_n (pc := 27) 2 dX0_nextTo_27 rfl rfl ?_
      refine z_icmp_eq (pc := 28) 82 dX0_nextTo_28 rfl ?_ ?_
      · refine z_iinc (pc := 82) (w := x3 + 1) dX0_nextTo_82 rfl (by rw [show Int32.ofInt 1 = 1 from by decide]) (Nat.le_of_ble_eq_true rfl) rfl ?_
        refine z_goto (pc := 85) 5 dX0_nextTo_85 rfl ?_
        exact z_mask [true, true, true, true, true, false] (hrec1 _ _ _) rfl
      · refine z_aload_n (pc := 31) 0 dX0_nextTo_31 rfl rfl ?_
        refine gf_X0_C_29_0 hG (pc := 32) dX0_nextTo_32 ?_
        refine z_iload_n (pc := 35) 1 dX0_nextTo_35 rfl rfl ?_
        refine z_iload (pc := 36) dX0_nextTo_36 rfl ?_
        refine z_callVi (pc := 38) _ _ 8 2 (ct_X2_goes_w8 hG _ _) mv_X2_goes_w8 q797 rfl (zGC_s8 hG) rfl (Nat.le_of_ble_eq_true rfl) (Nat.le_of_ble_eq_true rfl) rfl rfl (Nat.le_of_ble_eq_true rfl) dX0_nextTo_38 (fun r7 S6 => ?_)
        refine z_if_eq (pc := 41) 82 dX0_nextTo_41 rfl ?_ ?_
        · refine z_iinc (pc := 82) (w := x3 + 1) dX0_nextTo_82 rfl (by rw [show Int32.ofInt 1 = 1 from by decide]) (Nat.le_of_ble_eq_true rfl) rfl ?_
          refine z_goto (pc := 85) 5 dX0_nextTo_85 rfl ?_
          exact z_mask [true, true, true, true, true, false] (hrec1 _ _ _) rfl
        · refine z_aload_n (pc := 44) 0 dX0_nextTo_44 rfl rfl ?_
          refine gf_X0_C_29_0 hG (pc := 45) dX0_nextTo_45 ?_
          refine gf_X0_C_210_8 hG (pc := 48) dX0_nextTo_48 ?_
          refine z_iload (pc := 51) dX0_nextTo_51 rfl ?_
          refine z_chk (fun h8 => ?_)
          refine z_iaload (pc := 53) 9 32 (zGC_s9 hG) h8 dX0_nextTo_53 ?_
          refine z_aload_n (pc := 54) 0 dX0_nextTo_54 rfl rfl ?_
          refine gf_X0_C_29_0 hG (pc := 55) dX0_nextTo_55 ?_
          refine gf_X0_C_210_8 hG (pc := 58) dX0_nextTo_58 ?_
          refine z_iload_n (pc := 61) 1 dX0_nextTo_61 rfl rfl ?_
          refine z_chk (fun h9 => ?_)
          refine z_iaload (pc := 62) 9 32 (zGC_s9 hG) h9 dX0_nextTo_62 ?_
          refine z_iconst (pc := 63) (v := 1) dX0_nextTo_63 (by decide) ?_
          refine z_isub (pc := 64) dX0_nextTo_64 ?_
          refine z_icmp_ne (pc := 65) 82 dX0_nextTo_65 rfl ?_ ?_
          · refine z_iinc (pc := 82) (w := x3 + 1) dX0_nextTo_82 rfl (by rw [show Int32.ofInt 1 = 1 from by decide]) (Nat.le_of_ble_eq_true rfl) rfl ?_
            refine z_goto (pc := 85) 5 dX0_nextTo_85 rfl ?_
            exact z_mask [true, true, true, true, true, false] (hrec1 _ _ _) rfl
          · refine z_iload_n (pc := 68) 3 dX0_nextTo_68 rfl rfl ?_
            refine z_iconst (pc := 69) (v := (-1)) dX0_nextTo_69 (by decide) ?_
            refine z_join (fun j : Option (Int32 × zSt) =>  Zm X mX0_nextTo zJI G (0, 0) res S6 79 [some (.ref (G.1 0)), some (.int a1), some (.int a2), none, some (.int x3), some (.int w5)] [] (j)) ?_ (fun j10 hj10 => ?_)
            · show _
              refine z_iload (pc := 79) dX0_nextTo_79 rfl ?_
              refine z_istore_n (pc := 81) 3 dX0_nextTo_81 rfl (Nat.le_of_ble_eq_true rfl) rfl ?_
              refine z_iinc (pc := 82) (w := x3 + 1) dX0_nextTo_82 rfl (by rw [show Int32.ofInt 1 = 1 from by decide]) (Nat.le_of_ble_eq_true rfl) rfl ?_
              refine z_goto (pc := 85) 5 dX0_nextTo_85 rfl ?_
              exact z_mask [true, true, true, true, true, false] (hrec1 _ _ _) rfl
            · refine z_icmp_eq (pc := 70) 79 dX0_nextTo_70 rfl ?_ ?_
              · exact z_mask [true, true, true, false, true, true] (hj10) rfl
              · refine z_iload (pc := 73) dX0_nextTo_73 rfl ?_
                refine z_iload_n (pc := 75) 3 dX0_nextTo_75 rfl rfl ?_
                refine z_icmp_ge (pc := 76) 82 dX0_nextTo_76 rfl ?_ ?_
                · refine z_iinc (pc := 82) (w := x3 + 1) dX0_nextTo_82 rfl (by rw [show Int32.ofInt 1 = 1 from by decide]) (Nat.le_of_ble_eq_true rfl) rfl ?_
                  refine z_goto (pc := 85) 5 dX0_nextTo_85 rfl ?_
                  exact z_mask [true, true, true, true, true, false] (hrec1 _ _ _) rfl
                · exact z_mask [true, true, true, false, true, true] (hj10) rfl
abbrev mX0_goes : zMr := ("HiddenCube", cX0_goes, 6, (some .int), 5, 0, 0, none)
def LB_X0_goes_1 (a3 : Int32) (rec9 : Int32 → Int32 → zSt → Option (Int32 × zSt)) (x10 : Int32) (x11 : Int32) (S12 : zSt) : Option (Int32 × zSt) :=
if a3 ≤ x11 then (some (x10, S12)) else (zbind (F_X0_nextTo x10 (-1) S12) (fun r14 S13 =>
rec9 r14 (x11 + 1) S13))
def F_X0_goes (a1 : Int32) (a2 : Int32) (a3 : Int32) (S : zSt) : Option (Int32 × zSt) :=
zbind (F_X0_isSquare ((a1).toInt64) S) (fun r2 S1 =>
if r2 = 0 then (some ((-2), S1)) else (zbind (F_X0_isSquare ((a2).toInt64) S1) (fun r4 S3 =>
if r4 = 0 then (some ((-2), S3)) else (zbind (F_X2_spreads_w8 a2 S3) (fun _ S5 =>
chk a1 32 (zbind (F_X0_isIn ((a3).toInt64) 0 ((S5.1 9 (a1).toNatClampNeg).toInt64) S5) (fun r8 S7 =>
if r8 = 0 then (some ((-1), S7)) else (loopK (fun _ _ _ => none) (LB_X0_goes_1 a3) zfuel a1 0 S7))))))))
theorem mv_X0_goes : ZV mX0_goes yX0_goes 3 := ⟨q799, q800, q150, q801, rfl, by decide, by decide, by decide +kernel⟩
theorem ct_X0_goes {G : zGw} (hG : zGC G) (a1 : Int32) (a2 : Int32) (a3 : Int32) : Zc mX0_goes yX0_goes zJI G [.ref (G.1 0), .int a1, .int a2, .int a3] (F_X0_goes a1 a2 a3) := by
  refine Zc_of [some (.ref (G.1 0)), some (.int a1), some (.int a2), some (.int a3), none, none] (by decide) rfl rfl (Nat.le_of_ble_eq_true rfl) rfl (fun X S res => ?_)
  unfold F_X0_goes
  refine z_aload_n (pc := 0) 0 dX0_goes_0 rfl rfl ?_
  refine z_iload_n (pc := 1) 1 dX0_goes_1 rfl rfl ?_
  refine z_i2l (pc := 2) dX0_goes_2 ?_
  refine z_callVi (pc := 3) _ _ 0 0 (ct_X0_isSquare hG _) mv_X0_isSquare q723 rfl (zGC_s0 hG) rfl (Nat.le_of_ble_eq_true rfl) (Nat.le_of_ble_eq_true rfl) rfl rfl (Nat.le_of_ble_eq_true rfl) dX0_goes_3 (fun r2 S1 => ?_)
  refine z_if_eq (pc := 6) 18 dX0_goes_6 rfl ?_ ?_
  · refine z_bipush (pc := 18) (v := (-2)) dX0_goes_18 (by decide) ?_
    exact z_iret rfl dX0_goes_20 rfl
  · refine z_aload_n (pc := 9) 0 dX0_goes_9 rfl rfl ?_
    refine z_iload_n (pc := 10) 2 dX0_goes_10 rfl rfl ?_
    refine z_i2l (pc := 11) dX0_goes_11 ?_
    refine z_callVi (pc := 12) _ _ 0 0 (ct_X0_isSquare hG _) mv_X0_isSquare q723 rfl (zGC_s0 hG) rfl (Nat.le_of_ble_eq_true rfl) (Nat.le_of_ble_eq_true rfl) rfl rfl (Nat.le_of_ble_eq_true rfl) dX0_goes_12 (fun r4 S3 => ?_)
    refine z_if_ne (pc := 15) 21 dX0_goes_15 rfl ?_ ?_
    · refine z_aload_n (pc := 21) 0 dX0_goes_21 rfl rfl ?_
      refine gf_X0_C_29_0 hG (pc := 22) dX0_goes_22 ?_
      refine z_iload_n (pc := 25) 2 dX0_goes_25 rfl rfl ?_
      refine z_callVv (pc := 26) _ _ 8 2 (ct_X2_spreads_w8 hG _) mv_X2_spreads_w8 q776 rfl (zGC_s8 hG) rfl (Nat.le_of_ble_eq_true rfl) (Nat.le_of_ble_eq_true rfl) rfl rfl (Nat.le_of_ble_eq_true rfl) dX0_goes_26 (fun _ S5 => ?_)
      refine z_iload_n (pc := 29) 3 dX0_goes_29 rfl rfl ?_
      refine z_i2l (pc := 30) dX0_goes_30 ?_
      refine z_lconst (pc := 31) (v := 0) dX0_goes_31 (by decide) ?_
      refine z_aload_n (pc := 32) 0 dX0_goes_32 rfl rfl ?_
      refine gf_X0_C_29_0 hG (pc := 33) dX0_goes_33 ?_
      refine gf_X0_C_210_8 hG (pc := 36) dX0_goes_36 ?_
      refine z_iload_n (pc := 39) 1 dX0_goes_39 rfl rfl ?_
      refine z_chk (fun h6 => ?_)
      refine z_iaload (pc := 40) 9 32 (zGC_s9 hG) h6 dX0_goes_40 ?_
      refine z_i2l (pc := 41) dX0_goes_41 ?_
      refine z_callSi (pc := 42) _ _ (ct_X0_isIn  _ _ _) mv_X0_isIn q429 rfl (Nat.le_of_ble_eq_true rfl) (Nat.le_of_ble_eq_true rfl) rfl rfl (Nat.le_of_ble_eq_true rfl) dX0_goes_42 (fun r8 S7 => ?_)
      refine z_if_ne (pc := 45) 50 dX0_goes_45 rfl ?_ ?_
      · refine z_iload_n (pc := 50) 1 dX0_goes_50 rfl rfl ?_
        refine z_istore (pc := 51) dX0_goes_51 (Nat.le_of_ble_eq_true rfl) rfl ?_
        refine z_iconst (pc := 53) (v := 0) dX0_goes_53 (by decide) ?_
        refine z_istore (pc := 54) dX0_goes_54 (Nat.le_of_ble_eq_true rfl) rfl ?_
        refine z_maskk [true, false, false, true, true, true] ?_
        refine z_loopK (fun j : Int32 → Int32 → zSt → Option (Int32 × zSt) => ∀ (x10 : Int32) (x11 : Int32) (S12 : zSt), Zm X mX0_goes zJI G (0, 0) res S12 56 [some (.ref (G.1 0)), none, none, some (.int a3), some (.int x10), some (.int x11)] [] (j x10 x11 S12)) ?_ ?_ zfuel _ _ _
        · intro x10 x11 S12; exact z_none
        · intro rec9 hrec9 x10 x11 S12
          unfold LB_X0_goes_1
          refine z_iload (pc := 56) dX0_goes_56 rfl ?_
          refine z_iload_n (pc := 58) 3 dX0_goes_58 rfl rfl ?_
          refine z_icmp_ge (pc := 59) 77 dX0_goes_59 rfl ?_ ?_
          · refine z_iload (pc := 77) dX0_goes_77 rfl ?_
            exact z_iret rfl dX0_goes_79 rfl
          · refine z_aload_n (pc := 62) 0 dX0_goes_62 rfl rfl ?_
            refine z_iload (pc := 63) dX0_goes_63 rfl ?_
            refine z_iconst (pc := 65) (v := (-1)) dX0_goes_65 (by decide) ?_
            refine z_callVi (pc := 66) _ _ 0 0 (ct_X0_nextTo hG _ _) mv_X0_nextTo q802 rfl (zGC_s0 hG) rfl (Nat.le_of_ble_eq_true rfl) (Nat.le_of_ble_eq_true rfl) rfl rfl (Nat.le_of_ble_eq_true rfl) dX0_goes_66 (fun r14 S13 => ?_)
            refine z_istore (pc := 69) dX0_goes_69 (Nat.le_of_ble_eq_true rfl) rfl ?_
            refine z_iinc (pc := 71) (w := x11 + 1) dX0_goes_71 rfl (by rw [show Int32.ofInt 1 = 1 from by decide]) (Nat.le_of_ble_eq_true rfl) rfl ?_
            refine z_goto (pc := 74) 56 dX0_goes_74 rfl ?_
            exact hrec9 _ _ _
      · refine z_iconst (pc := 48) (v := (-1)) dX0_goes_48 (by decide) ?_
        exact z_iret rfl dX0_goes_49 rfl
    · refine z_bipush (pc := 18) (v := (-2)) dX0_goes_18 (by decide) ?_
      exact z_iret rfl dX0_goes_20 rfl
abbrev mJ7_numberOfTrailingZeros : zMr := ("java/lang/Integer", cJ7_numberOfTrailingZeros, 2, (some .int), 1, 0, 0, none)
def F_J7_numberOfTrailingZeros (a1 : Int32) (S : zSt) : Option (Int32 × zSt) :=
zlet ((a1 ^^^ (-1)) &&& (a1 - 1) : Int32) (fun w1 : Int32 =>
if 0 < w1 then (joinK (fun (x3 : Int32) (x4 : Int32) => joinK (fun (x6 : Int32) (x7 : Int32) => joinK (fun (x9 : Int32) (x10 : Int32) => joinK (fun (x12 : Int32) (x13 : Int32) => some (x13 + (iushr x12 1), S)) (fun j11 : Int32 → Int32 → Option (Int32 × zSt) =>
if x9 ≤ 4 then (j11 x9 x10) else (j11 (iushr x9 2) (x10 + 2)))) (fun j8 : Int32 → Int32 → Option (Int32 × zSt) =>
if x6 ≤ 16 then (j8 x6 x7) else (j8 (iushr x6 4) (x7 + 4)))) (fun j5 : Int32 → Int32 → Option (Int32 × zSt) =>
if x3 ≤ 256 then (j5 x3 x4) else (j5 (iushr x3 8) (x4 + 8)))) (fun j2 : Int32 → Int32 → Option (Int32 × zSt) =>
if w1 ≤ 65536 then (j2 w1 1) else (j2 (iushr w1 16) (1 + 16)))) else (some (w1 &&& 32, S)))
theorem mv_J7_numberOfTrailingZeros : ZS mJ7_numberOfTrailingZeros yJ7_numberOfTrailingZeros 1 := ⟨q816, q167, q817, by decide, by decide, by decide +kernel⟩
theorem ct_J7_numberOfTrailingZeros {G : zGw} (a1 : Int32) : Zc mJ7_numberOfTrailingZeros yJ7_numberOfTrailingZeros zJI G [.int a1] (F_J7_numberOfTrailingZeros a1) := by
  refine Zc_ofF [some (.int a1), none] (by decide +kernel) rfl rfl (Nat.le_of_ble_eq_true rfl) rfl (fun X S res => ?_)
  unfold F_J7_numberOfTrailingZeros
  refine z_iload_n (pc := 0) 0 dJ7_numberOfTrailingZeros_0 rfl rfl ?_
  refine z_iconst (pc := 1) (v := (-1)) dJ7_numberOfTrailingZeros_1 (by decide) ?_
  refine z_ixor (pc := 2) dJ7_numberOfTrailingZeros_2 ?_
  refine z_iload_n (pc := 3) 0 dJ7_numberOfTrailingZeros_3 rfl rfl ?_
  refine z_iconst (pc := 4) (v := 1) dJ7_numberOfTrailingZeros_4 (by decide) ?_
  refine z_isub (pc := 5) dJ7_numberOfTrailingZeros_5 ?_
  refine z_iand (pc := 6) dJ7_numberOfTrailingZeros_6 ?_
  refine z_letI (fun w1 => ?_)
  refine z_istore_n (pc := 7) 0 dJ7_numberOfTrailingZeros_7 rfl (Nat.le_of_ble_eq_true rfl) rfl ?_
  refine z_iload_n (pc := 8) 0 dJ7_numberOfTrailingZeros_8 rfl rfl ?_
  refine z_if_gt (pc := 9) 17 dJ7_numberOfTrailingZeros_9 rfl ?_ ?_
  · refine z_iconst (pc := 17) (v := 1) dJ7_numberOfTrailingZeros_17 (by decide) ?_
    refine z_istore_n (pc := 18) 1 dJ7_numberOfTrailingZeros_18 rfl (Nat.le_of_ble_eq_true rfl) rfl ?_
    refine z_iload_n (pc := 19) 0 dJ7_numberOfTrailingZeros_19 rfl rfl ?_
    refine z_ldcw (pc := 20) (v := 65536) dJ7_numberOfTrailingZeros_20 q818 ?_
    refine z_join (fun j : Int32 → Int32 → Option (Int32 × zSt) => ∀ (x3 : Int32) (x4 : Int32), Zm X mJ7_numberOfTrailingZeros zJI G (0, 0) res S 34 [some (.int x3), some (.int x4)] [] (j x3 x4)) ?_ (fun j2 hj2 => ?_)
    · intro x3 x4
      refine z_iload_n (pc := 34) 0 dJ7_numberOfTrailingZeros_34 rfl rfl ?_
      refine z_sipush (pc := 35) (v := 256) dJ7_numberOfTrailingZeros_35 (by decide) ?_
      refine z_join (fun j : Int32 → Int32 → Option (Int32 × zSt) => ∀ (x6 : Int32) (x7 : Int32), Zm X mJ7_numberOfTrailingZeros zJI G (0, 0) res S 49 [some (.int x6), some (.int x7)] [] (j x6 x7)) ?_ (fun j5 hj5 => ?_)
      · intro x6 x7
        refine z_iload_n (pc := 49) 0 dJ7_numberOfTrailingZeros_49 rfl rfl ?_
        refine z_bipush (pc := 50) (v := 16) dJ7_numberOfTrailingZeros_50 (by decide) ?_
        refine z_join (fun j : Int32 → Int32 → Option (Int32 × zSt) => ∀ (x9 : Int32) (x10 : Int32), Zm X mJ7_numberOfTrailingZeros zJI G (0, 0) res S 62 [some (.int x9), some (.int x10)] [] (j x9 x10)) ?_ (fun j8 hj8 => ?_)
        · intro x9 x10
          refine z_iload_n (pc := 62) 0 dJ7_numberOfTrailingZeros_62 rfl rfl ?_
          refine z_iconst (pc := 63) (v := 4) dJ7_numberOfTrailingZeros_63 (by decide) ?_
          refine z_join (fun j : Int32 → Int32 → Option (Int32 × zSt) => ∀ (x12 : Int32) (x13 : Int32), Zm X mJ7_numberOfTrailingZeros zJI G (0, 0) res S 74 [some (.int x12), some (.int x13)] [] (j x12 x13)) ?_ (fun j11 hj11 => ?_)
          · intro x12 x13
            refine z_iload_n (pc := 74) 1 dJ7_numberOfTrailingZeros_74 rfl rfl ?_
            refine z_iload_n (pc := 75) 0 dJ7_numberOfTrailingZeros_75 rfl rfl ?_
            refine z_iconst (pc := 76) (v := 1) dJ7_numberOfTrailingZeros_76 (by decide) ?_
            refine z_iushr (pc := 77) dJ7_numberOfTrailingZeros_77 ?_
            refine z_iadd (pc := 78) dJ7_numberOfTrailingZeros_78 ?_
            exact z_iret rfl dJ7_numberOfTrailingZeros_79 rfl
          · refine z_icmp_le (pc := 64) 74 dJ7_numberOfTrailingZeros_64 rfl ?_ ?_
            · exact hj11 _ _
            · refine z_iinc (pc := 67) (w := x10 + 2) dJ7_numberOfTrailingZeros_67 rfl (by rw [show Int32.ofInt 2 = 2 from by decide]) (Nat.le_of_ble_eq_true rfl) rfl ?_
              refine z_iload_n (pc := 70) 0 dJ7_numberOfTrailingZeros_70 rfl rfl ?_
              refine z_iconst (pc := 71) (v := 2) dJ7_numberOfTrailingZeros_71 (by decide) ?_
              refine z_iushr (pc := 72) dJ7_numberOfTrailingZeros_72 ?_
              refine z_istore_n (pc := 73) 0 dJ7_numberOfTrailingZeros_73 rfl (Nat.le_of_ble_eq_true rfl) rfl ?_
              exact hj11 _ _
        · refine z_icmp_le (pc := 52) 62 dJ7_numberOfTrailingZeros_52 rfl ?_ ?_
          · exact hj8 _ _
          · refine z_iinc (pc := 55) (w := x7 + 4) dJ7_numberOfTrailingZeros_55 rfl (by rw [show Int32.ofInt 4 = 4 from by decide]) (Nat.le_of_ble_eq_true rfl) rfl ?_
            refine z_iload_n (pc := 58) 0 dJ7_numberOfTrailingZeros_58 rfl rfl ?_
            refine z_iconst (pc := 59) (v := 4) dJ7_numberOfTrailingZeros_59 (by decide) ?_
            refine z_iushr (pc := 60) dJ7_numberOfTrailingZeros_60 ?_
            refine z_istore_n (pc := 61) 0 dJ7_numberOfTrailingZeros_61 rfl (Nat.le_of_ble_eq_true rfl) rfl ?_
            exact hj8 _ _
      · refine z_icmp_le (pc := 38) 49 dJ7_numberOfTrailingZeros_38 rfl ?_ ?_
        · exact hj5 _ _
        · refine z_iinc (pc := 41) (w := x4 + 8) dJ7_numberOfTrailingZeros_41 rfl (by rw [show Int32.ofInt 8 = 8 from by decide]) (Nat.le_of_ble_eq_true rfl) rfl ?_
          refine z_iload_n (pc := 44) 0 dJ7_numberOfTrailingZeros_44 rfl rfl ?_
          refine z_bipush (pc := 45) (v := 8) dJ7_numberOfTrailingZeros_45 (by decide) ?_
          refine z_iushr (pc := 47) dJ7_numberOfTrailingZeros_47 ?_
          refine z_istore_n (pc := 48) 0 dJ7_numberOfTrailingZeros_48 rfl (Nat.le_of_ble_eq_true rfl) rfl ?_
          exact hj5 _ _
    · refine z_icmp_le (pc := 23) 34 dJ7_numberOfTrailingZeros_23 rfl ?_ ?_
      · exact hj2 _ _
      · refine z_iinc (pc := 26) (w := 1 + 16) dJ7_numberOfTrailingZeros_26 rfl (by rw [show Int32.ofInt 16 = 16 from by decide]) (Nat.le_of_ble_eq_true rfl) rfl ?_
        refine z_iload_n (pc := 29) 0 dJ7_numberOfTrailingZeros_29 rfl rfl ?_
        refine z_bipush (pc := 30) (v := 16) dJ7_numberOfTrailingZeros_30 (by decide) ?_
        refine z_iushr (pc := 32) dJ7_numberOfTrailingZeros_32 ?_
        refine z_istore_n (pc := 33) 0 dJ7_numberOfTrailingZeros_33 rfl (Nat.le_of_ble_eq_true rfl) rfl ?_
        exact hj2 _ _
  · refine z_iload_n (pc := 12) 0 dJ7_numberOfTrailingZeros_12 rfl rfl ?_
    refine z_bipush (pc := 13) (v := 32) dJ7_numberOfTrailingZeros_13 (by decide) ?_
    refine z_iand (pc := 15) dJ7_numberOfTrailingZeros_15 ?_
    exact z_iret rfl dJ7_numberOfTrailingZeros_16 rfl
abbrev mX0_nameOf : zMr := ("HiddenCube", cX0_nameOf, 2, (some .int), 2, 0, 0, none)
def F_X0_nameOf (a1 : Int32) (a2 : Int32) (S : zSt) : Option (Int32 × zSt) :=
zbind (F_J7_numberOfTrailingZeros (a1 ^^^ a2) S) (fun r2 S1 =>
some (r2, S1))
theorem mv_X0_nameOf : ZS mX0_nameOf yX0_nameOf 2 := ⟨q813, q150, q814, by decide, by decide, by decide +kernel⟩
theorem ct_X0_nameOf {G : zGw} (a1 : Int32) (a2 : Int32) : Zc mX0_nameOf yX0_nameOf zJI G [.int a1, .int a2] (F_X0_nameOf a1 a2) := by
  refine Zc_of [some (.int a1), some (.int a2)] (by decide) rfl rfl (Nat.le_of_ble_eq_true rfl) rfl (fun X S res => ?_)
  unfold F_X0_nameOf
  refine z_iload_n (pc := 0) 0 dX0_nameOf_0 rfl rfl ?_
  refine z_iload_n (pc := 1) 1 dX0_nameOf_1 rfl rfl ?_
  refine z_ixor (pc := 2) dX0_nameOf_2 ?_
  refine z_callSi (pc := 3) _ _ (ct_J7_numberOfTrailingZeros  _) mv_J7_numberOfTrailingZeros q815 rfl (Nat.le_of_ble_eq_true rfl) (Nat.le_of_ble_eq_true rfl) rfl rfl (Nat.le_of_ble_eq_true rfl) dX0_nameOf_3 (fun r2 S1 => ?_)
  exact z_iret rfl dX0_nameOf_6 rfl
