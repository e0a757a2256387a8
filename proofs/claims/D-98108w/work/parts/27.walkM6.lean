/-! WALKS (written by gen/mkparts.py) -/
set_option maxRecDepth 100000
abbrev mX5_drawingOf (nrec : Nat) : zMr := ("HiddenCubeModel", cX5_drawingOf, 6, (some .int), 4 + nrec, 0, 0, none)
def LB_X5_drawingOf_1 (a1 : Int32) (a2 : Int32) (self : Int32 → Int32 → zSt → Option (Int32 × zSt)) (rec3 : Int32 → Int32 → zSt → Option (Int32 × zSt)) (x4 : Int32) (x5 : Int32) (S6 : zSt) : Option (Int32 × zSt) :=
zbind (F_X5_squares S6) (fun r8 S7 =>
if r8 ≤ x5 then (some (x4, S7)) else (zbind (F_X5_isBit a2 x5 S7) (fun r10 S9 =>
if r10 = 0 then (chk x5 32 (zlet (sI S9 47 (x5).toNatClampNeg a1 : zSt) (fun S12 : zSt =>
zbind (self (a1 + 1) (a2 ||| ((1 : Int32) <<< (x5 &&& 31))) S12) (fun r14 S13 =>
zlet ((if x4 ≤ r14 then x4 else r14) : Int32) (fun w16 : Int32 =>
rec3 w16 (x5 + 1) S13))))) else (rec3 x4 (x5 + 1) S9))))
def FB_X5_drawingOf (self : Int32 → Int32 → zSt → Option (Int32 × zSt)) (a1 : Int32) (a2 : Int32) (S : zSt) : Option (Int32 × zSt) :=
zbind (F_X5_squares S) (fun r2 S1 =>
if a1 = r2 then (zbind (F_X5_crossingsNow S1) (fun r19 S18 =>
some (r19, S18))) else (loopK (fun _ _ _ => none) (LB_X5_drawingOf_1 a1 a2 self) zfuel 1000000 1 S1))
def F_X5_drawingOf : Nat → Int32 → Int32 → zSt → Option (Int32 × zSt)
  | 0 => fun _ _ _ => none
  | nrec + 1 => FB_X5_drawingOf (F_X5_drawingOf nrec)
theorem mv_X5_drawingOf (nrec : Nat) : ZV (mX5_drawingOf nrec) yX5_drawingOf 2 := ⟨q2064, qs140, q155, q2065, rfl, by decide, by decide, by decide +kernel⟩
theorem ct_X5_drawingOf {G : zGw} (hG : zGM G) : ∀ (nrec : Nat) (a1 : Int32) (a2 : Int32), Zc (mX5_drawingOf nrec) yX5_drawingOf zJI G [.ref (G.1 0), .int a1, .int a2] (F_X5_drawingOf nrec a1 a2) := by
  intro nrec
  induction nrec with
  | zero =>
    intro a1 a2 l S res sz hfl hF
    cases hF
  | succ nrec ih =>
    intro a1 a2
    show Zc (mX5_drawingOf (nrec + 1)) yX5_drawingOf zJI G [.ref (G.1 0), .int a1, .int a2] (FB_X5_drawingOf (F_X5_drawingOf nrec) a1 a2)
    refine Zc_of [some (.ref (G.1 0)), some (.int a1), some (.int a2), none, none, none] (by decide) rfl rfl (Nat.le_of_ble_eq_true rfl) rfl (fun X S res => ?_)
    unfold FB_X5_drawingOf
    refine z_iload_n (pc := 0) 1 dX5_drawingOf_0 rfl rfl ?_
    refine z_aload_n (pc := 1) 0 dX5_drawingOf_1 rfl rfl ?_
    refine z_callVi (pc := 2) _ _ 0 5 (ct_X5_squares hG) mv_X5_squares q1725 rfl (zGM_s0 hG) rfl (Nat.le_trans (m := 4) (Nat.le_of_ble_eq_true rfl) (Nat.le_add_right _ _)) (Nat.le_of_ble_eq_true rfl) rfl rfl (Nat.le_of_ble_eq_true rfl) dX5_drawingOf_2 (fun r2 S1 => ?_)
    refine z_icmp_ne (pc := 5) 13 dX5_drawingOf_5 rfl ?_ ?_
    · refine z_ldc (pc := 13) (v := 1000000) dX5_drawingOf_13 q1632 ?_
      refine z_istore_n (pc := 15) 3 dX5_drawingOf_15 rfl (Nat.le_of_ble_eq_true rfl) rfl ?_
      refine z_iconst (pc := 16) (v := 1) dX5_drawingOf_16 (by decide) ?_
      refine z_istore (pc := 17) dX5_drawingOf_17 (Nat.le_of_ble_eq_true rfl) rfl ?_
      refine z_loopK (fun j : Int32 → Int32 → zSt → Option (Int32 × zSt) => ∀ (x4 : Int32) (x5 : Int32) (S6 : zSt), Zm X (mX5_drawingOf (nrec + 1)) zJI G (0, 0) res S6 19 [some (.ref (G.1 0)), some (.int a1), some (.int a2), some (.int x4), some (.int x5), none] [] (j x4 x5 S6)) ?_ ?_ zfuel _ _ _
      · intro x4 x5 S6; exact z_none
      · intro rec3 hrec3 x4 x5 S6
        unfold LB_X5_drawingOf_1
        refine z_iload (pc := 19) dX5_drawingOf_19 rfl ?_
        refine z_aload_n (pc := 21) 0 dX5_drawingOf_21 rfl rfl ?_
        refine z_callVi (pc := 22) _ _ 0 5 (ct_X5_squares hG) mv_X5_squares q1725 rfl (zGM_s0 hG) rfl (Nat.le_trans (m := 4) (Nat.le_of_ble_eq_true rfl) (Nat.le_add_right _ _)) (Nat.le_of_ble_eq_true rfl) rfl rfl (Nat.le_of_ble_eq_true rfl) dX5_drawingOf_22 (fun r8 S7 => ?_)
        refine z_icmp_ge (pc := 25) 82 dX5_drawingOf_25 rfl ?_ ?_
        · refine z_iload_n (pc := 82) 3 dX5_drawingOf_82 rfl rfl ?_
          exact z_iret rfl dX5_drawingOf_83 rfl
        · refine z_iload_n (pc := 28) 2 dX5_drawingOf_28 rfl rfl ?_
          refine z_iload (pc := 29) dX5_drawingOf_29 rfl ?_
          refine z_callSi (pc := 31) _ _ (ct_X5_isBit  _ _) mv_X5_isBit q1737 rfl (Nat.le_trans (m := 4) (Nat.le_of_ble_eq_true rfl) (Nat.le_add_right _ _)) (Nat.le_of_ble_eq_true rfl) rfl rfl (Nat.le_of_ble_eq_true rfl) dX5_drawingOf_31 (fun r10 S9 => ?_)
          refine z_if_eq (pc := 34) 40 dX5_drawingOf_34 rfl ?_ ?_
          · refine z_aload_n (pc := 40) 0 dX5_drawingOf_40 rfl rfl ?_
            refine gf_X5_M_107_0 hG (pc := 41) dX5_drawingOf_41 ?_
            refine z_iload (pc := 44) dX5_drawingOf_44 rfl ?_
            refine z_iload_n (pc := 46) 1 dX5_drawingOf_46 rfl rfl ?_
            refine z_chk (fun h11 => ?_)
            refine z_iastore (pc := 47) 47 32 (zGM_s47 hG) h11 dX5_drawingOf_47 ?_
            refine z_letS (fun S12 => ?_)
            refine z_aload_n (pc := 48) 0 dX5_drawingOf_48 rfl rfl ?_
            refine z_iload_n (pc := 49) 1 dX5_drawingOf_49 rfl rfl ?_
            refine z_iconst (pc := 50) (v := 1) dX5_drawingOf_50 (by decide) ?_
            refine z_iadd (pc := 51) dX5_drawingOf_51 ?_
            refine z_iload_n (pc := 52) 2 dX5_drawingOf_52 rfl rfl ?_
            refine z_iconst (pc := 53) (v := 1) dX5_drawingOf_53 (by decide) ?_
            refine z_iload (pc := 54) dX5_drawingOf_54 rfl ?_
            refine z_ishl (pc := 56) dX5_drawingOf_56 ?_
            refine z_ior (pc := 57) dX5_drawingOf_57 ?_
            refine z_callVi (pc := 58) _ _ 0 5 (ih _ _) (mv_X5_drawingOf _) q2062 rfl (zGM_s0 hG) rfl (Nat.le_refl _) (Nat.le_of_ble_eq_true rfl) rfl rfl (Nat.le_of_ble_eq_true rfl) dX5_drawingOf_58 (fun r14 S13 => ?_)
            refine z_istore (pc := 61) dX5_drawingOf_61 (Nat.le_of_ble_eq_true rfl) rfl ?_
            refine z_iload (pc := 63) dX5_drawingOf_63 rfl ?_
            refine z_iload_n (pc := 65) 3 dX5_drawingOf_65 rfl rfl ?_
            refine z_pure (st0 := []) 75 ((if x4 ≤ r14 then x4 else r14)) ?_ (fun hJ => ?_)
            · refine z_letI (fun w16 => ?_)
              refine z_istore_n (pc := 75) 3 dX5_drawingOf_75 rfl (Nat.le_of_ble_eq_true rfl) rfl ?_
              refine z_iinc (pc := 76) (w := x5 + 1) dX5_drawingOf_76 rfl (by rw [show Int32.ofInt 1 = 1 from by decide]) (Nat.le_of_ble_eq_true rfl) rfl ?_
              refine z_goto (pc := 79) 19 dX5_drawingOf_79 rfl ?_
              exact z_mask [true, true, true, true, true, false] (hrec3 _ _ _) rfl
            · refine z_icmpd_ge (pc := 66) 74 dX5_drawingOf_66 rfl (fun c17 => ?_) (fun c17 => ?_)
              · refine z_iload_n (pc := 74) 3 dX5_drawingOf_74 rfl rfl ?_
                exact z_leaf hJ (by simp only [if_pos c17])
              · refine z_iload (pc := 69) dX5_drawingOf_69 rfl ?_
                refine z_goto (pc := 71) 75 dX5_drawingOf_71 rfl ?_
                exact z_leaf hJ (by simp only [if_neg c17])
          · refine z_goto (pc := 37) 76 dX5_drawingOf_37 rfl ?_
            refine z_iinc (pc := 76) (w := x5 + 1) dX5_drawingOf_76 rfl (by rw [show Int32.ofInt 1 = 1 from by decide]) (Nat.le_of_ble_eq_true rfl) rfl ?_
            refine z_goto (pc := 79) 19 dX5_drawingOf_79 rfl ?_
            exact hrec3 _ _ _
    · refine z_aload_n (pc := 8) 0 dX5_drawingOf_8 rfl rfl ?_
      refine z_callVi (pc := 9) _ _ 0 5 (ct_X5_crossingsNow hG) mv_X5_crossingsNow q2054 rfl (zGM_s0 hG) rfl (Nat.le_trans (m := 4) (Nat.le_of_ble_eq_true rfl) (Nat.le_add_right _ _)) (Nat.le_of_ble_eq_true rfl) rfl rfl (Nat.le_of_ble_eq_true rfl) dX5_drawingOf_9 (fun r19 S18 => ?_)
      exact z_iret rfl dX5_drawingOf_12 rfl
abbrev mX5_drawing : zMr := ("HiddenCubeModel", cX5_drawing, 1, (some .int), 45, 0, 0, none)
def F_X5_drawing  (S : zSt) : Option (Int32 × zSt) :=
zlet (sI S 0 0 0 : zSt) (fun S1 : zSt =>
zbind (F_X5_isTown S1) (fun r3 S2 =>
if r3 = 0 then (some ((-2), S2)) else (chk 0 15 (if (S2.1 18 (0 : Int32).toNatClampNeg) ≤ 3 then (chk 0 32 (zlet (sI S2 47 (0 : Int32).toNatClampNeg 0 : zSt) (fun S6 : zSt =>
zbind (F_X5_drawingOf 40 1 1 S6) (fun r8 S7 =>
some (r8, S7))))) else (some ((-9), S2))))))
theorem mv_X5_drawing : ZV mX5_drawing yX5_drawing 0 := ⟨q2059, q2060, q155, q2061, rfl, by decide, by decide, by decide +kernel⟩
theorem ct_X5_drawing {G : zGw} (hG : zGM G)  : Zc mX5_drawing yX5_drawing zJI G [.ref (G.1 0)] (F_X5_drawing) := by
  refine Zc_of [some (.ref (G.1 0))] (by decide) rfl rfl (Nat.le_of_ble_eq_true rfl) rfl (fun X S res => ?_)
  unfold F_X5_drawing
  refine z_aload_n (pc := 0) 0 dX5_drawing_0 rfl rfl ?_
  refine z_iconst (pc := 1) (v := 0) dX5_drawing_1 (by decide) ?_
  refine pf_X5_M_131_0 hG (pc := 2) dX5_drawing_2 ?_
  refine z_letS (fun S1 => ?_)
  refine z_aload_n (pc := 5) 0 dX5_drawing_5 rfl rfl ?_
  refine z_callVi (pc := 6) _ _ 0 5 (ct_X5_isTown hG) mv_X5_isTown q1729 rfl (zGM_s0 hG) rfl (Nat.le_of_ble_eq_true rfl) (Nat.le_of_ble_eq_true rfl) rfl rfl (Nat.le_of_ble_eq_true rfl) dX5_drawing_6 (fun r3 S2 => ?_)
  refine z_if_ne (pc := 9) 15 dX5_drawing_9 rfl ?_ ?_
  · refine z_aload_n (pc := 15) 0 dX5_drawing_15 rfl rfl ?_
    refine gf_X5_M_34_0 hG (pc := 16) dX5_drawing_16 ?_
    refine z_iconst (pc := 19) (v := 0) dX5_drawing_19 (by decide) ?_
    refine z_chk (fun h4 => ?_)
    refine z_iaload (pc := 20) 18 15 (zGM_s18 hG) h4 dX5_drawing_20 ?_
    refine z_iconst (pc := 21) (v := 3) dX5_drawing_21 (by decide) ?_
    refine z_icmp_le (pc := 22) 28 dX5_drawing_22 rfl ?_ ?_
    · refine z_aload_n (pc := 28) 0 dX5_drawing_28 rfl rfl ?_
      refine gf_X5_M_107_0 hG (pc := 29) dX5_drawing_29 ?_
      refine z_iconst (pc := 32) (v := 0) dX5_drawing_32 (by decide) ?_
      refine z_iconst (pc := 33) (v := 0) dX5_drawing_33 (by decide) ?_
      refine z_chk (fun h5 => ?_)
      refine z_iastore (pc := 34) 47 32 (zGM_s47 hG) h5 dX5_drawing_34 ?_
      refine z_letS (fun S6 => ?_)
      refine z_aload_n (pc := 35) 0 dX5_drawing_35 rfl rfl ?_
      refine z_iconst (pc := 36) (v := 1) dX5_drawing_36 (by decide) ?_
      refine z_iconst (pc := 37) (v := 1) dX5_drawing_37 (by decide) ?_
      refine z_callVi (pc := 38) _ _ 0 5 (ct_X5_drawingOf hG 40 _ _) (mv_X5_drawingOf _) q2062 rfl (zGM_s0 hG) rfl (Nat.le_of_ble_eq_true rfl) (Nat.le_of_ble_eq_true rfl) rfl rfl (Nat.le_of_ble_eq_true rfl) dX5_drawing_38 (fun r8 S7 => ?_)
      exact z_iret rfl dX5_drawing_41 rfl
    · refine z_bipush (pc := 25) (v := (-9)) dX5_drawing_25 (by decide) ?_
      exact z_iret rfl dX5_drawing_27 rfl
  · refine z_bipush (pc := 12) (v := (-2)) dX5_drawing_12 (by decide) ?_
    exact z_iret rfl dX5_drawing_14 rfl
abbrev mX5_isPerson : zMr := ("HiddenCubeModel", cX5_isPerson, 3, (some .boolean), 2, 0, 0, none)
def F_X5_isPerson (a1 : Int64) (S : zSt) : Option (Int32 × zSt) :=
chk 1 15 (zbind (F_X5_in a1 0 (((S.1 18 (1 : Int32).toNatClampNeg).toInt64) - 1) S) (fun r3 S2 =>
some (r3 &&& 1, S2)))
theorem mv_X5_isPerson : ZV mX5_isPerson yX5_isPerson 1 := ⟨q2072, qs141, q155, q2073, rfl, by decide, by decide, by decide +kernel⟩
theorem ct_X5_isPerson {G : zGw} (hG : zGM G) (a1 : Int64) : Zc mX5_isPerson yX5_isPerson zJI G [.ref (G.1 0), .long a1] (F_X5_isPerson a1) := by
  refine Zc_of [some (.ref (G.1 0)), some (.long a1), none] (by decide) rfl rfl (Nat.le_of_ble_eq_true rfl) rfl (fun X S res => ?_)
  unfold F_X5_isPerson
  refine z_lload_n (pc := 0) 1 dX5_isPerson_0 rfl rfl ?_
  refine z_lconst (pc := 1) (v := 0) dX5_isPerson_1 (by decide) ?_
  refine z_aload_n (pc := 2) 0 dX5_isPerson_2 rfl rfl ?_
  refine gf_X5_M_34_0 hG (pc := 3) dX5_isPerson_3 ?_
  refine z_iconst (pc := 6) (v := 1) dX5_isPerson_6 (by decide) ?_
  refine z_chk (fun h1 => ?_)
  refine z_iaload (pc := 7) 18 15 (zGM_s18 hG) h1 dX5_isPerson_7 ?_
  refine z_i2l (pc := 8) dX5_isPerson_8 ?_
  refine z_lconst (pc := 9) (v := 1) dX5_isPerson_9 (by decide) ?_
  refine z_lsub (pc := 10) dX5_isPerson_10 ?_
  refine z_callSi (pc := 11) _ _ (ct_X5_in  _ _ _) mv_X5_in q1578 rfl (Nat.le_of_ble_eq_true rfl) (Nat.le_of_ble_eq_true rfl) rfl rfl (Nat.le_of_ble_eq_true rfl) dX5_isPerson_11 (fun r3 S2 => ?_)
  exact z_zret rfl rfl dX5_isPerson_14 rfl
abbrev mX5_person : zMr := ("HiddenCubeModel", cX5_person, 2, (some .int), 3, 0, 0, none)
def F_X5_person (a1 : Int32) (S : zSt) : Option (Int32 × zSt) :=
zlet (sI S 0 0 0 : zSt) (fun S1 : zSt =>
zbind (F_X5_isPerson ((a1).toInt64) S1) (fun r3 S2 =>
if r3 = 0 then (some ((-2), S2)) else (chk a1 30 (some (S2.1 24 (a1).toNatClampNeg, S2)))))
theorem mv_X5_person : ZV mX5_person yX5_person 1 := ⟨q2067, q2068, q155, q2069, rfl, by decide, by decide, by decide +kernel⟩
theorem ct_X5_person {G : zGw} (hG : zGM G) (a1 : Int32) : Zc mX5_person yX5_person zJI G [.ref (G.1 0), .int a1] (F_X5_person a1) := by
  refine Zc_of [some (.ref (G.1 0)), some (.int a1)] (by decide) rfl rfl (Nat.le_of_ble_eq_true rfl) rfl (fun X S res => ?_)
  unfold F_X5_person
  refine z_aload_n (pc := 0) 0 dX5_person_0 rfl rfl ?_
  refine z_iconst (pc := 1) (v := 0) dX5_person_1 (by decide) ?_
  refine pf_X5_M_131_0 hG (pc := 2) dX5_person_2 ?_
  refine z_letS (fun S1 => ?_)
  refine z_aload_n (pc := 5) 0 dX5_person_5 rfl rfl ?_
  refine z_iload_n (pc := 6) 1 dX5_person_6 rfl rfl ?_
  refine z_i2l (pc := 7) dX5_person_7 ?_
  refine z_callVi (pc := 8) _ _ 0 5 (ct_X5_isPerson hG _) mv_X5_isPerson q2070 rfl (zGM_s0 hG) rfl (Nat.le_of_ble_eq_true rfl) (Nat.le_of_ble_eq_true rfl) rfl rfl (Nat.le_of_ble_eq_true rfl) dX5_person_8 (fun r3 S2 => ?_)
  refine z_if_eq (pc := 11) 23 dX5_person_11 rfl ?_ ?_
  · refine z_bipush (pc := 23) (v := (-2)) dX5_person_23 (by decide) ?_
    exact z_iret rfl dX5_person_25 rfl
  · refine z_aload_n (pc := 14) 0 dX5_person_14 rfl rfl ?_
    refine gf_X5_M_52_0 hG (pc := 15) dX5_person_15 ?_
    refine z_iload_n (pc := 18) 1 dX5_person_18 rfl rfl ?_
    refine z_chk (fun h4 => ?_)
    refine z_iaload (pc := 19) 24 30 (zGM_s24 hG) h4 dX5_person_19 ?_
    refine z_goto (pc := 20) 25 dX5_person_20 rfl ?_
    exact z_iret rfl dX5_person_25 rfl
abbrev mX5_moves : zMr := ("HiddenCubeModel", cX5_moves, 4, (some .int), 4, 0, 0, none)
def F_X5_moves (a1 : Int32) (a2 : Int32) (S : zSt) : Option (Int32 × zSt) :=
zlet (sI S 0 0 0 : zSt) (fun S1 : zSt =>
zbind (F_X5_isPerson ((a1).toInt64) S1) (fun r3 S2 =>
if r3 = 0 then (some ((-2), S2)) else (zbind (F_X5_isSquare ((a2).toInt64) S2) (fun r5 S4 =>
if r5 = 0 then (some ((-2), S4)) else (chk a1 30 (zlet (S4.1 24 (a1).toNatClampNeg : Int32) (fun w7 : Int32 =>
chk a1 30 (zlet (sI S4 24 (a1).toNatClampNeg a2 : zSt) (fun S9 : zSt =>
some (w7, S9))))))))))
theorem mv_X5_moves : ZV mX5_moves yX5_moves 2 := ⟨q2075, q2076, q155, q2077, rfl, by decide, by decide, by decide +kernel⟩
theorem ct_X5_moves {G : zGw} (hG : zGM G) (a1 : Int32) (a2 : Int32) : Zc mX5_moves yX5_moves zJI G [.ref (G.1 0), .int a1, .int a2] (F_X5_moves a1 a2) := by
  refine Zc_of [some (.ref (G.1 0)), some (.int a1), some (.int a2), none] (by decide) rfl rfl (Nat.le_of_ble_eq_true rfl) rfl (fun X S res => ?_)
  unfold F_X5_moves
  refine z_aload_n (pc := 0) 0 dX5_moves_0 rfl rfl ?_
  refine z_iconst (pc := 1) (v := 0) dX5_moves_1 (by decide) ?_
  refine pf_X5_M_131_0 hG (pc := 2) dX5_moves_2 ?_
  refine z_letS (fun S1 => ?_)
  refine z_aload_n (pc := 5) 0 dX5_moves_5 rfl rfl ?_
  refine z_iload_n (pc := 6) 1 dX5_moves_6 rfl rfl ?_
  refine z_i2l (pc := 7) dX5_moves_7 ?_
  refine z_callVi (pc := 8) _ _ 0 5 (ct_X5_isPerson hG _) mv_X5_isPerson q2070 rfl (zGM_s0 hG) rfl (Nat.le_of_ble_eq_true rfl) (Nat.le_of_ble_eq_true rfl) rfl rfl (Nat.le_of_ble_eq_true rfl) dX5_moves_8 (fun r3 S2 => ?_)
  refine z_if_eq (pc := 11) 23 dX5_moves_11 rfl ?_ ?_
  · refine z_bipush (pc := 23) (v := (-2)) dX5_moves_23 (by decide) ?_
    exact z_iret rfl dX5_moves_25 rfl
  · refine z_aload_n (pc := 14) 0 dX5_moves_14 rfl rfl ?_
    refine z_iload_n (pc := 15) 2 dX5_moves_15 rfl rfl ?_
    refine z_i2l (pc := 16) dX5_moves_16 ?_
    refine z_callVi (pc := 17) _ _ 0 5 (ct_X5_isSquare hG _) mv_X5_isSquare q1721 rfl (zGM_s0 hG) rfl (Nat.le_of_ble_eq_true rfl) (Nat.le_of_ble_eq_true rfl) rfl rfl (Nat.le_of_ble_eq_true rfl) dX5_moves_17 (fun r5 S4 => ?_)
    refine z_if_ne (pc := 20) 26 dX5_moves_20 rfl ?_ ?_
    · refine z_aload_n (pc := 26) 0 dX5_moves_26 rfl rfl ?_
      refine gf_X5_M_52_0 hG (pc := 27) dX5_moves_27 ?_
      refine z_iload_n (pc := 30) 1 dX5_moves_30 rfl rfl ?_
      refine z_chk (fun h6 => ?_)
      refine z_iaload (pc := 31) 24 30 (zGM_s24 hG) h6 dX5_moves_31 ?_
      refine z_letI (fun w7 => ?_)
      refine z_istore_n (pc := 32) 3 dX5_moves_32 rfl (Nat.le_of_ble_eq_true rfl) rfl ?_
      refine z_aload_n (pc := 33) 0 dX5_moves_33 rfl rfl ?_
      refine gf_X5_M_52_0 hG (pc := 34) dX5_moves_34 ?_
      refine z_iload_n (pc := 37) 1 dX5_moves_37 rfl rfl ?_
      refine z_iload_n (pc := 38) 2 dX5_moves_38 rfl rfl ?_
      refine z_chk (fun h8 => ?_)
      refine z_iastore (pc := 39) 24 30 (zGM_s24 hG) h8 dX5_moves_39 ?_
      refine z_letS (fun S9 => ?_)
      refine z_iload_n (pc := 40) 3 dX5_moves_40 rfl rfl ?_
      exact z_iret rfl dX5_moves_41 rfl
    · refine z_bipush (pc := 23) (v := (-2)) dX5_moves_23 (by decide) ?_
      exact z_iret rfl dX5_moves_25 rfl
abbrev mX5_whyNotMet : zMr := ("HiddenCubeModel", cX5_whyNotMet, 7, (some .int), 3, 0, 0, none)
def LB_X5_whyNotMet_1 (a1 : Int32) (rec8 : Int32 → zSt → Option (Int32 × zSt)) (x9 : Int32) (S10 : zSt) : Option (Int32 × zSt) :=
chk a1 4 (if (S10.1 3 (a1).toNatClampNeg) ≤ x9 then (some (0, S10)) else (zlet ((60 * a1) + x9 : Int32) (fun w12 : Int32 =>
chk w12 240 (zlet (S10.2 4 (w12).toNatClampNeg : Int64) (fun w14 : Int64 =>
zlet (((60 * a1) + x9) + 1 : Int32) (fun w15 : Int32 =>
chk w15 240 (zlet (S10.2 4 (w15).toNatClampNeg : Int64) (fun w17 : Int64 =>
zbind (F_X5_isPerson w14 S10) (fun r19 S18 =>
if r19 = 0 then (some ((-2), S18)) else (zbind (F_X5_isPerson w17 S18) (fun r21 S20 =>
if r21 = 0 then (some ((-2), S20)) else (if (lg_cmp w14 w17) = 0 then (some ((-2), S20)) else (rec8 (x9 + 3) S20)))))))))))))
def F_X5_whyNotMet (a1 : Int32) (S : zSt) : Option (Int32 × zSt) :=
zbind (F_X5_isSlot a1 S) (fun r2 S1 =>
if r2 = 0 then (some ((-2), S1)) else (chk 1 15 (if (S1.1 18 (1 : Int32).toNatClampNeg) = 0 then (some ((-2), S1)) else (chk a1 4 (if (S1.1 2 (a1).toNatClampNeg) = (-1) then (some ((-6), S1)) else (chk 0 15 (if (S1.1 18 (0 : Int32).toNatClampNeg) = 5 then (some ((-9), S1)) else (chk 1 15 (if (S1.1 18 (1 : Int32).toNatClampNeg) ≤ 4 then (chk a1 4 (if ((S1.1 3 (a1).toNatClampNeg) - (S1.1 3 (a1).toNatClampNeg) / 3 * 3) = 0 then (loopK (fun _ _ => none) (LB_X5_whyNotMet_1 a1) zfuel 0 S1) else (some ((-2), S1)))) else (some ((-9), S1)))))))))))
theorem mv_X5_whyNotMet : ZV mX5_whyNotMet yX5_whyNotMet 1 := ⟨q2084, qs142, q155, q2085, rfl, by decide, by decide, by decide +kernel⟩
theorem ct_X5_whyNotMet {G : zGw} (hG : zGM G) (a1 : Int32) : Zc mX5_whyNotMet yX5_whyNotMet zJI G [.ref (G.1 0), .int a1] (F_X5_whyNotMet a1) := by
  refine Zc_of [some (.ref (G.1 0)), some (.int a1), none, none, none, none, none] (by decide) rfl rfl (Nat.le_of_ble_eq_true rfl) rfl (fun X S res => ?_)
  unfold F_X5_whyNotMet
  refine z_iload_n (pc := 0) 1 dX5_whyNotMet_0 rfl rfl ?_
  refine z_callSi (pc := 1) _ _ (ct_X5_isSlot  _) mv_X5_isSlot q1574 rfl (Nat.le_of_ble_eq_true rfl) (Nat.le_of_ble_eq_true rfl) rfl rfl (Nat.le_of_ble_eq_true rfl) dX5_whyNotMet_1 (fun r2 S1 => ?_)
  refine z_if_eq (pc := 4) 16 dX5_whyNotMet_4 rfl ?_ ?_
  · refine z_bipush (pc := 16) (v := (-2)) dX5_whyNotMet_16 (by decide) ?_
    exact z_iret rfl dX5_whyNotMet_18 rfl
  · refine z_aload_n (pc := 7) 0 dX5_whyNotMet_7 rfl rfl ?_
    refine gf_X5_M_34_0 hG (pc := 8) dX5_whyNotMet_8 ?_
    refine z_iconst (pc := 11) (v := 1) dX5_whyNotMet_11 (by decide) ?_
    refine z_chk (fun h3 => ?_)
    refine z_iaload (pc := 12) 18 15 (zGM_s18 hG) h3 dX5_whyNotMet_12 ?_
    refine z_if_ne (pc := 13) 19 dX5_whyNotMet_13 rfl ?_ ?_
    · refine z_aload_n (pc := 19) 0 dX5_whyNotMet_19 rfl rfl ?_
      refine gf_X5_M_7_0 hG (pc := 20) dX5_whyNotMet_20 ?_
      refine z_iload_n (pc := 23) 1 dX5_whyNotMet_23 rfl rfl ?_
      refine z_chk (fun h4 => ?_)
      refine z_iaload (pc := 24) 2 4 (zGM_s2 hG) h4 dX5_whyNotMet_24 ?_
      refine z_iconst (pc := 25) (v := (-1)) dX5_whyNotMet_25 (by decide) ?_
      refine z_icmp_ne (pc := 26) 32 dX5_whyNotMet_26 rfl ?_ ?_
      · refine z_aload_n (pc := 32) 0 dX5_whyNotMet_32 rfl rfl ?_
        refine gf_X5_M_34_0 hG (pc := 33) dX5_whyNotMet_33 ?_
        refine z_iconst (pc := 36) (v := 0) dX5_whyNotMet_36 (by decide) ?_
        refine z_chk (fun h5 => ?_)
        refine z_iaload (pc := 37) 18 15 (zGM_s18 hG) h5 dX5_whyNotMet_37 ?_
        refine z_iconst (pc := 38) (v := 5) dX5_whyNotMet_38 (by decide) ?_
        refine z_icmp_eq (pc := 39) 52 dX5_whyNotMet_39 rfl ?_ ?_
        · refine z_bipush (pc := 52) (v := (-9)) dX5_whyNotMet_52 (by decide) ?_
          exact z_iret rfl dX5_whyNotMet_54 rfl
        · refine z_aload_n (pc := 42) 0 dX5_whyNotMet_42 rfl rfl ?_
          refine gf_X5_M_34_0 hG (pc := 43) dX5_whyNotMet_43 ?_
          refine z_iconst (pc := 46) (v := 1) dX5_whyNotMet_46 (by decide) ?_
          refine z_chk (fun h6 => ?_)
          refine z_iaload (pc := 47) 18 15 (zGM_s18 hG) h6 dX5_whyNotMet_47 ?_
          refine z_iconst (pc := 48) (v := 4) dX5_whyNotMet_48 (by decide) ?_
          refine z_icmp_le (pc := 49) 55 dX5_whyNotMet_49 rfl ?_ ?_
          · refine z_aload_n (pc := 55) 0 dX5_whyNotMet_55 rfl rfl ?_
            refine gf_X5_M_13_0 hG (pc := 56) dX5_whyNotMet_56 ?_
            refine z_iload_n (pc := 59) 1 dX5_whyNotMet_59 rfl rfl ?_
            refine z_chk (fun h7 => ?_)
            refine z_iaload (pc := 60) 3 4 (zGM_s3 hG) h7 dX5_whyNotMet_60 ?_
            refine z_iconst (pc := 61) (v := 3) dX5_whyNotMet_61 (by decide) ?_
            refine z_iremc (pc := 62) dX5_whyNotMet_62 (by decide) ?_
            refine z_if_eq (pc := 63) 69 dX5_whyNotMet_63 rfl ?_ ?_
            · refine z_iconst (pc := 69) (v := 0) dX5_whyNotMet_69 (by decide) ?_
              refine z_istore_n (pc := 70) 2 dX5_whyNotMet_70 rfl (Nat.le_of_ble_eq_true rfl) rfl ?_
              refine z_loopK (fun j : Int32 → zSt → Option (Int32 × zSt) => ∀ (x9 : Int32) (S10 : zSt), Zm X mX5_whyNotMet zJI G (0, 0) res S10 71 [some (.ref (G.1 0)), some (.int a1), some (.int x9), none, none, none, none] [] (j x9 S10)) ?_ ?_ zfuel _ _
              · intro x9 S10; exact z_none
              · intro rec8 hrec8 x9 S10
                unfold LB_X5_whyNotMet_1
                refine z_iload_n (pc := 71) 2 dX5_whyNotMet_71 rfl rfl ?_
                refine z_aload_n (pc := 72) 0 dX5_whyNotMet_72 rfl rfl ?_
                refine gf_X5_M_13_0 hG (pc := 73) dX5_whyNotMet_73 ?_
                refine z_iload_n (pc := 76) 1 dX5_whyNotMet_76 rfl rfl ?_
                refine z_chk (fun h11 => ?_)
                refine z_iaload (pc := 77) 3 4 (zGM_s3 hG) h11 dX5_whyNotMet_77 ?_
                refine z_icmp_ge (pc := 78) 141 dX5_whyNotMet_78 rfl ?_ ?_
                · refine z_iconst (pc := 141) (v := 0) dX5_whyNotMet_141 (by decide) ?_
                  exact z_iret rfl dX5_whyNotMet_142 rfl
                · refine z_aload_n (pc := 81) 0 dX5_whyNotMet_81 rfl rfl ?_
                  refine gf_X5_M_16_0 hG (pc := 82) dX5_whyNotMet_82 ?_
                  refine z_bipush (pc := 85) (v := 60) dX5_whyNotMet_85 (by decide) ?_
                  refine z_iload_n (pc := 87) 1 dX5_whyNotMet_87 rfl rfl ?_
                  refine z_imul (pc := 88) dX5_whyNotMet_88 ?_
                  refine z_iload_n (pc := 89) 2 dX5_whyNotMet_89 rfl rfl ?_
                  refine z_iadd (pc := 90) dX5_whyNotMet_90 ?_
                  refine z_letI (fun w12 => ?_)
                  refine z_chk (fun h13 => ?_)
                  refine z_laload (pc := 91) 4 240 (zGM_s4 hG) h13 dX5_whyNotMet_91 ?_
                  refine z_letL (fun w14 => ?_)
                  refine z_lstore_n (pc := 92) 3 dX5_whyNotMet_92 rfl (Nat.le_of_ble_eq_true rfl) rfl ?_
                  refine z_aload_n (pc := 93) 0 dX5_whyNotMet_93 rfl rfl ?_
                  refine gf_X5_M_16_0 hG (pc := 94) dX5_whyNotMet_94 ?_
                  refine z_bipush (pc := 97) (v := 60) dX5_whyNotMet_97 (by decide) ?_
                  refine z_iload_n (pc := 99) 1 dX5_whyNotMet_99 rfl rfl ?_
                  refine z_imul (pc := 100) dX5_whyNotMet_100 ?_
                  refine z_iload_n (pc := 101) 2 dX5_whyNotMet_101 rfl rfl ?_
                  refine z_iadd (pc := 102) dX5_whyNotMet_102 ?_
                  refine z_iconst (pc := 103) (v := 1) dX5_whyNotMet_103 (by decide) ?_
                  refine z_iadd (pc := 104) dX5_whyNotMet_104 ?_
                  refine z_letI (fun w15 => ?_)
                  refine z_chk (fun h16 => ?_)
                  refine z_laload (pc := 105) 4 240 (zGM_s4 hG) h16 dX5_whyNotMet_105 ?_
                  refine z_letL (fun w17 => ?_)
                  refine z_lstore (pc := 106) dX5_whyNotMet_106 (Nat.le_of_ble_eq_true rfl) rfl ?_
                  refine z_aload_n (pc := 108) 0 dX5_whyNotMet_108 rfl rfl ?_
                  refine z_lload_n (pc := 109) 3 dX5_whyNotMet_109 rfl rfl ?_
                  refine z_callVi (pc := 110) _ _ 0 5 (ct_X5_isPerson hG _) mv_X5_isPerson q2070 rfl (zGM_s0 hG) rfl (Nat.le_of_ble_eq_true rfl) (Nat.le_of_ble_eq_true rfl) rfl rfl (Nat.le_of_ble_eq_true rfl) dX5_whyNotMet_110 (fun r19 S18 => ?_)
                  refine z_if_eq (pc := 113) 132 dX5_whyNotMet_113 rfl ?_ ?_
                  · refine z_bipush (pc := 132) (v := (-2)) dX5_whyNotMet_132 (by decide) ?_
                    exact z_iret rfl dX5_whyNotMet_134 rfl
                  · refine z_aload_n (pc := 116) 0 dX5_whyNotMet_116 rfl rfl ?_
                    refine z_lload (pc := 117) dX5_whyNotMet_117 rfl ?_
                    refine z_callVi (pc := 119) _ _ 0 5 (ct_X5_isPerson hG _) mv_X5_isPerson q2070 rfl (zGM_s0 hG) rfl (Nat.le_of_ble_eq_true rfl) (Nat.le_of_ble_eq_true rfl) rfl rfl (Nat.le_of_ble_eq_true rfl) dX5_whyNotMet_119 (fun r21 S20 => ?_)
                    refine z_if_eq (pc := 122) 132 dX5_whyNotMet_122 rfl ?_ ?_
                    · refine z_bipush (pc := 132) (v := (-2)) dX5_whyNotMet_132 (by decide) ?_
                      exact z_iret rfl dX5_whyNotMet_134 rfl
                    · refine z_lload_n (pc := 125) 3 dX5_whyNotMet_125 rfl rfl ?_
                      refine z_lload (pc := 126) dX5_whyNotMet_126 rfl ?_
                      refine z_lcmp (pc := 128) dX5_whyNotMet_128 ?_
                      refine z_if_ne (pc := 129) 135 dX5_whyNotMet_129 rfl ?_ ?_
                      · refine z_iinc (pc := 135) (w := x9 + 3) dX5_whyNotMet_135 rfl (by rw [show Int32.ofInt 3 = 3 from by decide]) (Nat.le_of_ble_eq_true rfl) rfl ?_
                        refine z_goto (pc := 138) 71 dX5_whyNotMet_138 rfl ?_
                        exact z_mask [true, true, true, false, false, false, false] (hrec8 _ _) rfl
                      · refine z_bipush (pc := 132) (v := (-2)) dX5_whyNotMet_132 (by decide) ?_
                        exact z_iret rfl dX5_whyNotMet_134 rfl
            · refine z_bipush (pc := 66) (v := (-2)) dX5_whyNotMet_66 (by decide) ?_
              exact z_iret rfl dX5_whyNotMet_68 rfl
          · refine z_bipush (pc := 52) (v := (-9)) dX5_whyNotMet_52 (by decide) ?_
            exact z_iret rfl dX5_whyNotMet_54 rfl
      · refine z_bipush (pc := 29) (v := (-6)) dX5_whyNotMet_29 (by decide) ?_
        exact z_iret rfl dX5_whyNotMet_31 rfl
    · refine z_bipush (pc := 16) (v := (-2)) dX5_whyNotMet_16 (by decide) ?_
      exact z_iret rfl dX5_whyNotMet_18 rfl
abbrev mX5_stand (nrec : Nat) : zMr := ("HiddenCubeModel", cX5_stand, 4, none, 3 + nrec, 0, 0, none)
def LB_X5_stand_1 (k4 : zSt → Option (Unit × zSt)) (rec7 : Int32 → zSt → Option (Unit × zSt)) (x8 : Int32) (S9 : zSt) : Option (Unit × zSt) :=
chk 1 15 (if (S9.1 18 (1 : Int32).toNatClampNeg) ≤ x8 then (k4 S9) else (joinK (fun (v12 : Int32) => chk x8 6 (zlet (sI S9 51 (x8).toNatClampNeg v12 : zSt) (fun S14 : zSt =>
rec7 (x8 + 1) S14))) (fun j11 : Int32 → Option (Unit × zSt) =>
joinK (chk x8 6 (j11 (S9.1 50 (x8).toNatClampNeg))) (fun j15 : Option (Unit × zSt) =>
if (S9.1 0 51) = 0 then (j15) else (chk x8 6 (chk x8 6 (if (S9.1 51 (x8).toNatClampNeg) = (S9.1 50 (x8).toNatClampNeg) then (j15) else (j11 (-1)))))))))
def LB_X5_stand_2 (a1 : Int32) (k2 : zSt → Option (Unit × zSt)) (rec19 : Int32 → zSt → Option (Unit × zSt)) (x20 : Int32) (S21 : zSt) : Option (Unit × zSt) :=
chk a1 4 (if (S21.1 3 (a1).toNatClampNeg) ≤ x20 then (k2 S21) else (zbind (F_X5_cellOf a1 x20 S21) (fun r24 S23 =>
chk r24 6 (zbind (F_X5_cellOf a1 (x20 + 1) S23) (fun r27 S26 =>
chk r27 6 (zbind (F_X5_bits ((S23.1 50 (r24).toNatClampNeg) ^^^ (S26.1 50 (r27).toNatClampNeg)) S26) (fun r30 S29 =>
zlet (((60 * a1) + x20) + 2 : Int32) (fun w31 : Int32 =>
chk w31 240 (if (lg_cmp ((r30).toInt64) (S29.2 4 (w31).toNatClampNeg)) = 0 then (rec19 (x20 + 3) S29) else (some ((), S29)))))))))))
def LB_X5_stand_3 (a1 : Int32) (a2 : Int32) (self : Int32 → Int32 → zSt → Option (Unit × zSt)) (rec33 : Int32 → zSt → Option (Unit × zSt)) (x34 : Int32) (S35 : zSt) : Option (Unit × zSt) :=
zbind (F_X5_squares S35) (fun r37 S36 =>
if r37 ≤ x34 then (some ((), S36)) else (chk a2 6 (zlet (sI S36 50 (a2).toNatClampNeg x34 : zSt) (fun S39 : zSt =>
zbind (self a1 (a2 + 1) S39) (fun _ S40 =>
rec33 (x34 + 1) S40)))))
def FB_X5_stand (self : Int32 → Int32 → zSt → Option (Unit × zSt)) (a1 : Int32) (a2 : Int32) (S : zSt) : Option (Unit × zSt) :=
chk 1 15 (if (S.1 18 (1 : Int32).toNatClampNeg) ≤ a2 then (joinK (fun  (S3 : zSt) => joinK (fun  (S5 : zSt) => zlet (sI S5 0 51 ((S5.1 0 51) + 1) : zSt) (fun S6 : zSt =>
some ((), S6))) (fun k4 : zSt → Option (Unit × zSt) =>
loopK (fun _ _ => none) (LB_X5_stand_1 k4) zfuel 0 S3)) (fun k2 : zSt → Option (Unit × zSt) =>
loopK (fun _ _ => none) (LB_X5_stand_2 a1 k2) zfuel 0 S)) else (loopK (fun _ _ => none) (LB_X5_stand_3 a1 a2 self) zfuel 0 S))
def F_X5_stand : Nat → Int32 → Int32 → zSt → Option (Unit × zSt)
  | 0 => fun _ _ _ => none
  | nrec + 1 => FB_X5_stand (F_X5_stand nrec)
theorem mv_X5_stand (nrec : Nat) : ZV (mX5_stand nrec) yX5_stand 2 := ⟨q2092, qs144, q155, q2093, rfl, by decide, by decide, by decide +kernel⟩
theorem ct_X5_stand {G : zGw} (hG : zGM G) : ∀ (nrec : Nat) (a1 : Int32) (a2 : Int32), Zc (mX5_stand nrec) yX5_stand zJV G [.ref (G.1 0), .int a1, .int a2] (F_X5_stand nrec a1 a2) := by
  intro nrec
  induction nrec with
  | zero =>
    intro a1 a2 l S res sz hfl hF
    cases hF
  | succ nrec ih =>
    intro a1 a2
    show Zc (mX5_stand (nrec + 1)) yX5_stand zJV G [.ref (G.1 0), .int a1, .int a2] (FB_X5_stand (F_X5_stand nrec) a1 a2)
    refine Zc_of [some (.ref (G.1 0)), some (.int a1), some (.int a2), none] (by decide) rfl rfl (Nat.le_of_ble_eq_true rfl) rfl (fun X S res => ?_)
    unfold FB_X5_stand
    refine z_iload_n (pc := 0) 2 dX5_stand_0 rfl rfl ?_
    refine z_aload_n (pc := 1) 0 dX5_stand_1 rfl rfl ?_
    refine gf_X5_M_34_0 hG (pc := 2) dX5_stand_2 ?_
    refine z_iconst (pc := 5) (v := 1) dX5_stand_5 (by decide) ?_
    refine z_chk (fun h1 => ?_)
    refine z_iaload (pc := 6) 18 15 (zGM_s18 hG) h1 dX5_stand_6 ?_
    refine z_icmp_ge (pc := 7) 42 dX5_stand_7 rfl ?_ ?_
    · refine z_iconst (pc := 42) (v := 0) dX5_stand_42 (by decide) ?_
      refine z_istore_n (pc := 43) 3 dX5_stand_43 rfl (Nat.le_of_ble_eq_true rfl) rfl ?_
      refine z_join (fun j : zSt → Option (Unit × zSt) => ∀  (S3 : zSt), Zm X (mX5_stand (nrec + 1)) zJV G (0, 0) res S3 107 [some (.ref (G.1 0)), none, none, none] [] (j S3)) ?_ (fun k2 hk2 => ?_)
      · intro S3
        refine z_iconst (pc := 107) (v := 0) dX5_stand_107 (by decide) ?_
        refine z_istore_n (pc := 108) 3 dX5_stand_108 rfl (Nat.le_of_ble_eq_true rfl) rfl ?_
        refine z_join (fun j : zSt → Option (Unit × zSt) => ∀  (S5 : zSt), Zm X (mX5_stand (nrec + 1)) zJV G (0, 0) res S5 163 [some (.ref (G.1 0)), none, none, none] [] (j S5)) ?_ (fun k4 hk4 => ?_)
        · intro S5
          refine z_aload_n (pc := 163) 0 dX5_stand_163 rfl rfl ?_
          refine z_dup (pc := 164) dX5_stand_164 rfl ?_
          refine gf_X5_M_440_0 hG (pc := 165) dX5_stand_165 ?_
          refine z_iconst (pc := 168) (v := 1) dX5_stand_168 (by decide) ?_
          refine z_iadd (pc := 169) dX5_stand_169 ?_
          refine pf_X5_M_440_0 hG (pc := 170) dX5_stand_170 ?_
          refine z_letS (fun S6 => ?_)
          exact z_vret rfl dX5_stand_173 rfl
        · refine z_loopK (fun j : Int32 → zSt → Option (Unit × zSt) => ∀ (x8 : Int32) (S9 : zSt), Zm X (mX5_stand (nrec + 1)) zJV G (0, 0) res S9 109 [some (.ref (G.1 0)), none, none, some (.int x8)] [] (j x8 S9)) ?_ ?_ zfuel _ _
          · intro x8 S9; exact z_none
          · intro rec7 hrec7 x8 S9
            unfold LB_X5_stand_1
            refine z_iload_n (pc := 109) 3 dX5_stand_109 rfl rfl ?_
            refine z_aload_n (pc := 110) 0 dX5_stand_110 rfl rfl ?_
            refine gf_X5_M_34_0 hG (pc := 111) dX5_stand_111 ?_
            refine z_iconst (pc := 114) (v := 1) dX5_stand_114 (by decide) ?_
            refine z_chk (fun h10 => ?_)
            refine z_iaload (pc := 115) 18 15 (zGM_s18 hG) h10 dX5_stand_115 ?_
            refine z_icmp_ge (pc := 116) 163 dX5_stand_116 rfl ?_ ?_
            · exact z_mask [true, false, false, false] (hk4 _) rfl
            · refine z_aload_n (pc := 119) 0 dX5_stand_119 rfl rfl ?_
              refine gf_X5_M_119_0 hG (pc := 120) dX5_stand_120 ?_
              refine z_iload_n (pc := 123) 3 dX5_stand_123 rfl rfl ?_
              refine z_aload_n (pc := 124) 0 dX5_stand_124 rfl rfl ?_
              refine gf_X5_M_440_0 hG (pc := 125) dX5_stand_125 ?_
              refine z_join (fun j : Int32 → Option (Unit × zSt) => ∀ (v12 : Int32), Zm X (mX5_stand (nrec + 1)) zJV G (0, 0) res S9 156 [some (.ref (G.1 0)), none, none, some (.int x8)] [.int v12, .int x8, .ref (G.1 51)] (j v12)) ?_ (fun j11 hj11 => ?_)
              · intro v12
                refine z_chk (fun h13 => ?_)
                refine z_iastore (pc := 156) 51 6 (zGM_s51 hG) h13 dX5_stand_156 ?_
                refine z_letS (fun S14 => ?_)
                refine z_iinc (pc := 157) (w := x8 + 1) dX5_stand_157 rfl (by rw [show Int32.ofInt 1 = 1 from by decide]) (Nat.le_of_ble_eq_true rfl) rfl ?_
                refine z_goto (pc := 160) 109 dX5_stand_160 rfl ?_
                exact hrec7 _ _
              · refine z_join (fun j : Option (Unit × zSt) =>  Zm X (mX5_stand (nrec + 1)) zJV G (0, 0) res S9 146 [some (.ref (G.1 0)), none, none, some (.int x8)] [.int x8, .ref (G.1 51)] (j)) ?_ (fun j15 hj15 => ?_)
                · show _
                  refine z_aload_n (pc := 146) 0 dX5_stand_146 rfl rfl ?_
                  refine gf_X5_M_116_0 hG (pc := 147) dX5_stand_147 ?_
                  refine z_iload_n (pc := 150) 3 dX5_stand_150 rfl rfl ?_
                  refine z_chk (fun h16 => ?_)
                  refine z_iaload (pc := 151) 50 6 (zGM_s50 hG) h16 dX5_stand_151 ?_
                  refine z_goto (pc := 152) 156 dX5_stand_152 rfl ?_
                  exact hj11 _
                · refine z_if_eq (pc := 128) 146 dX5_stand_128 rfl ?_ ?_
                  · exact hj15 
                  · refine z_aload_n (pc := 131) 0 dX5_stand_131 rfl rfl ?_
                    refine gf_X5_M_119_0 hG (pc := 132) dX5_stand_132 ?_
                    refine z_iload_n (pc := 135) 3 dX5_stand_135 rfl rfl ?_
                    refine z_chk (fun h17 => ?_)
                    refine z_iaload (pc := 136) 51 6 (zGM_s51 hG) h17 dX5_stand_136 ?_
                    refine z_aload_n (pc := 137) 0 dX5_stand_137 rfl rfl ?_
                    refine gf_X5_M_116_0 hG (pc := 138) dX5_stand_138 ?_
                    refine z_iload_n (pc := 141) 3 dX5_stand_141 rfl rfl ?_
                    refine z_chk (fun h18 => ?_)
                    refine z_iaload (pc := 142) 50 6 (zGM_s50 hG) h18 dX5_stand_142 ?_
                    refine z_icmp_ne (pc := 143) 155 dX5_stand_143 rfl ?_ ?_
                    · refine z_iconst (pc := 155) (v := (-1)) dX5_stand_155 (by decide) ?_
                      exact hj11 _
                    · exact hj15 
      · refine z_maskk [true, true, false, true] ?_
        refine z_loopK (fun j : Int32 → zSt → Option (Unit × zSt) => ∀ (x20 : Int32) (S21 : zSt), Zm X (mX5_stand (nrec + 1)) zJV G (0, 0) res S21 44 [some (.ref (G.1 0)), some (.int a1), none, some (.int x20)] [] (j x20 S21)) ?_ ?_ zfuel _ _
        · intro x20 S21; exact z_none
        · intro rec19 hrec19 x20 S21
          unfold LB_X5_stand_2
          refine z_iload_n (pc := 44) 3 dX5_stand_44 rfl rfl ?_
          refine z_aload_n (pc := 45) 0 dX5_stand_45 rfl rfl ?_
          refine gf_X5_M_13_0 hG (pc := 46) dX5_stand_46 ?_
          refine z_iload_n (pc := 49) 1 dX5_stand_49 rfl rfl ?_
          refine z_chk (fun h22 => ?_)
          refine z_iaload (pc := 50) 3 4 (zGM_s3 hG) h22 dX5_stand_50 ?_
          refine z_icmp_ge (pc := 51) 107 dX5_stand_51 rfl ?_ ?_
          · exact z_mask [true, false, false, false] (hk2 _) rfl
          · refine z_aload_n (pc := 54) 0 dX5_stand_54 rfl rfl ?_
            refine gf_X5_M_116_0 hG (pc := 55) dX5_stand_55 ?_
            refine z_aload_n (pc := 58) 0 dX5_stand_58 rfl rfl ?_
            refine z_iload_n (pc := 59) 1 dX5_stand_59 rfl rfl ?_
            refine z_iload_n (pc := 60) 3 dX5_stand_60 rfl rfl ?_
            refine z_callVi (pc := 61) _ _ 0 5 (ct_X5_cellOf hG _ _) mv_X5_cellOf q2022 rfl (zGM_s0 hG) rfl (Nat.le_trans (m := 3) (Nat.le_of_ble_eq_true rfl) (Nat.le_add_right _ _)) (Nat.le_of_ble_eq_true rfl) rfl rfl (Nat.le_of_ble_eq_true rfl) dX5_stand_61 (fun r24 S23 => ?_)
            refine z_chk (fun h25 => ?_)
            refine z_iaload (pc := 64) 50 6 (zGM_s50 hG) h25 dX5_stand_64 ?_
            refine z_aload_n (pc := 65) 0 dX5_stand_65 rfl rfl ?_
            refine gf_X5_M_116_0 hG (pc := 66) dX5_stand_66 ?_
            refine z_aload_n (pc := 69) 0 dX5_stand_69 rfl rfl ?_
            refine z_iload_n (pc := 70) 1 dX5_stand_70 rfl rfl ?_
            refine z_iload_n (pc := 71) 3 dX5_stand_71 rfl rfl ?_
            refine z_iconst (pc := 72) (v := 1) dX5_stand_72 (by decide) ?_
            refine z_iadd (pc := 73) dX5_stand_73 ?_
            refine z_callVi (pc := 74) _ _ 0 5 (ct_X5_cellOf hG _ _) mv_X5_cellOf q2022 rfl (zGM_s0 hG) rfl (Nat.le_trans (m := 3) (Nat.le_of_ble_eq_true rfl) (Nat.le_add_right _ _)) (Nat.le_of_ble_eq_true rfl) rfl rfl (Nat.le_of_ble_eq_true rfl) dX5_stand_74 (fun r27 S26 => ?_)
            refine z_chk (fun h28 => ?_)
            refine z_iaload (pc := 77) 50 6 (zGM_s50 hG) h28 dX5_stand_77 ?_
            refine z_ixor (pc := 78) dX5_stand_78 ?_
            refine z_callSi (pc := 79) _ _ (ct_X5_bits  _) mv_X5_bits q1756 rfl (Nat.le_trans (m := 3) (Nat.le_of_ble_eq_true rfl) (Nat.le_add_right _ _)) (Nat.le_of_ble_eq_true rfl) rfl rfl (Nat.le_of_ble_eq_true rfl) dX5_stand_79 (fun r30 S29 => ?_)
            refine z_i2l (pc := 82) dX5_stand_82 ?_
            refine z_aload_n (pc := 83) 0 dX5_stand_83 rfl rfl ?_
            refine gf_X5_M_16_0 hG (pc := 84) dX5_stand_84 ?_
            refine z_bipush (pc := 87) (v := 60) dX5_stand_87 (by decide) ?_
            refine z_iload_n (pc := 89) 1 dX5_stand_89 rfl rfl ?_
            refine z_imul (pc := 90) dX5_stand_90 ?_
            refine z_iload_n (pc := 91) 3 dX5_stand_91 rfl rfl ?_
            refine z_iadd (pc := 92) dX5_stand_92 ?_
            refine z_iconst (pc := 93) (v := 2) dX5_stand_93 (by decide) ?_
            refine z_iadd (pc := 94) dX5_stand_94 ?_
            refine z_letI (fun w31 => ?_)
            refine z_chk (fun h32 => ?_)
            refine z_laload (pc := 95) 4 240 (zGM_s4 hG) h32 dX5_stand_95 ?_
            refine z_lcmp (pc := 96) dX5_stand_96 ?_
            refine z_if_eq (pc := 97) 101 dX5_stand_97 rfl ?_ ?_
            · refine z_iinc (pc := 101) (w := x20 + 3) dX5_stand_101 rfl (by rw [show Int32.ofInt 3 = 3 from by decide]) (Nat.le_of_ble_eq_true rfl) rfl ?_
              refine z_goto (pc := 104) 44 dX5_stand_104 rfl ?_
              exact hrec19 _ _
            · exact z_vret rfl dX5_stand_100 rfl
    · refine z_iconst (pc := 10) (v := 0) dX5_stand_10 (by decide) ?_
      refine z_istore_n (pc := 11) 3 dX5_stand_11 rfl (Nat.le_of_ble_eq_true rfl) rfl ?_
      refine z_loopK (fun j : Int32 → zSt → Option (Unit × zSt) => ∀ (x34 : Int32) (S35 : zSt), Zm X (mX5_stand (nrec + 1)) zJV G (0, 0) res S35 12 [some (.ref (G.1 0)), some (.int a1), some (.int a2), some (.int x34)] [] (j x34 S35)) ?_ ?_ zfuel _ _
      · intro x34 S35; exact z_none
      · intro rec33 hrec33 x34 S35
        unfold LB_X5_stand_3
        refine z_iload_n (pc := 12) 3 dX5_stand_12 rfl rfl ?_
        refine z_aload_n (pc := 13) 0 dX5_stand_13 rfl rfl ?_
        refine z_callVi (pc := 14) _ _ 0 5 (ct_X5_squares hG) mv_X5_squares q1725 rfl (zGM_s0 hG) rfl (Nat.le_trans (m := 3) (Nat.le_of_ble_eq_true rfl) (Nat.le_add_right _ _)) (Nat.le_of_ble_eq_true rfl) rfl rfl (Nat.le_of_ble_eq_true rfl) dX5_stand_14 (fun r37 S36 => ?_)
        refine z_icmp_ge (pc := 17) 41 dX5_stand_17 rfl ?_ ?_
        · exact z_vret rfl dX5_stand_41 rfl
        · refine z_aload_n (pc := 20) 0 dX5_stand_20 rfl rfl ?_
          refine gf_X5_M_116_0 hG (pc := 21) dX5_stand_21 ?_
          refine z_iload_n (pc := 24) 2 dX5_stand_24 rfl rfl ?_
          refine z_iload_n (pc := 25) 3 dX5_stand_25 rfl rfl ?_
          refine z_chk (fun h38 => ?_)
          refine z_iastore (pc := 26) 50 6 (zGM_s50 hG) h38 dX5_stand_26 ?_
          refine z_letS (fun S39 => ?_)
          refine z_aload_n (pc := 27) 0 dX5_stand_27 rfl rfl ?_
          refine z_iload_n (pc := 28) 1 dX5_stand_28 rfl rfl ?_
          refine z_iload_n (pc := 29) 2 dX5_stand_29 rfl rfl ?_
          refine z_iconst (pc := 30) (v := 1) dX5_stand_30 (by decide) ?_
          refine z_iadd (pc := 31) dX5_stand_31 ?_
          refine z_callVv (pc := 32) _ _ 0 5 (ih _ _) (mv_X5_stand _) q2090 rfl (zGM_s0 hG) rfl (Nat.le_refl _) (Nat.le_of_ble_eq_true rfl) rfl rfl (Nat.le_of_ble_eq_true rfl) dX5_stand_32 (fun _ S40 => ?_)
          refine z_iinc (pc := 35) (w := x34 + 1) dX5_stand_35 rfl (by rw [show Int32.ofInt 1 = 1 from by decide]) (Nat.le_of_ble_eq_true rfl) rfl ?_
          refine z_goto (pc := 38) 12 dX5_stand_38 rfl ?_
          exact hrec33 _ _
abbrev mX5_meets : zMr := ("HiddenCubeModel", cX5_meets, 2, none, 44, 0, 0, none)
def F_X5_meets (a1 : Int32) (S : zSt) : Option (Unit × zSt) :=
zlet (sI S 0 51 0 : zSt) (fun S1 : zSt =>
chk 0 30 (chk 0 6 (zlet (sI S1 50 (0 : Int32).toNatClampNeg (S1.1 24 (0 : Int32).toNatClampNeg) : zSt) (fun S4 : zSt =>
zbind (F_X5_stand 40 a1 1 S4) (fun _ S5 =>
some ((), S5))))))
theorem mv_X5_meets : ZV mX5_meets yX5_meets 1 := ⟨q2088, qs143, q155, q2089, rfl, by decide, by decide, by decide +kernel⟩
theorem ct_X5_meets {G : zGw} (hG : zGM G) (a1 : Int32) : Zc mX5_meets yX5_meets zJV G [.ref (G.1 0), .int a1] (F_X5_meets a1) := by
  refine Zc_of [some (.ref (G.1 0)), some (.int a1)] (by decide) rfl rfl (Nat.le_of_ble_eq_true rfl) rfl (fun X S res => ?_)
  unfold F_X5_meets
  refine z_aload_n (pc := 0) 0 dX5_meets_0 rfl rfl ?_
  refine z_iconst (pc := 1) (v := 0) dX5_meets_1 (by decide) ?_
  refine pf_X5_M_440_0 hG (pc := 2) dX5_meets_2 ?_
  refine z_letS (fun S1 => ?_)
  refine z_aload_n (pc := 5) 0 dX5_meets_5 rfl rfl ?_
  refine gf_X5_M_116_0 hG (pc := 6) dX5_meets_6 ?_
  refine z_iconst (pc := 9) (v := 0) dX5_meets_9 (by decide) ?_
  refine z_aload_n (pc := 10) 0 dX5_meets_10 rfl rfl ?_
  refine gf_X5_M_52_0 hG (pc := 11) dX5_meets_11 ?_
  refine z_iconst (pc := 14) (v := 0) dX5_meets_14 (by decide) ?_
  refine z_chk (fun h2 => ?_)
  refine z_iaload (pc := 15) 24 30 (zGM_s24 hG) h2 dX5_meets_15 ?_
  refine z_chk (fun h3 => ?_)
  refine z_iastore (pc := 16) 50 6 (zGM_s50 hG) h3 dX5_meets_16 ?_
  refine z_letS (fun S4 => ?_)
  refine z_aload_n (pc := 17) 0 dX5_meets_17 rfl rfl ?_
  refine z_iload_n (pc := 18) 1 dX5_meets_18 rfl rfl ?_
  refine z_iconst (pc := 19) (v := 1) dX5_meets_19 (by decide) ?_
  refine z_callVv (pc := 20) _ _ 0 5 (ct_X5_stand hG 40 _ _) (mv_X5_stand _) q2090 rfl (zGM_s0 hG) rfl (Nat.le_of_ble_eq_true rfl) (Nat.le_of_ble_eq_true rfl) rfl rfl (Nat.le_of_ble_eq_true rfl) dX5_meets_20 (fun _ S5 => ?_)
  exact z_vret rfl dX5_meets_23 rfl
abbrev mX5_met : zMr := ("HiddenCubeModel", cX5_met, 3, (some .int), 45, 0, 0, none)
def F_X5_met (a1 : Int32) (S : zSt) : Option (Int32 × zSt) :=
zlet (sI S 0 0 0 : zSt) (fun S1 : zSt =>
zbind (F_X5_whyNotMet a1 S1) (fun r3 S2 =>
if r3 = 0 then (zbind (F_X5_meets a1 S2) (fun _ S4 =>
some (S4.1 0 51, S4))) else (some (r3, S2))))
theorem mv_X5_met : ZV mX5_met yX5_met 1 := ⟨q2079, q2080, q155, q2081, rfl, by decide, by decide, by decide +kernel⟩
theorem ct_X5_met {G : zGw} (hG : zGM G) (a1 : Int32) : Zc mX5_met yX5_met zJI G [.ref (G.1 0), .int a1] (F_X5_met a1) := by
  refine Zc_of [some (.ref (G.1 0)), some (.int a1), none] (by decide) rfl rfl (Nat.le_of_ble_eq_true rfl) rfl (fun X S res => ?_)
  unfold F_X5_met
  refine z_aload_n (pc := 0) 0 dX5_met_0 rfl rfl ?_
  refine z_iconst (pc := 1) (v := 0) dX5_met_1 (by decide) ?_
  refine pf_X5_M_131_0 hG (pc := 2) dX5_met_2 ?_
  refine z_letS (fun S1 => ?_)
  refine z_aload_n (pc := 5) 0 dX5_met_5 rfl rfl ?_
  refine z_iload_n (pc := 6) 1 dX5_met_6 rfl rfl ?_
  refine z_callVi (pc := 7) _ _ 0 5 (ct_X5_whyNotMet hG _) mv_X5_whyNotMet q2082 rfl (zGM_s0 hG) rfl (Nat.le_of_ble_eq_true rfl) (Nat.le_of_ble_eq_true rfl) rfl rfl (Nat.le_of_ble_eq_true rfl) dX5_met_7 (fun r3 S2 => ?_)
  refine z_istore_n (pc := 10) 2 dX5_met_10 rfl (Nat.le_of_ble_eq_true rfl) rfl ?_
  refine z_iload_n (pc := 11) 2 dX5_met_11 rfl rfl ?_
  refine z_if_eq (pc := 12) 17 dX5_met_12 rfl ?_ ?_
  · refine z_aload_n (pc := 17) 0 dX5_met_17 rfl rfl ?_
    refine z_iload_n (pc := 18) 1 dX5_met_18 rfl rfl ?_
    refine z_callVv (pc := 19) _ _ 0 5 (ct_X5_meets hG _) mv_X5_meets q2086 rfl (zGM_s0 hG) rfl (Nat.le_of_ble_eq_true rfl) (Nat.le_of_ble_eq_true rfl) rfl rfl (Nat.le_of_ble_eq_true rfl) dX5_met_19 (fun _ S4 => ?_)
    refine z_aload_n (pc := 22) 0 dX5_met_22 rfl rfl ?_
    refine gf_X5_M_440_0 hG (pc := 23) dX5_met_23 ?_
    exact z_iret rfl dX5_met_26 rfl
  · refine z_iload_n (pc := 15) 2 dX5_met_15 rfl rfl ?_
    exact z_iret rfl dX5_met_16 rfl
abbrev mX5_sure : zMr := ("HiddenCubeModel", cX5_sure, 4, (some .int), 45, 0, 0, none)
def F_X5_sure (a1 : Int32) (a2 : Int32) (S : zSt) : Option (Int32 × zSt) :=
zlet (sI S 0 0 0 : zSt) (fun S1 : zSt =>
zbind (F_X5_isPerson ((a2).toInt64) S1) (fun r3 S2 =>
joinK (fun (v5 : Int32) (S6 : zSt) => if v5 = 0 then (zbind (F_X5_meets a1 S6) (fun _ S7 =>
if (S7.1 0 51) = 0 then (some ((-1), S7)) else (chk a2 6 (some (S7.1 51 (a2).toNatClampNeg, S7))))) else (some (v5, S6))) (fun j4 : Int32 → zSt → Option (Int32 × zSt) =>
if r3 = 0 then (j4 (-2) S2) else (zbind (F_X5_whyNotMet a1 S2) (fun r10 S9 =>
j4 r10 S9)))))
theorem mv_X5_sure : ZV mX5_sure yX5_sure 2 := ⟨q2095, q2096, q155, q2097, rfl, by decide, by decide, by decide +kernel⟩
theorem ct_X5_sure {G : zGw} (hG : zGM G) (a1 : Int32) (a2 : Int32) : Zc mX5_sure yX5_sure zJI G [.ref (G.1 0), .int a1, .int a2] (F_X5_sure a1 a2) := by
  refine Zc_of [some (.ref (G.1 0)), some (.int a1), some (.int a2), none] (by decide) rfl rfl (Nat.le_of_ble_eq_true rfl) rfl (fun X S res => ?_)
  unfold F_X5_sure
  refine z_aload_n (pc := 0) 0 dX5_sure_0 rfl rfl ?_
  refine z_iconst (pc := 1) (v := 0) dX5_sure_1 (by decide) ?_
  refine pf_X5_M_131_0 hG (pc := 2) dX5_sure_2 ?_
  refine z_letS (fun S1 => ?_)
  refine z_aload_n (pc := 5) 0 dX5_sure_5 rfl rfl ?_
  refine z_iload_n (pc := 6) 2 dX5_sure_6 rfl rfl ?_
  refine z_i2l (pc := 7) dX5_sure_7 ?_
  refine z_callVi (pc := 8) _ _ 0 5 (ct_X5_isPerson hG _) mv_X5_isPerson q2070 rfl (zGM_s0 hG) rfl (Nat.le_of_ble_eq_true rfl) (Nat.le_of_ble_eq_true rfl) rfl rfl (Nat.le_of_ble_eq_true rfl) dX5_sure_8 (fun r3 S2 => ?_)
  refine z_join (fun j : Int32 → zSt → Option (Int32 × zSt) => ∀ (v5 : Int32) (S6 : zSt), Zm X mX5_sure zJI G (0, 0) res S6 24 [some (.ref (G.1 0)), some (.int a1), some (.int a2), none] [.int v5] (j v5 S6)) ?_ (fun j4 hj4 => ?_)
  · intro v5 S6
    refine z_istore_n (pc := 24) 3 dX5_sure_24 rfl (Nat.le_of_ble_eq_true rfl) rfl ?_
    refine z_iload_n (pc := 25) 3 dX5_sure_25 rfl rfl ?_
    refine z_if_eq (pc := 26) 31 dX5_sure_26 rfl ?_ ?_
    · refine z_aload_n (pc := 31) 0 dX5_sure_31 rfl rfl ?_
      refine z_iload_n (pc := 32) 1 dX5_sure_32 rfl rfl ?_
      refine z_callVv (pc := 33) _ _ 0 5 (ct_X5_meets hG _) mv_X5_meets q2086 rfl (zGM_s0 hG) rfl (Nat.le_of_ble_eq_true rfl) (Nat.le_of_ble_eq_true rfl) rfl rfl (Nat.le_of_ble_eq_true rfl) dX5_sure_33 (fun _ S7 => ?_)
      refine z_aload_n (pc := 36) 0 dX5_sure_36 rfl rfl ?_
      refine gf_X5_M_440_0 hG (pc := 37) dX5_sure_37 ?_
      refine z_if_ne (pc := 40) 47 dX5_sure_40 rfl ?_ ?_
      · refine z_aload_n (pc := 47) 0 dX5_sure_47 rfl rfl ?_
        refine gf_X5_M_119_0 hG (pc := 48) dX5_sure_48 ?_
        refine z_iload_n (pc := 51) 2 dX5_sure_51 rfl rfl ?_
        refine z_chk (fun h8 => ?_)
        refine z_iaload (pc := 52) 51 6 (zGM_s51 hG) h8 dX5_sure_52 ?_
        exact z_iret rfl dX5_sure_53 rfl
      · refine z_iconst (pc := 43) (v := (-1)) dX5_sure_43 (by decide) ?_
        refine z_goto (pc := 44) 53 dX5_sure_44 rfl ?_
        exact z_iret rfl dX5_sure_53 rfl
    · refine z_iload_n (pc := 29) 3 dX5_sure_29 rfl rfl ?_
      exact z_iret rfl dX5_sure_30 rfl
  · refine z_if_eq (pc := 11) 22 dX5_sure_11 rfl ?_ ?_
    · refine z_bipush (pc := 22) (v := (-2)) dX5_sure_22 (by decide) ?_
      exact hj4 _ _
    · refine z_aload_n (pc := 14) 0 dX5_sure_14 rfl rfl ?_
      refine z_iload_n (pc := 15) 1 dX5_sure_15 rfl rfl ?_
      refine z_callVi (pc := 16) _ _ 0 5 (ct_X5_whyNotMet hG _) mv_X5_whyNotMet q2082 rfl (zGM_s0 hG) rfl (Nat.le_of_ble_eq_true rfl) (Nat.le_of_ble_eq_true rfl) rfl rfl (Nat.le_of_ble_eq_true rfl) dX5_sure_16 (fun r10 S9 => ?_)
      refine z_goto (pc := 19) 24 dX5_sure_19 rfl ?_
      exact hj4 _ _
abbrev mX5_stepOf : zMr := ("HiddenCubeModel", cX5_stepOf, 9, none, 4, 0, 0, none)
def LB_X5_stepOf_1 (a1 : Int32) (S11 : zSt) (w19 : Int32) (k20 : Int32 → Option (Unit × zSt)) (rec31 : Int32 → Int32 → Option (Unit × zSt)) (x32 : Int32) (x33 : Int32) : Option (Unit × zSt) :=
if a1 ≤ x33 then (k20 x32) else (chk x33 6 (zlet (x32 + (if (S11.1 55 (x33).toNatClampNeg) = w19 then 1 else 0) : Int32) (fun w36 : Int32 =>
rec31 w36 (x33 + 1))))
def F_X5_stepOf (a1 : Int32) (a2 : Int32) (a3 : Int32) (S : zSt) : Option (Unit × zSt) :=
chk a1 6 (zlet (sI S 55 (a1).toNatClampNeg (-1) : zSt) (fun S2 : zSt =>
chk ((2 * a1) + 1) 60 (zlet (S2.1 25 ((2 * a1) + 1).toNatClampNeg : Int32) (fun w4 : Int32 =>
chk a1 6 (if (S2.1 53 (a1).toNatClampNeg) = w4 then (some ((), S2)) else (zbind (F_X5_laysFar w4 S2) (fun _ S6 =>
chk a1 6 (zlet (S6.1 53 (a1).toNatClampNeg : Int32) (fun w8 : Int32 =>
chk w8 32 (if (S6.1 27 (w8).toNatClampNeg) = 1000000 then (some ((), S6)) else (chk a1 6 (zbind (F_X5_nextOf (S6.1 53 (a1).toNatClampNeg) S6) (fun r12 S11 =>
chk a1 6 (joinK (fun (v15 : Int32) => chk a1 6 (joinK (fun (v18 : Int32) => zlet ((32 * v15) + v18 : Int32) (fun w19 : Int32 =>
joinK (fun (x21 : Int32) => zlet (sI S11 0 56 ((S11.1 0 56) + x21) : zSt) (fun S22 : zSt =>
joinK (chk a1 6 (zlet (sI S22 55 (a1).toNatClampNeg w19 : zSt) (fun S25 : zSt =>
chk a1 6 (zlet (sI S25 53 (a1).toNatClampNeg r12 : zSt) (fun S27 : zSt =>
if r12 = w4 then (chk a1 6 (zlet (sI S27 54 (a1).toNatClampNeg a2 : zSt) (fun S29 : zSt =>
some ((), S29)))) else (some ((), S27))))))) (fun j23 : Option (Unit × zSt) =>
if x21 ≤ 0 then (j23) else (if a3 = 0 then (zlet (sI S22 0 55 ((S22.1 0 55) + 1) : zSt) (fun S30 : zSt =>
some ((), S30))) else (j23))))) (fun k20 : Int32 → Option (Unit × zSt) =>
loopK (fun _ _ => none) (LB_X5_stepOf_1 a1 S11 w19 k20) zfuel 0 0))) (fun j17 : Int32 → Option (Unit × zSt) =>
if (S11.1 53 (a1).toNatClampNeg) ≤ r12 then (j17 r12) else (chk a1 6 (j17 (S11.1 53 (a1).toNatClampNeg)))))) (fun j14 : Int32 → Option (Unit × zSt) =>
if (S11.1 53 (a1).toNatClampNeg) ≤ r12 then (chk a1 6 (j14 (S11.1 53 (a1).toNatClampNeg))) else (j14 r12))))))))))))))))
theorem mv_X5_stepOf : ZV mX5_stepOf yX5_stepOf 3 := ⟨q2108, qs146, q155, q2109, rfl, by decide, by decide, by decide +kernel⟩
theorem ct_X5_stepOf {G : zGw} (hG : zGM G) (a1 : Int32) (a2 : Int32) (a3 : Int32) : Zc mX5_stepOf yX5_stepOf zJV G [.ref (G.1 0), .int a1, .int a2, .int a3] (F_X5_stepOf a1 a2 a3) := by
  refine Zc_of [some (.ref (G.1 0)), some (.int a1), some (.int a2), some (.int a3), none, none, none, none, none] (by decide) rfl rfl (Nat.le_of_ble_eq_true rfl) rfl (fun X S res => ?_)
  unfold F_X5_stepOf
  refine z_aload_n (pc := 0) 0 dX5_stepOf_0 rfl rfl ?_
  refine gf_X5_M_128_0 hG (pc := 1) dX5_stepOf_1 ?_
  refine z_iload_n (pc := 4) 1 dX5_stepOf_4 rfl rfl ?_
  refine z_iconst (pc := 5) (v := (-1)) dX5_stepOf_5 (by decide) ?_
  refine z_chk (fun h1 => ?_)
  refine z_iastore (pc := 6) 55 6 (zGM_s55 hG) h1 dX5_stepOf_6 ?_
  refine z_letS (fun S2 => ?_)
  refine z_aload_n (pc := 7) 0 dX5_stepOf_7 rfl rfl ?_
  refine gf_X5_M_55_0 hG (pc := 8) dX5_stepOf_8 ?_
  refine z_iconst (pc := 11) (v := 2) dX5_stepOf_11 (by decide) ?_
  refine z_iload_n (pc := 12) 1 dX5_stepOf_12 rfl rfl ?_
  refine z_imul (pc := 13) dX5_stepOf_13 ?_
  refine z_iconst (pc := 14) (v := 1) dX5_stepOf_14 (by decide) ?_
  refine z_iadd (pc := 15) dX5_stepOf_15 ?_
  refine z_chk (fun h3 => ?_)
  refine z_iaload (pc := 16) 25 60 (zGM_s25 hG) h3 dX5_stepOf_16 ?_
  refine z_letI (fun w4 => ?_)
  refine z_istore (pc := 17) dX5_stepOf_17 (Nat.le_of_ble_eq_true rfl) rfl ?_
  refine z_aload_n (pc := 19) 0 dX5_stepOf_19 rfl rfl ?_
  refine gf_X5_M_122_0 hG (pc := 20) dX5_stepOf_20 ?_
  refine z_iload_n (pc := 23) 1 dX5_stepOf_23 rfl rfl ?_
  refine z_chk (fun h5 => ?_)
  refine z_iaload (pc := 24) 53 6 (zGM_s53 hG) h5 dX5_stepOf_24 ?_
  refine z_iload (pc := 25) dX5_stepOf_25 rfl ?_
  refine z_icmp_ne (pc := 27) 31 dX5_stepOf_27 rfl ?_ ?_
  · refine z_aload_n (pc := 31) 0 dX5_stepOf_31 rfl rfl ?_
    refine z_iload (pc := 32) dX5_stepOf_32 rfl ?_
    refine z_callVv (pc := 34) _ _ 0 5 (ct_X5_laysFar hG _) mv_X5_laysFar q1779 rfl (zGM_s0 hG) rfl (Nat.le_of_ble_eq_true rfl) (Nat.le_of_ble_eq_true rfl) rfl rfl (Nat.le_of_ble_eq_true rfl) dX5_stepOf_34 (fun _ S6 => ?_)
    refine z_aload_n (pc := 37) 0 dX5_stepOf_37 rfl rfl ?_
    refine gf_X5_M_62_0 hG (pc := 38) dX5_stepOf_38 ?_
    refine z_aload_n (pc := 41) 0 dX5_stepOf_41 rfl rfl ?_
    refine gf_X5_M_122_0 hG (pc := 42) dX5_stepOf_42 ?_
    refine z_iload_n (pc := 45) 1 dX5_stepOf_45 rfl rfl ?_
    refine z_chk (fun h7 => ?_)
    refine z_iaload (pc := 46) 53 6 (zGM_s53 hG) h7 dX5_stepOf_46 ?_
    refine z_letI (fun w8 => ?_)
    refine z_chk (fun h9 => ?_)
    refine z_iaload (pc := 47) 27 32 (zGM_s27 hG) h9 dX5_stepOf_47 ?_
    refine z_ldc (pc := 48) (v := 1000000) dX5_stepOf_48 q1632 ?_
    refine z_icmp_ne (pc := 50) 54 dX5_stepOf_50 rfl ?_ ?_
    · refine z_aload_n (pc := 54) 0 dX5_stepOf_54 rfl rfl ?_
      refine z_aload_n (pc := 55) 0 dX5_stepOf_55 rfl rfl ?_
      refine gf_X5_M_122_0 hG (pc := 56) dX5_stepOf_56 ?_
      refine z_iload_n (pc := 59) 1 dX5_stepOf_59 rfl rfl ?_
      refine z_chk (fun h10 => ?_)
      refine z_iaload (pc := 60) 53 6 (zGM_s53 hG) h10 dX5_stepOf_60 ?_
      refine z_callVi (pc := 61) _ _ 0 5 (ct_X5_nextOf hG _) mv_X5_nextOf q1795 rfl (zGM_s0 hG) rfl (Nat.le_of_ble_eq_true rfl) (Nat.le_of_ble_eq_true rfl) rfl rfl (Nat.le_of_ble_eq_true rfl) dX5_stepOf_61 (fun r12 S11 => ?_)
      refine z_istore (pc := 64) dX5_stepOf_64 (Nat.le_of_ble_eq_true rfl) rfl ?_
      refine z_bipush (pc := 66) (v := 32) dX5_stepOf_66 (by decide) ?_
      refine z_iload (pc := 68) dX5_stepOf_68 rfl ?_
      refine z_aload_n (pc := 70) 0 dX5_stepOf_70 rfl rfl ?_
      refine gf_X5_M_122_0 hG (pc := 71) dX5_stepOf_71 ?_
      refine z_iload_n (pc := 74) 1 dX5_stepOf_74 rfl rfl ?_
      refine z_chk (fun h13 => ?_)
      refine z_iaload (pc := 75) 53 6 (zGM_s53 hG) h13 dX5_stepOf_75 ?_
      refine z_join (fun j : Int32 → Option (Unit × zSt) => ∀ (v15 : Int32), Zm X mX5_stepOf zJV G (0, 0) res S11 90 [some (.ref (G.1 0)), some (.int a1), some (.int a2), some (.int a3), some (.int w4), some (.int r12), none, none, none] [.int v15, .int 32] (j v15)) ?_ (fun j14 hj14 => ?_)
      · intro v15
        refine z_imul (pc := 90) dX5_stepOf_90 ?_
        refine z_iload (pc := 91) dX5_stepOf_91 rfl ?_
        refine z_aload_n (pc := 93) 0 dX5_stepOf_93 rfl rfl ?_
        refine gf_X5_M_122_0 hG (pc := 94) dX5_stepOf_94 ?_
        refine z_iload_n (pc := 97) 1 dX5_stepOf_97 rfl rfl ?_
        refine z_chk (fun h16 => ?_)
        refine z_iaload (pc := 98) 53 6 (zGM_s53 hG) h16 dX5_stepOf_98 ?_
        refine z_join (fun j : Int32 → Option (Unit × zSt) => ∀ (v18 : Int32), Zm X mX5_stepOf zJV G (0, 0) res S11 113 [some (.ref (G.1 0)), some (.int a1), some (.int a2), some (.int a3), some (.int w4), some (.int r12), none, none, none] [.int v18, .int (32 * v15)] (j v18)) ?_ (fun j17 hj17 => ?_)
        · intro v18
          refine z_iadd (pc := 113) dX5_stepOf_113 ?_
          refine z_letI (fun w19 => ?_)
          refine z_istore (pc := 114) dX5_stepOf_114 (Nat.le_of_ble_eq_true rfl) rfl ?_
          refine z_iconst (pc := 116) (v := 0) dX5_stepOf_116 (by decide) ?_
          refine z_istore (pc := 117) dX5_stepOf_117 (Nat.le_of_ble_eq_true rfl) rfl ?_
          refine z_iconst (pc := 119) (v := 0) dX5_stepOf_119 (by decide) ?_
          refine z_istore (pc := 120) dX5_stepOf_120 (Nat.le_of_ble_eq_true rfl) rfl ?_
          refine z_join (fun j : Int32 → Option (Unit × zSt) => ∀ (x21 : Int32), Zm X mX5_stepOf zJV G (0, 0) res S11 156 [some (.ref (G.1 0)), some (.int a1), some (.int a2), some (.int a3), some (.int w4), some (.int r12), some (.int w19), some (.int x21), none] [] (j x21)) ?_ (fun k20 hk20 => ?_)
          · intro x21
            refine z_aload_n (pc := 156) 0 dX5_stepOf_156 rfl rfl ?_
            refine z_dup (pc := 157) dX5_stepOf_157 rfl ?_
            refine gf_X5_M_452_0 hG (pc := 158) dX5_stepOf_158 ?_
            refine z_iload (pc := 161) dX5_stepOf_161 rfl ?_
            refine z_iadd (pc := 163) dX5_stepOf_163 ?_
            refine pf_X5_M_452_0 hG (pc := 164) dX5_stepOf_164 ?_
            refine z_letS (fun S22 => ?_)
            refine z_iload (pc := 167) dX5_stepOf_167 rfl ?_
            refine z_join (fun j : Option (Unit × zSt) =>  Zm X mX5_stepOf zJV G (0, 0) res S22 187 [some (.ref (G.1 0)), some (.int a1), some (.int a2), none, some (.int w4), some (.int r12), some (.int w19), none, none] [] (j)) ?_ (fun j23 hj23 => ?_)
            · show _
              refine z_aload_n (pc := 187) 0 dX5_stepOf_187 rfl rfl ?_
              refine gf_X5_M_128_0 hG (pc := 188) dX5_stepOf_188 ?_
              refine z_iload_n (pc := 191) 1 dX5_stepOf_191 rfl rfl ?_
              refine z_iload (pc := 192) dX5_stepOf_192 rfl ?_
              refine z_chk (fun h24 => ?_)
              refine z_iastore (pc := 194) 55 6 (zGM_s55 hG) h24 dX5_stepOf_194 ?_
              refine z_letS (fun S25 => ?_)
              refine z_aload_n (pc := 195) 0 dX5_stepOf_195 rfl rfl ?_
              refine gf_X5_M_122_0 hG (pc := 196) dX5_stepOf_196 ?_
              refine z_iload_n (pc := 199) 1 dX5_stepOf_199 rfl rfl ?_
              refine z_iload (pc := 200) dX5_stepOf_200 rfl ?_
              refine z_chk (fun h26 => ?_)
              refine z_iastore (pc := 202) 53 6 (zGM_s53 hG) h26 dX5_stepOf_202 ?_
              refine z_letS (fun S27 => ?_)
              refine z_iload (pc := 203) dX5_stepOf_203 rfl ?_
              refine z_iload (pc := 205) dX5_stepOf_205 rfl ?_
              refine z_icmp_ne (pc := 207) 217 dX5_stepOf_207 rfl ?_ ?_
              · exact z_vret rfl dX5_stepOf_217 rfl
              · refine z_aload_n (pc := 210) 0 dX5_stepOf_210 rfl rfl ?_
                refine gf_X5_M_125_0 hG (pc := 211) dX5_stepOf_211 ?_
                refine z_iload_n (pc := 214) 1 dX5_stepOf_214 rfl rfl ?_
                refine z_iload_n (pc := 215) 2 dX5_stepOf_215 rfl rfl ?_
                refine z_chk (fun h28 => ?_)
                refine z_iastore (pc := 216) 54 6 (zGM_s54 hG) h28 dX5_stepOf_216 ?_
                refine z_letS (fun S29 => ?_)
                exact z_vret rfl dX5_stepOf_217 rfl
            · refine z_if_le (pc := 169) 187 dX5_stepOf_169 rfl ?_ ?_
              · exact z_mask [true, true, true, false, true, true, true, false, false] (hj23) rfl
              · refine z_iload_n (pc := 172) 3 dX5_stepOf_172 rfl rfl ?_
                refine z_if_ne (pc := 173) 187 dX5_stepOf_173 rfl ?_ ?_
                · exact z_mask [true, true, true, false, true, true, true, false, false] (hj23) rfl
                · refine z_aload_n (pc := 176) 0 dX5_stepOf_176 rfl rfl ?_
                  refine z_dup (pc := 177) dX5_stepOf_177 rfl ?_
                  refine gf_X5_M_449_0 hG (pc := 178) dX5_stepOf_178 ?_
                  refine z_iconst (pc := 181) (v := 1) dX5_stepOf_181 (by decide) ?_
                  refine z_iadd (pc := 182) dX5_stepOf_182 ?_
                  refine pf_X5_M_449_0 hG (pc := 183) dX5_stepOf_183 ?_
                  refine z_letS (fun S30 => ?_)
                  exact z_vret rfl dX5_stepOf_186 rfl
          · refine z_loopK (fun j : Int32 → Int32 → Option (Unit × zSt) => ∀ (x32 : Int32) (x33 : Int32), Zm X mX5_stepOf zJV G (0, 0) res S11 122 [some (.ref (G.1 0)), some (.int a1), some (.int a2), some (.int a3), some (.int w4), some (.int r12), some (.int w19), some (.int x32), some (.int x33)] [] (j x32 x33)) ?_ ?_ zfuel _ _
            · intro x32 x33; exact z_none
            · intro rec31 hrec31 x32 x33
              unfold LB_X5_stepOf_1
              refine z_iload (pc := 122) dX5_stepOf_122 rfl ?_
              refine z_iload_n (pc := 124) 1 dX5_stepOf_124 rfl rfl ?_
              refine z_icmp_ge (pc := 125) 156 dX5_stepOf_125 rfl ?_ ?_
              · exact z_mask [true, true, true, true, true, true, true, true, false] (hk20 _) rfl
              · refine z_iload (pc := 128) dX5_stepOf_128 rfl ?_
                refine z_aload_n (pc := 130) 0 dX5_stepOf_130 rfl rfl ?_
                refine gf_X5_M_128_0 hG (pc := 131) dX5_stepOf_131 ?_
                refine z_iload (pc := 134) dX5_stepOf_134 rfl ?_
                refine z_chk (fun h34 => ?_)
                refine z_iaload (pc := 136) 55 6 (zGM_s55 hG) h34 dX5_stepOf_136 ?_
                refine z_iload (pc := 137) dX5_stepOf_137 rfl ?_
                refine z_pure (st0 := [.int x32]) 147 ((if (S11.1 55 (x33).toNatClampNeg) = w19 then 1 else 0)) ?_ (fun hJ => ?_)
                · refine z_iadd (pc := 147) dX5_stepOf_147 ?_
                  refine z_letI (fun w36 => ?_)
                  refine z_istore (pc := 148) dX5_stepOf_148 (Nat.le_of_ble_eq_true rfl) rfl ?_
                  refine z_iinc (pc := 150) (w := x33 + 1) dX5_stepOf_150 rfl (by rw [show Int32.ofInt 1 = 1 from by decide]) (Nat.le_of_ble_eq_true rfl) rfl ?_
                  refine z_goto (pc := 153) 122 dX5_stepOf_153 rfl ?_
                  exact hrec31 _ _
                · refine z_icmpd_ne (pc := 139) 146 dX5_stepOf_139 rfl (fun c37 => ?_) (fun c37 => ?_)
                  · refine z_iconst (pc := 146) (v := 0) dX5_stepOf_146 (by decide) ?_
                    exact z_leaf hJ (by simp only [if_neg c37])
                  · refine z_iconst (pc := 142) (v := 1) dX5_stepOf_142 (by decide) ?_
                    refine z_goto (pc := 143) 147 dX5_stepOf_143 rfl ?_
                    exact z_leaf hJ (by simp only [if_pos c37])
        · refine z_icmp_ge (pc := 99) 111 dX5_stepOf_99 rfl ?_ ?_
          · refine z_iload (pc := 111) dX5_stepOf_111 rfl ?_
            exact hj17 _
          · refine z_aload_n (pc := 102) 0 dX5_stepOf_102 rfl rfl ?_
            refine gf_X5_M_122_0 hG (pc := 103) dX5_stepOf_103 ?_
            refine z_iload_n (pc := 106) 1 dX5_stepOf_106 rfl rfl ?_
            refine z_chk (fun h38 => ?_)
            refine z_iaload (pc := 107) 53 6 (zGM_s53 hG) h38 dX5_stepOf_107 ?_
            refine z_goto (pc := 108) 113 dX5_stepOf_108 rfl ?_
            exact hj17 _
      · refine z_icmp_ge (pc := 76) 84 dX5_stepOf_76 rfl ?_ ?_
        · refine z_aload_n (pc := 84) 0 dX5_stepOf_84 rfl rfl ?_
          refine gf_X5_M_122_0 hG (pc := 85) dX5_stepOf_85 ?_
          refine z_iload_n (pc := 88) 1 dX5_stepOf_88 rfl rfl ?_
          refine z_chk (fun h39 => ?_)
          refine z_iaload (pc := 89) 53 6 (zGM_s53 hG) h39 dX5_stepOf_89 ?_
          exact hj14 _
        · refine z_iload (pc := 79) dX5_stepOf_79 rfl ?_
          refine z_goto (pc := 81) 90 dX5_stepOf_81 rfl ?_
          exact hj14 _
    · exact z_vret rfl dX5_stepOf_53 rfl
  · exact z_vret rfl dX5_stepOf_30 rfl
abbrev mX5_carries : zMr := ("HiddenCubeModel", cX5_carries, 5, none, 5, 0, 0, none)
def LB_X5_carries_1 (a2 : Int32) (x6 : Int32) (rec5 : Int32 → zSt → Option (Unit × zSt)) (rec8 : Int32 → zSt → Option (Unit × zSt)) (x9 : Int32) (S10 : zSt) : Option (Unit × zSt) :=
chk 2 15 (if (S10.1 18 (2 : Int32).toNatClampNeg) ≤ x9 then (rec5 (x6 + 1) S10) else (zbind (F_X5_stepOf x9 x6 a2 S10) (fun _ S12 =>
rec8 (x9 + 1) S12)))
def LB_X5_carries_2 (a1 : Int32) (a2 : Int32) (rec5 : Int32 → zSt → Option (Unit × zSt)) (x6 : Int32) (S7 : zSt) : Option (Unit × zSt) :=
if a1 < x6 then (some ((), S7)) else (loopK (fun _ _ => none) (LB_X5_carries_1 a2 x6 rec5) zfuel 0 S7)
def LB_X5_carries_3 (k3 : zSt → Option (Unit × zSt)) (rec13 : Int32 → zSt → Option (Unit × zSt)) (x14 : Int32) (S15 : zSt) : Option (Unit × zSt) :=
chk 2 15 (if (S15.1 18 (2 : Int32).toNatClampNeg) ≤ x14 then (k3 S15) else (chk (2 * x14) 60 (chk x14 6 (zlet (sI S15 53 (x14).toNatClampNeg (S15.1 25 (2 * x14).toNatClampNeg) : zSt) (fun S19 : zSt =>
chk x14 6 (zlet (sI S19 54 (x14).toNatClampNeg (-1) : zSt) (fun S21 : zSt =>
rec13 (x14 + 1) S21)))))))
def F_X5_carries (a1 : Int32) (a2 : Int32) (S : zSt) : Option (Unit × zSt) :=
zlet (sI S 0 55 0 : zSt) (fun S1 : zSt =>
zlet (sI S1 0 56 0 : zSt) (fun S2 : zSt =>
joinK (fun  (S4 : zSt) => loopK (fun _ _ => none) (LB_X5_carries_2 a1 a2) zfuel 1 S4) (fun k3 : zSt → Option (Unit × zSt) =>
loopK (fun _ _ => none) (LB_X5_carries_3 k3) zfuel 0 S2)))
theorem mv_X5_carries : ZV mX5_carries yX5_carries 2 := ⟨q2104, qs145, q155, q2105, rfl, by decide, by decide, by decide +kernel⟩
theorem ct_X5_carries {G : zGw} (hG : zGM G) (a1 : Int32) (a2 : Int32) : Zc mX5_carries yX5_carries zJV G [.ref (G.1 0), .int a1, .int a2] (F_X5_carries a1 a2) := by
  refine Zc_of [some (.ref (G.1 0)), some (.int a1), some (.int a2), none, none] (by decide) rfl rfl (Nat.le_of_ble_eq_true rfl) rfl (fun X S res => ?_)
  unfold F_X5_carries
  refine z_aload_n (pc := 0) 0 dX5_carries_0 rfl rfl ?_
  refine z_iconst (pc := 1) (v := 0) dX5_carries_1 (by decide) ?_
  refine pf_X5_M_449_0 hG (pc := 2) dX5_carries_2 ?_
  refine z_letS (fun S1 => ?_)
  refine z_aload_n (pc := 5) 0 dX5_carries_5 rfl rfl ?_
  refine z_iconst (pc := 6) (v := 0) dX5_carries_6 (by decide) ?_
  refine pf_X5_M_452_0 hG (pc := 7) dX5_carries_7 ?_
  refine z_letS (fun S2 => ?_)
  refine z_iconst (pc := 10) (v := 0) dX5_carries_10 (by decide) ?_
  refine z_istore_n (pc := 11) 3 dX5_carries_11 rfl (Nat.le_of_ble_eq_true rfl) rfl ?_
  refine z_join (fun j : zSt → Option (Unit × zSt) => ∀  (S4 : zSt), Zm X mX5_carries zJV G (0, 0) res S4 49 [some (.ref (G.1 0)), some (.int a1), some (.int a2), none, none] [] (j S4)) ?_ (fun k3 hk3 => ?_)
  · intro S4
    refine z_iconst (pc := 49) (v := 1) dX5_carries_49 (by decide) ?_
    refine z_istore_n (pc := 50) 3 dX5_carries_50 rfl (Nat.le_of_ble_eq_true rfl) rfl ?_
    refine z_loopK (fun j : Int32 → zSt → Option (Unit × zSt) => ∀ (x6 : Int32) (S7 : zSt), Zm X mX5_carries zJV G (0, 0) res S7 51 [some (.ref (G.1 0)), some (.int a1), some (.int a2), some (.int x6), none] [] (j x6 S7)) ?_ ?_ zfuel _ _
    · intro x6 S7; exact z_none
    · intro rec5 hrec5 x6 S7
      unfold LB_X5_carries_2
      refine z_iload_n (pc := 51) 3 dX5_carries_51 rfl rfl ?_
      refine z_iload_n (pc := 52) 1 dX5_carries_52 rfl rfl ?_
      refine z_icmp_gt (pc := 53) 90 dX5_carries_53 rfl ?_ ?_
      · exact z_vret rfl dX5_carries_90 rfl
      · refine z_iconst (pc := 56) (v := 0) dX5_carries_56 (by decide) ?_
        refine z_istore (pc := 57) dX5_carries_57 (Nat.le_of_ble_eq_true rfl) rfl ?_
        refine z_loopK (fun j : Int32 → zSt → Option (Unit × zSt) => ∀ (x9 : Int32) (S10 : zSt), Zm X mX5_carries zJV G (0, 0) res S10 59 [some (.ref (G.1 0)), some (.int a1), some (.int a2), some (.int x6), some (.int x9)] [] (j x9 S10)) ?_ ?_ zfuel _ _
        · intro x9 S10; exact z_none
        · intro rec8 hrec8 x9 S10
          unfold LB_X5_carries_1
          refine z_iload (pc := 59) dX5_carries_59 rfl ?_
          refine z_aload_n (pc := 61) 0 dX5_carries_61 rfl rfl ?_
          refine gf_X5_M_34_0 hG (pc := 62) dX5_carries_62 ?_
          refine z_iconst (pc := 65) (v := 2) dX5_carries_65 (by decide) ?_
          refine z_chk (fun h11 => ?_)
          refine z_iaload (pc := 66) 18 15 (zGM_s18 hG) h11 dX5_carries_66 ?_
          refine z_icmp_ge (pc := 67) 84 dX5_carries_67 rfl ?_ ?_
          · refine z_iinc (pc := 84) (w := x6 + 1) dX5_carries_84 rfl (by rw [show Int32.ofInt 1 = 1 from by decide]) (Nat.le_of_ble_eq_true rfl) rfl ?_
            refine z_goto (pc := 87) 51 dX5_carries_87 rfl ?_
            exact z_mask [true, true, true, true, false] (hrec5 _ _) rfl
          · refine z_aload_n (pc := 70) 0 dX5_carries_70 rfl rfl ?_
            refine z_iload (pc := 71) dX5_carries_71 rfl ?_
            refine z_iload_n (pc := 73) 3 dX5_carries_73 rfl rfl ?_
            refine z_iload_n (pc := 74) 2 dX5_carries_74 rfl rfl ?_
            refine z_callVv (pc := 75) _ _ 0 5 (ct_X5_stepOf hG _ _ _) mv_X5_stepOf q2106 rfl (zGM_s0 hG) rfl (Nat.le_of_ble_eq_true rfl) (Nat.le_of_ble_eq_true rfl) rfl rfl (Nat.le_of_ble_eq_true rfl) dX5_carries_75 (fun _ S12 => ?_)
            refine z_iinc (pc := 78) (w := x9 + 1) dX5_carries_78 rfl (by rw [show Int32.ofInt 1 = 1 from by decide]) (Nat.le_of_ble_eq_true rfl) rfl ?_
            refine z_goto (pc := 81) 59 dX5_carries_81 rfl ?_
            exact hrec8 _ _
  · refine z_loopK (fun j : Int32 → zSt → Option (Unit × zSt) => ∀ (x14 : Int32) (S15 : zSt), Zm X mX5_carries zJV G (0, 0) res S15 12 [some (.ref (G.1 0)), some (.int a1), some (.int a2), some (.int x14), none] [] (j x14 S15)) ?_ ?_ zfuel _ _
    · intro x14 S15; exact z_none
    · intro rec13 hrec13 x14 S15
      unfold LB_X5_carries_3
      refine z_iload_n (pc := 12) 3 dX5_carries_12 rfl rfl ?_
      refine z_aload_n (pc := 13) 0 dX5_carries_13 rfl rfl ?_
      refine gf_X5_M_34_0 hG (pc := 14) dX5_carries_14 ?_
      refine z_iconst (pc := 17) (v := 2) dX5_carries_17 (by decide) ?_
      refine z_chk (fun h16 => ?_)
      refine z_iaload (pc := 18) 18 15 (zGM_s18 hG) h16 dX5_carries_18 ?_
      refine z_icmp_ge (pc := 19) 49 dX5_carries_19 rfl ?_ ?_
      · exact z_mask [true, true, true, false, false] (hk3 _) rfl
      · refine z_aload_n (pc := 22) 0 dX5_carries_22 rfl rfl ?_
        refine gf_X5_M_122_0 hG (pc := 23) dX5_carries_23 ?_
        refine z_iload_n (pc := 26) 3 dX5_carries_26 rfl rfl ?_
        refine z_aload_n (pc := 27) 0 dX5_carries_27 rfl rfl ?_
        refine gf_X5_M_55_0 hG (pc := 28) dX5_carries_28 ?_
        refine z_iconst (pc := 31) (v := 2) dX5_carries_31 (by decide) ?_
        refine z_iload_n (pc := 32) 3 dX5_carries_32 rfl rfl ?_
        refine z_imul (pc := 33) dX5_carries_33 ?_
        refine z_chk (fun h17 => ?_)
        refine z_iaload (pc := 34) 25 60 (zGM_s25 hG) h17 dX5_carries_34 ?_
        refine z_chk (fun h18 => ?_)
        refine z_iastore (pc := 35) 53 6 (zGM_s53 hG) h18 dX5_carries_35 ?_
        refine z_letS (fun S19 => ?_)
        refine z_aload_n (pc := 36) 0 dX5_carries_36 rfl rfl ?_
        refine gf_X5_M_125_0 hG (pc := 37) dX5_carries_37 ?_
        refine z_iload_n (pc := 40) 3 dX5_carries_40 rfl rfl ?_
        refine z_iconst (pc := 41) (v := (-1)) dX5_carries_41 (by decide) ?_
        refine z_chk (fun h20 => ?_)
        refine z_iastore (pc := 42) 54 6 (zGM_s54 hG) h20 dX5_carries_42 ?_
        refine z_letS (fun S21 => ?_)
        refine z_iinc (pc := 43) (w := x14 + 1) dX5_carries_43 rfl (by rw [show Int32.ofInt 1 = 1 from by decide]) (Nat.le_of_ble_eq_true rfl) rfl ?_
        refine z_goto (pc := 46) 12 dX5_carries_46 rfl ?_
        exact hrec13 _ _
abbrev mX5_comes : zMr := ("HiddenCubeModel", cX5_comes, 2, (some .int), 6, 0, 0, none)
def F_X5_comes (a1 : Int32) (S : zSt) : Option (Int32 × zSt) :=
zlet (sI S 0 0 0 : zSt) (fun S1 : zSt =>
chk 2 15 (zbind (F_X5_in ((a1).toInt64) 0 (((S1.1 18 (2 : Int32).toNatClampNeg) - 1).toInt64) S1) (fun r4 S3 =>
if r4 = 0 then (some ((-2), S3)) else (zbind (F_X5_carries 300 0 S3) (fun _ S5 =>
chk a1 6 (some (S5.1 54 (a1).toNatClampNeg, S5)))))))
theorem mv_X5_comes : ZV mX5_comes yX5_comes 1 := ⟨q2099, q2100, q155, q2101, rfl, by decide, by decide, by decide +kernel⟩
theorem ct_X5_comes {G : zGw} (hG : zGM G) (a1 : Int32) : Zc mX5_comes yX5_comes zJI G [.ref (G.1 0), .int a1] (F_X5_comes a1) := by
  refine Zc_of [some (.ref (G.1 0)), some (.int a1)] (by decide) rfl rfl (Nat.le_of_ble_eq_true rfl) rfl (fun X S res => ?_)
  unfold F_X5_comes
  refine z_aload_n (pc := 0) 0 dX5_comes_0 rfl rfl ?_
  refine z_iconst (pc := 1) (v := 0) dX5_comes_1 (by decide) ?_
  refine pf_X5_M_131_0 hG (pc := 2) dX5_comes_2 ?_
  refine z_letS (fun S1 => ?_)
  refine z_iload_n (pc := 5) 1 dX5_comes_5 rfl rfl ?_
  refine z_i2l (pc := 6) dX5_comes_6 ?_
  refine z_lconst (pc := 7) (v := 0) dX5_comes_7 (by decide) ?_
  refine z_aload_n (pc := 8) 0 dX5_comes_8 rfl rfl ?_
  refine gf_X5_M_34_0 hG (pc := 9) dX5_comes_9 ?_
  refine z_iconst (pc := 12) (v := 2) dX5_comes_12 (by decide) ?_
  refine z_chk (fun h2 => ?_)
  refine z_iaload (pc := 13) 18 15 (zGM_s18 hG) h2 dX5_comes_13 ?_
  refine z_iconst (pc := 14) (v := 1) dX5_comes_14 (by decide) ?_
  refine z_isub (pc := 15) dX5_comes_15 ?_
  refine z_i2l (pc := 16) dX5_comes_16 ?_
  refine z_callSi (pc := 17) _ _ (ct_X5_in  _ _ _) mv_X5_in q1578 rfl (Nat.le_of_ble_eq_true rfl) (Nat.le_of_ble_eq_true rfl) rfl rfl (Nat.le_of_ble_eq_true rfl) dX5_comes_17 (fun r4 S3 => ?_)
  refine z_if_ne (pc := 20) 26 dX5_comes_20 rfl ?_ ?_
  · refine z_aload_n (pc := 26) 0 dX5_comes_26 rfl rfl ?_
    refine z_sipush (pc := 27) (v := 300) dX5_comes_27 (by decide) ?_
    refine z_iconst (pc := 30) (v := 0) dX5_comes_30 (by decide) ?_
    refine z_callVv (pc := 31) _ _ 0 5 (ct_X5_carries hG _ _) mv_X5_carries q2102 rfl (zGM_s0 hG) rfl (Nat.le_of_ble_eq_true rfl) (Nat.le_of_ble_eq_true rfl) rfl rfl (Nat.le_of_ble_eq_true rfl) dX5_comes_31 (fun _ S5 => ?_)
    refine z_aload_n (pc := 34) 0 dX5_comes_34 rfl rfl ?_
    refine gf_X5_M_125_0 hG (pc := 35) dX5_comes_35 ?_
    refine z_iload_n (pc := 38) 1 dX5_comes_38 rfl rfl ?_
    refine z_chk (fun h6 => ?_)
    refine z_iaload (pc := 39) 54 6 (zGM_s54 hG) h6 dX5_comes_39 ?_
    exact z_iret rfl dX5_comes_40 rfl
  · refine z_bipush (pc := 23) (v := (-2)) dX5_comes_23 (by decide) ?_
    exact z_iret rfl dX5_comes_25 rfl
abbrev mX5_post : zMr := ("HiddenCubeModel", cX5_post, 5, (some .int), 6, 0, 0, none)
def LB_X5_post_1 (S6 : zSt) (k7 : Int32 → Int32 → Option (Int32 × zSt)) (rec10 : Int32 → Int32 → Int32 → Option (Int32 × zSt)) (x11 : Int32) (x12 : Int32) (x13 : Int32) : Option (Int32 × zSt) :=
chk 2 15 (if (S6.1 18 (2 : Int32).toNatClampNeg) ≤ x13 then (k7 x11 x12) else (chk x13 6 (joinK (fun (v17 : Int32) => chk x13 6 (zlet (x12 + (if (S6.1 54 (x13).toNatClampNeg) = (-1) then 1 else 0) : Int32) (fun w20 : Int32 =>
rec10 v17 w20 (x13 + 1)))) (fun j16 : Int32 → Option (Int32 × zSt) =>
if (S6.1 54 (x13).toNatClampNeg) ≤ x11 then (j16 x11) else (chk x13 6 (j16 (S6.1 54 (x13).toNatClampNeg)))))))
def F_X5_post (a1 : Int32) (S : zSt) : Option (Int32 × zSt) :=
zlet (sI S 0 0 0 : zSt) (fun S1 : zSt =>
zbind (F_X5_isTown S1) (fun r3 S2 =>
if r3 = 0 then (some ((-2), S2)) else (zbind (F_X5_in ((a1).toInt64) 0 2 S2) (fun r5 S4 =>
if r5 = 0 then (some ((-2), S4)) else (zbind (F_X5_carries 300 0 S4) (fun _ S6 =>
joinK (fun (x8 : Int32) (x9 : Int32) => if a1 = 0 then (some (x8, S6)) else (if a1 = 1 then (some (S6.1 0 55, S6)) else (some (x9, S6)))) (fun k7 : Int32 → Int32 → Option (Int32 × zSt) =>
loopK (fun _ _ _ => none) (LB_X5_post_1 S6 k7) zfuel 0 0 0)))))))
theorem mv_X5_post : ZV mX5_post yX5_post 1 := ⟨q2111, q2112, q155, q2113, rfl, by decide, by decide, by decide +kernel⟩
theorem ct_X5_post {G : zGw} (hG : zGM G) (a1 : Int32) : Zc mX5_post yX5_post zJI G [.ref (G.1 0), .int a1] (F_X5_post a1) := by
  refine Zc_of [some (.ref (G.1 0)), some (.int a1), none, none, none] (by decide) rfl rfl (Nat.le_of_ble_eq_true rfl) rfl (fun X S res => ?_)
  unfold F_X5_post
  refine z_aload_n (pc := 0) 0 dX5_post_0 rfl rfl ?_
  refine z_iconst (pc := 1) (v := 0) dX5_post_1 (by decide) ?_
  refine pf_X5_M_131_0 hG (pc := 2) dX5_post_2 ?_
  refine z_letS (fun S1 => ?_)
  refine z_aload_n (pc := 5) 0 dX5_post_5 rfl rfl ?_
  refine z_callVi (pc := 6) _ _ 0 5 (ct_X5_isTown hG) mv_X5_isTown q1729 rfl (zGM_s0 hG) rfl (Nat.le_of_ble_eq_true rfl) (Nat.le_of_ble_eq_true rfl) rfl rfl (Nat.le_of_ble_eq_true rfl) dX5_post_6 (fun r3 S2 => ?_)
  refine z_if_eq (pc := 9) 24 dX5_post_9 rfl ?_ ?_
  · refine z_bipush (pc := 24) (v := (-2)) dX5_post_24 (by decide) ?_
    exact z_iret rfl dX5_post_26 rfl
  · refine z_iload_n (pc := 12) 1 dX5_post_12 rfl rfl ?_
    refine z_i2l (pc := 13) dX5_post_13 ?_
    refine z_lconst (pc := 14) (v := 0) dX5_post_14 (by decide) ?_
    refine z_ldc2 (pc := 15) (v := 2) dX5_post_15 q1997 ?_
    refine z_callSi (pc := 18) _ _ (ct_X5_in  _ _ _) mv_X5_in q1578 rfl (Nat.le_of_ble_eq_true rfl) (Nat.le_of_ble_eq_true rfl) rfl rfl (Nat.le_of_ble_eq_true rfl) dX5_post_18 (fun r5 S4 => ?_)
    refine z_if_ne (pc := 21) 27 dX5_post_21 rfl ?_ ?_
    · refine z_aload_n (pc := 27) 0 dX5_post_27 rfl rfl ?_
      refine z_sipush (pc := 28) (v := 300) dX5_post_28 (by decide) ?_
      refine z_iconst (pc := 31) (v := 0) dX5_post_31 (by decide) ?_
      refine z_callVv (pc := 32) _ _ 0 5 (ct_X5_carries hG _ _) mv_X5_carries q2102 rfl (zGM_s0 hG) rfl (Nat.le_of_ble_eq_true rfl) (Nat.le_of_ble_eq_true rfl) rfl rfl (Nat.le_of_ble_eq_true rfl) dX5_post_32 (fun _ S6 => ?_)
      refine z_iconst (pc := 35) (v := 0) dX5_post_35 (by decide) ?_
      refine z_istore_n (pc := 36) 2 dX5_post_36 rfl (Nat.le_of_ble_eq_true rfl) rfl ?_
      refine z_iconst (pc := 37) (v := 0) dX5_post_37 (by decide) ?_
      refine z_istore_n (pc := 38) 3 dX5_post_38 rfl (Nat.le_of_ble_eq_true rfl) rfl ?_
      refine z_iconst (pc := 39) (v := 0) dX5_post_39 (by decide) ?_
      refine z_istore (pc := 40) dX5_post_40 (Nat.le_of_ble_eq_true rfl) rfl ?_
      refine z_join (fun j : Int32 → Int32 → Option (Int32 × zSt) => ∀ (x8 : Int32) (x9 : Int32), Zm X mX5_post zJI G (0, 0) res S6 101 [some (.ref (G.1 0)), some (.int a1), some (.int x8), some (.int x9), none] [] (j x8 x9)) ?_ (fun k7 hk7 => ?_)
      · intro x8 x9
        refine z_iload_n (pc := 101) 1 dX5_post_101 rfl rfl ?_
        refine z_if_ne (pc := 102) 109 dX5_post_102 rfl ?_ ?_
        · refine z_iload_n (pc := 109) 1 dX5_post_109 rfl rfl ?_
          refine z_iconst (pc := 110) (v := 1) dX5_post_110 (by decide) ?_
          refine z_icmp_ne (pc := 111) 121 dX5_post_111 rfl ?_ ?_
          · refine z_iload_n (pc := 121) 3 dX5_post_121 rfl rfl ?_
            exact z_iret rfl dX5_post_122 rfl
          · refine z_aload_n (pc := 114) 0 dX5_post_114 rfl rfl ?_
            refine gf_X5_M_449_0 hG (pc := 115) dX5_post_115 ?_
            refine z_goto (pc := 118) 122 dX5_post_118 rfl ?_
            exact z_iret rfl dX5_post_122 rfl
        · refine z_iload_n (pc := 105) 2 dX5_post_105 rfl rfl ?_
          refine z_goto (pc := 106) 122 dX5_post_106 rfl ?_
          exact z_iret rfl dX5_post_122 rfl
      · refine z_loopK (fun j : Int32 → Int32 → Int32 → Option (Int32 × zSt) => ∀ (x11 : Int32) (x12 : Int32) (x13 : Int32), Zm X mX5_post zJI G (0, 0) res S6 42 [some (.ref (G.1 0)), some (.int a1), some (.int x11), some (.int x12), some (.int x13)] [] (j x11 x12 x13)) ?_ ?_ zfuel _ _ _
        · intro x11 x12 x13; exact z_none
        · intro rec10 hrec10 x11 x12 x13
          unfold LB_X5_post_1
          refine z_iload (pc := 42) dX5_post_42 rfl ?_
          refine z_aload_n (pc := 44) 0 dX5_post_44 rfl rfl ?_
          refine gf_X5_M_34_0 hG (pc := 45) dX5_post_45 ?_
          refine z_iconst (pc := 48) (v := 2) dX5_post_48 (by decide) ?_
          refine z_chk (fun h14 => ?_)
          refine z_iaload (pc := 49) 18 15 (zGM_s18 hG) h14 dX5_post_49 ?_
          refine z_icmp_ge (pc := 50) 101 dX5_post_50 rfl ?_ ?_
          · exact z_mask [true, true, true, true, false] (hk7 _ _) rfl
          · refine z_aload_n (pc := 53) 0 dX5_post_53 rfl rfl ?_
            refine gf_X5_M_125_0 hG (pc := 54) dX5_post_54 ?_
            refine z_iload (pc := 57) dX5_post_57 rfl ?_
            refine z_chk (fun h15 => ?_)
            refine z_iaload (pc := 59) 54 6 (zGM_s54 hG) h15 dX5_post_59 ?_
            refine z_iload_n (pc := 60) 2 dX5_post_60 rfl rfl ?_
            refine z_join (fun j : Int32 → Option (Int32 × zSt) => ∀ (v17 : Int32), Zm X mX5_post zJI G (0, 0) res S6 75 [some (.ref (G.1 0)), some (.int a1), none, some (.int x12), some (.int x13)] [.int v17] (j v17)) ?_ (fun j16 hj16 => ?_)
            · intro v17
              refine z_istore_n (pc := 75) 2 dX5_post_75 rfl (Nat.le_of_ble_eq_true rfl) rfl ?_
              refine z_iload_n (pc := 76) 3 dX5_post_76 rfl rfl ?_
              refine z_aload_n (pc := 77) 0 dX5_post_77 rfl rfl ?_
              refine gf_X5_M_125_0 hG (pc := 78) dX5_post_78 ?_
              refine z_iload (pc := 81) dX5_post_81 rfl ?_
              refine z_chk (fun h18 => ?_)
              refine z_iaload (pc := 83) 54 6 (zGM_s54 hG) h18 dX5_post_83 ?_
              refine z_iconst (pc := 84) (v := (-1)) dX5_post_84 (by decide) ?_
              refine z_pure (st0 := [.int x12]) 93 ((if (S6.1 54 (x13).toNatClampNeg) = (-1) then 1 else 0)) ?_ (fun hJ => ?_)
              · refine z_iadd (pc := 93) dX5_post_93 ?_
                refine z_letI (fun w20 => ?_)
                refine z_istore_n (pc := 94) 3 dX5_post_94 rfl (Nat.le_of_ble_eq_true rfl) rfl ?_
                refine z_iinc (pc := 95) (w := x13 + 1) dX5_post_95 rfl (by rw [show Int32.ofInt 1 = 1 from by decide]) (Nat.le_of_ble_eq_true rfl) rfl ?_
                refine z_goto (pc := 98) 42 dX5_post_98 rfl ?_
                exact hrec10 _ _ _
              · refine z_icmpd_ne (pc := 85) 92 dX5_post_85 rfl (fun c21 => ?_) (fun c21 => ?_)
                · refine z_iconst (pc := 92) (v := 0) dX5_post_92 (by decide) ?_
                  exact z_leaf hJ (by simp only [if_neg c21])
                · refine z_iconst (pc := 88) (v := 1) dX5_post_88 (by decide) ?_
                  refine z_goto (pc := 89) 93 dX5_post_89 rfl ?_
                  exact z_leaf hJ (by simp only [if_pos c21])
            · refine z_icmp_le (pc := 61) 74 dX5_post_61 rfl ?_ ?_
              · refine z_iload_n (pc := 74) 2 dX5_post_74 rfl rfl ?_
                exact z_mask [true, true, false, true, true] (hj16 _) rfl
              · refine z_aload_n (pc := 64) 0 dX5_post_64 rfl rfl ?_
                refine gf_X5_M_125_0 hG (pc := 65) dX5_post_65 ?_
                refine z_iload (pc := 68) dX5_post_68 rfl ?_
                refine z_chk (fun h22 => ?_)
                refine z_iaload (pc := 70) 54 6 (zGM_s54 hG) h22 dX5_post_70 ?_
                refine z_goto (pc := 71) 75 dX5_post_71 rfl ?_
                exact z_mask [true, true, false, true, true] (hj16 _) rfl
    · refine z_bipush (pc := 24) (v := (-2)) dX5_post_24 (by decide) ?_
      exact z_iret rfl dX5_post_26 rfl
abbrev mX5_at : zMr := ("HiddenCubeModel", cX5_at, 3, (some .int), 6, 0, 0, none)
def F_X5_at (a1 : Int32) (a2 : Int32) (S : zSt) : Option (Int32 × zSt) :=
zlet (sI S 0 0 0 : zSt) (fun S1 : zSt =>
chk 2 15 (zbind (F_X5_in ((a1).toInt64) 0 (((S1.1 18 (2 : Int32).toNatClampNeg) - 1).toInt64) S1) (fun r4 S3 =>
if r4 = 0 then (some ((-2), S3)) else (zbind (F_X5_in ((a2).toInt64) 0 99 S3) (fun r6 S5 =>
if r6 = 0 then (some ((-2), S5)) else (zbind (F_X5_carries a2 0 S5) (fun _ S7 =>
chk a1 6 (some (S7.1 53 (a1).toNatClampNeg, S7)))))))))
theorem mv_X5_at : ZV mX5_at yX5_at 2 := ⟨q2115, q2116, q155, q2117, rfl, by decide, by decide, by decide +kernel⟩
theorem ct_X5_at {G : zGw} (hG : zGM G) (a1 : Int32) (a2 : Int32) : Zc mX5_at yX5_at zJI G [.ref (G.1 0), .int a1, .int a2] (F_X5_at a1 a2) := by
  refine Zc_of [some (.ref (G.1 0)), some (.int a1), some (.int a2)] (by decide) rfl rfl (Nat.le_of_ble_eq_true rfl) rfl (fun X S res => ?_)
  unfold F_X5_at
  refine z_aload_n (pc := 0) 0 dX5_at_0 rfl rfl ?_
  refine z_iconst (pc := 1) (v := 0) dX5_at_1 (by decide) ?_
  refine pf_X5_M_131_0 hG (pc := 2) dX5_at_2 ?_
  refine z_letS (fun S1 => ?_)
  refine z_iload_n (pc := 5) 1 dX5_at_5 rfl rfl ?_
  refine z_i2l (pc := 6) dX5_at_6 ?_
  refine z_lconst (pc := 7) (v := 0) dX5_at_7 (by decide) ?_
  refine z_aload_n (pc := 8) 0 dX5_at_8 rfl rfl ?_
  refine gf_X5_M_34_0 hG (pc := 9) dX5_at_9 ?_
  refine z_iconst (pc := 12) (v := 2) dX5_at_12 (by decide) ?_
  refine z_chk (fun h2 => ?_)
  refine z_iaload (pc := 13) 18 15 (zGM_s18 hG) h2 dX5_at_13 ?_
  refine z_iconst (pc := 14) (v := 1) dX5_at_14 (by decide) ?_
  refine z_isub (pc := 15) dX5_at_15 ?_
  refine z_i2l (pc := 16) dX5_at_16 ?_
  refine z_callSi (pc := 17) _ _ (ct_X5_in  _ _ _) mv_X5_in q1578 rfl (Nat.le_of_ble_eq_true rfl) (Nat.le_of_ble_eq_true rfl) rfl rfl (Nat.le_of_ble_eq_true rfl) dX5_at_17 (fun r4 S3 => ?_)
  refine z_if_eq (pc := 20) 35 dX5_at_20 rfl ?_ ?_
  · refine z_bipush (pc := 35) (v := (-2)) dX5_at_35 (by decide) ?_
    exact z_iret rfl dX5_at_37 rfl
  · refine z_iload_n (pc := 23) 2 dX5_at_23 rfl rfl ?_
    refine z_i2l (pc := 24) dX5_at_24 ?_
    refine z_lconst (pc := 25) (v := 0) dX5_at_25 (by decide) ?_
    refine z_ldc2 (pc := 26) (v := 99) dX5_at_26 q2118 ?_
    refine z_callSi (pc := 29) _ _ (ct_X5_in  _ _ _) mv_X5_in q1578 rfl (Nat.le_of_ble_eq_true rfl) (Nat.le_of_ble_eq_true rfl) rfl rfl (Nat.le_of_ble_eq_true rfl) dX5_at_29 (fun r6 S5 => ?_)
    refine z_if_ne (pc := 32) 38 dX5_at_32 rfl ?_ ?_
    · refine z_aload_n (pc := 38) 0 dX5_at_38 rfl rfl ?_
      refine z_iload_n (pc := 39) 2 dX5_at_39 rfl rfl ?_
      refine z_iconst (pc := 40) (v := 0) dX5_at_40 (by decide) ?_
      refine z_callVv (pc := 41) _ _ 0 5 (ct_X5_carries hG _ _) mv_X5_carries q2102 rfl (zGM_s0 hG) rfl (Nat.le_of_ble_eq_true rfl) (Nat.le_of_ble_eq_true rfl) rfl rfl (Nat.le_of_ble_eq_true rfl) dX5_at_41 (fun _ S7 => ?_)
      refine z_aload_n (pc := 44) 0 dX5_at_44 rfl rfl ?_
      refine gf_X5_M_122_0 hG (pc := 45) dX5_at_45 ?_
      refine z_iload_n (pc := 48) 1 dX5_at_48 rfl rfl ?_
      refine z_chk (fun h8 => ?_)
      refine z_iaload (pc := 49) 53 6 (zGM_s53 hG) h8 dX5_at_49 ?_
      exact z_iret rfl dX5_at_50 rfl
    · refine z_bipush (pc := 35) (v := (-2)) dX5_at_35 (by decide) ?_
      exact z_iret rfl dX5_at_37 rfl
abbrev mX5_clash : zMr := ("HiddenCubeModel", cX5_clash, 1, (some .int), 6, 0, 0, none)
def F_X5_clash  (S : zSt) : Option (Int32 × zSt) :=
zlet (sI S 0 0 0 : zSt) (fun S1 : zSt =>
zbind (F_X5_isTown S1) (fun r3 S2 =>
if r3 = 0 then (some ((-2), S2)) else (zbind (F_X5_carries 300 1 S2) (fun _ S4 =>
some (S4.1 0 56, S4)))))
theorem mv_X5_clash : ZV mX5_clash yX5_clash 0 := ⟨q2120, q2121, q155, q2122, rfl, by decide, by decide, by decide +kernel⟩
theorem ct_X5_clash {G : zGw} (hG : zGM G)  : Zc mX5_clash yX5_clash zJI G [.ref (G.1 0)] (F_X5_clash) := by
  refine Zc_of [some (.ref (G.1 0))] (by decide) rfl rfl (Nat.le_of_ble_eq_true rfl) rfl (fun X S res => ?_)
  unfold F_X5_clash
  refine z_aload_n (pc := 0) 0 dX5_clash_0 rfl rfl ?_
  refine z_iconst (pc := 1) (v := 0) dX5_clash_1 (by decide) ?_
  refine pf_X5_M_131_0 hG (pc := 2) dX5_clash_2 ?_
  refine z_letS (fun S1 => ?_)
  refine z_aload_n (pc := 5) 0 dX5_clash_5 rfl rfl ?_
  refine z_callVi (pc := 6) _ _ 0 5 (ct_X5_isTown hG) mv_X5_isTown q1729 rfl (zGM_s0 hG) rfl (Nat.le_of_ble_eq_true rfl) (Nat.le_of_ble_eq_true rfl) rfl rfl (Nat.le_of_ble_eq_true rfl) dX5_clash_6 (fun r3 S2 => ?_)
  refine z_if_ne (pc := 9) 15 dX5_clash_9 rfl ?_ ?_
  · refine z_aload_n (pc := 15) 0 dX5_clash_15 rfl rfl ?_
    refine z_sipush (pc := 16) (v := 300) dX5_clash_16 (by decide) ?_
    refine z_iconst (pc := 19) (v := 1) dX5_clash_19 (by decide) ?_
    refine z_callVv (pc := 20) _ _ 0 5 (ct_X5_carries hG _ _) mv_X5_carries q2102 rfl (zGM_s0 hG) rfl (Nat.le_of_ble_eq_true rfl) (Nat.le_of_ble_eq_true rfl) rfl rfl (Nat.le_of_ble_eq_true rfl) dX5_clash_20 (fun _ S4 => ?_)
    refine z_aload_n (pc := 23) 0 dX5_clash_23 rfl rfl ?_
    refine gf_X5_M_452_0 hG (pc := 24) dX5_clash_24 ?_
    exact z_iret rfl dX5_clash_27 rfl
  · refine z_bipush (pc := 12) (v := (-2)) dX5_clash_12 (by decide) ?_
    exact z_iret rfl dX5_clash_14 rfl
abbrev mX5_law : zMr := ("HiddenCubeModel", cX5_law, 4, (some .int), 6, 0, 0, none)
def LB_X5_law_1 (rec11 : Int32 → zSt → Option (Int32 × zSt)) (x12 : Int32) (S13 : zSt) : Option (Int32 × zSt) :=
zbind (F_X5_squares S13) (fun r15 S14 =>
if r15 ≤ x12 then (some ((-1), S14)) else (chk x12 160 (if (S14.1 22 (x12).toNatClampNeg) = 0 then (rec11 (x12 + 1) S14) else (some (x12, S14)))))
def LB_X5_law_2 (k17 : Int32 → Int32 → zSt → Option (Int32 × zSt)) (x22 : Int32) (rec21 : Int32 → zSt → Option (Int32 × zSt)) (rec26 : Int32 → zSt → Option (Int32 × zSt)) (x27 : Int32) (S28 : zSt) : Option (Int32 × zSt) :=
zbind (F_X5_squares S28) (fun r30 S29 =>
if r30 ≤ x27 then (rec21 (x22 + 1) S29) else (if x22 = x27 then (rec26 (x27 + 1) S29) else (zbind (F_X5_throughSquares x22 x27 S29) (fun r32 S31 =>
chk 0 15 (if r32 = (S31.1 18 (0 : Int32).toNatClampNeg) then (rec26 (x27 + 1) S31) else (k17 x22 x27 S31))))))
def LB_X5_law_3 (k17 : Int32 → Int32 → zSt → Option (Int32 × zSt)) (rec21 : Int32 → zSt → Option (Int32 × zSt)) (x22 : Int32) (S23 : zSt) : Option (Int32 × zSt) :=
zbind (F_X5_squares S23) (fun r25 S24 =>
if r25 ≤ x22 then (some ((-1), S24)) else (loopK (fun _ _ => none) (LB_X5_law_2 k17 x22 rec21) zfuel 0 S24))
def F_X5_law (a1 : Int32) (S : zSt) : Option (Int32 × zSt) :=
zlet (sI S 0 0 0 : zSt) (fun S1 : zSt =>
zbind (F_X5_isTown S1) (fun r3 S2 =>
if r3 = 0 then (some ((-2), S2)) else (zbind (F_X5_in ((a1).toInt64) 0 2 S2) (fun r5 S4 =>
if r5 = 0 then (some ((-2), S4)) else (if a1 = 0 then (joinK (fun (x18 : Int32) (x19 : Int32) (S20 : zSt) => some ((100 * x18) + x19, S20)) (fun k17 : Int32 → Int32 → zSt → Option (Int32 × zSt) =>
loopK (fun _ _ => none) (LB_X5_law_3 k17) zfuel 0 S4)) else (if a1 = 1 then (loopK (fun _ _ => none) (LB_X5_law_1) zfuel 0 S4) else (chk 0 15 (if (S4.1 18 (0 : Int32).toNatClampNeg) = 5 then (some ((-9), S4)) else (zbind (F_X5_laysFewest 0 S4) (fun _ S7 =>
zbind (F_X5_squares S7) (fun r9 S8 =>
chk 0 15 (nz ((S8.1 18 (0 : Int32).toNatClampNeg) + 1) (if (r9 / ((S8.1 18 (0 : Int32).toNatClampNeg) + 1)) < (S7.1 0 43) then (some (0, S8)) else (some ((-1), S8)))))))))))))))
theorem mv_X5_law : ZV mX5_law yX5_law 1 := ⟨q2124, q2125, q155, q2126, rfl, by decide, by decide, by decide +kernel⟩
theorem ct_X5_law {G : zGw} (hG : zGM G) (a1 : Int32) : Zc mX5_law yX5_law zJI G [.ref (G.1 0), .int a1] (F_X5_law a1) := by
  refine Zc_of [some (.ref (G.1 0)), some (.int a1), none, none] (by decide) rfl rfl (Nat.le_of_ble_eq_true rfl) rfl (fun X S res => ?_)
  unfold F_X5_law
  refine z_aload_n (pc := 0) 0 dX5_law_0 rfl rfl ?_
  refine z_iconst (pc := 1) (v := 0) dX5_law_1 (by decide) ?_
  refine pf_X5_M_131_0 hG (pc := 2) dX5_law_2 ?_
  refine z_letS (fun S1 => ?_)
  refine z_aload_n (pc := 5) 0 dX5_law_5 rfl rfl ?_
  refine z_callVi (pc := 6) _ _ 0 5 (ct_X5_isTown hG) mv_X5_isTown q1729 rfl (zGM_s0 hG) rfl (Nat.le_of_ble_eq_true rfl) (Nat.le_of_ble_eq_true rfl) rfl rfl (Nat.le_of_ble_eq_true rfl) dX5_law_6 (fun r3 S2 => ?_)
  refine z_if_eq (pc := 9) 24 dX5_law_9 rfl ?_ ?_
  · refine z_bipush (pc := 24) (v := (-2)) dX5_law_24 (by decide) ?_
    exact z_iret rfl dX5_law_26 rfl
  · refine z_iload_n (pc := 12) 1 dX5_law_12 rfl rfl ?_
    refine z_i2l (pc := 13) dX5_law_13 ?_
    refine z_lconst (pc := 14) (v := 0) dX5_law_14 (by decide) ?_
    refine z_ldc2 (pc := 15) (v := 2) dX5_law_15 q1997 ?_
    refine z_callSi (pc := 18) _ _ (ct_X5_in  _ _ _) mv_X5_in q1578 rfl (Nat.le_of_ble_eq_true rfl) (Nat.le_of_ble_eq_true rfl) rfl rfl (Nat.le_of_ble_eq_true rfl) dX5_law_18 (fun r5 S4 => ?_)
    refine z_if_ne (pc := 21) 27 dX5_law_21 rfl ?_ ?_
    · refine z_iload_n (pc := 27) 1 dX5_law_27 rfl rfl ?_
      refine z_if_ne (pc := 28) 92 dX5_law_28 rfl ?_ ?_
      · refine z_iload_n (pc := 92) 1 dX5_law_92 rfl rfl ?_
        refine z_iconst (pc := 93) (v := 1) dX5_law_93 (by decide) ?_
        refine z_icmp_ne (pc := 94) 126 dX5_law_94 rfl ?_ ?_
        · refine z_aload_n (pc := 126) 0 dX5_law_126 rfl rfl ?_
          refine gf_X5_M_34_0 hG (pc := 127) dX5_law_127 ?_
          refine z_iconst (pc := 130) (v := 0) dX5_law_130 (by decide) ?_
          refine z_chk (fun h6 => ?_)
          refine z_iaload (pc := 131) 18 15 (zGM_s18 hG) h6 dX5_law_131 ?_
          refine z_iconst (pc := 132) (v := 5) dX5_law_132 (by decide) ?_
          refine z_icmp_ne (pc := 133) 139 dX5_law_133 rfl ?_ ?_
          · refine z_aload_n (pc := 139) 0 dX5_law_139 rfl rfl ?_
            refine z_iconst (pc := 140) (v := 0) dX5_law_140 (by decide) ?_
            refine z_callVv (pc := 141) _ _ 0 5 (ct_X5_laysFewest hG _) mv_X5_laysFewest q1998 rfl (zGM_s0 hG) rfl (Nat.le_of_ble_eq_true rfl) (Nat.le_of_ble_eq_true rfl) rfl rfl (Nat.le_of_ble_eq_true rfl) dX5_law_141 (fun _ S7 => ?_)
            refine z_aload_n (pc := 144) 0 dX5_law_144 rfl rfl ?_
            refine gf_X5_M_398_0 hG (pc := 145) dX5_law_145 ?_
            refine z_aload_n (pc := 148) 0 dX5_law_148 rfl rfl ?_
            refine z_callVi (pc := 149) _ _ 0 5 (ct_X5_squares hG) mv_X5_squares q1725 rfl (zGM_s0 hG) rfl (Nat.le_of_ble_eq_true rfl) (Nat.le_of_ble_eq_true rfl) rfl rfl (Nat.le_of_ble_eq_true rfl) dX5_law_149 (fun r9 S8 => ?_)
            refine z_aload_n (pc := 152) 0 dX5_law_152 rfl rfl ?_
            refine gf_X5_M_34_0 hG (pc := 153) dX5_law_153 ?_
            refine z_iconst (pc := 156) (v := 0) dX5_law_156 (by decide) ?_
            refine z_chk (fun h10 => ?_)
            refine z_iaload (pc := 157) 18 15 (zGM_s18 hG) h10 dX5_law_157 ?_
            refine z_iconst (pc := 158) (v := 1) dX5_law_158 (by decide) ?_
            refine z_iadd (pc := 159) dX5_law_159 ?_
            refine z_idiv (pc := 160) dX5_law_160 ?_
            refine z_icmp_gt (pc := 161) 168 dX5_law_161 rfl ?_ ?_
            · refine z_iconst (pc := 168) (v := 0) dX5_law_168 (by decide) ?_
              exact z_iret rfl dX5_law_169 rfl
            · refine z_iconst (pc := 164) (v := (-1)) dX5_law_164 (by decide) ?_
              refine z_goto (pc := 165) 169 dX5_law_165 rfl ?_
              exact z_iret rfl dX5_law_169 rfl
          · refine z_bipush (pc := 136) (v := (-9)) dX5_law_136 (by decide) ?_
            exact z_iret rfl dX5_law_138 rfl
        · refine z_iconst (pc := 97) (v := 0) dX5_law_97 (by decide) ?_
          refine z_istore_n (pc := 98) 2 dX5_law_98 rfl (Nat.le_of_ble_eq_true rfl) rfl ?_
          refine z_maskk [true, false, true, false] ?_
          refine z_loopK (fun j : Int32 → zSt → Option (Int32 × zSt) => ∀ (x12 : Int32) (S13 : zSt), Zm X mX5_law zJI G (0, 0) res S13 99 [some (.ref (G.1 0)), none, some (.int x12), none] [] (j x12 S13)) ?_ ?_ zfuel _ _
          · intro x12 S13; exact z_none
          · intro rec11 hrec11 x12 S13
            unfold LB_X5_law_1
            refine z_iload_n (pc := 99) 2 dX5_law_99 rfl rfl ?_
            refine z_aload_n (pc := 100) 0 dX5_law_100 rfl rfl ?_
            refine z_callVi (pc := 101) _ _ 0 5 (ct_X5_squares hG) mv_X5_squares q1725 rfl (zGM_s0 hG) rfl (Nat.le_of_ble_eq_true rfl) (Nat.le_of_ble_eq_true rfl) rfl rfl (Nat.le_of_ble_eq_true rfl) dX5_law_101 (fun r15 S14 => ?_)
            refine z_icmp_ge (pc := 104) 124 dX5_law_104 rfl ?_ ?_
            · refine z_iconst (pc := 124) (v := (-1)) dX5_law_124 (by decide) ?_
              exact z_iret rfl dX5_law_125 rfl
            · refine z_aload_n (pc := 107) 0 dX5_law_107 rfl rfl ?_
              refine gf_X5_M_46_0 hG (pc := 108) dX5_law_108 ?_
              refine z_iload_n (pc := 111) 2 dX5_law_111 rfl rfl ?_
              refine z_chk (fun h16 => ?_)
              refine z_iaload (pc := 112) 22 160 (zGM_s22 hG) h16 dX5_law_112 ?_
              refine z_if_eq (pc := 113) 118 dX5_law_113 rfl ?_ ?_
              · refine z_iinc (pc := 118) (w := x12 + 1) dX5_law_118 rfl (by rw [show Int32.ofInt 1 = 1 from by decide]) (Nat.le_of_ble_eq_true rfl) rfl ?_
                refine z_goto (pc := 121) 99 dX5_law_121 rfl ?_
                exact hrec11 _ _
              · refine z_iload_n (pc := 116) 2 dX5_law_116 rfl rfl ?_
                exact z_iret rfl dX5_law_117 rfl
      · refine z_iconst (pc := 31) (v := 0) dX5_law_31 (by decide) ?_
        refine z_istore_n (pc := 32) 2 dX5_law_32 rfl (Nat.le_of_ble_eq_true rfl) rfl ?_
        refine z_join (fun j : Int32 → Int32 → zSt → Option (Int32 × zSt) => ∀ (x18 : Int32) (x19 : Int32) (S20 : zSt), Zm X mX5_law zJI G (0, 0) res S20 71 [none, none, some (.int x18), some (.int x19)] [] (j x18 x19 S20)) ?_ (fun k17 hk17 => ?_)
        · intro x18 x19 S20
          refine z_bipush (pc := 71) (v := 100) dX5_law_71 (by decide) ?_
          refine z_iload_n (pc := 73) 2 dX5_law_73 rfl rfl ?_
          refine z_imul (pc := 74) dX5_law_74 ?_
          refine z_iload_n (pc := 75) 3 dX5_law_75 rfl rfl ?_
          refine z_iadd (pc := 76) dX5_law_76 ?_
          exact z_iret rfl dX5_law_77 rfl
        · refine z_maskk [true, false, true, false] ?_
          refine z_loopK (fun j : Int32 → zSt → Option (Int32 × zSt) => ∀ (x22 : Int32) (S23 : zSt), Zm X mX5_law zJI G (0, 0) res S23 33 [some (.ref (G.1 0)), none, some (.int x22), none] [] (j x22 S23)) ?_ ?_ zfuel _ _
          · intro x22 S23; exact z_none
          · intro rec21 hrec21 x22 S23
            unfold LB_X5_law_3
            refine z_iload_n (pc := 33) 2 dX5_law_33 rfl rfl ?_
            refine z_aload_n (pc := 34) 0 dX5_law_34 rfl rfl ?_
            refine z_callVi (pc := 35) _ _ 0 5 (ct_X5_squares hG) mv_X5_squares q1725 rfl (zGM_s0 hG) rfl (Nat.le_of_ble_eq_true rfl) (Nat.le_of_ble_eq_true rfl) rfl rfl (Nat.le_of_ble_eq_true rfl) dX5_law_35 (fun r25 S24 => ?_)
            refine z_icmp_ge (pc := 38) 90 dX5_law_38 rfl ?_ ?_
            · refine z_iconst (pc := 90) (v := (-1)) dX5_law_90 (by decide) ?_
              exact z_iret rfl dX5_law_91 rfl
            · refine z_iconst (pc := 41) (v := 0) dX5_law_41 (by decide) ?_
              refine z_istore_n (pc := 42) 3 dX5_law_42 rfl (Nat.le_of_ble_eq_true rfl) rfl ?_
              refine z_loopK (fun j : Int32 → zSt → Option (Int32 × zSt) => ∀ (x27 : Int32) (S28 : zSt), Zm X mX5_law zJI G (0, 0) res S28 43 [some (.ref (G.1 0)), none, some (.int x22), some (.int x27)] [] (j x27 S28)) ?_ ?_ zfuel _ _
              · intro x27 S28; exact z_none
              · intro rec26 hrec26 x27 S28
                unfold LB_X5_law_2
                refine z_iload_n (pc := 43) 3 dX5_law_43 rfl rfl ?_
                refine z_aload_n (pc := 44) 0 dX5_law_44 rfl rfl ?_
                refine z_callVi (pc := 45) _ _ 0 5 (ct_X5_squares hG) mv_X5_squares q1725 rfl (zGM_s0 hG) rfl (Nat.le_of_ble_eq_true rfl) (Nat.le_of_ble_eq_true rfl) rfl rfl (Nat.le_of_ble_eq_true rfl) dX5_law_45 (fun r30 S29 => ?_)
                refine z_icmp_ge (pc := 48) 84 dX5_law_48 rfl ?_ ?_
                · refine z_iinc (pc := 84) (w := x22 + 1) dX5_law_84 rfl (by rw [show Int32.ofInt 1 = 1 from by decide]) (Nat.le_of_ble_eq_true rfl) rfl ?_
                  refine z_goto (pc := 87) 33 dX5_law_87 rfl ?_
                  exact z_mask [true, false, true, false] (hrec21 _ _) rfl
                · refine z_iload_n (pc := 51) 2 dX5_law_51 rfl rfl ?_
                  refine z_iload_n (pc := 52) 3 dX5_law_52 rfl rfl ?_
                  refine z_icmp_eq (pc := 53) 78 dX5_law_53 rfl ?_ ?_
                  · refine z_iinc (pc := 78) (w := x27 + 1) dX5_law_78 rfl (by rw [show Int32.ofInt 1 = 1 from by decide]) (Nat.le_of_ble_eq_true rfl) rfl ?_
                    refine z_goto (pc := 81) 43 dX5_law_81 rfl ?_
                    exact hrec26 _ _
                  · refine z_aload_n (pc := 56) 0 dX5_law_56 rfl rfl ?_
                    refine z_iload_n (pc := 57) 2 dX5_law_57 rfl rfl ?_
                    refine z_iload_n (pc := 58) 3 dX5_law_58 rfl rfl ?_
                    refine z_callVi (pc := 59) _ _ 0 5 (ct_X5_throughSquares hG _ _) mv_X5_throughSquares q1827 rfl (zGM_s0 hG) rfl (Nat.le_of_ble_eq_true rfl) (Nat.le_of_ble_eq_true rfl) rfl rfl (Nat.le_of_ble_eq_true rfl) dX5_law_59 (fun r32 S31 => ?_)
                    refine z_aload_n (pc := 62) 0 dX5_law_62 rfl rfl ?_
                    refine gf_X5_M_34_0 hG (pc := 63) dX5_law_63 ?_
                    refine z_iconst (pc := 66) (v := 0) dX5_law_66 (by decide) ?_
                    refine z_chk (fun h33 => ?_)
                    refine z_iaload (pc := 67) 18 15 (zGM_s18 hG) h33 dX5_law_67 ?_
                    refine z_icmp_eq (pc := 68) 78 dX5_law_68 rfl ?_ ?_
                    · refine z_iinc (pc := 78) (w := x27 + 1) dX5_law_78 rfl (by rw [show Int32.ofInt 1 = 1 from by decide]) (Nat.le_of_ble_eq_true rfl) rfl ?_
                      refine z_goto (pc := 81) 43 dX5_law_81 rfl ?_
                      exact hrec26 _ _
                    · exact z_mask [false, false, true, true] (hk17 _ _ _) rfl
    · refine z_bipush (pc := 24) (v := (-2)) dX5_law_24 (by decide) ?_
      exact z_iret rfl dX5_law_26 rfl
abbrev mX5_isSeed : zMr := ("HiddenCubeModel", cX5_isSeed, 1, (some .boolean), 2, 0, 0, none)
def F_X5_isSeed (a1 : Int32) (S : zSt) : Option (Int32 × zSt) :=
zbind (F_X5_in ((a1).toInt64) 0 2000000000 S) (fun r2 S1 =>
some (r2 &&& 1, S1))
theorem mv_X5_isSeed : ZS mX5_isSeed yX5_isSeed 1 := ⟨q2132, q155, q2133, by decide, by decide, by decide +kernel⟩
theorem ct_X5_isSeed {G : zGw} (a1 : Int32) : Zc mX5_isSeed yX5_isSeed zJI G [.int a1] (F_X5_isSeed a1) := by
  refine Zc_of [some (.int a1)] (by decide) rfl rfl (Nat.le_of_ble_eq_true rfl) rfl (fun X S res => ?_)
  unfold F_X5_isSeed
  refine z_iload_n (pc := 0) 0 dX5_isSeed_0 rfl rfl ?_
  refine z_i2l (pc := 1) dX5_isSeed_1 ?_
  refine z_lconst (pc := 2) (v := 0) dX5_isSeed_2 (by decide) ?_
  refine z_ldc2 (pc := 3) (v := 2000000000) dX5_isSeed_3 q2134 ?_
  refine z_callSi (pc := 6) _ _ (ct_X5_in  _ _ _) mv_X5_in q1578 rfl (Nat.le_of_ble_eq_true rfl) (Nat.le_of_ble_eq_true rfl) rfl rfl (Nat.le_of_ble_eq_true rfl) dX5_isSeed_6 (fun r2 S1 => ?_)
  exact z_zret rfl rfl dX5_isSeed_9 rfl
abbrev mX5_drawn : zMr := ("HiddenCubeModel", cX5_drawn, 1, (some .int), 1, 0, 0, none)
def F_X5_drawn  (S : zSt) : Option (Int32 × zSt) :=
zlet (sL S 0 57 (((1103515245 * (S.2 0 57)) + 12345) - ((1103515245 * (S.2 0 57)) + 12345) / 2147483648 * 2147483648) : zSt) (fun S1 : zSt =>
chk 0 15 (nzL ((S1.1 18 (0 : Int32).toNatClampNeg).toInt64) (some ((((S1.2 0 57) / 65536) - ((S1.2 0 57) / 65536) / ((S1.1 18 (0 : Int32).toNatClampNeg).toInt64) * ((S1.1 18 (0 : Int32).toNatClampNeg).toInt64)).toInt32, S1))))
theorem mv_X5_drawn : ZV mX5_drawn yX5_drawn 0 := ⟨q2141, qs148, q155, q2142, rfl, by decide, by decide, by decide +kernel⟩
theorem ct_X5_drawn {G : zGw} (hG : zGM G)  : Zc mX5_drawn yX5_drawn zJI G [.ref (G.1 0)] (F_X5_drawn) := by
  refine Zc_of [some (.ref (G.1 0))] (by decide) rfl rfl (Nat.le_of_ble_eq_true rfl) rfl (fun X S res => ?_)
  unfold F_X5_drawn
  refine z_aload_n (pc := 0) 0 dX5_drawn_0 rfl rfl ?_
  refine z_ldc2 (pc := 1) (v := 1103515245) dX5_drawn_1 q2143 ?_
  refine z_aload_n (pc := 4) 0 dX5_drawn_4 rfl rfl ?_
  refine gf_X5_M_466_0 hG (pc := 5) dX5_drawn_5 ?_
  refine z_lmul (pc := 8) dX5_drawn_8 ?_
  refine z_ldc2 (pc := 9) (v := 12345) dX5_drawn_9 q2144 ?_
  refine z_ladd (pc := 12) dX5_drawn_12 ?_
  refine z_ldc2 (pc := 13) (v := 2147483648) dX5_drawn_13 q2145 ?_
  refine z_lremc (pc := 16) dX5_drawn_16 (by decide) ?_
  refine pf_X5_M_466_0 hG (pc := 17) dX5_drawn_17 ?_
  refine z_letS (fun S1 => ?_)
  refine z_aload_n (pc := 20) 0 dX5_drawn_20 rfl rfl ?_
  refine gf_X5_M_466_0 hG (pc := 21) dX5_drawn_21 ?_
  refine z_ldc2 (pc := 24) (v := 65536) dX5_drawn_24 q2146 ?_
  refine z_ldivc (pc := 27) dX5_drawn_27 (by decide) ?_
  refine z_aload_n (pc := 28) 0 dX5_drawn_28 rfl rfl ?_
  refine gf_X5_M_34_0 hG (pc := 29) dX5_drawn_29 ?_
  refine z_iconst (pc := 32) (v := 0) dX5_drawn_32 (by decide) ?_
  refine z_chk (fun h2 => ?_)
  refine z_iaload (pc := 33) 18 15 (zGM_s18 hG) h2 dX5_drawn_33 ?_
  refine z_i2l (pc := 34) dX5_drawn_34 ?_
  refine z_lrem (pc := 35) dX5_drawn_35 ?_
  refine z_l2i (pc := 36) dX5_drawn_36 ?_
  exact z_iret rfl dX5_drawn_37 rfl
