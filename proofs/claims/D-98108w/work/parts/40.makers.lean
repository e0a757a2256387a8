/-! MAKERS (written by gen/mkmake.py) -/
set_option maxRecDepth 100000
theorem zq_oi1 : Cond.instanceMethod Lib.objectInit ∈ lw_all := lw_g (lw_at lw_m1 32 rfl) rfl
theorem zq_oi2 : Cond.code Lib.objectInit ⟨#[0xb1]⟩ 1 none ∈ lw_all := lw_g (lw_at lw_m1 33 rfl) rfl
theorem gA_some {G : zGw} {k a : Nat} {w : zCell} : (gA G k a w).2.1 k ≠ none := by rw [gA_sh]; simp
abbrev mX4_init_40 : zMr := ("HiddenCube$Slot", cX4_init, 1, none, 2, 0, 0, none)
def gX4_init_40 (G : zGw) : zGw := G
def F_X4_init_40 (S : zSt) : Option (Unit × zSt) := some ((), S)
theorem mv_X4_init_40 : ZI mX4_init_40 yX4_init 0 := ⟨q286, q154, q287, rfl, rfl, by decide, by decide, by decide +kernel⟩
theorem cg_X4_init_40 {G : zGw} (hcd : zcd G) (hb : G.2.1 40 = some (.inl 4)) : Zg mX4_init_40 yX4_init (fun _ _ => none) G (fun G' => G' = gX4_init_40 G) [.ref (G.1 40)] F_X4_init_40 := by
  refine Zg_of [some (.ref (G.1 40))] (by decide) rfl rfl (Nat.le_of_ble_eq_true rfl) rfl (fun X S res => ?_)
  unfold F_X4_init_40
  refine zz_aload_n (pc := 0) 0 dX4_init_0 rfl rfl ?_
  refine zz_objInit (pc := 1) (kp := 40) q288 zq_oi1 zq_oi2 (Nat.le_of_ble_eq_true rfl) (Nat.le_of_ble_eq_true rfl) dX4_init_1 ?_
  exact zz_gvret (fun _ => rfl) rfl rfl rfl dX4_init_4 rfl
theorem zcd_X4_init_40 {G : zGw} (hcd : zcd G) (hb : G.2.1 40 = some (.inl 4)) : zcd (gX4_init_40 G) := by
  exact hcd
abbrev mX4_init_41 : zMr := ("HiddenCube$Slot", cX4_init, 1, none, 2, 0, 0, none)
def gX4_init_41 (G : zGw) : zGw := G
def F_X4_init_41 (S : zSt) : Option (Unit × zSt) := some ((), S)
theorem mv_X4_init_41 : ZI mX4_init_41 yX4_init 0 := ⟨q286, q154, q287, rfl, rfl, by decide, by decide, by decide +kernel⟩
theorem cg_X4_init_41 {G : zGw} (hcd : zcd G) (hb : G.2.1 41 = some (.inl 4)) : Zg mX4_init_41 yX4_init (fun _ _ => none) G (fun G' => G' = gX4_init_41 G) [.ref (G.1 41)] F_X4_init_41 := by
  refine Zg_of [some (.ref (G.1 41))] (by decide) rfl rfl (Nat.le_of_ble_eq_true rfl) rfl (fun X S res => ?_)
  unfold F_X4_init_41
  refine zz_aload_n (pc := 0) 0 dX4_init_0 rfl rfl ?_
  refine zz_objInit (pc := 1) (kp := 41) q288 zq_oi1 zq_oi2 (Nat.le_of_ble_eq_true rfl) (Nat.le_of_ble_eq_true rfl) dX4_init_1 ?_
  exact zz_gvret (fun _ => rfl) rfl rfl rfl dX4_init_4 rfl
theorem zcd_X4_init_41 {G : zGw} (hcd : zcd G) (hb : G.2.1 41 = some (.inl 4)) : zcd (gX4_init_41 G) := by
  exact hcd
abbrev mX4_init_42 : zMr := ("HiddenCube$Slot", cX4_init, 1, none, 2, 0, 0, none)
def gX4_init_42 (G : zGw) : zGw := G
def F_X4_init_42 (S : zSt) : Option (Unit × zSt) := some ((), S)
theorem mv_X4_init_42 : ZI mX4_init_42 yX4_init 0 := ⟨q286, q154, q287, rfl, rfl, by decide, by decide, by decide +kernel⟩
theorem cg_X4_init_42 {G : zGw} (hcd : zcd G) (hb : G.2.1 42 = some (.inl 4)) : Zg mX4_init_42 yX4_init (fun _ _ => none) G (fun G' => G' = gX4_init_42 G) [.ref (G.1 42)] F_X4_init_42 := by
  refine Zg_of [some (.ref (G.1 42))] (by decide) rfl rfl (Nat.le_of_ble_eq_true rfl) rfl (fun X S res => ?_)
  unfold F_X4_init_42
  refine zz_aload_n (pc := 0) 0 dX4_init_0 rfl rfl ?_
  refine zz_objInit (pc := 1) (kp := 42) q288 zq_oi1 zq_oi2 (Nat.le_of_ble_eq_true rfl) (Nat.le_of_ble_eq_true rfl) dX4_init_1 ?_
  exact zz_gvret (fun _ => rfl) rfl rfl rfl dX4_init_4 rfl
theorem zcd_X4_init_42 {G : zGw} (hcd : zcd G) (hb : G.2.1 42 = some (.inl 4)) : zcd (gX4_init_42 G) := by
  exact hcd
abbrev mX4_init_43 : zMr := ("HiddenCube$Slot", cX4_init, 1, none, 2, 0, 0, none)
def gX4_init_43 (G : zGw) : zGw := G
def F_X4_init_43 (S : zSt) : Option (Unit × zSt) := some ((), S)
theorem mv_X4_init_43 : ZI mX4_init_43 yX4_init 0 := ⟨q286, q154, q287, rfl, rfl, by decide, by decide, by decide +kernel⟩
theorem cg_X4_init_43 {G : zGw} (hcd : zcd G) (hb : G.2.1 43 = some (.inl 4)) : Zg mX4_init_43 yX4_init (fun _ _ => none) G (fun G' => G' = gX4_init_43 G) [.ref (G.1 43)] F_X4_init_43 := by
  refine Zg_of [some (.ref (G.1 43))] (by decide) rfl rfl (Nat.le_of_ble_eq_true rfl) rfl (fun X S res => ?_)
  unfold F_X4_init_43
  refine zz_aload_n (pc := 0) 0 dX4_init_0 rfl rfl ?_
  refine zz_objInit (pc := 1) (kp := 43) q288 zq_oi1 zq_oi2 (Nat.le_of_ble_eq_true rfl) (Nat.le_of_ble_eq_true rfl) dX4_init_1 ?_
  exact zz_gvret (fun _ => rfl) rfl rfl rfl dX4_init_4 rfl
theorem zcd_X4_init_43 {G : zGw} (hcd : zcd G) (hb : G.2.1 43 = some (.inl 4)) : zcd (gX4_init_43 G) := by
  exact hcd
abbrev mX1_init_1 : zMr := ("HiddenCube$Town", cX1_init, 1, none, 3, 6, 95, none)
def gX1_init_1 (G : zGw) (a1 : Nat) (a2 : Nat) (a3 : Nat) (a4 : Nat) (a5 : Nat) (a6 : Nat) : zGw := gR (gA (gR (gA (gR (gA (gR (gA (gR (gA (gR (gA (G) 2 a1 (.inr (40, .byte))) 1 2 (some 2)) 3 a2 (.inr (5, .int))) 1 3 (some 3)) 4 a3 (.inr (6, .int))) 1 4 (some 4)) 5 a4 (.inr (6, .int))) 1 5 (some 5)) 6 a5 (.inr (6, .int))) 1 6 (some 6)) 7 a6 (.inr (32, .int))) 1 7 (some 7)
def F_X1_init_1 (S : zSt) : Option (Unit × zSt) := some ((), sZ (sZ (sZ (sZ (sZ (sZ (S) 2) 3) 4) 5) 6) 7)
theorem mv_X1_init_1 : ZI mX1_init_1 yX1_init 0 := ⟨q186, q151, q187, rfl, rfl, by decide, by decide, by decide +kernel⟩
theorem cg_X1_init_1 {G : zGw} (hcd : zcd G) (hb : G.2.1 1 = some (.inl 1)) (hf2 : G.2.1 2 = none) (hf3 : G.2.1 3 = none) (hf4 : G.2.1 4 = none) (hf5 : G.2.1 5 = none) (hf6 : G.2.1 6 = none) (hf7 : G.2.1 7 = none) : Zg mX1_init_1 yX1_init (fun _ _ => none) G (fun G' => ∃ a1 a2 a3 a4 a5 a6, G' = gX1_init_1 G a1 a2 a3 a4 a5 a6) [.ref (G.1 1)] F_X1_init_1 := by
  refine Zg_of [some (.ref (G.1 1))] (by decide) rfl rfl (Nat.le_of_ble_eq_true rfl) rfl (fun X S res => ?_)
  unfold F_X1_init_1
  refine zz_aload_n (pc := 0) 0 dX1_init_0 rfl rfl ?_
  refine zz_objInit (pc := 1) (kp := 1) q188 zq_oi1 zq_oi2 (Nat.le_of_ble_eq_true rfl) (Nat.le_of_ble_eq_true rfl) dX1_init_1 ?_
  refine zz_aload_n (pc := 4) 0 dX1_init_4 rfl rfl ?_
  refine zz_bipush (pc := 5) (v := (40)) dX1_init_5 (by decide) ?_
  refine zz_newa (pc := 7) (n := 40) (N := 40) (atype := .byte) (1, 40) 2 hcd hf2 rfl q245 (by decide) (by decide) (by decide) rfl rfl dX1_init_7 (fun a1 => ?_)
  have hc1 := zcd_gA (k := 2) (a := a1) (w := .inr (40, newarray.typeOf .byte)) hcd
  refine zz_putR (pc := 9) tyX1 1 1 2 2 hb rfl in_X1 tyX1_ok (fun b hb9 hbj => nmX1 _ (by decide) b hb9 (Ne.symm hbj)) (by decide) q196 (by first | exact Or.inl rfl | exact Or.inr ⟨rfl, rfl, rfl⟩) rfl rfl dX1_init_9 ?_
  have hr7 := zcd_gR (k := 1) (i := 2) (q := some 2) (fun x hx => by cases hx; exact gA_some) hc1
  refine zz_aload_n (pc := 12) 0 dX1_init_12 rfl rfl ?_
  refine zz_iconst (pc := 13) (v := (5)) dX1_init_13 (by decide) ?_
  refine zz_newa (pc := 14) (n := 5) (N := 5) (atype := .int) (2, 45) 3 hr7 hf3 rfl q246 (by decide) (by decide) (by decide) rfl rfl dX1_init_14 (fun a2 => ?_)
  have hc2 := zcd_gA (k := 3) (a := a2) (w := .inr (5, newarray.typeOf .int)) hr7
  refine zz_putR (pc := 16) tyX1 1 1 3 3 hb rfl in_X1 tyX1_ok (fun b hb9 hbj => nmX1 _ (by decide) b hb9 (Ne.symm hbj)) (by decide) q199 (by first | exact Or.inl rfl | exact Or.inr ⟨rfl, rfl, rfl⟩) rfl rfl dX1_init_16 ?_
  have hr13 := zcd_gR (k := 1) (i := 3) (q := some 3) (fun x hx => by cases hx; exact gA_some) hc2
  refine zz_aload_n (pc := 19) 0 dX1_init_19 rfl rfl ?_
  refine zz_bipush (pc := 20) (v := (6)) dX1_init_20 (by decide) ?_
  refine zz_newa (pc := 22) (n := 6) (N := 6) (atype := .int) (3, 51) 4 hr13 hf4 rfl q246 (by decide) (by decide) (by decide) rfl rfl dX1_init_22 (fun a3 => ?_)
  have hc3 := zcd_gA (k := 4) (a := a3) (w := .inr (6, newarray.typeOf .int)) hr13
  refine zz_putR (pc := 24) tyX1 1 1 4 4 hb rfl in_X1 tyX1_ok (fun b hb9 hbj => nmX1 _ (by decide) b hb9 (Ne.symm hbj)) (by decide) q202 (by first | exact Or.inl rfl | exact Or.inr ⟨rfl, rfl, rfl⟩) rfl rfl dX1_init_24 ?_
  have hr19 := zcd_gR (k := 1) (i := 4) (q := some 4) (fun x hx => by cases hx; exact gA_some) hc3
  refine zz_aload_n (pc := 27) 0 dX1_init_27 rfl rfl ?_
  refine zz_bipush (pc := 28) (v := (6)) dX1_init_28 (by decide) ?_
  refine zz_newa (pc := 30) (n := 6) (N := 6) (atype := .int) (4, 57) 5 hr19 hf5 rfl q246 (by decide) (by decide) (by decide) rfl rfl dX1_init_30 (fun a4 => ?_)
  have hc4 := zcd_gA (k := 5) (a := a4) (w := .inr (6, newarray.typeOf .int)) hr19
  refine zz_putR (pc := 32) tyX1 1 1 5 5 hb rfl in_X1 tyX1_ok (fun b hb9 hbj => nmX1 _ (by decide) b hb9 (Ne.symm hbj)) (by decide) q205 (by first | exact Or.inl rfl | exact Or.inr ⟨rfl, rfl, rfl⟩) rfl rfl dX1_init_32 ?_
  have hr25 := zcd_gR (k := 1) (i := 5) (q := some 5) (fun x hx => by cases hx; exact gA_some) hc4
  refine zz_aload_n (pc := 35) 0 dX1_init_35 rfl rfl ?_
  refine zz_bipush (pc := 36) (v := (6)) dX1_init_36 (by decide) ?_
  refine zz_newa (pc := 38) (n := 6) (N := 6) (atype := .int) (5, 63) 6 hr25 hf6 rfl q246 (by decide) (by decide) (by decide) rfl rfl dX1_init_38 (fun a5 => ?_)
  have hc5 := zcd_gA (k := 6) (a := a5) (w := .inr (6, newarray.typeOf .int)) hr25
  refine zz_putR (pc := 40) tyX1 1 1 6 6 hb rfl in_X1 tyX1_ok (fun b hb9 hbj => nmX1 _ (by decide) b hb9 (Ne.symm hbj)) (by decide) q208 (by first | exact Or.inl rfl | exact Or.inr ⟨rfl, rfl, rfl⟩) rfl rfl dX1_init_40 ?_
  have hr31 := zcd_gR (k := 1) (i := 6) (q := some 6) (fun x hx => by cases hx; exact gA_some) hc5
  refine zz_aload_n (pc := 43) 0 dX1_init_43 rfl rfl ?_
  refine zz_bipush (pc := 44) (v := (32)) dX1_init_44 (by decide) ?_
  refine zz_newa (pc := 46) (n := 32) (N := 32) (atype := .int) (6, 95) 7 hr31 hf7 rfl q246 (by decide) (by decide) (by decide) rfl rfl dX1_init_46 (fun a6 => ?_)
  have hc6 := zcd_gA (k := 7) (a := a6) (w := .inr (32, newarray.typeOf .int)) hr31
  refine zz_putR (pc := 48) tyX1 1 1 7 7 hb rfl in_X1 tyX1_ok (fun b hb9 hbj => nmX1 _ (by decide) b hb9 (Ne.symm hbj)) (by decide) q211 (by first | exact Or.inl rfl | exact Or.inr ⟨rfl, rfl, rfl⟩) rfl rfl dX1_init_48 ?_
  have hr37 := zcd_gR (k := 1) (i := 7) (q := some 7) (fun x hx => by cases hx; exact gA_some) hc6
  exact zz_gvret (fun _ => rfl) rfl rfl ⟨a1, a2, a3, a4, a5, a6, rfl⟩ dX1_init_51 rfl
theorem zcd_X1_init_1 {G : zGw} (hcd : zcd G) (hb : G.2.1 1 = some (.inl 1)) (hf2 : G.2.1 2 = none) (hf3 : G.2.1 3 = none) (hf4 : G.2.1 4 = none) (hf5 : G.2.1 5 = none) (hf6 : G.2.1 6 = none) (hf7 : G.2.1 7 = none) (a1 : Nat) (a2 : Nat) (a3 : Nat) (a4 : Nat) (a5 : Nat) (a6 : Nat) : zcd (gX1_init_1 G a1 a2 a3 a4 a5 a6) := by
  have hc1 := zcd_gA (k := 2) (a := a1) (w := .inr (40, newarray.typeOf .byte)) hcd
  have hr7 := zcd_gR (k := 1) (i := 2) (q := some 2) (fun x hx => by cases hx; exact gA_some) hc1
  have hc2 := zcd_gA (k := 3) (a := a2) (w := .inr (5, newarray.typeOf .int)) hr7
  have hr13 := zcd_gR (k := 1) (i := 3) (q := some 3) (fun x hx => by cases hx; exact gA_some) hc2
  have hc3 := zcd_gA (k := 4) (a := a3) (w := .inr (6, newarray.typeOf .int)) hr13
  have hr19 := zcd_gR (k := 1) (i := 4) (q := some 4) (fun x hx => by cases hx; exact gA_some) hc3
  have hc4 := zcd_gA (k := 5) (a := a4) (w := .inr (6, newarray.typeOf .int)) hr19
  have hr25 := zcd_gR (k := 1) (i := 5) (q := some 5) (fun x hx => by cases hx; exact gA_some) hc4
  have hc5 := zcd_gA (k := 6) (a := a5) (w := .inr (6, newarray.typeOf .int)) hr25
  have hr31 := zcd_gR (k := 1) (i := 6) (q := some 6) (fun x hx => by cases hx; exact gA_some) hc5
  have hc6 := zcd_gA (k := 7) (a := a6) (w := .inr (32, newarray.typeOf .int)) hr31
  have hr37 := zcd_gR (k := 1) (i := 7) (q := some 7) (fun x hx => by cases hx; exact gA_some) hc6
  exact hr37
abbrev mX1_init_80 : zMr := ("HiddenCube$Town", cX1_init, 1, none, 3, 6, 95, none)
def gX1_init_80 (G : zGw) (a1 : Nat) (a2 : Nat) (a3 : Nat) (a4 : Nat) (a5 : Nat) (a6 : Nat) : zGw := gR (gA (gR (gA (gR (gA (gR (gA (gR (gA (gR (gA (G) 81 a1 (.inr (40, .byte))) 80 2 (some 81)) 82 a2 (.inr (5, .int))) 80 3 (some 82)) 83 a3 (.inr (6, .int))) 80 4 (some 83)) 84 a4 (.inr (6, .int))) 80 5 (some 84)) 85 a5 (.inr (6, .int))) 80 6 (some 85)) 86 a6 (.inr (32, .int))) 80 7 (some 86)
def F_X1_init_80 (S : zSt) : Option (Unit × zSt) := some ((), sZ (sZ (sZ (sZ (sZ (sZ (S) 81) 82) 83) 84) 85) 86)
theorem mv_X1_init_80 : ZI mX1_init_80 yX1_init 0 := ⟨q186, q151, q187, rfl, rfl, by decide, by decide, by decide +kernel⟩
theorem cg_X1_init_80 {G : zGw} (hcd : zcd G) (hb : G.2.1 80 = some (.inl 1)) (hf81 : G.2.1 81 = none) (hf82 : G.2.1 82 = none) (hf83 : G.2.1 83 = none) (hf84 : G.2.1 84 = none) (hf85 : G.2.1 85 = none) (hf86 : G.2.1 86 = none) : Zg mX1_init_80 yX1_init (fun _ _ => none) G (fun G' => ∃ a1 a2 a3 a4 a5 a6, G' = gX1_init_80 G a1 a2 a3 a4 a5 a6) [.ref (G.1 80)] F_X1_init_80 := by
  refine Zg_of [some (.ref (G.1 80))] (by decide) rfl rfl (Nat.le_of_ble_eq_true rfl) rfl (fun X S res => ?_)
  unfold F_X1_init_80
  refine zz_aload_n (pc := 0) 0 dX1_init_0 rfl rfl ?_
  refine zz_objInit (pc := 1) (kp := 80) q188 zq_oi1 zq_oi2 (Nat.le_of_ble_eq_true rfl) (Nat.le_of_ble_eq_true rfl) dX1_init_1 ?_
  refine zz_aload_n (pc := 4) 0 dX1_init_4 rfl rfl ?_
  refine zz_bipush (pc := 5) (v := (40)) dX1_init_5 (by decide) ?_
  refine zz_newa (pc := 7) (n := 40) (N := 40) (atype := .byte) (1, 40) 81 hcd hf81 rfl q245 (by decide) (by decide) (by decide) rfl rfl dX1_init_7 (fun a1 => ?_)
  have hc1 := zcd_gA (k := 81) (a := a1) (w := .inr (40, newarray.typeOf .byte)) hcd
  refine zz_putR (pc := 9) tyX1 80 1 2 81 hb rfl in_X1 tyX1_ok (fun b hb9 hbj => nmX1 _ (by decide) b hb9 (Ne.symm hbj)) (by decide) q196 (by first | exact Or.inl rfl | exact Or.inr ⟨rfl, rfl, rfl⟩) rfl rfl dX1_init_9 ?_
  have hr7 := zcd_gR (k := 80) (i := 2) (q := some 81) (fun x hx => by cases hx; exact gA_some) hc1
  refine zz_aload_n (pc := 12) 0 dX1_init_12 rfl rfl ?_
  refine zz_iconst (pc := 13) (v := (5)) dX1_init_13 (by decide) ?_
  refine zz_newa (pc := 14) (n := 5) (N := 5) (atype := .int) (2, 45) 82 hr7 hf82 rfl q246 (by decide) (by decide) (by decide) rfl rfl dX1_init_14 (fun a2 => ?_)
  have hc2 := zcd_gA (k := 82) (a := a2) (w := .inr (5, newarray.typeOf .int)) hr7
  refine zz_putR (pc := 16) tyX1 80 1 3 82 hb rfl in_X1 tyX1_ok (fun b hb9 hbj => nmX1 _ (by decide) b hb9 (Ne.symm hbj)) (by decide) q199 (by first | exact Or.inl rfl | exact Or.inr ⟨rfl, rfl, rfl⟩) rfl rfl dX1_init_16 ?_
  have hr13 := zcd_gR (k := 80) (i := 3) (q := some 82) (fun x hx => by cases hx; exact gA_some) hc2
  refine zz_aload_n (pc := 19) 0 dX1_init_19 rfl rfl ?_
  refine zz_bipush (pc := 20) (v := (6)) dX1_init_20 (by decide) ?_
  refine zz_newa (pc := 22) (n := 6) (N := 6) (atype := .int) (3, 51) 83 hr13 hf83 rfl q246 (by decide) (by decide) (by decide) rfl rfl dX1_init_22 (fun a3 => ?_)
  have hc3 := zcd_gA (k := 83) (a := a3) (w := .inr (6, newarray.typeOf .int)) hr13
  refine zz_putR (pc := 24) tyX1 80 1 4 83 hb rfl in_X1 tyX1_ok (fun b hb9 hbj => nmX1 _ (by decide) b hb9 (Ne.symm hbj)) (by decide) q202 (by first | exact Or.inl rfl | exact Or.inr ⟨rfl, rfl, rfl⟩) rfl rfl dX1_init_24 ?_
  have hr19 := zcd_gR (k := 80) (i := 4) (q := some 83) (fun x hx => by cases hx; exact gA_some) hc3
  refine zz_aload_n (pc := 27) 0 dX1_init_27 rfl rfl ?_
  refine zz_bipush (pc := 28) (v := (6)) dX1_init_28 (by decide) ?_
  refine zz_newa (pc := 30) (n := 6) (N := 6) (atype := .int) (4, 57) 84 hr19 hf84 rfl q246 (by decide) (by decide) (by decide) rfl rfl dX1_init_30 (fun a4 => ?_)
  have hc4 := zcd_gA (k := 84) (a := a4) (w := .inr (6, newarray.typeOf .int)) hr19
  refine zz_putR (pc := 32) tyX1 80 1 5 84 hb rfl in_X1 tyX1_ok (fun b hb9 hbj => nmX1 _ (by decide) b hb9 (Ne.symm hbj)) (by decide) q205 (by first | exact Or.inl rfl | exact Or.inr ⟨rfl, rfl, rfl⟩) rfl rfl dX1_init_32 ?_
  have hr25 := zcd_gR (k := 80) (i := 5) (q := some 84) (fun x hx => by cases hx; exact gA_some) hc4
  refine zz_aload_n (pc := 35) 0 dX1_init_35 rfl rfl ?_
  refine zz_bipush (pc := 36) (v := (6)) dX1_init_36 (by decide) ?_
  refine zz_newa (pc := 38) (n := 6) (N := 6) (atype := .int) (5, 63) 85 hr25 hf85 rfl q246 (by decide) (by decide) (by decide) rfl rfl dX1_init_38 (fun a5 => ?_)
  have hc5 := zcd_gA (k := 85) (a := a5) (w := .inr (6, newarray.typeOf .int)) hr25
  refine zz_putR (pc := 40) tyX1 80 1 6 85 hb rfl in_X1 tyX1_ok (fun b hb9 hbj => nmX1 _ (by decide) b hb9 (Ne.symm hbj)) (by decide) q208 (by first | exact Or.inl rfl | exact Or.inr ⟨rfl, rfl, rfl⟩) rfl rfl dX1_init_40 ?_
  have hr31 := zcd_gR (k := 80) (i := 6) (q := some 85) (fun x hx => by cases hx; exact gA_some) hc5
  refine zz_aload_n (pc := 43) 0 dX1_init_43 rfl rfl ?_
  refine zz_bipush (pc := 44) (v := (32)) dX1_init_44 (by decide) ?_
  refine zz_newa (pc := 46) (n := 32) (N := 32) (atype := .int) (6, 95) 86 hr31 hf86 rfl q246 (by decide) (by decide) (by decide) rfl rfl dX1_init_46 (fun a6 => ?_)
  have hc6 := zcd_gA (k := 86) (a := a6) (w := .inr (32, newarray.typeOf .int)) hr31
  refine zz_putR (pc := 48) tyX1 80 1 7 86 hb rfl in_X1 tyX1_ok (fun b hb9 hbj => nmX1 _ (by decide) b hb9 (Ne.symm hbj)) (by decide) q211 (by first | exact Or.inl rfl | exact Or.inr ⟨rfl, rfl, rfl⟩) rfl rfl dX1_init_48 ?_
  have hr37 := zcd_gR (k := 80) (i := 7) (q := some 86) (fun x hx => by cases hx; exact gA_some) hc6
  exact zz_gvret (fun _ => rfl) rfl rfl ⟨a1, a2, a3, a4, a5, a6, rfl⟩ dX1_init_51 rfl
theorem zcd_X1_init_80 {G : zGw} (hcd : zcd G) (hb : G.2.1 80 = some (.inl 1)) (hf81 : G.2.1 81 = none) (hf82 : G.2.1 82 = none) (hf83 : G.2.1 83 = none) (hf84 : G.2.1 84 = none) (hf85 : G.2.1 85 = none) (hf86 : G.2.1 86 = none) (a1 : Nat) (a2 : Nat) (a3 : Nat) (a4 : Nat) (a5 : Nat) (a6 : Nat) : zcd (gX1_init_80 G a1 a2 a3 a4 a5 a6) := by
  have hc1 := zcd_gA (k := 81) (a := a1) (w := .inr (40, newarray.typeOf .byte)) hcd
  have hr7 := zcd_gR (k := 80) (i := 2) (q := some 81) (fun x hx => by cases hx; exact gA_some) hc1
  have hc2 := zcd_gA (k := 82) (a := a2) (w := .inr (5, newarray.typeOf .int)) hr7
  have hr13 := zcd_gR (k := 80) (i := 3) (q := some 82) (fun x hx => by cases hx; exact gA_some) hc2
  have hc3 := zcd_gA (k := 83) (a := a3) (w := .inr (6, newarray.typeOf .int)) hr13
  have hr19 := zcd_gR (k := 80) (i := 4) (q := some 83) (fun x hx => by cases hx; exact gA_some) hc3
  have hc4 := zcd_gA (k := 84) (a := a4) (w := .inr (6, newarray.typeOf .int)) hr19
  have hr25 := zcd_gR (k := 80) (i := 5) (q := some 84) (fun x hx => by cases hx; exact gA_some) hc4
  have hc5 := zcd_gA (k := 85) (a := a5) (w := .inr (6, newarray.typeOf .int)) hr25
  have hr31 := zcd_gR (k := 80) (i := 6) (q := some 85) (fun x hx => by cases hx; exact gA_some) hc5
  have hc6 := zcd_gA (k := 86) (a := a6) (w := .inr (32, newarray.typeOf .int)) hr31
  have hr37 := zcd_gR (k := 80) (i := 7) (q := some 86) (fun x hx => by cases hx; exact gA_some) hc6
  exact hr37
abbrev mX2_init_8 : zMr := ("HiddenCube$Walk", cX2_init, 2, none, 3, 1, 32, none)
def gX2_init_8 (G : zGw) (a1 : Nat) : zGw := gR (gA (gR (G) 8 1 (some 0)) 9 a1 (.inr (32, .int))) 8 0 (some 9)
def F_X2_init_8 (S : zSt) : Option (Unit × zSt) := some ((), sZ (S) 9)
theorem mv_X2_init_8 : ZI mX2_init_8 yX2_init 1 := ⟨q250, q152, q251, rfl, rfl, by decide, by decide, by decide +kernel⟩
theorem cg_X2_init_8 {G : zGw} (hcd : zcd G) (hb : G.2.1 8 = some (.inl 2)) (hp0 : G.2.1 0 ≠ none) (hf9 : G.2.1 9 = none) : Zg mX2_init_8 yX2_init (fun _ _ => none) G (fun G' => ∃ a1, G' = gX2_init_8 G a1) [.ref (G.1 8), .ref (G.1 0)] F_X2_init_8 := by
  refine Zg_of [some (.ref (G.1 8)), some (.ref (G.1 0))] (by decide) rfl rfl (Nat.le_of_ble_eq_true rfl) rfl (fun X S res => ?_)
  unfold F_X2_init_8
  refine zz_aload_n (pc := 0) 0 dX2_init_0 rfl rfl ?_
  refine zz_aload_n (pc := 1) 1 dX2_init_1 rfl rfl ?_
  refine zz_putR (pc := 2) tyX2 8 2 1 0 hb rfl in_X2 tyX2_ok (fun b hb9 hbj => nmX2 _ (by decide) b hb9 (Ne.symm hbj)) (by decide) q255 (by first | exact Or.inl rfl | exact Or.inr ⟨rfl, rfl, rfl⟩) rfl rfl dX2_init_2 ?_
  have hr3 := zcd_gR (k := 8) (i := 1) (q := some 0) (fun x hx => by cases hx; exact hp0) hcd
  refine zz_aload_n (pc := 5) 0 dX2_init_5 rfl rfl ?_
  refine zz_objInit (pc := 6) (kp := 8) q252 zq_oi1 zq_oi2 (Nat.le_of_ble_eq_true rfl) (Nat.le_of_ble_eq_true rfl) dX2_init_6 ?_
  refine zz_aload_n (pc := 9) 0 dX2_init_9 rfl rfl ?_
  refine zz_bipush (pc := 10) (v := (32)) dX2_init_10 (by decide) ?_
  refine zz_newa (pc := 12) (n := 32) (N := 32) (atype := .int) (1, 32) 9 hr3 hf9 rfl q246 (by decide) (by decide) (by decide) rfl rfl dX2_init_12 (fun a1 => ?_)
  have hc1 := zcd_gA (k := 9) (a := a1) (w := .inr (32, newarray.typeOf .int)) hr3
  refine zz_putR (pc := 14) tyX2 8 2 0 9 hb rfl in_X2 tyX2_ok (fun b hb9 hbj => nmX2 _ (by decide) b hb9 (Ne.symm hbj)) (by decide) q253 (by first | exact Or.inl rfl | exact Or.inr ⟨rfl, rfl, rfl⟩) rfl rfl dX2_init_14 ?_
  have hr11 := zcd_gR (k := 8) (i := 0) (q := some 9) (fun x hx => by cases hx; exact gA_some) hc1
  exact zz_gvret (fun _ => rfl) rfl rfl ⟨a1, rfl⟩ dX2_init_17 rfl
theorem zcd_X2_init_8 {G : zGw} (hcd : zcd G) (hb : G.2.1 8 = some (.inl 2)) (hp0 : G.2.1 0 ≠ none) (hf9 : G.2.1 9 = none) (a1 : Nat) : zcd (gX2_init_8 G a1) := by
  have hr3 := zcd_gR (k := 8) (i := 1) (q := some 0) (fun x hx => by cases hx; exact hp0) hcd
  have hc1 := zcd_gA (k := 9) (a := a1) (w := .inr (32, newarray.typeOf .int)) hr3
  have hr11 := zcd_gR (k := 8) (i := 0) (q := some 9) (fun x hx => by cases hx; exact gA_some) hc1
  exact hr11
abbrev mX5_init_0 : zMr := ("HiddenCubeModel", cX5_init, 2, none, 3, 38, 31400, none)
def gX5_init_0 (G : zGw) (a1 : Nat) (a2 : Nat) (a3 : Nat) (a4 : Nat) (a5 : Nat) (a6 : Nat) (a7 : Nat) (a8 : Nat) (a9 : Nat) (a10 : Nat) (a11 : Nat) (a12 : Nat) (a13 : Nat) (a14 : Nat) (a15 : Nat) (a16 : Nat) (a17 : Nat) (a18 : Nat) (a19 : Nat) (a20 : Nat) (a21 : Nat) (a22 : Nat) (a23 : Nat) (a24 : Nat) (a25 : Nat) (a26 : Nat) (a27 : Nat) (a28 : Nat) (a29 : Nat) (a30 : Nat) (a31 : Nat) (a32 : Nat) (a33 : Nat) (a34 : Nat) (a35 : Nat) (a36 : Nat) (a37 : Nat) (a38 : Nat) : zGw := gR (gA (gR (gA (gR (gA (gR (gA (gR (gA (gR (gA (gR (gA (gR (gA (gR (gA (gR (gA (gR (gA (gR (gA (gR (gA (gR (gA (gR (gA (gR (gA (gR (gA (gR (gA (gR (gA (gR (gA (gR (gA (gR (gA (gR (gA (gR (gA (gR (gA (gR (gA (gR (gA (gR (gA (gR (gA (gR (gA (gR (gA (gR (gA (gR (gA (gR (gA (gR (gA (gR (gA (gR (gA (gR (gA (G) 2 a1 (.inr (4, .int))) 0 1 (some 2)) 3 a2 (.inr (4, .int))) 0 2 (some 3)) 4 a3 (.inr (240, .long))) 0 3 (some 4)) 5 a4 (.inr (60, .long))) 0 4 (some 5)) 6 a5 (.inr (1400, .byte))) 0 5 (some 6)) 17 a6 (.inr (5, .int))) 0 16 (some 17)) 18 a7 (.inr (15, .int))) 0 17 (some 18)) 19 a8 (.inr (25, .long))) 0 18 (some 19)) 20 a9 (.inr (25, .int))) 0 19 (some 20)) 21 a10 (.inr (200, .int))) 0 20 (some 21)) 22 a11 (.inr (160, .int))) 0 21 (some 22)) 23 a12 (.inr (5, .int))) 0 22 (some 23)) 24 a13 (.inr (30, .int))) 0 23 (some 24)) 25 a14 (.inr (60, .int))) 0 24 (some 25)) 26 a15 (.inr (3, .boolean))) 0 25 (some 26)) 27 a16 (.inr (32, .int))) 0 26 (some 27)) 28 a17 (.inr (32, .int))) 0 27 (some 28)) 29 a18 (.inr (4096, .int))) 0 28 (some 29)) 30 a19 (.inr (64, .int))) 0 29 (some 30)) 31 a20 (.inr (64, .int))) 0 30 (some 31)) 32 a21 (.inr (32, .int))) 0 31 (some 32)) 33 a22 (.inr (19200, .int))) 0 32 (some 33)) 34 a23 (.inr (3840, .int))) 0 33 (some 34)) 36 a24 (.inr (5, .int))) 0 35 (some 36)) 37 a25 (.inr (80, .int))) 0 36 (some 37)) 38 a26 (.inr (1400, .int))) 0 37 (some 38)) 40 a27 (.inr (17, .int))) 0 39 (some 40)) 41 a28 (.inr (16, .int))) 0 40 (some 41)) 42 a29 (.inr (32, .int))) 0 41 (some 42)) 43 a30 (.inr (32, .int))) 0 42 (some 43)) 47 a31 (.inr (32, .int))) 0 46 (some 47)) 48 a32 (.inr (80, .int))) 0 47 (some 48)) 49 a33 (.inr (80, .int))) 0 48 (some 49)) 50 a34 (.inr (6, .int))) 0 49 (some 50)) 51 a35 (.inr (6, .int))) 0 50 (some 51)) 53 a36 (.inr (6, .int))) 0 52 (some 53)) 54 a37 (.inr (6, .int))) 0 53 (some 54)) 55 a38 (.inr (6, .int))) 0 54 (some 55)
def F_X5_init_0 (S : zSt) : Option (Unit × zSt) := some ((), sI (sI (sI (sI (sZ (sZ (sZ (sZ (sZ (sZ (sZ (sZ (sZ (sZ (sZ (sZ (sZ (sZ (sZ (sZ (sZ (sZ (sZ (sZ (sZ (sZ (sZ (sZ (sZ (sZ (sZ (sZ (sZ (sZ (sZ (sZ (sZ (sI (sZ (sZ (sZ (sZ (sZ (S) 2) 3) 4) 5) 6) 0 15 (-1)) 17) 18) 19) 20) 21) 22) 23) 24) 25) 26) 27) 28) 29) 30) 31) 32) 33) 34) 36) 37) 38) 40) 41) 42) 43) 47) 48) 49) 50) 51) 53) 54) 55) 2 0 (-1)) 2 1 (-1)) 2 2 (-1)) 2 3 (-1))
theorem mv_X5_init_0 : ZI mX5_init_0 yX5_init 0 := ⟨q1392, q155, q1393, rfl, rfl, by decide, by decide, by decide +kernel⟩
theorem cg_X5_init_0 {G : zGw} (hcd : zcd G) (hb : G.2.1 0 = some (.inl 5)) (hf2 : G.2.1 2 = none) (hf3 : G.2.1 3 = none) (hf4 : G.2.1 4 = none) (hf5 : G.2.1 5 = none) (hf6 : G.2.1 6 = none) (hf17 : G.2.1 17 = none) (hf18 : G.2.1 18 = none) (hf19 : G.2.1 19 = none) (hf20 : G.2.1 20 = none) (hf21 : G.2.1 21 = none) (hf22 : G.2.1 22 = none) (hf23 : G.2.1 23 = none) (hf24 : G.2.1 24 = none) (hf25 : G.2.1 25 = none) (hf26 : G.2.1 26 = none) (hf27 : G.2.1 27 = none) (hf28 : G.2.1 28 = none) (hf29 : G.2.1 29 = none) (hf30 : G.2.1 30 = none) (hf31 : G.2.1 31 = none) (hf32 : G.2.1 32 = none) (hf33 : G.2.1 33 = none) (hf34 : G.2.1 34 = none) (hf36 : G.2.1 36 = none) (hf37 : G.2.1 37 = none) (hf38 : G.2.1 38 = none) (hf40 : G.2.1 40 = none) (hf41 : G.2.1 41 = none) (hf42 : G.2.1 42 = none) (hf43 : G.2.1 43 = none) (hf47 : G.2.1 47 = none) (hf48 : G.2.1 48 = none) (hf49 : G.2.1 49 = none) (hf50 : G.2.1 50 = none) (hf51 : G.2.1 51 = none) (hf53 : G.2.1 53 = none) (hf54 : G.2.1 54 = none) (hf55 : G.2.1 55 = none) : Zg mX5_init_0 yX5_init (fun _ _ => none) G (fun G' => ∃ a1 a2 a3 a4 a5 a6 a7 a8 a9 a10 a11 a12 a13 a14 a15 a16 a17 a18 a19 a20 a21 a22 a23 a24 a25 a26 a27 a28 a29 a30 a31 a32 a33 a34 a35 a36 a37 a38, G' = gX5_init_0 G a1 a2 a3 a4 a5 a6 a7 a8 a9 a10 a11 a12 a13 a14 a15 a16 a17 a18 a19 a20 a21 a22 a23 a24 a25 a26 a27 a28 a29 a30 a31 a32 a33 a34 a35 a36 a37 a38) [.ref (G.1 0)] F_X5_init_0 := by
  refine Zg_of [some (.ref (G.1 0)), none] (by decide) rfl rfl (Nat.le_of_ble_eq_true rfl) rfl (fun X S res => ?_)
  unfold F_X5_init_0
  refine zz_aload_n (pc := 0) 0 dX5_init_0 rfl rfl ?_
  refine zz_objInit (pc := 1) (kp := 0) q1394 zq_oi1 zq_oi2 (Nat.le_of_ble_eq_true rfl) (Nat.le_of_ble_eq_true rfl) dX5_init_1 ?_
  refine zz_aload_n (pc := 4) 0 dX5_init_4 rfl rfl ?_
  refine zz_iconst (pc := 5) (v := (4)) dX5_init_5 (by decide) ?_
  refine zz_newa (pc := 6) (n := 4) (N := 4) (atype := .int) (1, 4) 2 hcd hf2 rfl q246 (by decide) (by decide) (by decide) rfl rfl dX5_init_6 (fun a1 => ?_)
  have hc1 := zcd_gA (k := 2) (a := a1) (w := .inr (4, newarray.typeOf .int)) hcd
  refine zz_putR (pc := 8) tyX5 0 5 1 2 hb rfl in_X5 tyX5_ok (fun b hb9 hbj => nmX5 _ (by decide) b hb9 (Ne.symm hbj)) (by decide) q1396 (by first | exact Or.inl rfl | exact Or.inr ⟨rfl, rfl, rfl⟩) rfl rfl dX5_init_8 ?_
  have hr7 := zcd_gR (k := 0) (i := 1) (q := some 2) (fun x hx => by cases hx; exact gA_some) hc1
  refine zz_aload_n (pc := 11) 0 dX5_init_11 rfl rfl ?_
  refine zz_iconst (pc := 12) (v := (4)) dX5_init_12 (by decide) ?_
  refine zz_newa (pc := 13) (n := 4) (N := 4) (atype := .int) (2, 8) 3 hr7 hf3 rfl q246 (by decide) (by decide) (by decide) rfl rfl dX5_init_13 (fun a2 => ?_)
  have hc2 := zcd_gA (k := 3) (a := a2) (w := .inr (4, newarray.typeOf .int)) hr7
  refine zz_putR (pc := 15) tyX5 0 5 2 3 hb rfl in_X5 tyX5_ok (fun b hb9 hbj => nmX5 _ (by decide) b hb9 (Ne.symm hbj)) (by decide) q1397 (by first | exact Or.inl rfl | exact Or.inr ⟨rfl, rfl, rfl⟩) rfl rfl dX5_init_15 ?_
  have hr13 := zcd_gR (k := 0) (i := 2) (q := some 3) (fun x hx => by cases hx; exact gA_some) hc2
  refine zz_aload_n (pc := 18) 0 dX5_init_18 rfl rfl ?_
  refine zz_sipush (pc := 19) (v := (240)) dX5_init_19 (by decide) ?_
  refine zz_newa (pc := 22) (n := 240) (N := 240) (atype := .long) (3, 248) 4 hr13 hf4 rfl q1342 (by decide) (by decide) (by decide) rfl rfl dX5_init_22 (fun a3 => ?_)
  have hc3 := zcd_gA (k := 4) (a := a3) (w := .inr (240, newarray.typeOf .long)) hr13
  refine zz_putR (pc := 24) tyX5 0 5 3 4 hb rfl in_X5 tyX5_ok (fun b hb9 hbj => nmX5 _ (by decide) b hb9 (Ne.symm hbj)) (by decide) q1398 (by first | exact Or.inl rfl | exact Or.inr ⟨rfl, rfl, rfl⟩) rfl rfl dX5_init_24 ?_
  have hr19 := zcd_gR (k := 0) (i := 3) (q := some 4) (fun x hx => by cases hx; exact gA_some) hc3
  refine zz_aload_n (pc := 27) 0 dX5_init_27 rfl rfl ?_
  refine zz_bipush (pc := 28) (v := (60)) dX5_init_28 (by decide) ?_
  refine zz_newa (pc := 30) (n := 60) (N := 60) (atype := .long) (4, 308) 5 hr19 hf5 rfl q1342 (by decide) (by decide) (by decide) rfl rfl dX5_init_30 (fun a4 => ?_)
  have hc4 := zcd_gA (k := 5) (a := a4) (w := .inr (60, newarray.typeOf .long)) hr19
  refine zz_putR (pc := 32) tyX5 0 5 4 5 hb rfl in_X5 tyX5_ok (fun b hb9 hbj => nmX5 _ (by decide) b hb9 (Ne.symm hbj)) (by decide) q1399 (by first | exact Or.inl rfl | exact Or.inr ⟨rfl, rfl, rfl⟩) rfl rfl dX5_init_32 ?_
  have hr25 := zcd_gR (k := 0) (i := 4) (q := some 5) (fun x hx => by cases hx; exact gA_some) hc4
  refine zz_aload_n (pc := 35) 0 dX5_init_35 rfl rfl ?_
  refine zz_sipush (pc := 36) (v := (1400)) dX5_init_36 (by decide) ?_
  refine zz_newa (pc := 39) (n := 1400) (N := 1400) (atype := .byte) (5, 1708) 6 hr25 hf6 rfl q245 (by decide) (by decide) (by decide) rfl rfl dX5_init_39 (fun a5 => ?_)
  have hc5 := zcd_gA (k := 6) (a := a5) (w := .inr (1400, newarray.typeOf .byte)) hr25
  refine zz_putR (pc := 41) tyX5 0 5 5 6 hb rfl in_X5 tyX5_ok (fun b hb9 hbj => nmX5 _ (by decide) b hb9 (Ne.symm hbj)) (by decide) q1400 (by first | exact Or.inl rfl | exact Or.inr ⟨rfl, rfl, rfl⟩) rfl rfl dX5_init_41 ?_
  have hr31 := zcd_gR (k := 0) (i := 5) (q := some 6) (fun x hx => by cases hx; exact gA_some) hc5
  refine zz_aload_n (pc := 44) 0 dX5_init_44 rfl rfl ?_
  refine zz_iconst (pc := 45) (v := (-1)) dX5_init_45 (by decide) ?_
  refine zz_putI (pc := 46) (x := (-1)) tyX5 0 5 15 hb rfl in_X5 tyX5_ok (fun b hb9 hbj => nmX5 _ (by decide) b hb9 (Ne.symm hbj)) (by decide) q1410 rfl rfl rfl dX5_init_46 ?_
  refine zz_aload_n (pc := 49) 0 dX5_init_49 rfl rfl ?_
  refine zz_iconst (pc := 50) (v := (5)) dX5_init_50 (by decide) ?_
  refine zz_newa (pc := 51) (n := 5) (N := 5) (atype := .int) (6, 1713) 17 hr31 hf17 rfl q246 (by decide) (by decide) (by decide) rfl rfl dX5_init_51 (fun a6 => ?_)
  have hc6 := zcd_gA (k := 17) (a := a6) (w := .inr (5, newarray.typeOf .int)) hr31
  refine zz_putR (pc := 53) tyX5 0 5 16 17 hb rfl in_X5 tyX5_ok (fun b hb9 hbj => nmX5 _ (by decide) b hb9 (Ne.symm hbj)) (by decide) q1411 (by first | exact Or.inl rfl | exact Or.inr ⟨rfl, rfl, rfl⟩) rfl rfl dX5_init_53 ?_
  have hr40 := zcd_gR (k := 0) (i := 16) (q := some 17) (fun x hx => by cases hx; exact gA_some) hc6
  refine zz_aload_n (pc := 56) 0 dX5_init_56 rfl rfl ?_
  refine zz_bipush (pc := 57) (v := (15)) dX5_init_57 (by decide) ?_
  refine zz_newa (pc := 59) (n := 15) (N := 15) (atype := .int) (7, 1728) 18 hr40 hf18 rfl q246 (by decide) (by decide) (by decide) rfl rfl dX5_init_59 (fun a7 => ?_)
  have hc7 := zcd_gA (k := 18) (a := a7) (w := .inr (15, newarray.typeOf .int)) hr40
  refine zz_putR (pc := 61) tyX5 0 5 17 18 hb rfl in_X5 tyX5_ok (fun b hb9 hbj => nmX5 _ (by decide) b hb9 (Ne.symm hbj)) (by decide) q1412 (by first | exact Or.inl rfl | exact Or.inr ⟨rfl, rfl, rfl⟩) rfl rfl dX5_init_61 ?_
  have hr46 := zcd_gR (k := 0) (i := 17) (q := some 18) (fun x hx => by cases hx; exact gA_some) hc7
  refine zz_aload_n (pc := 64) 0 dX5_init_64 rfl rfl ?_
  refine zz_bipush (pc := 65) (v := (25)) dX5_init_65 (by decide) ?_
  refine zz_newa (pc := 67) (n := 25) (N := 25) (atype := .long) (8, 1753) 19 hr46 hf19 rfl q1342 (by decide) (by decide) (by decide) rfl rfl dX5_init_67 (fun a8 => ?_)
  have hc8 := zcd_gA (k := 19) (a := a8) (w := .inr (25, newarray.typeOf .long)) hr46
  refine zz_putR (pc := 69) tyX5 0 5 18 19 hb rfl in_X5 tyX5_ok (fun b hb9 hbj => nmX5 _ (by decide) b hb9 (Ne.symm hbj)) (by decide) q1413 (by first | exact Or.inl rfl | exact Or.inr ⟨rfl, rfl, rfl⟩) rfl rfl dX5_init_69 ?_
  have hr52 := zcd_gR (k := 0) (i := 18) (q := some 19) (fun x hx => by cases hx; exact gA_some) hc8
  refine zz_aload_n (pc := 72) 0 dX5_init_72 rfl rfl ?_
  refine zz_bipush (pc := 73) (v := (25)) dX5_init_73 (by decide) ?_
  refine zz_newa (pc := 75) (n := 25) (N := 25) (atype := .int) (9, 1778) 20 hr52 hf20 rfl q246 (by decide) (by decide) (by decide) rfl rfl dX5_init_75 (fun a9 => ?_)
  have hc9 := zcd_gA (k := 20) (a := a9) (w := .inr (25, newarray.typeOf .int)) hr52
  refine zz_putR (pc := 77) tyX5 0 5 19 20 hb rfl in_X5 tyX5_ok (fun b hb9 hbj => nmX5 _ (by decide) b hb9 (Ne.symm hbj)) (by decide) q1414 (by first | exact Or.inl rfl | exact Or.inr ⟨rfl, rfl, rfl⟩) rfl rfl dX5_init_77 ?_
  have hr58 := zcd_gR (k := 0) (i := 19) (q := some 20) (fun x hx => by cases hx; exact gA_some) hc9
  refine zz_aload_n (pc := 80) 0 dX5_init_80 rfl rfl ?_
  refine zz_sipush (pc := 81) (v := (200)) dX5_init_81 (by decide) ?_
  refine zz_newa (pc := 84) (n := 200) (N := 200) (atype := .int) (10, 1978) 21 hr58 hf21 rfl q246 (by decide) (by decide) (by decide) rfl rfl dX5_init_84 (fun a10 => ?_)
  have hc10 := zcd_gA (k := 21) (a := a10) (w := .inr (200, newarray.typeOf .int)) hr58
  refine zz_putR (pc := 86) tyX5 0 5 20 21 hb rfl in_X5 tyX5_ok (fun b hb9 hbj => nmX5 _ (by decide) b hb9 (Ne.symm hbj)) (by decide) q1415 (by first | exact Or.inl rfl | exact Or.inr ⟨rfl, rfl, rfl⟩) rfl rfl dX5_init_86 ?_
  have hr64 := zcd_gR (k := 0) (i := 20) (q := some 21) (fun x hx => by cases hx; exact gA_some) hc10
  refine zz_aload_n (pc := 89) 0 dX5_init_89 rfl rfl ?_
  refine zz_sipush (pc := 90) (v := (160)) dX5_init_90 (by decide) ?_
  refine zz_newa (pc := 93) (n := 160) (N := 160) (atype := .int) (11, 2138) 22 hr64 hf22 rfl q246 (by decide) (by decide) (by decide) rfl rfl dX5_init_93 (fun a11 => ?_)
  have hc11 := zcd_gA (k := 22) (a := a11) (w := .inr (160, newarray.typeOf .int)) hr64
  refine zz_putR (pc := 95) tyX5 0 5 21 22 hb rfl in_X5 tyX5_ok (fun b hb9 hbj => nmX5 _ (by decide) b hb9 (Ne.symm hbj)) (by decide) q1416 (by first | exact Or.inl rfl | exact Or.inr ⟨rfl, rfl, rfl⟩) rfl rfl dX5_init_95 ?_
  have hr70 := zcd_gR (k := 0) (i := 21) (q := some 22) (fun x hx => by cases hx; exact gA_some) hc11
  refine zz_aload_n (pc := 98) 0 dX5_init_98 rfl rfl ?_
  refine zz_iconst (pc := 99) (v := (5)) dX5_init_99 (by decide) ?_
  refine zz_newa (pc := 100) (n := 5) (N := 5) (atype := .int) (12, 2143) 23 hr70 hf23 rfl q246 (by decide) (by decide) (by decide) rfl rfl dX5_init_100 (fun a12 => ?_)
  have hc12 := zcd_gA (k := 23) (a := a12) (w := .inr (5, newarray.typeOf .int)) hr70
  refine zz_putR (pc := 102) tyX5 0 5 22 23 hb rfl in_X5 tyX5_ok (fun b hb9 hbj => nmX5 _ (by decide) b hb9 (Ne.symm hbj)) (by decide) q1417 (by first | exact Or.inl rfl | exact Or.inr ⟨rfl, rfl, rfl⟩) rfl rfl dX5_init_102 ?_
  have hr76 := zcd_gR (k := 0) (i := 22) (q := some 23) (fun x hx => by cases hx; exact gA_some) hc12
  refine zz_aload_n (pc := 105) 0 dX5_init_105 rfl rfl ?_
  refine zz_bipush (pc := 106) (v := (30)) dX5_init_106 (by decide) ?_
  refine zz_newa (pc := 108) (n := 30) (N := 30) (atype := .int) (13, 2173) 24 hr76 hf24 rfl q246 (by decide) (by decide) (by decide) rfl rfl dX5_init_108 (fun a13 => ?_)
  have hc13 := zcd_gA (k := 24) (a := a13) (w := .inr (30, newarray.typeOf .int)) hr76
  refine zz_putR (pc := 110) tyX5 0 5 23 24 hb rfl in_X5 tyX5_ok (fun b hb9 hbj => nmX5 _ (by decide) b hb9 (Ne.symm hbj)) (by decide) q1418 (by first | exact Or.inl rfl | exact Or.inr ⟨rfl, rfl, rfl⟩) rfl rfl dX5_init_110 ?_
  have hr82 := zcd_gR (k := 0) (i := 23) (q := some 24) (fun x hx => by cases hx; exact gA_some) hc13
  refine zz_aload_n (pc := 113) 0 dX5_init_113 rfl rfl ?_
  refine zz_bipush (pc := 114) (v := (60)) dX5_init_114 (by decide) ?_
  refine zz_newa (pc := 116) (n := 60) (N := 60) (atype := .int) (14, 2233) 25 hr82 hf25 rfl q246 (by decide) (by decide) (by decide) rfl rfl dX5_init_116 (fun a14 => ?_)
  have hc14 := zcd_gA (k := 25) (a := a14) (w := .inr (60, newarray.typeOf .int)) hr82
  refine zz_putR (pc := 118) tyX5 0 5 24 25 hb rfl in_X5 tyX5_ok (fun b hb9 hbj => nmX5 _ (by decide) b hb9 (Ne.symm hbj)) (by decide) q1419 (by first | exact Or.inl rfl | exact Or.inr ⟨rfl, rfl, rfl⟩) rfl rfl dX5_init_118 ?_
  have hr88 := zcd_gR (k := 0) (i := 24) (q := some 25) (fun x hx => by cases hx; exact gA_some) hc14
  refine zz_aload_n (pc := 121) 0 dX5_init_121 rfl rfl ?_
  refine zz_iconst (pc := 122) (v := (3)) dX5_init_122 (by decide) ?_
  refine zz_newa (pc := 123) (n := 3) (N := 3) (atype := .boolean) (15, 2236) 26 hr88 hf26 rfl q294 (by decide) (by decide) (by decide) rfl rfl dX5_init_123 (fun a15 => ?_)
  have hc15 := zcd_gA (k := 26) (a := a15) (w := .inr (3, newarray.typeOf .boolean)) hr88
  refine zz_putR (pc := 125) tyX5 0 5 25 26 hb rfl in_X5 tyX5_ok (fun b hb9 hbj => nmX5 _ (by decide) b hb9 (Ne.symm hbj)) (by decide) q1420 (by first | exact Or.inl rfl | exact Or.inr ⟨rfl, rfl, rfl⟩) rfl rfl dX5_init_125 ?_
  have hr94 := zcd_gR (k := 0) (i := 25) (q := some 26) (fun x hx => by cases hx; exact gA_some) hc15
  refine zz_aload_n (pc := 128) 0 dX5_init_128 rfl rfl ?_
  refine zz_bipush (pc := 129) (v := (32)) dX5_init_129 (by decide) ?_
  refine zz_newa (pc := 131) (n := 32) (N := 32) (atype := .int) (16, 2268) 27 hr94 hf27 rfl q246 (by decide) (by decide) (by decide) rfl rfl dX5_init_131 (fun a16 => ?_)
  have hc16 := zcd_gA (k := 27) (a := a16) (w := .inr (32, newarray.typeOf .int)) hr94
  refine zz_putR (pc := 133) tyX5 0 5 26 27 hb rfl in_X5 tyX5_ok (fun b hb9 hbj => nmX5 _ (by decide) b hb9 (Ne.symm hbj)) (by decide) q1421 (by first | exact Or.inl rfl | exact Or.inr ⟨rfl, rfl, rfl⟩) rfl rfl dX5_init_133 ?_
  have hr100 := zcd_gR (k := 0) (i := 26) (q := some 27) (fun x hx => by cases hx; exact gA_some) hc16
  refine zz_aload_n (pc := 136) 0 dX5_init_136 rfl rfl ?_
  refine zz_bipush (pc := 137) (v := (32)) dX5_init_137 (by decide) ?_
  refine zz_newa (pc := 139) (n := 32) (N := 32) (atype := .int) (17, 2300) 28 hr100 hf28 rfl q246 (by decide) (by decide) (by decide) rfl rfl dX5_init_139 (fun a17 => ?_)
  have hc17 := zcd_gA (k := 28) (a := a17) (w := .inr (32, newarray.typeOf .int)) hr100
  refine zz_putR (pc := 141) tyX5 0 5 27 28 hb rfl in_X5 tyX5_ok (fun b hb9 hbj => nmX5 _ (by decide) b hb9 (Ne.symm hbj)) (by decide) q1422 (by first | exact Or.inl rfl | exact Or.inr ⟨rfl, rfl, rfl⟩) rfl rfl dX5_init_141 ?_
  have hr106 := zcd_gR (k := 0) (i := 27) (q := some 28) (fun x hx => by cases hx; exact gA_some) hc17
  refine zz_aload_n (pc := 144) 0 dX5_init_144 rfl rfl ?_
  refine zz_sipush (pc := 145) (v := (4096)) dX5_init_145 (by decide) ?_
  refine zz_newa (pc := 148) (n := 4096) (N := 4096) (atype := .int) (18, 6396) 29 hr106 hf29 rfl q246 (by decide) (by decide) (by decide) rfl rfl dX5_init_148 (fun a18 => ?_)
  have hc18 := zcd_gA (k := 29) (a := a18) (w := .inr (4096, newarray.typeOf .int)) hr106
  refine zz_putR (pc := 150) tyX5 0 5 28 29 hb rfl in_X5 tyX5_ok (fun b hb9 hbj => nmX5 _ (by decide) b hb9 (Ne.symm hbj)) (by decide) q1423 (by first | exact Or.inl rfl | exact Or.inr ⟨rfl, rfl, rfl⟩) rfl rfl dX5_init_150 ?_
  have hr112 := zcd_gR (k := 0) (i := 28) (q := some 29) (fun x hx => by cases hx; exact gA_some) hc18
  refine zz_aload_n (pc := 153) 0 dX5_init_153 rfl rfl ?_
  refine zz_bipush (pc := 154) (v := (64)) dX5_init_154 (by decide) ?_
  refine zz_newa (pc := 156) (n := 64) (N := 64) (atype := .int) (19, 6460) 30 hr112 hf30 rfl q246 (by decide) (by decide) (by decide) rfl rfl dX5_init_156 (fun a19 => ?_)
  have hc19 := zcd_gA (k := 30) (a := a19) (w := .inr (64, newarray.typeOf .int)) hr112
  refine zz_putR (pc := 158) tyX5 0 5 29 30 hb rfl in_X5 tyX5_ok (fun b hb9 hbj => nmX5 _ (by decide) b hb9 (Ne.symm hbj)) (by decide) q1424 (by first | exact Or.inl rfl | exact Or.inr ⟨rfl, rfl, rfl⟩) rfl rfl dX5_init_158 ?_
  have hr118 := zcd_gR (k := 0) (i := 29) (q := some 30) (fun x hx => by cases hx; exact gA_some) hc19
  refine zz_aload_n (pc := 161) 0 dX5_init_161 rfl rfl ?_
  refine zz_bipush (pc := 162) (v := (64)) dX5_init_162 (by decide) ?_
  refine zz_newa (pc := 164) (n := 64) (N := 64) (atype := .int) (20, 6524) 31 hr118 hf31 rfl q246 (by decide) (by decide) (by decide) rfl rfl dX5_init_164 (fun a20 => ?_)
  have hc20 := zcd_gA (k := 31) (a := a20) (w := .inr (64, newarray.typeOf .int)) hr118
  refine zz_putR (pc := 166) tyX5 0 5 30 31 hb rfl in_X5 tyX5_ok (fun b hb9 hbj => nmX5 _ (by decide) b hb9 (Ne.symm hbj)) (by decide) q1425 (by first | exact Or.inl rfl | exact Or.inr ⟨rfl, rfl, rfl⟩) rfl rfl dX5_init_166 ?_
  have hr124 := zcd_gR (k := 0) (i := 30) (q := some 31) (fun x hx => by cases hx; exact gA_some) hc20
  refine zz_aload_n (pc := 169) 0 dX5_init_169 rfl rfl ?_
  refine zz_bipush (pc := 170) (v := (32)) dX5_init_170 (by decide) ?_
  refine zz_newa (pc := 172) (n := 32) (N := 32) (atype := .int) (21, 6556) 32 hr124 hf32 rfl q246 (by decide) (by decide) (by decide) rfl rfl dX5_init_172 (fun a21 => ?_)
  have hc21 := zcd_gA (k := 32) (a := a21) (w := .inr (32, newarray.typeOf .int)) hr124
  refine zz_putR (pc := 174) tyX5 0 5 31 32 hb rfl in_X5 tyX5_ok (fun b hb9 hbj => nmX5 _ (by decide) b hb9 (Ne.symm hbj)) (by decide) q1426 (by first | exact Or.inl rfl | exact Or.inr ⟨rfl, rfl, rfl⟩) rfl rfl dX5_init_174 ?_
  have hr130 := zcd_gR (k := 0) (i := 31) (q := some 32) (fun x hx => by cases hx; exact gA_some) hc21
  refine zz_aload_n (pc := 177) 0 dX5_init_177 rfl rfl ?_
  refine zz_sipush (pc := 178) (v := (19200)) dX5_init_178 (by decide) ?_
  refine zz_newa (pc := 181) (n := 19200) (N := 19200) (atype := .int) (22, 25756) 33 hr130 hf33 rfl q246 (by decide) (by decide) (by decide) rfl rfl dX5_init_181 (fun a22 => ?_)
  have hc22 := zcd_gA (k := 33) (a := a22) (w := .inr (19200, newarray.typeOf .int)) hr130
  refine zz_putR (pc := 183) tyX5 0 5 32 33 hb rfl in_X5 tyX5_ok (fun b hb9 hbj => nmX5 _ (by decide) b hb9 (Ne.symm hbj)) (by decide) q1427 (by first | exact Or.inl rfl | exact Or.inr ⟨rfl, rfl, rfl⟩) rfl rfl dX5_init_183 ?_
  have hr136 := zcd_gR (k := 0) (i := 32) (q := some 33) (fun x hx => by cases hx; exact gA_some) hc22
  refine zz_aload_n (pc := 186) 0 dX5_init_186 rfl rfl ?_
  refine zz_sipush (pc := 187) (v := (3840)) dX5_init_187 (by decide) ?_
  refine zz_newa (pc := 190) (n := 3840) (N := 3840) (atype := .int) (23, 29596) 34 hr136 hf34 rfl q246 (by decide) (by decide) (by decide) rfl rfl dX5_init_190 (fun a23 => ?_)
  have hc23 := zcd_gA (k := 34) (a := a23) (w := .inr (3840, newarray.typeOf .int)) hr136
  refine zz_putR (pc := 192) tyX5 0 5 33 34 hb rfl in_X5 tyX5_ok (fun b hb9 hbj => nmX5 _ (by decide) b hb9 (Ne.symm hbj)) (by decide) q1428 (by first | exact Or.inl rfl | exact Or.inr ⟨rfl, rfl, rfl⟩) rfl rfl dX5_init_192 ?_
  have hr142 := zcd_gR (k := 0) (i := 33) (q := some 34) (fun x hx => by cases hx; exact gA_some) hc23
  refine zz_aload_n (pc := 195) 0 dX5_init_195 rfl rfl ?_
  refine zz_iconst (pc := 196) (v := (5)) dX5_init_196 (by decide) ?_
  refine zz_newa (pc := 197) (n := 5) (N := 5) (atype := .int) (24, 29601) 36 hr142 hf36 rfl q246 (by decide) (by decide) (by decide) rfl rfl dX5_init_197 (fun a24 => ?_)
  have hc24 := zcd_gA (k := 36) (a := a24) (w := .inr (5, newarray.typeOf .int)) hr142
  refine zz_putR (pc := 199) tyX5 0 5 35 36 hb rfl in_X5 tyX5_ok (fun b hb9 hbj => nmX5 _ (by decide) b hb9 (Ne.symm hbj)) (by decide) q1430 (by first | exact Or.inl rfl | exact Or.inr ⟨rfl, rfl, rfl⟩) rfl rfl dX5_init_199 ?_
  have hr148 := zcd_gR (k := 0) (i := 35) (q := some 36) (fun x hx => by cases hx; exact gA_some) hc24
  refine zz_aload_n (pc := 202) 0 dX5_init_202 rfl rfl ?_
  refine zz_bipush (pc := 203) (v := (80)) dX5_init_203 (by decide) ?_
  refine zz_newa (pc := 205) (n := 80) (N := 80) (atype := .int) (25, 29681) 37 hr148 hf37 rfl q246 (by decide) (by decide) (by decide) rfl rfl dX5_init_205 (fun a25 => ?_)
  have hc25 := zcd_gA (k := 37) (a := a25) (w := .inr (80, newarray.typeOf .int)) hr148
  refine zz_putR (pc := 207) tyX5 0 5 36 37 hb rfl in_X5 tyX5_ok (fun b hb9 hbj => nmX5 _ (by decide) b hb9 (Ne.symm hbj)) (by decide) q1431 (by first | exact Or.inl rfl | exact Or.inr ⟨rfl, rfl, rfl⟩) rfl rfl dX5_init_207 ?_
  have hr154 := zcd_gR (k := 0) (i := 36) (q := some 37) (fun x hx => by cases hx; exact gA_some) hc25
  refine zz_aload_n (pc := 210) 0 dX5_init_210 rfl rfl ?_
  refine zz_sipush (pc := 211) (v := (1400)) dX5_init_211 (by decide) ?_
  refine zz_newa (pc := 214) (n := 1400) (N := 1400) (atype := .int) (26, 31081) 38 hr154 hf38 rfl q246 (by decide) (by decide) (by decide) rfl rfl dX5_init_214 (fun a26 => ?_)
  have hc26 := zcd_gA (k := 38) (a := a26) (w := .inr (1400, newarray.typeOf .int)) hr154
  refine zz_putR (pc := 216) tyX5 0 5 37 38 hb rfl in_X5 tyX5_ok (fun b hb9 hbj => nmX5 _ (by decide) b hb9 (Ne.symm hbj)) (by decide) q1432 (by first | exact Or.inl rfl | exact Or.inr ⟨rfl, rfl, rfl⟩) rfl rfl dX5_init_216 ?_
  have hr160 := zcd_gR (k := 0) (i := 37) (q := some 38) (fun x hx => by cases hx; exact gA_some) hc26
  refine zz_aload_n (pc := 219) 0 dX5_init_219 rfl rfl ?_
  refine zz_bipush (pc := 220) (v := (17)) dX5_init_220 (by decide) ?_
  refine zz_newa (pc := 222) (n := 17) (N := 17) (atype := .int) (27, 31098) 40 hr160 hf40 rfl q246 (by decide) (by decide) (by decide) rfl rfl dX5_init_222 (fun a27 => ?_)
  have hc27 := zcd_gA (k := 40) (a := a27) (w := .inr (17, newarray.typeOf .int)) hr160
  refine zz_putR (pc := 224) tyX5 0 5 39 40 hb rfl in_X5 tyX5_ok (fun b hb9 hbj => nmX5 _ (by decide) b hb9 (Ne.symm hbj)) (by decide) q1434 (by first | exact Or.inl rfl | exact Or.inr ⟨rfl, rfl, rfl⟩) rfl rfl dX5_init_224 ?_
  have hr166 := zcd_gR (k := 0) (i := 39) (q := some 40) (fun x hx => by cases hx; exact gA_some) hc27
  refine zz_aload_n (pc := 227) 0 dX5_init_227 rfl rfl ?_
  refine zz_bipush (pc := 228) (v := (16)) dX5_init_228 (by decide) ?_
  refine zz_newa (pc := 230) (n := 16) (N := 16) (atype := .int) (28, 31114) 41 hr166 hf41 rfl q246 (by decide) (by decide) (by decide) rfl rfl dX5_init_230 (fun a28 => ?_)
  have hc28 := zcd_gA (k := 41) (a := a28) (w := .inr (16, newarray.typeOf .int)) hr166
  refine zz_putR (pc := 232) tyX5 0 5 40 41 hb rfl in_X5 tyX5_ok (fun b hb9 hbj => nmX5 _ (by decide) b hb9 (Ne.symm hbj)) (by decide) q1435 (by first | exact Or.inl rfl | exact Or.inr ⟨rfl, rfl, rfl⟩) rfl rfl dX5_init_232 ?_
  have hr172 := zcd_gR (k := 0) (i := 40) (q := some 41) (fun x hx => by cases hx; exact gA_some) hc28
  refine zz_aload_n (pc := 235) 0 dX5_init_235 rfl rfl ?_
  refine zz_bipush (pc := 236) (v := (32)) dX5_init_236 (by decide) ?_
  refine zz_newa (pc := 238) (n := 32) (N := 32) (atype := .int) (29, 31146) 42 hr172 hf42 rfl q246 (by decide) (by decide) (by decide) rfl rfl dX5_init_238 (fun a29 => ?_)
  have hc29 := zcd_gA (k := 42) (a := a29) (w := .inr (32, newarray.typeOf .int)) hr172
  refine zz_putR (pc := 240) tyX5 0 5 41 42 hb rfl in_X5 tyX5_ok (fun b hb9 hbj => nmX5 _ (by decide) b hb9 (Ne.symm hbj)) (by decide) q1436 (by first | exact Or.inl rfl | exact Or.inr ⟨rfl, rfl, rfl⟩) rfl rfl dX5_init_240 ?_
  have hr178 := zcd_gR (k := 0) (i := 41) (q := some 42) (fun x hx => by cases hx; exact gA_some) hc29
  refine zz_aload_n (pc := 243) 0 dX5_init_243 rfl rfl ?_
  refine zz_bipush (pc := 244) (v := (32)) dX5_init_244 (by decide) ?_
  refine zz_newa (pc := 246) (n := 32) (N := 32) (atype := .int) (30, 31178) 43 hr178 hf43 rfl q246 (by decide) (by decide) (by decide) rfl rfl dX5_init_246 (fun a30 => ?_)
  have hc30 := zcd_gA (k := 43) (a := a30) (w := .inr (32, newarray.typeOf .int)) hr178
  refine zz_putR (pc := 248) tyX5 0 5 42 43 hb rfl in_X5 tyX5_ok (fun b hb9 hbj => nmX5 _ (by decide) b hb9 (Ne.symm hbj)) (by decide) q1437 (by first | exact Or.inl rfl | exact Or.inr ⟨rfl, rfl, rfl⟩) rfl rfl dX5_init_248 ?_
  have hr184 := zcd_gR (k := 0) (i := 42) (q := some 43) (fun x hx => by cases hx; exact gA_some) hc30
  refine zz_aload_n (pc := 251) 0 dX5_init_251 rfl rfl ?_
  refine zz_bipush (pc := 252) (v := (32)) dX5_init_252 (by decide) ?_
  refine zz_newa (pc := 254) (n := 32) (N := 32) (atype := .int) (31, 31210) 47 hr184 hf47 rfl q246 (by decide) (by decide) (by decide) rfl rfl dX5_init_254 (fun a31 => ?_)
  have hc31 := zcd_gA (k := 47) (a := a31) (w := .inr (32, newarray.typeOf .int)) hr184
  refine zz_putR (pc := 256) tyX5 0 5 46 47 hb rfl in_X5 tyX5_ok (fun b hb9 hbj => nmX5 _ (by decide) b hb9 (Ne.symm hbj)) (by decide) q1441 (by first | exact Or.inl rfl | exact Or.inr ⟨rfl, rfl, rfl⟩) rfl rfl dX5_init_256 ?_
  have hr190 := zcd_gR (k := 0) (i := 46) (q := some 47) (fun x hx => by cases hx; exact gA_some) hc31
  refine zz_aload_n (pc := 259) 0 dX5_init_259 rfl rfl ?_
  refine zz_bipush (pc := 260) (v := (80)) dX5_init_260 (by decide) ?_
  refine zz_newa (pc := 262) (n := 80) (N := 80) (atype := .int) (32, 31290) 48 hr190 hf48 rfl q246 (by decide) (by decide) (by decide) rfl rfl dX5_init_262 (fun a32 => ?_)
  have hc32 := zcd_gA (k := 48) (a := a32) (w := .inr (80, newarray.typeOf .int)) hr190
  refine zz_putR (pc := 264) tyX5 0 5 47 48 hb rfl in_X5 tyX5_ok (fun b hb9 hbj => nmX5 _ (by decide) b hb9 (Ne.symm hbj)) (by decide) q1442 (by first | exact Or.inl rfl | exact Or.inr ⟨rfl, rfl, rfl⟩) rfl rfl dX5_init_264 ?_
  have hr196 := zcd_gR (k := 0) (i := 47) (q := some 48) (fun x hx => by cases hx; exact gA_some) hc32
  refine zz_aload_n (pc := 267) 0 dX5_init_267 rfl rfl ?_
  refine zz_bipush (pc := 268) (v := (80)) dX5_init_268 (by decide) ?_
  refine zz_newa (pc := 270) (n := 80) (N := 80) (atype := .int) (33, 31370) 49 hr196 hf49 rfl q246 (by decide) (by decide) (by decide) rfl rfl dX5_init_270 (fun a33 => ?_)
  have hc33 := zcd_gA (k := 49) (a := a33) (w := .inr (80, newarray.typeOf .int)) hr196
  refine zz_putR (pc := 272) tyX5 0 5 48 49 hb rfl in_X5 tyX5_ok (fun b hb9 hbj => nmX5 _ (by decide) b hb9 (Ne.symm hbj)) (by decide) q1443 (by first | exact Or.inl rfl | exact Or.inr ⟨rfl, rfl, rfl⟩) rfl rfl dX5_init_272 ?_
  have hr202 := zcd_gR (k := 0) (i := 48) (q := some 49) (fun x hx => by cases hx; exact gA_some) hc33
  refine zz_aload_n (pc := 275) 0 dX5_init_275 rfl rfl ?_
  refine zz_bipush (pc := 276) (v := (6)) dX5_init_276 (by decide) ?_
  refine zz_newa (pc := 278) (n := 6) (N := 6) (atype := .int) (34, 31376) 50 hr202 hf50 rfl q246 (by decide) (by decide) (by decide) rfl rfl dX5_init_278 (fun a34 => ?_)
  have hc34 := zcd_gA (k := 50) (a := a34) (w := .inr (6, newarray.typeOf .int)) hr202
  refine zz_putR (pc := 280) tyX5 0 5 49 50 hb rfl in_X5 tyX5_ok (fun b hb9 hbj => nmX5 _ (by decide) b hb9 (Ne.symm hbj)) (by decide) q1444 (by first | exact Or.inl rfl | exact Or.inr ⟨rfl, rfl, rfl⟩) rfl rfl dX5_init_280 ?_
  have hr208 := zcd_gR (k := 0) (i := 49) (q := some 50) (fun x hx => by cases hx; exact gA_some) hc34
  refine zz_aload_n (pc := 283) 0 dX5_init_283 rfl rfl ?_
  refine zz_bipush (pc := 284) (v := (6)) dX5_init_284 (by decide) ?_
  refine zz_newa (pc := 286) (n := 6) (N := 6) (atype := .int) (35, 31382) 51 hr208 hf51 rfl q246 (by decide) (by decide) (by decide) rfl rfl dX5_init_286 (fun a35 => ?_)
  have hc35 := zcd_gA (k := 51) (a := a35) (w := .inr (6, newarray.typeOf .int)) hr208
  refine zz_putR (pc := 288) tyX5 0 5 50 51 hb rfl in_X5 tyX5_ok (fun b hb9 hbj => nmX5 _ (by decide) b hb9 (Ne.symm hbj)) (by decide) q1445 (by first | exact Or.inl rfl | exact Or.inr ⟨rfl, rfl, rfl⟩) rfl rfl dX5_init_288 ?_
  have hr214 := zcd_gR (k := 0) (i := 50) (q := some 51) (fun x hx => by cases hx; exact gA_some) hc35
  refine zz_aload_n (pc := 291) 0 dX5_init_291 rfl rfl ?_
  refine zz_bipush (pc := 292) (v := (6)) dX5_init_292 (by decide) ?_
  refine zz_newa (pc := 294) (n := 6) (N := 6) (atype := .int) (36, 31388) 53 hr214 hf53 rfl q246 (by decide) (by decide) (by decide) rfl rfl dX5_init_294 (fun a36 => ?_)
  have hc36 := zcd_gA (k := 53) (a := a36) (w := .inr (6, newarray.typeOf .int)) hr214
  refine zz_putR (pc := 296) tyX5 0 5 52 53 hb rfl in_X5 tyX5_ok (fun b hb9 hbj => nmX5 _ (by decide) b hb9 (Ne.symm hbj)) (by decide) q1447 (by first | exact Or.inl rfl | exact Or.inr ⟨rfl, rfl, rfl⟩) rfl rfl dX5_init_296 ?_
  have hr220 := zcd_gR (k := 0) (i := 52) (q := some 53) (fun x hx => by cases hx; exact gA_some) hc36
  refine zz_aload_n (pc := 299) 0 dX5_init_299 rfl rfl ?_
  refine zz_bipush (pc := 300) (v := (6)) dX5_init_300 (by decide) ?_
  refine zz_newa (pc := 302) (n := 6) (N := 6) (atype := .int) (37, 31394) 54 hr220 hf54 rfl q246 (by decide) (by decide) (by decide) rfl rfl dX5_init_302 (fun a37 => ?_)
  have hc37 := zcd_gA (k := 54) (a := a37) (w := .inr (6, newarray.typeOf .int)) hr220
  refine zz_putR (pc := 304) tyX5 0 5 53 54 hb rfl in_X5 tyX5_ok (fun b hb9 hbj => nmX5 _ (by decide) b hb9 (Ne.symm hbj)) (by decide) q1448 (by first | exact Or.inl rfl | exact Or.inr ⟨rfl, rfl, rfl⟩) rfl rfl dX5_init_304 ?_
  have hr226 := zcd_gR (k := 0) (i := 53) (q := some 54) (fun x hx => by cases hx; exact gA_some) hc37
  refine zz_aload_n (pc := 307) 0 dX5_init_307 rfl rfl ?_
  refine zz_bipush (pc := 308) (v := (6)) dX5_init_308 (by decide) ?_
  refine zz_newa (pc := 310) (n := 6) (N := 6) (atype := .int) (38, 31400) 55 hr226 hf55 rfl q246 (by decide) (by decide) (by decide) rfl rfl dX5_init_310 (fun a38 => ?_)
  have hc38 := zcd_gA (k := 55) (a := a38) (w := .inr (6, newarray.typeOf .int)) hr226
  refine zz_putR (pc := 312) tyX5 0 5 54 55 hb rfl in_X5 tyX5_ok (fun b hb9 hbj => nmX5 _ (by decide) b hb9 (Ne.symm hbj)) (by decide) q1449 (by first | exact Or.inl rfl | exact Or.inr ⟨rfl, rfl, rfl⟩) rfl rfl dX5_init_312 ?_
  have hr232 := zcd_gR (k := 0) (i := 54) (q := some 55) (fun x hx => by cases hx; exact gA_some) hc38
  refine zz_iconst (pc := 315) (v := 0) dX5_init_315 (by decide) ?_
  refine zz_istore_n (pc := 316) 1 dX5_init_316 rfl (Nat.le_of_ble_eq_true rfl) rfl ?_
  refine zz_iload_n (pc := 317) (v := 0) 1 dX5_init_317 rfl rfl ?_
  refine zz_iconst (pc := 318) (v := 4) dX5_init_318 (by decide) ?_
  refine zz_icmpd_ge (pc := 319) 335 dX5_init_319 rfl (fun c => absurd c (by decide)) (fun _ => ?_)
  refine zz_aload_n (pc := 322) 0 dX5_init_322 rfl rfl ?_
  refine zz_get (pc := 323) (v := .ref a1) 0 5 1 hb rfl in_X5 (by decide) q1396 rfl dX5_init_323 ?_
  refine zz_iload_n (pc := 326) (v := 0) 1 dX5_init_326 rfl rfl ?_
  refine zz_iconst (pc := 327) (v := (-1)) dX5_init_327 (by decide) ?_
  refine zz_iastore (pc := 328) (i := 0) (x := (-1)) 2 4 rfl (by unfold vp_in; decide) dX5_init_328 ?_
  refine zz_iinc (pc := 329) (w := 1) dX5_init_329 rfl (by decide) (Nat.le_of_ble_eq_true rfl) rfl ?_
  refine zz_goto (pc := 332) 317 dX5_init_332 rfl ?_
  refine zz_iload_n (pc := 317) (v := 1) 1 dX5_init_317 rfl rfl ?_
  refine zz_iconst (pc := 318) (v := 4) dX5_init_318 (by decide) ?_
  refine zz_icmpd_ge (pc := 319) 335 dX5_init_319 rfl (fun c => absurd c (by decide)) (fun _ => ?_)
  refine zz_aload_n (pc := 322) 0 dX5_init_322 rfl rfl ?_
  refine zz_get (pc := 323) (v := .ref a1) 0 5 1 hb rfl in_X5 (by decide) q1396 rfl dX5_init_323 ?_
  refine zz_iload_n (pc := 326) (v := 1) 1 dX5_init_326 rfl rfl ?_
  refine zz_iconst (pc := 327) (v := (-1)) dX5_init_327 (by decide) ?_
  refine zz_iastore (pc := 328) (i := 1) (x := (-1)) 2 4 rfl (by unfold vp_in; decide) dX5_init_328 ?_
  refine zz_iinc (pc := 329) (w := 2) dX5_init_329 rfl (by decide) (Nat.le_of_ble_eq_true rfl) rfl ?_
  refine zz_goto (pc := 332) 317 dX5_init_332 rfl ?_
  refine zz_iload_n (pc := 317) (v := 2) 1 dX5_init_317 rfl rfl ?_
  refine zz_iconst (pc := 318) (v := 4) dX5_init_318 (by decide) ?_
  refine zz_icmpd_ge (pc := 319) 335 dX5_init_319 rfl (fun c => absurd c (by decide)) (fun _ => ?_)
  refine zz_aload_n (pc := 322) 0 dX5_init_322 rfl rfl ?_
  refine zz_get (pc := 323) (v := .ref a1) 0 5 1 hb rfl in_X5 (by decide) q1396 rfl dX5_init_323 ?_
  refine zz_iload_n (pc := 326) (v := 2) 1 dX5_init_326 rfl rfl ?_
  refine zz_iconst (pc := 327) (v := (-1)) dX5_init_327 (by decide) ?_
  refine zz_iastore (pc := 328) (i := 2) (x := (-1)) 2 4 rfl (by unfold vp_in; decide) dX5_init_328 ?_
  refine zz_iinc (pc := 329) (w := 3) dX5_init_329 rfl (by decide) (Nat.le_of_ble_eq_true rfl) rfl ?_
  refine zz_goto (pc := 332) 317 dX5_init_332 rfl ?_
  refine zz_iload_n (pc := 317) (v := 3) 1 dX5_init_317 rfl rfl ?_
  refine zz_iconst (pc := 318) (v := 4) dX5_init_318 (by decide) ?_
  refine zz_icmpd_ge (pc := 319) 335 dX5_init_319 rfl (fun c => absurd c (by decide)) (fun _ => ?_)
  refine zz_aload_n (pc := 322) 0 dX5_init_322 rfl rfl ?_
  refine zz_get (pc := 323) (v := .ref a1) 0 5 1 hb rfl in_X5 (by decide) q1396 rfl dX5_init_323 ?_
  refine zz_iload_n (pc := 326) (v := 3) 1 dX5_init_326 rfl rfl ?_
  refine zz_iconst (pc := 327) (v := (-1)) dX5_init_327 (by decide) ?_
  refine zz_iastore (pc := 328) (i := 3) (x := (-1)) 2 4 rfl (by unfold vp_in; decide) dX5_init_328 ?_
  refine zz_iinc (pc := 329) (w := 4) dX5_init_329 rfl (by decide) (Nat.le_of_ble_eq_true rfl) rfl ?_
  refine zz_goto (pc := 332) 317 dX5_init_332 rfl ?_
  refine zz_iload_n (pc := 317) (v := 4) 1 dX5_init_317 rfl rfl ?_
  refine zz_iconst (pc := 318) (v := 4) dX5_init_318 (by decide) ?_
  refine zz_icmpd_ge (pc := 319) 335 dX5_init_319 rfl (fun _ => ?_) (fun c => absurd (by decide) c)
  exact zz_gvret (fun _ => rfl) rfl rfl ⟨a1, a2, a3, a4, a5, a6, a7, a8, a9, a10, a11, a12, a13, a14, a15, a16, a17, a18, a19, a20, a21, a22, a23, a24, a25, a26, a27, a28, a29, a30, a31, a32, a33, a34, a35, a36, a37, a38, rfl⟩ dX5_init_335 rfl
theorem zcd_X5_init_0 {G : zGw} (hcd : zcd G) (hb : G.2.1 0 = some (.inl 5)) (hf2 : G.2.1 2 = none) (hf3 : G.2.1 3 = none) (hf4 : G.2.1 4 = none) (hf5 : G.2.1 5 = none) (hf6 : G.2.1 6 = none) (hf17 : G.2.1 17 = none) (hf18 : G.2.1 18 = none) (hf19 : G.2.1 19 = none) (hf20 : G.2.1 20 = none) (hf21 : G.2.1 21 = none) (hf22 : G.2.1 22 = none) (hf23 : G.2.1 23 = none) (hf24 : G.2.1 24 = none) (hf25 : G.2.1 25 = none) (hf26 : G.2.1 26 = none) (hf27 : G.2.1 27 = none) (hf28 : G.2.1 28 = none) (hf29 : G.2.1 29 = none) (hf30 : G.2.1 30 = none) (hf31 : G.2.1 31 = none) (hf32 : G.2.1 32 = none) (hf33 : G.2.1 33 = none) (hf34 : G.2.1 34 = none) (hf36 : G.2.1 36 = none) (hf37 : G.2.1 37 = none) (hf38 : G.2.1 38 = none) (hf40 : G.2.1 40 = none) (hf41 : G.2.1 41 = none) (hf42 : G.2.1 42 = none) (hf43 : G.2.1 43 = none) (hf47 : G.2.1 47 = none) (hf48 : G.2.1 48 = none) (hf49 : G.2.1 49 = none) (hf50 : G.2.1 50 = none) (hf51 : G.2.1 51 = none) (hf53 : G.2.1 53 = none) (hf54 : G.2.1 54 = none) (hf55 : G.2.1 55 = none) (a1 : Nat) (a2 : Nat) (a3 : Nat) (a4 : Nat) (a5 : Nat) (a6 : Nat) (a7 : Nat) (a8 : Nat) (a9 : Nat) (a10 : Nat) (a11 : Nat) (a12 : Nat) (a13 : Nat) (a14 : Nat) (a15 : Nat) (a16 : Nat) (a17 : Nat) (a18 : Nat) (a19 : Nat) (a20 : Nat) (a21 : Nat) (a22 : Nat) (a23 : Nat) (a24 : Nat) (a25 : Nat) (a26 : Nat) (a27 : Nat) (a28 : Nat) (a29 : Nat) (a30 : Nat) (a31 : Nat) (a32 : Nat) (a33 : Nat) (a34 : Nat) (a35 : Nat) (a36 : Nat) (a37 : Nat) (a38 : Nat) : zcd (gX5_init_0 G a1 a2 a3 a4 a5 a6 a7 a8 a9 a10 a11 a12 a13 a14 a15 a16 a17 a18 a19 a20 a21 a22 a23 a24 a25 a26 a27 a28 a29 a30 a31 a32 a33 a34 a35 a36 a37 a38) := by
  have hc1 := zcd_gA (k := 2) (a := a1) (w := .inr (4, newarray.typeOf .int)) hcd
  have hr7 := zcd_gR (k := 0) (i := 1) (q := some 2) (fun x hx => by cases hx; exact gA_some) hc1
  have hc2 := zcd_gA (k := 3) (a := a2) (w := .inr (4, newarray.typeOf .int)) hr7
  have hr13 := zcd_gR (k := 0) (i := 2) (q := some 3) (fun x hx => by cases hx; exact gA_some) hc2
  have hc3 := zcd_gA (k := 4) (a := a3) (w := .inr (240, newarray.typeOf .long)) hr13
  have hr19 := zcd_gR (k := 0) (i := 3) (q := some 4) (fun x hx => by cases hx; exact gA_some) hc3
  have hc4 := zcd_gA (k := 5) (a := a4) (w := .inr (60, newarray.typeOf .long)) hr19
  have hr25 := zcd_gR (k := 0) (i := 4) (q := some 5) (fun x hx => by cases hx; exact gA_some) hc4
  have hc5 := zcd_gA (k := 6) (a := a5) (w := .inr (1400, newarray.typeOf .byte)) hr25
  have hr31 := zcd_gR (k := 0) (i := 5) (q := some 6) (fun x hx => by cases hx; exact gA_some) hc5
  have hc6 := zcd_gA (k := 17) (a := a6) (w := .inr (5, newarray.typeOf .int)) hr31
  have hr40 := zcd_gR (k := 0) (i := 16) (q := some 17) (fun x hx => by cases hx; exact gA_some) hc6
  have hc7 := zcd_gA (k := 18) (a := a7) (w := .inr (15, newarray.typeOf .int)) hr40
  have hr46 := zcd_gR (k := 0) (i := 17) (q := some 18) (fun x hx => by cases hx; exact gA_some) hc7
  have hc8 := zcd_gA (k := 19) (a := a8) (w := .inr (25, newarray.typeOf .long)) hr46
  have hr52 := zcd_gR (k := 0) (i := 18) (q := some 19) (fun x hx => by cases hx; exact gA_some) hc8
  have hc9 := zcd_gA (k := 20) (a := a9) (w := .inr (25, newarray.typeOf .int)) hr52
  have hr58 := zcd_gR (k := 0) (i := 19) (q := some 20) (fun x hx => by cases hx; exact gA_some) hc9
  have hc10 := zcd_gA (k := 21) (a := a10) (w := .inr (200, newarray.typeOf .int)) hr58
  have hr64 := zcd_gR (k := 0) (i := 20) (q := some 21) (fun x hx => by cases hx; exact gA_some) hc10
  have hc11 := zcd_gA (k := 22) (a := a11) (w := .inr (160, newarray.typeOf .int)) hr64
  have hr70 := zcd_gR (k := 0) (i := 21) (q := some 22) (fun x hx => by cases hx; exact gA_some) hc11
  have hc12 := zcd_gA (k := 23) (a := a12) (w := .inr (5, newarray.typeOf .int)) hr70
  have hr76 := zcd_gR (k := 0) (i := 22) (q := some 23) (fun x hx => by cases hx; exact gA_some) hc12
  have hc13 := zcd_gA (k := 24) (a := a13) (w := .inr (30, newarray.typeOf .int)) hr76
  have hr82 := zcd_gR (k := 0) (i := 23) (q := some 24) (fun x hx => by cases hx; exact gA_some) hc13
  have hc14 := zcd_gA (k := 25) (a := a14) (w := .inr (60, newarray.typeOf .int)) hr82
  have hr88 := zcd_gR (k := 0) (i := 24) (q := some 25) (fun x hx => by cases hx; exact gA_some) hc14
  have hc15 := zcd_gA (k := 26) (a := a15) (w := .inr (3, newarray.typeOf .boolean)) hr88
  have hr94 := zcd_gR (k := 0) (i := 25) (q := some 26) (fun x hx => by cases hx; exact gA_some) hc15
  have hc16 := zcd_gA (k := 27) (a := a16) (w := .inr (32, newarray.typeOf .int)) hr94
  have hr100 := zcd_gR (k := 0) (i := 26) (q := some 27) (fun x hx => by cases hx; exact gA_some) hc16
  have hc17 := zcd_gA (k := 28) (a := a17) (w := .inr (32, newarray.typeOf .int)) hr100
  have hr106 := zcd_gR (k := 0) (i := 27) (q := some 28) (fun x hx => by cases hx; exact gA_some) hc17
  have hc18 := zcd_gA (k := 29) (a := a18) (w := .inr (4096, newarray.typeOf .int)) hr106
  have hr112 := zcd_gR (k := 0) (i := 28) (q := some 29) (fun x hx => by cases hx; exact gA_some) hc18
  have hc19 := zcd_gA (k := 30) (a := a19) (w := .inr (64, newarray.typeOf .int)) hr112
  have hr118 := zcd_gR (k := 0) (i := 29) (q := some 30) (fun x hx => by cases hx; exact gA_some) hc19
  have hc20 := zcd_gA (k := 31) (a := a20) (w := .inr (64, newarray.typeOf .int)) hr118
  have hr124 := zcd_gR (k := 0) (i := 30) (q := some 31) (fun x hx => by cases hx; exact gA_some) hc20
  have hc21 := zcd_gA (k := 32) (a := a21) (w := .inr (32, newarray.typeOf .int)) hr124
  have hr130 := zcd_gR (k := 0) (i := 31) (q := some 32) (fun x hx => by cases hx; exact gA_some) hc21
  have hc22 := zcd_gA (k := 33) (a := a22) (w := .inr (19200, newarray.typeOf .int)) hr130
  have hr136 := zcd_gR (k := 0) (i := 32) (q := some 33) (fun x hx => by cases hx; exact gA_some) hc22
  have hc23 := zcd_gA (k := 34) (a := a23) (w := .inr (3840, newarray.typeOf .int)) hr136
  have hr142 := zcd_gR (k := 0) (i := 33) (q := some 34) (fun x hx => by cases hx; exact gA_some) hc23
  have hc24 := zcd_gA (k := 36) (a := a24) (w := .inr (5, newarray.typeOf .int)) hr142
  have hr148 := zcd_gR (k := 0) (i := 35) (q := some 36) (fun x hx => by cases hx; exact gA_some) hc24
  have hc25 := zcd_gA (k := 37) (a := a25) (w := .inr (80, newarray.typeOf .int)) hr148
  have hr154 := zcd_gR (k := 0) (i := 36) (q := some 37) (fun x hx => by cases hx; exact gA_some) hc25
  have hc26 := zcd_gA (k := 38) (a := a26) (w := .inr (1400, newarray.typeOf .int)) hr154
  have hr160 := zcd_gR (k := 0) (i := 37) (q := some 38) (fun x hx => by cases hx; exact gA_some) hc26
  have hc27 := zcd_gA (k := 40) (a := a27) (w := .inr (17, newarray.typeOf .int)) hr160
  have hr166 := zcd_gR (k := 0) (i := 39) (q := some 40) (fun x hx => by cases hx; exact gA_some) hc27
  have hc28 := zcd_gA (k := 41) (a := a28) (w := .inr (16, newarray.typeOf .int)) hr166
  have hr172 := zcd_gR (k := 0) (i := 40) (q := some 41) (fun x hx => by cases hx; exact gA_some) hc28
  have hc29 := zcd_gA (k := 42) (a := a29) (w := .inr (32, newarray.typeOf .int)) hr172
  have hr178 := zcd_gR (k := 0) (i := 41) (q := some 42) (fun x hx => by cases hx; exact gA_some) hc29
  have hc30 := zcd_gA (k := 43) (a := a30) (w := .inr (32, newarray.typeOf .int)) hr178
  have hr184 := zcd_gR (k := 0) (i := 42) (q := some 43) (fun x hx => by cases hx; exact gA_some) hc30
  have hc31 := zcd_gA (k := 47) (a := a31) (w := .inr (32, newarray.typeOf .int)) hr184
  have hr190 := zcd_gR (k := 0) (i := 46) (q := some 47) (fun x hx => by cases hx; exact gA_some) hc31
  have hc32 := zcd_gA (k := 48) (a := a32) (w := .inr (80, newarray.typeOf .int)) hr190
  have hr196 := zcd_gR (k := 0) (i := 47) (q := some 48) (fun x hx => by cases hx; exact gA_some) hc32
  have hc33 := zcd_gA (k := 49) (a := a33) (w := .inr (80, newarray.typeOf .int)) hr196
  have hr202 := zcd_gR (k := 0) (i := 48) (q := some 49) (fun x hx => by cases hx; exact gA_some) hc33
  have hc34 := zcd_gA (k := 50) (a := a34) (w := .inr (6, newarray.typeOf .int)) hr202
  have hr208 := zcd_gR (k := 0) (i := 49) (q := some 50) (fun x hx => by cases hx; exact gA_some) hc34
  have hc35 := zcd_gA (k := 51) (a := a35) (w := .inr (6, newarray.typeOf .int)) hr208
  have hr214 := zcd_gR (k := 0) (i := 50) (q := some 51) (fun x hx => by cases hx; exact gA_some) hc35
  have hc36 := zcd_gA (k := 53) (a := a36) (w := .inr (6, newarray.typeOf .int)) hr214
  have hr220 := zcd_gR (k := 0) (i := 52) (q := some 53) (fun x hx => by cases hx; exact gA_some) hc36
  have hc37 := zcd_gA (k := 54) (a := a37) (w := .inr (6, newarray.typeOf .int)) hr220
  have hr226 := zcd_gR (k := 0) (i := 53) (q := some 54) (fun x hx => by cases hx; exact gA_some) hc37
  have hc38 := zcd_gA (k := 55) (a := a38) (w := .inr (6, newarray.typeOf .int)) hr226
  have hr232 := zcd_gR (k := 0) (i := 54) (q := some 55) (fun x hx => by cases hx; exact gA_some) hc38
  exact hr232
