/-! KEEP, BACK (written by gen/mkkeep.py) -/
set_option maxRecDepth 100000
abbrev mX1_copy_50 : zMr := ("HiddenCube$Town", cX1_copy, 2, some (.object "HiddenCube$Town"), 6, 7, 106, none)
def F_X1_copy_50 (S : zSt) : Option (Unit × zSt) :=
(F_X1_init_80 (sZ S 80)).bind (fun r1 =>
zfit 51 40 (sI (sI (r1.2) 80 0 ((r1.2).1 50 0)) 80 1 ((sI (r1.2) 80 0 ((r1.2).1 50 0)).1 50 1)) (acopy 40 40 0 0 40 (acopy 5 5 0 0 5 (acopy 6 6 0 0 6 (acopy 6 6 0 0 6 (acopy 6 6 0 0 6 (acopy 32 32 0 0 32 (some ((), sI (sI (sI (cpI (cpI (cpI (cpI (cpI (cpI (sI (sI (r1.2) 80 0 ((r1.2).1 50 0)) 80 1 ((sI (r1.2) 80 0 ((r1.2).1 50 0)).1 50 1)) 51 (0 : Int32).toNatClampNeg 81 (0 : Int32).toNatClampNeg (40 : Int32).toNatClampNeg) 52 (0 : Int32).toNatClampNeg 82 (0 : Int32).toNatClampNeg (5 : Int32).toNatClampNeg) 53 (0 : Int32).toNatClampNeg 83 (0 : Int32).toNatClampNeg (6 : Int32).toNatClampNeg) 54 (0 : Int32).toNatClampNeg 84 (0 : Int32).toNatClampNeg (6 : Int32).toNatClampNeg) 55 (0 : Int32).toNatClampNeg 85 (0 : Int32).toNatClampNeg (6 : Int32).toNatClampNeg) 56 (0 : Int32).toNatClampNeg 86 (0 : Int32).toNatClampNeg (32 : Int32).toNatClampNeg) 80 8 ((cpI (cpI (cpI (cpI (cpI (cpI (sI (sI (r1.2) 80 0 ((r1.2).1 50 0)) 80 1 ((sI (r1.2) 80 0 ((r1.2).1 50 0)).1 50 1)) 51 (0 : Int32).toNatClampNeg 81 (0 : Int32).toNatClampNeg (40 : Int32).toNatClampNeg) 52 (0 : Int32).toNatClampNeg 82 (0 : Int32).toNatClampNeg (5 : Int32).toNatClampNeg) 53 (0 : Int32).toNatClampNeg 83 (0 : Int32).toNatClampNeg (6 : Int32).toNatClampNeg) 54 (0 : Int32).toNatClampNeg 84 (0 : Int32).toNatClampNeg (6 : Int32).toNatClampNeg) 55 (0 : Int32).toNatClampNeg 85 (0 : Int32).toNatClampNeg (6 : Int32).toNatClampNeg) 56 (0 : Int32).toNatClampNeg 86 (0 : Int32).toNatClampNeg (32 : Int32).toNatClampNeg).1 50 8)) 80 9 ((sI (cpI (cpI (cpI (cpI (cpI (cpI (sI (sI (r1.2) 80 0 ((r1.2).1 50 0)) 80 1 ((sI (r1.2) 80 0 ((r1.2).1 50 0)).1 50 1)) 51 (0 : Int32).toNatClampNeg 81 (0 : Int32).toNatClampNeg (40 : Int32).toNatClampNeg) 52 (0 : Int32).toNatClampNeg 82 (0 : Int32).toNatClampNeg (5 : Int32).toNatClampNeg) 53 (0 : Int32).toNatClampNeg 83 (0 : Int32).toNatClampNeg (6 : Int32).toNatClampNeg) 54 (0 : Int32).toNatClampNeg 84 (0 : Int32).toNatClampNeg (6 : Int32).toNatClampNeg) 55 (0 : Int32).toNatClampNeg 85 (0 : Int32).toNatClampNeg (6 : Int32).toNatClampNeg) 56 (0 : Int32).toNatClampNeg 86 (0 : Int32).toNatClampNeg (32 : Int32).toNatClampNeg) 80 8 ((cpI (cpI (cpI (cpI (cpI (cpI (sI (sI (r1.2) 80 0 ((r1.2).1 50 0)) 80 1 ((sI (r1.2) 80 0 ((r1.2).1 50 0)).1 50 1)) 51 (0 : Int32).toNatClampNeg 81 (0 : Int32).toNatClampNeg (40 : Int32).toNatClampNeg) 52 (0 : Int32).toNatClampNeg 82 (0 : Int32).toNatClampNeg (5 : Int32).toNatClampNeg) 53 (0 : Int32).toNatClampNeg 83 (0 : Int32).toNatClampNeg (6 : Int32).toNatClampNeg) 54 (0 : Int32).toNatClampNeg 84 (0 : Int32).toNatClampNeg (6 : Int32).toNatClampNeg) 55 (0 : Int32).toNatClampNeg 85 (0 : Int32).toNatClampNeg (6 : Int32).toNatClampNeg) 56 (0 : Int32).toNatClampNeg 86 (0 : Int32).toNatClampNeg (32 : Int32).toNatClampNeg).1 50 8)).1 50 9)) 80 10 ((sI (sI (cpI (cpI (cpI (cpI (cpI (cpI (sI (sI (r1.2) 80 0 ((r1.2).1 50 0)) 80 1 ((sI (r1.2) 80 0 ((r1.2).1 50 0)).1 50 1)) 51 (0 : Int32).toNatClampNeg 81 (0 : Int32).toNatClampNeg (40 : Int32).toNatClampNeg) 52 (0 : Int32).toNatClampNeg 82 (0 : Int32).toNatClampNeg (5 : Int32).toNatClampNeg) 53 (0 : Int32).toNatClampNeg 83 (0 : Int32).toNatClampNeg (6 : Int32).toNatClampNeg) 54 (0 : Int32).toNatClampNeg 84 (0 : Int32).toNatClampNeg (6 : Int32).toNatClampNeg) 55 (0 : Int32).toNatClampNeg 85 (0 : Int32).toNatClampNeg (6 : Int32).toNatClampNeg) 56 (0 : Int32).toNatClampNeg 86 (0 : Int32).toNatClampNeg (32 : Int32).toNatClampNeg) 80 8 ((cpI (cpI (cpI (cpI (cpI (cpI (sI (sI (r1.2) 80 0 ((r1.2).1 50 0)) 80 1 ((sI (r1.2) 80 0 ((r1.2).1 50 0)).1 50 1)) 51 (0 : Int32).toNatClampNeg 81 (0 : Int32).toNatClampNeg (40 : Int32).toNatClampNeg) 52 (0 : Int32).toNatClampNeg 82 (0 : Int32).toNatClampNeg (5 : Int32).toNatClampNeg) 53 (0 : Int32).toNatClampNeg 83 (0 : Int32).toNatClampNeg (6 : Int32).toNatClampNeg) 54 (0 : Int32).toNatClampNeg 84 (0 : Int32).toNatClampNeg (6 : Int32).toNatClampNeg) 55 (0 : Int32).toNatClampNeg 85 (0 : Int32).toNatClampNeg (6 : Int32).toNatClampNeg) 56 (0 : Int32).toNatClampNeg 86 (0 : Int32).toNatClampNeg (32 : Int32).toNatClampNeg).1 50 8)) 80 9 ((sI (cpI (cpI (cpI (cpI (cpI (cpI (sI (sI (r1.2) 80 0 ((r1.2).1 50 0)) 80 1 ((sI (r1.2) 80 0 ((r1.2).1 50 0)).1 50 1)) 51 (0 : Int32).toNatClampNeg 81 (0 : Int32).toNatClampNeg (40 : Int32).toNatClampNeg) 52 (0 : Int32).toNatClampNeg 82 (0 : Int32).toNatClampNeg (5 : Int32).toNatClampNeg) 53 (0 : Int32).toNatClampNeg 83 (0 : Int32).toNatClampNeg (6 : Int32).toNatClampNeg) 54 (0 : Int32).toNatClampNeg 84 (0 : Int32).toNatClampNeg (6 : Int32).toNatClampNeg) 55 (0 : Int32).toNatClampNeg 85 (0 : Int32).toNatClampNeg (6 : Int32).toNatClampNeg) 56 (0 : Int32).toNatClampNeg 86 (0 : Int32).toNatClampNeg (32 : Int32).toNatClampNeg) 80 8 ((cpI (cpI (cpI (cpI (cpI (cpI (sI (sI (r1.2) 80 0 ((r1.2).1 50 0)) 80 1 ((sI (r1.2) 80 0 ((r1.2).1 50 0)).1 50 1)) 51 (0 : Int32).toNatClampNeg 81 (0 : Int32).toNatClampNeg (40 : Int32).toNatClampNeg) 52 (0 : Int32).toNatClampNeg 82 (0 : Int32).toNatClampNeg (5 : Int32).toNatClampNeg) 53 (0 : Int32).toNatClampNeg 83 (0 : Int32).toNatClampNeg (6 : Int32).toNatClampNeg) 54 (0 : Int32).toNatClampNeg 84 (0 : Int32).toNatClampNeg (6 : Int32).toNatClampNeg) 55 (0 : Int32).toNatClampNeg 85 (0 : Int32).toNatClampNeg (6 : Int32).toNatClampNeg) 56 (0 : Int32).toNatClampNeg 86 (0 : Int32).toNatClampNeg (32 : Int32).toNatClampNeg).1 50 8)).1 50 9)).1 50 10))))))))))
theorem mv_X1_copy_50 : ZV mX1_copy_50 yX1_copy 0 := ⟨q1296, q1297, q151, q1298, rfl, by decide, by decide, by decide +kernel⟩
theorem cg_X1_copy_50 {G : zGw} (hcd : zcd G) (hb : G.2.1 50 = some (.inl 1)) (hs1 : G.2.1 51 = some (.inr (40, .byte))) (hr2 : G.2.2.1 50 2 = some 51) (hs2 : G.2.1 52 = some (.inr (5, .int))) (hr3 : G.2.2.1 50 3 = some 52) (hs3 : G.2.1 53 = some (.inr (6, .int))) (hr4 : G.2.2.1 50 4 = some 53) (hs4 : G.2.1 54 = some (.inr (6, .int))) (hr5 : G.2.2.1 50 5 = some 54) (hs5 : G.2.1 55 = some (.inr (6, .int))) (hr6 : G.2.2.1 50 6 = some 55) (hs6 : G.2.1 56 = some (.inr (32, .int))) (hr7 : G.2.2.1 50 7 = some 56) (hf80 : G.2.1 80 = none) (hf81 : G.2.1 81 = none) (hf82 : G.2.1 82 = none) (hf83 : G.2.1 83 = none) (hf84 : G.2.1 84 = none) (hf85 : G.2.1 85 = none) (hf86 : G.2.1 86 = none) : Zg mX1_copy_50 yX1_copy (fun _ g => some (.ref (g.1 80))) G (fun G' => ∃ a1 b0 b1 b2 b3 b4 b5, G' = gX1_init_80 (gA G 80 a1 (.inl 1)) b0 b1 b2 b3 b4 b5) [.ref (G.1 50)] F_X1_copy_50 := by
  refine Zg_of [some (.ref (G.1 50)), none] (by decide) rfl rfl (Nat.le_of_ble_eq_true rfl) rfl (fun X S res => ?_)
  unfold F_X1_copy_50
  refine zz_new (pc := 0) (ci := 1) (C := RX1) (T := TX1) (N := 11) (N' := 11) (1, 11) 80 hcd hf80 tyX1 rfl in_X1 tyX1_ok rfl (by decide) q1299 q184 q151 rfl rfl dX1_copy_0 (fun a1 => ?_)
  have hc1 := zcd_gA (k := 80) (a := a1) (w := .inl 1) hcd
  refine zz_dup (pc := 3) dX1_copy_3 rfl ?_
  have ct := cg_X1_init_80 (G := gA G 80 a1 (.inl 1)) hc1 rfl hf81 hf82 hf83 hf84 hf85 hf86
  refine zz_callGI (pc := 4) (idx := 39) (M := mX1_copy_50) (7, 106) _ _ 80 ct mv_X1_init_80 q1300 rfl (Nat.le_of_ble_eq_true rfl) (Nat.le_of_ble_eq_true rfl) rfl rfl rfl (Nat.le_of_ble_eq_true rfl) dX1_copy_4 (fun G1 r1 S1 hK => ?_)
  obtain ⟨b0, b1, b2, b3, b4, b5, rfl⟩ := hK
  refine zz_astore_n (pc := 7) 1 dX1_copy_7 rfl (Nat.le_of_ble_eq_true rfl) rfl ?_
  refine zz_aload_n (pc := 8) 1 dX1_copy_8 rfl rfl ?_
  refine zz_aload_n (pc := 9) 0 dX1_copy_9 rfl rfl ?_
  refine zz_get (pc := 10) (v := _) 50 1 0 hb rfl in_X1 (by decide) q189 rfl dX1_copy_10 ?_
  refine zz_putI (pc := 13) tyX1 80 1 0 rfl rfl in_X1 tyX1_ok (fun b hb9 hbj => nmX1 _ (by decide) b hb9 (Ne.symm hbj)) (by decide) q189 rfl rfl rfl dX1_copy_13 ?_
  refine zz_aload_n (pc := 16) 1 dX1_copy_16 rfl rfl ?_
  refine zz_aload_n (pc := 17) 0 dX1_copy_17 rfl rfl ?_
  refine zz_get (pc := 18) (v := _) 50 1 1 hb rfl in_X1 (by decide) q193 rfl dX1_copy_18 ?_
  refine zz_putI (pc := 21) tyX1 80 1 1 rfl rfl in_X1 tyX1_ok (fun b hb9 hbj => nmX1 _ (by decide) b hb9 (Ne.symm hbj)) (by decide) q193 rfl rfl rfl dX1_copy_21 ?_
  refine zz_aload_n (pc := 24) 0 dX1_copy_24 rfl rfl ?_
  refine zz_get (pc := 25) (v := .ref ((gX1_init_80 (gA G 80 a1 (.inl 1)) b0 b1 b2 b3 b4 b5).1 51)) 50 1 2 hb rfl in_X1 (by decide) q196 (zval_rf rfl hr2) dX1_copy_25 ?_
  refine zz_iconst (pc := 28) (v := 0) dX1_copy_28 (by decide) ?_
  refine zz_aload_n (pc := 29) 1 dX1_copy_29 rfl rfl ?_
  refine zz_get (pc := 30) (v := .ref ((gX1_init_80 (gA G 80 a1 (.inl 1)) b0 b1 b2 b3 b4 b5).1 81)) 80 1 2 rfl rfl in_X1 (by decide) q196 rfl dX1_copy_30 ?_
  refine zz_iconst (pc := 33) (v := 0) dX1_copy_33 (by decide) ?_
  refine zz_aload_n (pc := 34) 0 dX1_copy_34 rfl rfl ?_
  refine zz_get (pc := 35) (v := .ref ((gX1_init_80 (gA G 80 a1 (.inl 1)) b0 b1 b2 b3 b4 b5).1 51)) 50 1 2 hb rfl in_X1 (by decide) q196 (zval_rf rfl hr2) dX1_copy_35 ?_
  refine zz_alen (pc := 38) 51 40 .byte hs1 (v := 40) (by decide) dX1_copy_38 ?_
  refine zz_fit (fun hfit => ?_)
  refine zz_acopyT (pc := 39) (ty := .byte) 51 81 40 40 hs1 rfl (fun _ _ _ _ => rfl) rfl (by decide) q1301 (Nat.le_of_ble_eq_true rfl) (Nat.le_of_ble_eq_true rfl) dX1_copy_39 (fun i hi => by have := hfit i hi; simpa using this) ?_
  refine zz_aload_n (pc := 42) 0 dX1_copy_42 rfl rfl ?_
  refine zz_get (pc := 43) (v := .ref ((gX1_init_80 (gA G 80 a1 (.inl 1)) b0 b1 b2 b3 b4 b5).1 52)) 50 1 3 hb rfl in_X1 (by decide) q199 (zval_rf rfl hr3) dX1_copy_43 ?_
  refine zz_iconst (pc := 46) (v := 0) dX1_copy_46 (by decide) ?_
  refine zz_aload_n (pc := 47) 1 dX1_copy_47 rfl rfl ?_
  refine zz_get (pc := 48) (v := .ref ((gX1_init_80 (gA G 80 a1 (.inl 1)) b0 b1 b2 b3 b4 b5).1 82)) 80 1 3 rfl rfl in_X1 (by decide) q199 rfl dX1_copy_48 ?_
  refine zz_iconst (pc := 51) (v := 0) dX1_copy_51 (by decide) ?_
  refine zz_iconst (pc := 52) (v := 5) dX1_copy_52 (by decide) ?_
  refine zz_acopyI (pc := 53) 52 82 5 5 hs2 rfl (by decide) q1301 (Nat.le_of_ble_eq_true rfl) (Nat.le_of_ble_eq_true rfl) dX1_copy_53 ?_
  refine zz_aload_n (pc := 56) 0 dX1_copy_56 rfl rfl ?_
  refine zz_get (pc := 57) (v := .ref ((gX1_init_80 (gA G 80 a1 (.inl 1)) b0 b1 b2 b3 b4 b5).1 53)) 50 1 4 hb rfl in_X1 (by decide) q202 (zval_rf rfl hr4) dX1_copy_57 ?_
  refine zz_iconst (pc := 60) (v := 0) dX1_copy_60 (by decide) ?_
  refine zz_aload_n (pc := 61) 1 dX1_copy_61 rfl rfl ?_
  refine zz_get (pc := 62) (v := .ref ((gX1_init_80 (gA G 80 a1 (.inl 1)) b0 b1 b2 b3 b4 b5).1 83)) 80 1 4 rfl rfl in_X1 (by decide) q202 rfl dX1_copy_62 ?_
  refine zz_iconst (pc := 65) (v := 0) dX1_copy_65 (by decide) ?_
  refine zz_bipush (pc := 66) (v := 6) dX1_copy_66 (by decide) ?_
  refine zz_acopyI (pc := 68) 53 83 6 6 hs3 rfl (by decide) q1301 (Nat.le_of_ble_eq_true rfl) (Nat.le_of_ble_eq_true rfl) dX1_copy_68 ?_
  refine zz_aload_n (pc := 71) 0 dX1_copy_71 rfl rfl ?_
  refine zz_get (pc := 72) (v := .ref ((gX1_init_80 (gA G 80 a1 (.inl 1)) b0 b1 b2 b3 b4 b5).1 54)) 50 1 5 hb rfl in_X1 (by decide) q205 (zval_rf rfl hr5) dX1_copy_72 ?_
  refine zz_iconst (pc := 75) (v := 0) dX1_copy_75 (by decide) ?_
  refine zz_aload_n (pc := 76) 1 dX1_copy_76 rfl rfl ?_
  refine zz_get (pc := 77) (v := .ref ((gX1_init_80 (gA G 80 a1 (.inl 1)) b0 b1 b2 b3 b4 b5).1 84)) 80 1 5 rfl rfl in_X1 (by decide) q205 rfl dX1_copy_77 ?_
  refine zz_iconst (pc := 80) (v := 0) dX1_copy_80 (by decide) ?_
  refine zz_bipush (pc := 81) (v := 6) dX1_copy_81 (by decide) ?_
  refine zz_acopyI (pc := 83) 54 84 6 6 hs4 rfl (by decide) q1301 (Nat.le_of_ble_eq_true rfl) (Nat.le_of_ble_eq_true rfl) dX1_copy_83 ?_
  refine zz_aload_n (pc := 86) 0 dX1_copy_86 rfl rfl ?_
  refine zz_get (pc := 87) (v := .ref ((gX1_init_80 (gA G 80 a1 (.inl 1)) b0 b1 b2 b3 b4 b5).1 55)) 50 1 6 hb rfl in_X1 (by decide) q208 (zval_rf rfl hr6) dX1_copy_87 ?_
  refine zz_iconst (pc := 90) (v := 0) dX1_copy_90 (by decide) ?_
  refine zz_aload_n (pc := 91) 1 dX1_copy_91 rfl rfl ?_
  refine zz_get (pc := 92) (v := .ref ((gX1_init_80 (gA G 80 a1 (.inl 1)) b0 b1 b2 b3 b4 b5).1 85)) 80 1 6 rfl rfl in_X1 (by decide) q208 rfl dX1_copy_92 ?_
  refine zz_iconst (pc := 95) (v := 0) dX1_copy_95 (by decide) ?_
  refine zz_bipush (pc := 96) (v := 6) dX1_copy_96 (by decide) ?_
  refine zz_acopyI (pc := 98) 55 85 6 6 hs5 rfl (by decide) q1301 (Nat.le_of_ble_eq_true rfl) (Nat.le_of_ble_eq_true rfl) dX1_copy_98 ?_
  refine zz_aload_n (pc := 101) 0 dX1_copy_101 rfl rfl ?_
  refine zz_get (pc := 102) (v := .ref ((gX1_init_80 (gA G 80 a1 (.inl 1)) b0 b1 b2 b3 b4 b5).1 56)) 50 1 7 hb rfl in_X1 (by decide) q211 (zval_rf rfl hr7) dX1_copy_102 ?_
  refine zz_iconst (pc := 105) (v := 0) dX1_copy_105 (by decide) ?_
  refine zz_aload_n (pc := 106) 1 dX1_copy_106 rfl rfl ?_
  refine zz_get (pc := 107) (v := .ref ((gX1_init_80 (gA G 80 a1 (.inl 1)) b0 b1 b2 b3 b4 b5).1 86)) 80 1 7 rfl rfl in_X1 (by decide) q211 rfl dX1_copy_107 ?_
  refine zz_iconst (pc := 110) (v := 0) dX1_copy_110 (by decide) ?_
  refine zz_bipush (pc := 111) (v := 32) dX1_copy_111 (by decide) ?_
  refine zz_acopyI (pc := 113) 56 86 32 32 hs6 rfl (by decide) q1301 (Nat.le_of_ble_eq_true rfl) (Nat.le_of_ble_eq_true rfl) dX1_copy_113 ?_
  refine zz_aload_n (pc := 116) 1 dX1_copy_116 rfl rfl ?_
  refine zz_aload_n (pc := 117) 0 dX1_copy_117 rfl rfl ?_
  refine zz_get (pc := 118) (v := _) 50 1 8 hb rfl in_X1 (by decide) q213 rfl dX1_copy_118 ?_
  refine zz_putI (pc := 121) tyX1 80 1 8 rfl rfl in_X1 tyX1_ok (fun b hb9 hbj => nmX1 _ (by decide) b hb9 (Ne.symm hbj)) (by decide) q213 rfl rfl rfl dX1_copy_121 ?_
  refine zz_aload_n (pc := 124) 1 dX1_copy_124 rfl rfl ?_
  refine zz_aload_n (pc := 125) 0 dX1_copy_125 rfl rfl ?_
  refine zz_get (pc := 126) (v := _) 50 1 9 hb rfl in_X1 (by decide) q216 rfl dX1_copy_126 ?_
  refine zz_putI (pc := 129) tyX1 80 1 9 rfl rfl in_X1 tyX1_ok (fun b hb9 hbj => nmX1 _ (by decide) b hb9 (Ne.symm hbj)) (by decide) q216 rfl rfl rfl dX1_copy_129 ?_
  refine zz_aload_n (pc := 132) 1 dX1_copy_132 rfl rfl ?_
  refine zz_aload_n (pc := 133) 0 dX1_copy_133 rfl rfl ?_
  refine zz_get (pc := 134) (v := _) 50 1 10 hb rfl in_X1 (by decide) q219 rfl dX1_copy_134 ?_
  refine zz_putI (pc := 137) tyX1 80 1 10 rfl rfl in_X1 tyX1_ok (fun b hb9 hbj => nmX1 _ (by decide) b hb9 (Ne.symm hbj)) (by decide) q219 rfl rfl rfl dX1_copy_137 ?_
  refine zz_aload_n (pc := 140) 1 dX1_copy_140 rfl rfl ?_
  refine zz_garet (q := 80) (C := "HiddenCube$Town") ?_ rfl rfl ?_ dX1_copy_141 rfl
  · rfl
  · exact ⟨a1, b0, b1, b2, b3, b4, b5, rfl⟩
abbrev mX1_copy_58 : zMr := ("HiddenCube$Town", cX1_copy, 2, some (.object "HiddenCube$Town"), 6, 7, 106, none)
def F_X1_copy_58 (S : zSt) : Option (Unit × zSt) :=
(F_X1_init_80 (sZ S 80)).bind (fun r1 =>
zfit 59 40 (sI (sI (r1.2) 80 0 ((r1.2).1 58 0)) 80 1 ((sI (r1.2) 80 0 ((r1.2).1 58 0)).1 58 1)) (acopy 40 40 0 0 40 (acopy 5 5 0 0 5 (acopy 6 6 0 0 6 (acopy 6 6 0 0 6 (acopy 6 6 0 0 6 (acopy 32 32 0 0 32 (some ((), sI (sI (sI (cpI (cpI (cpI (cpI (cpI (cpI (sI (sI (r1.2) 80 0 ((r1.2).1 58 0)) 80 1 ((sI (r1.2) 80 0 ((r1.2).1 58 0)).1 58 1)) 59 (0 : Int32).toNatClampNeg 81 (0 : Int32).toNatClampNeg (40 : Int32).toNatClampNeg) 60 (0 : Int32).toNatClampNeg 82 (0 : Int32).toNatClampNeg (5 : Int32).toNatClampNeg) 61 (0 : Int32).toNatClampNeg 83 (0 : Int32).toNatClampNeg (6 : Int32).toNatClampNeg) 62 (0 : Int32).toNatClampNeg 84 (0 : Int32).toNatClampNeg (6 : Int32).toNatClampNeg) 63 (0 : Int32).toNatClampNeg 85 (0 : Int32).toNatClampNeg (6 : Int32).toNatClampNeg) 64 (0 : Int32).toNatClampNeg 86 (0 : Int32).toNatClampNeg (32 : Int32).toNatClampNeg) 80 8 ((cpI (cpI (cpI (cpI (cpI (cpI (sI (sI (r1.2) 80 0 ((r1.2).1 58 0)) 80 1 ((sI (r1.2) 80 0 ((r1.2).1 58 0)).1 58 1)) 59 (0 : Int32).toNatClampNeg 81 (0 : Int32).toNatClampNeg (40 : Int32).toNatClampNeg) 60 (0 : Int32).toNatClampNeg 82 (0 : Int32).toNatClampNeg (5 : Int32).toNatClampNeg) 61 (0 : Int32).toNatClampNeg 83 (0 : Int32).toNatClampNeg (6 : Int32).toNatClampNeg) 62 (0 : Int32).toNatClampNeg 84 (0 : Int32).toNatClampNeg (6 : Int32).toNatClampNeg) 63 (0 : Int32).toNatClampNeg 85 (0 : Int32).toNatClampNeg (6 : Int32).toNatClampNeg) 64 (0 : Int32).toNatClampNeg 86 (0 : Int32).toNatClampNeg (32 : Int32).toNatClampNeg).1 58 8)) 80 9 ((sI (cpI (cpI (cpI (cpI (cpI (cpI (sI (sI (r1.2) 80 0 ((r1.2).1 58 0)) 80 1 ((sI (r1.2) 80 0 ((r1.2).1 58 0)).1 58 1)) 59 (0 : Int32).toNatClampNeg 81 (0 : Int32).toNatClampNeg (40 : Int32).toNatClampNeg) 60 (0 : Int32).toNatClampNeg 82 (0 : Int32).toNatClampNeg (5 : Int32).toNatClampNeg) 61 (0 : Int32).toNatClampNeg 83 (0 : Int32).toNatClampNeg (6 : Int32).toNatClampNeg) 62 (0 : Int32).toNatClampNeg 84 (0 : Int32).toNatClampNeg (6 : Int32).toNatClampNeg) 63 (0 : Int32).toNatClampNeg 85 (0 : Int32).toNatClampNeg (6 : Int32).toNatClampNeg) 64 (0 : Int32).toNatClampNeg 86 (0 : Int32).toNatClampNeg (32 : Int32).toNatClampNeg) 80 8 ((cpI (cpI (cpI (cpI (cpI (cpI (sI (sI (r1.2) 80 0 ((r1.2).1 58 0)) 80 1 ((sI (r1.2) 80 0 ((r1.2).1 58 0)).1 58 1)) 59 (0 : Int32).toNatClampNeg 81 (0 : Int32).toNatClampNeg (40 : Int32).toNatClampNeg) 60 (0 : Int32).toNatClampNeg 82 (0 : Int32).toNatClampNeg (5 : Int32).toNatClampNeg) 61 (0 : Int32).toNatClampNeg 83 (0 : Int32).toNatClampNeg (6 : Int32).toNatClampNeg) 62 (0 : Int32).toNatClampNeg 84 (0 : Int32).toNatClampNeg (6 : Int32).toNatClampNeg) 63 (0 : Int32).toNatClampNeg 85 (0 : Int32).toNatClampNeg (6 : Int32).toNatClampNeg) 64 (0 : Int32).toNatClampNeg 86 (0 : Int32).toNatClampNeg (32 : Int32).toNatClampNeg).1 58 8)).1 58 9)) 80 10 ((sI (sI (cpI (cpI (cpI (cpI (cpI (cpI (sI (sI (r1.2) 80 0 ((r1.2).1 58 0)) 80 1 ((sI (r1.2) 80 0 ((r1.2).1 58 0)).1 58 1)) 59 (0 : Int32).toNatClampNeg 81 (0 : Int32).toNatClampNeg (40 : Int32).toNatClampNeg) 60 (0 : Int32).toNatClampNeg 82 (0 : Int32).toNatClampNeg (5 : Int32).toNatClampNeg) 61 (0 : Int32).toNatClampNeg 83 (0 : Int32).toNatClampNeg (6 : Int32).toNatClampNeg) 62 (0 : Int32).toNatClampNeg 84 (0 : Int32).toNatClampNeg (6 : Int32).toNatClampNeg) 63 (0 : Int32).toNatClampNeg 85 (0 : Int32).toNatClampNeg (6 : Int32).toNatClampNeg) 64 (0 : Int32).toNatClampNeg 86 (0 : Int32).toNatClampNeg (32 : Int32).toNatClampNeg) 80 8 ((cpI (cpI (cpI (cpI (cpI (cpI (sI (sI (r1.2) 80 0 ((r1.2).1 58 0)) 80 1 ((sI (r1.2) 80 0 ((r1.2).1 58 0)).1 58 1)) 59 (0 : Int32).toNatClampNeg 81 (0 : Int32).toNatClampNeg (40 : Int32).toNatClampNeg) 60 (0 : Int32).toNatClampNeg 82 (0 : Int32).toNatClampNeg (5 : Int32).toNatClampNeg) 61 (0 : Int32).toNatClampNeg 83 (0 : Int32).toNatClampNeg (6 : Int32).toNatClampNeg) 62 (0 : Int32).toNatClampNeg 84 (0 : Int32).toNatClampNeg (6 : Int32).toNatClampNeg) 63 (0 : Int32).toNatClampNeg 85 (0 : Int32).toNatClampNeg (6 : Int32).toNatClampNeg) 64 (0 : Int32).toNatClampNeg 86 (0 : Int32).toNatClampNeg (32 : Int32).toNatClampNeg).1 58 8)) 80 9 ((sI (cpI (cpI (cpI (cpI (cpI (cpI (sI (sI (r1.2) 80 0 ((r1.2).1 58 0)) 80 1 ((sI (r1.2) 80 0 ((r1.2).1 58 0)).1 58 1)) 59 (0 : Int32).toNatClampNeg 81 (0 : Int32).toNatClampNeg (40 : Int32).toNatClampNeg) 60 (0 : Int32).toNatClampNeg 82 (0 : Int32).toNatClampNeg (5 : Int32).toNatClampNeg) 61 (0 : Int32).toNatClampNeg 83 (0 : Int32).toNatClampNeg (6 : Int32).toNatClampNeg) 62 (0 : Int32).toNatClampNeg 84 (0 : Int32).toNatClampNeg (6 : Int32).toNatClampNeg) 63 (0 : Int32).toNatClampNeg 85 (0 : Int32).toNatClampNeg (6 : Int32).toNatClampNeg) 64 (0 : Int32).toNatClampNeg 86 (0 : Int32).toNatClampNeg (32 : Int32).toNatClampNeg) 80 8 ((cpI (cpI (cpI (cpI (cpI (cpI (sI (sI (r1.2) 80 0 ((r1.2).1 58 0)) 80 1 ((sI (r1.2) 80 0 ((r1.2).1 58 0)).1 58 1)) 59 (0 : Int32).toNatClampNeg 81 (0 : Int32).toNatClampNeg (40 : Int32).toNatClampNeg) 60 (0 : Int32).toNatClampNeg 82 (0 : Int32).toNatClampNeg (5 : Int32).toNatClampNeg) 61 (0 : Int32).toNatClampNeg 83 (0 : Int32).toNatClampNeg (6 : Int32).toNatClampNeg) 62 (0 : Int32).toNatClampNeg 84 (0 : Int32).toNatClampNeg (6 : Int32).toNatClampNeg) 63 (0 : Int32).toNatClampNeg 85 (0 : Int32).toNatClampNeg (6 : Int32).toNatClampNeg) 64 (0 : Int32).toNatClampNeg 86 (0 : Int32).toNatClampNeg (32 : Int32).toNatClampNeg).1 58 8)).1 58 9)).1 58 10))))))))))
theorem mv_X1_copy_58 : ZV mX1_copy_58 yX1_copy 0 := ⟨q1296, q1297, q151, q1298, rfl, by decide, by decide, by decide +kernel⟩
theorem cg_X1_copy_58 {G : zGw} (hcd : zcd G) (hb : G.2.1 58 = some (.inl 1)) (hs1 : G.2.1 59 = some (.inr (40, .byte))) (hr2 : G.2.2.1 58 2 = some 59) (hs2 : G.2.1 60 = some (.inr (5, .int))) (hr3 : G.2.2.1 58 3 = some 60) (hs3 : G.2.1 61 = some (.inr (6, .int))) (hr4 : G.2.2.1 58 4 = some 61) (hs4 : G.2.1 62 = some (.inr (6, .int))) (hr5 : G.2.2.1 58 5 = some 62) (hs5 : G.2.1 63 = some (.inr (6, .int))) (hr6 : G.2.2.1 58 6 = some 63) (hs6 : G.2.1 64 = some (.inr (32, .int))) (hr7 : G.2.2.1 58 7 = some 64) (hf80 : G.2.1 80 = none) (hf81 : G.2.1 81 = none) (hf82 : G.2.1 82 = none) (hf83 : G.2.1 83 = none) (hf84 : G.2.1 84 = none) (hf85 : G.2.1 85 = none) (hf86 : G.2.1 86 = none) : Zg mX1_copy_58 yX1_copy (fun _ g => some (.ref (g.1 80))) G (fun G' => ∃ a1 b0 b1 b2 b3 b4 b5, G' = gX1_init_80 (gA G 80 a1 (.inl 1)) b0 b1 b2 b3 b4 b5) [.ref (G.1 58)] F_X1_copy_58 := by
  refine Zg_of [some (.ref (G.1 58)), none] (by decide) rfl rfl (Nat.le_of_ble_eq_true rfl) rfl (fun X S res => ?_)
  unfold F_X1_copy_58
  refine zz_new (pc := 0) (ci := 1) (C := RX1) (T := TX1) (N := 11) (N' := 11) (1, 11) 80 hcd hf80 tyX1 rfl in_X1 tyX1_ok rfl (by decide) q1299 q184 q151 rfl rfl dX1_copy_0 (fun a1 => ?_)
  have hc1 := zcd_gA (k := 80) (a := a1) (w := .inl 1) hcd
  refine zz_dup (pc := 3) dX1_copy_3 rfl ?_
  have ct := cg_X1_init_80 (G := gA G 80 a1 (.inl 1)) hc1 rfl hf81 hf82 hf83 hf84 hf85 hf86
  refine zz_callGI (pc := 4) (idx := 39) (M := mX1_copy_58) (7, 106) _ _ 80 ct mv_X1_init_80 q1300 rfl (Nat.le_of_ble_eq_true rfl) (Nat.le_of_ble_eq_true rfl) rfl rfl rfl (Nat.le_of_ble_eq_true rfl) dX1_copy_4 (fun G1 r1 S1 hK => ?_)
  obtain ⟨b0, b1, b2, b3, b4, b5, rfl⟩ := hK
  refine zz_astore_n (pc := 7) 1 dX1_copy_7 rfl (Nat.le_of_ble_eq_true rfl) rfl ?_
  refine zz_aload_n (pc := 8) 1 dX1_copy_8 rfl rfl ?_
  refine zz_aload_n (pc := 9) 0 dX1_copy_9 rfl rfl ?_
  refine zz_get (pc := 10) (v := _) 58 1 0 hb rfl in_X1 (by decide) q189 rfl dX1_copy_10 ?_
  refine zz_putI (pc := 13) tyX1 80 1 0 rfl rfl in_X1 tyX1_ok (fun b hb9 hbj => nmX1 _ (by decide) b hb9 (Ne.symm hbj)) (by decide) q189 rfl rfl rfl dX1_copy_13 ?_
  refine zz_aload_n (pc := 16) 1 dX1_copy_16 rfl rfl ?_
  refine zz_aload_n (pc := 17) 0 dX1_copy_17 rfl rfl ?_
  refine zz_get (pc := 18) (v := _) 58 1 1 hb rfl in_X1 (by decide) q193 rfl dX1_copy_18 ?_
  refine zz_putI (pc := 21) tyX1 80 1 1 rfl rfl in_X1 tyX1_ok (fun b hb9 hbj => nmX1 _ (by decide) b hb9 (Ne.symm hbj)) (by decide) q193 rfl rfl rfl dX1_copy_21 ?_
  refine zz_aload_n (pc := 24) 0 dX1_copy_24 rfl rfl ?_
  refine zz_get (pc := 25) (v := .ref ((gX1_init_80 (gA G 80 a1 (.inl 1)) b0 b1 b2 b3 b4 b5).1 59)) 58 1 2 hb rfl in_X1 (by decide) q196 (zval_rf rfl hr2) dX1_copy_25 ?_
  refine zz_iconst (pc := 28) (v := 0) dX1_copy_28 (by decide) ?_
  refine zz_aload_n (pc := 29) 1 dX1_copy_29 rfl rfl ?_
  refine zz_get (pc := 30) (v := .ref ((gX1_init_80 (gA G 80 a1 (.inl 1)) b0 b1 b2 b3 b4 b5).1 81)) 80 1 2 rfl rfl in_X1 (by decide) q196 rfl dX1_copy_30 ?_
  refine zz_iconst (pc := 33) (v := 0) dX1_copy_33 (by decide) ?_
  refine zz_aload_n (pc := 34) 0 dX1_copy_34 rfl rfl ?_
  refine zz_get (pc := 35) (v := .ref ((gX1_init_80 (gA G 80 a1 (.inl 1)) b0 b1 b2 b3 b4 b5).1 59)) 58 1 2 hb rfl in_X1 (by decide) q196 (zval_rf rfl hr2) dX1_copy_35 ?_
  refine zz_alen (pc := 38) 59 40 .byte hs1 (v := 40) (by decide) dX1_copy_38 ?_
  refine zz_fit (fun hfit => ?_)
  refine zz_acopyT (pc := 39) (ty := .byte) 59 81 40 40 hs1 rfl (fun _ _ _ _ => rfl) rfl (by decide) q1301 (Nat.le_of_ble_eq_true rfl) (Nat.le_of_ble_eq_true rfl) dX1_copy_39 (fun i hi => by have := hfit i hi; simpa using this) ?_
  refine zz_aload_n (pc := 42) 0 dX1_copy_42 rfl rfl ?_
  refine zz_get (pc := 43) (v := .ref ((gX1_init_80 (gA G 80 a1 (.inl 1)) b0 b1 b2 b3 b4 b5).1 60)) 58 1 3 hb rfl in_X1 (by decide) q199 (zval_rf rfl hr3) dX1_copy_43 ?_
  refine zz_iconst (pc := 46) (v := 0) dX1_copy_46 (by decide) ?_
  refine zz_aload_n (pc := 47) 1 dX1_copy_47 rfl rfl ?_
  refine zz_get (pc := 48) (v := .ref ((gX1_init_80 (gA G 80 a1 (.inl 1)) b0 b1 b2 b3 b4 b5).1 82)) 80 1 3 rfl rfl in_X1 (by decide) q199 rfl dX1_copy_48 ?_
  refine zz_iconst (pc := 51) (v := 0) dX1_copy_51 (by decide) ?_
  refine zz_iconst (pc := 52) (v := 5) dX1_copy_52 (by decide) ?_
  refine zz_acopyI (pc := 53) 60 82 5 5 hs2 rfl (by decide) q1301 (Nat.le_of_ble_eq_true rfl) (Nat.le_of_ble_eq_true rfl) dX1_copy_53 ?_
  refine zz_aload_n (pc := 56) 0 dX1_copy_56 rfl rfl ?_
  refine zz_get (pc := 57) (v := .ref ((gX1_init_80 (gA G 80 a1 (.inl 1)) b0 b1 b2 b3 b4 b5).1 61)) 58 1 4 hb rfl in_X1 (by decide) q202 (zval_rf rfl hr4) dX1_copy_57 ?_
  refine zz_iconst (pc := 60) (v := 0) dX1_copy_60 (by decide) ?_
  refine zz_aload_n (pc := 61) 1 dX1_copy_61 rfl rfl ?_
  refine zz_get (pc := 62) (v := .ref ((gX1_init_80 (gA G 80 a1 (.inl 1)) b0 b1 b2 b3 b4 b5).1 83)) 80 1 4 rfl rfl in_X1 (by decide) q202 rfl dX1_copy_62 ?_
  refine zz_iconst (pc := 65) (v := 0) dX1_copy_65 (by decide) ?_
  refine zz_bipush (pc := 66) (v := 6) dX1_copy_66 (by decide) ?_
  refine zz_acopyI (pc := 68) 61 83 6 6 hs3 rfl (by decide) q1301 (Nat.le_of_ble_eq_true rfl) (Nat.le_of_ble_eq_true rfl) dX1_copy_68 ?_
  refine zz_aload_n (pc := 71) 0 dX1_copy_71 rfl rfl ?_
  refine zz_get (pc := 72) (v := .ref ((gX1_init_80 (gA G 80 a1 (.inl 1)) b0 b1 b2 b3 b4 b5).1 62)) 58 1 5 hb rfl in_X1 (by decide) q205 (zval_rf rfl hr5) dX1_copy_72 ?_
  refine zz_iconst (pc := 75) (v := 0) dX1_copy_75 (by decide) ?_
  refine zz_aload_n (pc := 76) 1 dX1_copy_76 rfl rfl ?_
  refine zz_get (pc := 77) (v := .ref ((gX1_init_80 (gA G 80 a1 (.inl 1)) b0 b1 b2 b3 b4 b5).1 84)) 80 1 5 rfl rfl in_X1 (by decide) q205 rfl dX1_copy_77 ?_
  refine zz_iconst (pc := 80) (v := 0) dX1_copy_80 (by decide) ?_
  refine zz_bipush (pc := 81) (v := 6) dX1_copy_81 (by decide) ?_
  refine zz_acopyI (pc := 83) 62 84 6 6 hs4 rfl (by decide) q1301 (Nat.le_of_ble_eq_true rfl) (Nat.le_of_ble_eq_true rfl) dX1_copy_83 ?_
  refine zz_aload_n (pc := 86) 0 dX1_copy_86 rfl rfl ?_
  refine zz_get (pc := 87) (v := .ref ((gX1_init_80 (gA G 80 a1 (.inl 1)) b0 b1 b2 b3 b4 b5).1 63)) 58 1 6 hb rfl in_X1 (by decide) q208 (zval_rf rfl hr6) dX1_copy_87 ?_
  refine zz_iconst (pc := 90) (v := 0) dX1_copy_90 (by decide) ?_
  refine zz_aload_n (pc := 91) 1 dX1_copy_91 rfl rfl ?_
  refine zz_get (pc := 92) (v := .ref ((gX1_init_80 (gA G 80 a1 (.inl 1)) b0 b1 b2 b3 b4 b5).1 85)) 80 1 6 rfl rfl in_X1 (by decide) q208 rfl dX1_copy_92 ?_
  refine zz_iconst (pc := 95) (v := 0) dX1_copy_95 (by decide) ?_
  refine zz_bipush (pc := 96) (v := 6) dX1_copy_96 (by decide) ?_
  refine zz_acopyI (pc := 98) 63 85 6 6 hs5 rfl (by decide) q1301 (Nat.le_of_ble_eq_true rfl) (Nat.le_of_ble_eq_true rfl) dX1_copy_98 ?_
  refine zz_aload_n (pc := 101) 0 dX1_copy_101 rfl rfl ?_
  refine zz_get (pc := 102) (v := .ref ((gX1_init_80 (gA G 80 a1 (.inl 1)) b0 b1 b2 b3 b4 b5).1 64)) 58 1 7 hb rfl in_X1 (by decide) q211 (zval_rf rfl hr7) dX1_copy_102 ?_
  refine zz_iconst (pc := 105) (v := 0) dX1_copy_105 (by decide) ?_
  refine zz_aload_n (pc := 106) 1 dX1_copy_106 rfl rfl ?_
  refine zz_get (pc := 107) (v := .ref ((gX1_init_80 (gA G 80 a1 (.inl 1)) b0 b1 b2 b3 b4 b5).1 86)) 80 1 7 rfl rfl in_X1 (by decide) q211 rfl dX1_copy_107 ?_
  refine zz_iconst (pc := 110) (v := 0) dX1_copy_110 (by decide) ?_
  refine zz_bipush (pc := 111) (v := 32) dX1_copy_111 (by decide) ?_
  refine zz_acopyI (pc := 113) 64 86 32 32 hs6 rfl (by decide) q1301 (Nat.le_of_ble_eq_true rfl) (Nat.le_of_ble_eq_true rfl) dX1_copy_113 ?_
  refine zz_aload_n (pc := 116) 1 dX1_copy_116 rfl rfl ?_
  refine zz_aload_n (pc := 117) 0 dX1_copy_117 rfl rfl ?_
  refine zz_get (pc := 118) (v := _) 58 1 8 hb rfl in_X1 (by decide) q213 rfl dX1_copy_118 ?_
  refine zz_putI (pc := 121) tyX1 80 1 8 rfl rfl in_X1 tyX1_ok (fun b hb9 hbj => nmX1 _ (by decide) b hb9 (Ne.symm hbj)) (by decide) q213 rfl rfl rfl dX1_copy_121 ?_
  refine zz_aload_n (pc := 124) 1 dX1_copy_124 rfl rfl ?_
  refine zz_aload_n (pc := 125) 0 dX1_copy_125 rfl rfl ?_
  refine zz_get (pc := 126) (v := _) 58 1 9 hb rfl in_X1 (by decide) q216 rfl dX1_copy_126 ?_
  refine zz_putI (pc := 129) tyX1 80 1 9 rfl rfl in_X1 tyX1_ok (fun b hb9 hbj => nmX1 _ (by decide) b hb9 (Ne.symm hbj)) (by decide) q216 rfl rfl rfl dX1_copy_129 ?_
  refine zz_aload_n (pc := 132) 1 dX1_copy_132 rfl rfl ?_
  refine zz_aload_n (pc := 133) 0 dX1_copy_133 rfl rfl ?_
  refine zz_get (pc := 134) (v := _) 58 1 10 hb rfl in_X1 (by decide) q219 rfl dX1_copy_134 ?_
  refine zz_putI (pc := 137) tyX1 80 1 10 rfl rfl in_X1 tyX1_ok (fun b hb9 hbj => nmX1 _ (by decide) b hb9 (Ne.symm hbj)) (by decide) q219 rfl rfl rfl dX1_copy_137 ?_
  refine zz_aload_n (pc := 140) 1 dX1_copy_140 rfl rfl ?_
  refine zz_garet (q := 80) (C := "HiddenCube$Town") ?_ rfl rfl ?_ dX1_copy_141 rfl
  · rfl
  · exact ⟨a1, b0, b1, b2, b3, b4, b5, rfl⟩
abbrev mX1_copy_66 : zMr := ("HiddenCube$Town", cX1_copy, 2, some (.object "HiddenCube$Town"), 6, 7, 106, none)
def F_X1_copy_66 (S : zSt) : Option (Unit × zSt) :=
(F_X1_init_80 (sZ S 80)).bind (fun r1 =>
zfit 67 40 (sI (sI (r1.2) 80 0 ((r1.2).1 66 0)) 80 1 ((sI (r1.2) 80 0 ((r1.2).1 66 0)).1 66 1)) (acopy 40 40 0 0 40 (acopy 5 5 0 0 5 (acopy 6 6 0 0 6 (acopy 6 6 0 0 6 (acopy 6 6 0 0 6 (acopy 32 32 0 0 32 (some ((), sI (sI (sI (cpI (cpI (cpI (cpI (cpI (cpI (sI (sI (r1.2) 80 0 ((r1.2).1 66 0)) 80 1 ((sI (r1.2) 80 0 ((r1.2).1 66 0)).1 66 1)) 67 (0 : Int32).toNatClampNeg 81 (0 : Int32).toNatClampNeg (40 : Int32).toNatClampNeg) 68 (0 : Int32).toNatClampNeg 82 (0 : Int32).toNatClampNeg (5 : Int32).toNatClampNeg) 69 (0 : Int32).toNatClampNeg 83 (0 : Int32).toNatClampNeg (6 : Int32).toNatClampNeg) 70 (0 : Int32).toNatClampNeg 84 (0 : Int32).toNatClampNeg (6 : Int32).toNatClampNeg) 71 (0 : Int32).toNatClampNeg 85 (0 : Int32).toNatClampNeg (6 : Int32).toNatClampNeg) 72 (0 : Int32).toNatClampNeg 86 (0 : Int32).toNatClampNeg (32 : Int32).toNatClampNeg) 80 8 ((cpI (cpI (cpI (cpI (cpI (cpI (sI (sI (r1.2) 80 0 ((r1.2).1 66 0)) 80 1 ((sI (r1.2) 80 0 ((r1.2).1 66 0)).1 66 1)) 67 (0 : Int32).toNatClampNeg 81 (0 : Int32).toNatClampNeg (40 : Int32).toNatClampNeg) 68 (0 : Int32).toNatClampNeg 82 (0 : Int32).toNatClampNeg (5 : Int32).toNatClampNeg) 69 (0 : Int32).toNatClampNeg 83 (0 : Int32).toNatClampNeg (6 : Int32).toNatClampNeg) 70 (0 : Int32).toNatClampNeg 84 (0 : Int32).toNatClampNeg (6 : Int32).toNatClampNeg) 71 (0 : Int32).toNatClampNeg 85 (0 : Int32).toNatClampNeg (6 : Int32).toNatClampNeg) 72 (0 : Int32).toNatClampNeg 86 (0 : Int32).toNatClampNeg (32 : Int32).toNatClampNeg).1 66 8)) 80 9 ((sI (cpI (cpI (cpI (cpI (cpI (cpI (sI (sI (r1.2) 80 0 ((r1.2).1 66 0)) 80 1 ((sI (r1.2) 80 0 ((r1.2).1 66 0)).1 66 1)) 67 (0 : Int32).toNatClampNeg 81 (0 : Int32).toNatClampNeg (40 : Int32).toNatClampNeg) 68 (0 : Int32).toNatClampNeg 82 (0 : Int32).toNatClampNeg (5 : Int32).toNatClampNeg) 69 (0 : Int32).toNatClampNeg 83 (0 : Int32).toNatClampNeg (6 : Int32).toNatClampNeg) 70 (0 : Int32).toNatClampNeg 84 (0 : Int32).toNatClampNeg (6 : Int32).toNatClampNeg) 71 (0 : Int32).toNatClampNeg 85 (0 : Int32).toNatClampNeg (6 : Int32).toNatClampNeg) 72 (0 : Int32).toNatClampNeg 86 (0 : Int32).toNatClampNeg (32 : Int32).toNatClampNeg) 80 8 ((cpI (cpI (cpI (cpI (cpI (cpI (sI (sI (r1.2) 80 0 ((r1.2).1 66 0)) 80 1 ((sI (r1.2) 80 0 ((r1.2).1 66 0)).1 66 1)) 67 (0 : Int32).toNatClampNeg 81 (0 : Int32).toNatClampNeg (40 : Int32).toNatClampNeg) 68 (0 : Int32).toNatClampNeg 82 (0 : Int32).toNatClampNeg (5 : Int32).toNatClampNeg) 69 (0 : Int32).toNatClampNeg 83 (0 : Int32).toNatClampNeg (6 : Int32).toNatClampNeg) 70 (0 : Int32).toNatClampNeg 84 (0 : Int32).toNatClampNeg (6 : Int32).toNatClampNeg) 71 (0 : Int32).toNatClampNeg 85 (0 : Int32).toNatClampNeg (6 : Int32).toNatClampNeg) 72 (0 : Int32).toNatClampNeg 86 (0 : Int32).toNatClampNeg (32 : Int32).toNatClampNeg).1 66 8)).1 66 9)) 80 10 ((sI (sI (cpI (cpI (cpI (cpI (cpI (cpI (sI (sI (r1.2) 80 0 ((r1.2).1 66 0)) 80 1 ((sI (r1.2) 80 0 ((r1.2).1 66 0)).1 66 1)) 67 (0 : Int32).toNatClampNeg 81 (0 : Int32).toNatClampNeg (40 : Int32).toNatClampNeg) 68 (0 : Int32).toNatClampNeg 82 (0 : Int32).toNatClampNeg (5 : Int32).toNatClampNeg) 69 (0 : Int32).toNatClampNeg 83 (0 : Int32).toNatClampNeg (6 : Int32).toNatClampNeg) 70 (0 : Int32).toNatClampNeg 84 (0 : Int32).toNatClampNeg (6 : Int32).toNatClampNeg) 71 (0 : Int32).toNatClampNeg 85 (0 : Int32).toNatClampNeg (6 : Int32).toNatClampNeg) 72 (0 : Int32).toNatClampNeg 86 (0 : Int32).toNatClampNeg (32 : Int32).toNatClampNeg) 80 8 ((cpI (cpI (cpI (cpI (cpI (cpI (sI (sI (r1.2) 80 0 ((r1.2).1 66 0)) 80 1 ((sI (r1.2) 80 0 ((r1.2).1 66 0)).1 66 1)) 67 (0 : Int32).toNatClampNeg 81 (0 : Int32).toNatClampNeg (40 : Int32).toNatClampNeg) 68 (0 : Int32).toNatClampNeg 82 (0 : Int32).toNatClampNeg (5 : Int32).toNatClampNeg) 69 (0 : Int32).toNatClampNeg 83 (0 : Int32).toNatClampNeg (6 : Int32).toNatClampNeg) 70 (0 : Int32).toNatClampNeg 84 (0 : Int32).toNatClampNeg (6 : Int32).toNatClampNeg) 71 (0 : Int32).toNatClampNeg 85 (0 : Int32).toNatClampNeg (6 : Int32).toNatClampNeg) 72 (0 : Int32).toNatClampNeg 86 (0 : Int32).toNatClampNeg (32 : Int32).toNatClampNeg).1 66 8)) 80 9 ((sI (cpI (cpI (cpI (cpI (cpI (cpI (sI (sI (r1.2) 80 0 ((r1.2).1 66 0)) 80 1 ((sI (r1.2) 80 0 ((r1.2).1 66 0)).1 66 1)) 67 (0 : Int32).toNatClampNeg 81 (0 : Int32).toNatClampNeg (40 : Int32).toNatClampNeg) 68 (0 : Int32).toNatClampNeg 82 (0 : Int32).toNatClampNeg (5 : Int32).toNatClampNeg) 69 (0 : Int32).toNatClampNeg 83 (0 : Int32).toNatClampNeg (6 : Int32).toNatClampNeg) 70 (0 : Int32).toNatClampNeg 84 (0 : Int32).toNatClampNeg (6 : Int32).toNatClampNeg) 71 (0 : Int32).toNatClampNeg 85 (0 : Int32).toNatClampNeg (6 : Int32).toNatClampNeg) 72 (0 : Int32).toNatClampNeg 86 (0 : Int32).toNatClampNeg (32 : Int32).toNatClampNeg) 80 8 ((cpI (cpI (cpI (cpI (cpI (cpI (sI (sI (r1.2) 80 0 ((r1.2).1 66 0)) 80 1 ((sI (r1.2) 80 0 ((r1.2).1 66 0)).1 66 1)) 67 (0 : Int32).toNatClampNeg 81 (0 : Int32).toNatClampNeg (40 : Int32).toNatClampNeg) 68 (0 : Int32).toNatClampNeg 82 (0 : Int32).toNatClampNeg (5 : Int32).toNatClampNeg) 69 (0 : Int32).toNatClampNeg 83 (0 : Int32).toNatClampNeg (6 : Int32).toNatClampNeg) 70 (0 : Int32).toNatClampNeg 84 (0 : Int32).toNatClampNeg (6 : Int32).toNatClampNeg) 71 (0 : Int32).toNatClampNeg 85 (0 : Int32).toNatClampNeg (6 : Int32).toNatClampNeg) 72 (0 : Int32).toNatClampNeg 86 (0 : Int32).toNatClampNeg (32 : Int32).toNatClampNeg).1 66 8)).1 66 9)).1 66 10))))))))))
theorem mv_X1_copy_66 : ZV mX1_copy_66 yX1_copy 0 := ⟨q1296, q1297, q151, q1298, rfl, by decide, by decide, by decide +kernel⟩
theorem cg_X1_copy_66 {G : zGw} (hcd : zcd G) (hb : G.2.1 66 = some (.inl 1)) (hs1 : G.2.1 67 = some (.inr (40, .byte))) (hr2 : G.2.2.1 66 2 = some 67) (hs2 : G.2.1 68 = some (.inr (5, .int))) (hr3 : G.2.2.1 66 3 = some 68) (hs3 : G.2.1 69 = some (.inr (6, .int))) (hr4 : G.2.2.1 66 4 = some 69) (hs4 : G.2.1 70 = some (.inr (6, .int))) (hr5 : G.2.2.1 66 5 = some 70) (hs5 : G.2.1 71 = some (.inr (6, .int))) (hr6 : G.2.2.1 66 6 = some 71) (hs6 : G.2.1 72 = some (.inr (32, .int))) (hr7 : G.2.2.1 66 7 = some 72) (hf80 : G.2.1 80 = none) (hf81 : G.2.1 81 = none) (hf82 : G.2.1 82 = none) (hf83 : G.2.1 83 = none) (hf84 : G.2.1 84 = none) (hf85 : G.2.1 85 = none) (hf86 : G.2.1 86 = none) : Zg mX1_copy_66 yX1_copy (fun _ g => some (.ref (g.1 80))) G (fun G' => ∃ a1 b0 b1 b2 b3 b4 b5, G' = gX1_init_80 (gA G 80 a1 (.inl 1)) b0 b1 b2 b3 b4 b5) [.ref (G.1 66)] F_X1_copy_66 := by
  refine Zg_of [some (.ref (G.1 66)), none] (by decide) rfl rfl (Nat.le_of_ble_eq_true rfl) rfl (fun X S res => ?_)
  unfold F_X1_copy_66
  refine zz_new (pc := 0) (ci := 1) (C := RX1) (T := TX1) (N := 11) (N' := 11) (1, 11) 80 hcd hf80 tyX1 rfl in_X1 tyX1_ok rfl (by decide) q1299 q184 q151 rfl rfl dX1_copy_0 (fun a1 => ?_)
  have hc1 := zcd_gA (k := 80) (a := a1) (w := .inl 1) hcd
  refine zz_dup (pc := 3) dX1_copy_3 rfl ?_
  have ct := cg_X1_init_80 (G := gA G 80 a1 (.inl 1)) hc1 rfl hf81 hf82 hf83 hf84 hf85 hf86
  refine zz_callGI (pc := 4) (idx := 39) (M := mX1_copy_66) (7, 106) _ _ 80 ct mv_X1_init_80 q1300 rfl (Nat.le_of_ble_eq_true rfl) (Nat.le_of_ble_eq_true rfl) rfl rfl rfl (Nat.le_of_ble_eq_true rfl) dX1_copy_4 (fun G1 r1 S1 hK => ?_)
  obtain ⟨b0, b1, b2, b3, b4, b5, rfl⟩ := hK
  refine zz_astore_n (pc := 7) 1 dX1_copy_7 rfl (Nat.le_of_ble_eq_true rfl) rfl ?_
  refine zz_aload_n (pc := 8) 1 dX1_copy_8 rfl rfl ?_
  refine zz_aload_n (pc := 9) 0 dX1_copy_9 rfl rfl ?_
  refine zz_get (pc := 10) (v := _) 66 1 0 hb rfl in_X1 (by decide) q189 rfl dX1_copy_10 ?_
  refine zz_putI (pc := 13) tyX1 80 1 0 rfl rfl in_X1 tyX1_ok (fun b hb9 hbj => nmX1 _ (by decide) b hb9 (Ne.symm hbj)) (by decide) q189 rfl rfl rfl dX1_copy_13 ?_
  refine zz_aload_n (pc := 16) 1 dX1_copy_16 rfl rfl ?_
  refine zz_aload_n (pc := 17) 0 dX1_copy_17 rfl rfl ?_
  refine zz_get (pc := 18) (v := _) 66 1 1 hb rfl in_X1 (by decide) q193 rfl dX1_copy_18 ?_
  refine zz_putI (pc := 21) tyX1 80 1 1 rfl rfl in_X1 tyX1_ok (fun b hb9 hbj => nmX1 _ (by decide) b hb9 (Ne.symm hbj)) (by decide) q193 rfl rfl rfl dX1_copy_21 ?_
  refine zz_aload_n (pc := 24) 0 dX1_copy_24 rfl rfl ?_
  refine zz_get (pc := 25) (v := .ref ((gX1_init_80 (gA G 80 a1 (.inl 1)) b0 b1 b2 b3 b4 b5).1 67)) 66 1 2 hb rfl in_X1 (by decide) q196 (zval_rf rfl hr2) dX1_copy_25 ?_
  refine zz_iconst (pc := 28) (v := 0) dX1_copy_28 (by decide) ?_
  refine zz_aload_n (pc := 29) 1 dX1_copy_29 rfl rfl ?_
  refine zz_get (pc := 30) (v := .ref ((gX1_init_80 (gA G 80 a1 (.inl 1)) b0 b1 b2 b3 b4 b5).1 81)) 80 1 2 rfl rfl in_X1 (by decide) q196 rfl dX1_copy_30 ?_
  refine zz_iconst (pc := 33) (v := 0) dX1_copy_33 (by decide) ?_
  refine zz_aload_n (pc := 34) 0 dX1_copy_34 rfl rfl ?_
  refine zz_get (pc := 35) (v := .ref ((gX1_init_80 (gA G 80 a1 (.inl 1)) b0 b1 b2 b3 b4 b5).1 67)) 66 1 2 hb rfl in_X1 (by decide) q196 (zval_rf rfl hr2) dX1_copy_35 ?_
  refine zz_alen (pc := 38) 67 40 .byte hs1 (v := 40) (by decide) dX1_copy_38 ?_
  refine zz_fit (fun hfit => ?_)
  refine zz_acopyT (pc := 39) (ty := .byte) 67 81 40 40 hs1 rfl (fun _ _ _ _ => rfl) rfl (by decide) q1301 (Nat.le_of_ble_eq_true rfl) (Nat.le_of_ble_eq_true rfl) dX1_copy_39 (fun i hi => by have := hfit i hi; simpa using this) ?_
  refine zz_aload_n (pc := 42) 0 dX1_copy_42 rfl rfl ?_
  refine zz_get (pc := 43) (v := .ref ((gX1_init_80 (gA G 80 a1 (.inl 1)) b0 b1 b2 b3 b4 b5).1 68)) 66 1 3 hb rfl in_X1 (by decide) q199 (zval_rf rfl hr3) dX1_copy_43 ?_
  refine zz_iconst (pc := 46) (v := 0) dX1_copy_46 (by decide) ?_
  refine zz_aload_n (pc := 47) 1 dX1_copy_47 rfl rfl ?_
  refine zz_get (pc := 48) (v := .ref ((gX1_init_80 (gA G 80 a1 (.inl 1)) b0 b1 b2 b3 b4 b5).1 82)) 80 1 3 rfl rfl in_X1 (by decide) q199 rfl dX1_copy_48 ?_
  refine zz_iconst (pc := 51) (v := 0) dX1_copy_51 (by decide) ?_
  refine zz_iconst (pc := 52) (v := 5) dX1_copy_52 (by decide) ?_
  refine zz_acopyI (pc := 53) 68 82 5 5 hs2 rfl (by decide) q1301 (Nat.le_of_ble_eq_true rfl) (Nat.le_of_ble_eq_true rfl) dX1_copy_53 ?_
  refine zz_aload_n (pc := 56) 0 dX1_copy_56 rfl rfl ?_
  refine zz_get (pc := 57) (v := .ref ((gX1_init_80 (gA G 80 a1 (.inl 1)) b0 b1 b2 b3 b4 b5).1 69)) 66 1 4 hb rfl in_X1 (by decide) q202 (zval_rf rfl hr4) dX1_copy_57 ?_
  refine zz_iconst (pc := 60) (v := 0) dX1_copy_60 (by decide) ?_
  refine zz_aload_n (pc := 61) 1 dX1_copy_61 rfl rfl ?_
  refine zz_get (pc := 62) (v := .ref ((gX1_init_80 (gA G 80 a1 (.inl 1)) b0 b1 b2 b3 b4 b5).1 83)) 80 1 4 rfl rfl in_X1 (by decide) q202 rfl dX1_copy_62 ?_
  refine zz_iconst (pc := 65) (v := 0) dX1_copy_65 (by decide) ?_
  refine zz_bipush (pc := 66) (v := 6) dX1_copy_66 (by decide) ?_
  refine zz_acopyI (pc := 68) 69 83 6 6 hs3 rfl (by decide) q1301 (Nat.le_of_ble_eq_true rfl) (Nat.le_of_ble_eq_true rfl) dX1_copy_68 ?_
  refine zz_aload_n (pc := 71) 0 dX1_copy_71 rfl rfl ?_
  refine zz_get (pc := 72) (v := .ref ((gX1_init_80 (gA G 80 a1 (.inl 1)) b0 b1 b2 b3 b4 b5).1 70)) 66 1 5 hb rfl in_X1 (by decide) q205 (zval_rf rfl hr5) dX1_copy_72 ?_
  refine zz_iconst (pc := 75) (v := 0) dX1_copy_75 (by decide) ?_
  refine zz_aload_n (pc := 76) 1 dX1_copy_76 rfl rfl ?_
  refine zz_get (pc := 77) (v := .ref ((gX1_init_80 (gA G 80 a1 (.inl 1)) b0 b1 b2 b3 b4 b5).1 84)) 80 1 5 rfl rfl in_X1 (by decide) q205 rfl dX1_copy_77 ?_
  refine zz_iconst (pc := 80) (v := 0) dX1_copy_80 (by decide) ?_
  refine zz_bipush (pc := 81) (v := 6) dX1_copy_81 (by decide) ?_
  refine zz_acopyI (pc := 83) 70 84 6 6 hs4 rfl (by decide) q1301 (Nat.le_of_ble_eq_true rfl) (Nat.le_of_ble_eq_true rfl) dX1_copy_83 ?_
  refine zz_aload_n (pc := 86) 0 dX1_copy_86 rfl rfl ?_
  refine zz_get (pc := 87) (v := .ref ((gX1_init_80 (gA G 80 a1 (.inl 1)) b0 b1 b2 b3 b4 b5).1 71)) 66 1 6 hb rfl in_X1 (by decide) q208 (zval_rf rfl hr6) dX1_copy_87 ?_
  refine zz_iconst (pc := 90) (v := 0) dX1_copy_90 (by decide) ?_
  refine zz_aload_n (pc := 91) 1 dX1_copy_91 rfl rfl ?_
  refine zz_get (pc := 92) (v := .ref ((gX1_init_80 (gA G 80 a1 (.inl 1)) b0 b1 b2 b3 b4 b5).1 85)) 80 1 6 rfl rfl in_X1 (by decide) q208 rfl dX1_copy_92 ?_
  refine zz_iconst (pc := 95) (v := 0) dX1_copy_95 (by decide) ?_
  refine zz_bipush (pc := 96) (v := 6) dX1_copy_96 (by decide) ?_
  refine zz_acopyI (pc := 98) 71 85 6 6 hs5 rfl (by decide) q1301 (Nat.le_of_ble_eq_true rfl) (Nat.le_of_ble_eq_true rfl) dX1_copy_98 ?_
  refine zz_aload_n (pc := 101) 0 dX1_copy_101 rfl rfl ?_
  refine zz_get (pc := 102) (v := .ref ((gX1_init_80 (gA G 80 a1 (.inl 1)) b0 b1 b2 b3 b4 b5).1 72)) 66 1 7 hb rfl in_X1 (by decide) q211 (zval_rf rfl hr7) dX1_copy_102 ?_
  refine zz_iconst (pc := 105) (v := 0) dX1_copy_105 (by decide) ?_
  refine zz_aload_n (pc := 106) 1 dX1_copy_106 rfl rfl ?_
  refine zz_get (pc := 107) (v := .ref ((gX1_init_80 (gA G 80 a1 (.inl 1)) b0 b1 b2 b3 b4 b5).1 86)) 80 1 7 rfl rfl in_X1 (by decide) q211 rfl dX1_copy_107 ?_
  refine zz_iconst (pc := 110) (v := 0) dX1_copy_110 (by decide) ?_
  refine zz_bipush (pc := 111) (v := 32) dX1_copy_111 (by decide) ?_
  refine zz_acopyI (pc := 113) 72 86 32 32 hs6 rfl (by decide) q1301 (Nat.le_of_ble_eq_true rfl) (Nat.le_of_ble_eq_true rfl) dX1_copy_113 ?_
  refine zz_aload_n (pc := 116) 1 dX1_copy_116 rfl rfl ?_
  refine zz_aload_n (pc := 117) 0 dX1_copy_117 rfl rfl ?_
  refine zz_get (pc := 118) (v := _) 66 1 8 hb rfl in_X1 (by decide) q213 rfl dX1_copy_118 ?_
  refine zz_putI (pc := 121) tyX1 80 1 8 rfl rfl in_X1 tyX1_ok (fun b hb9 hbj => nmX1 _ (by decide) b hb9 (Ne.symm hbj)) (by decide) q213 rfl rfl rfl dX1_copy_121 ?_
  refine zz_aload_n (pc := 124) 1 dX1_copy_124 rfl rfl ?_
  refine zz_aload_n (pc := 125) 0 dX1_copy_125 rfl rfl ?_
  refine zz_get (pc := 126) (v := _) 66 1 9 hb rfl in_X1 (by decide) q216 rfl dX1_copy_126 ?_
  refine zz_putI (pc := 129) tyX1 80 1 9 rfl rfl in_X1 tyX1_ok (fun b hb9 hbj => nmX1 _ (by decide) b hb9 (Ne.symm hbj)) (by decide) q216 rfl rfl rfl dX1_copy_129 ?_
  refine zz_aload_n (pc := 132) 1 dX1_copy_132 rfl rfl ?_
  refine zz_aload_n (pc := 133) 0 dX1_copy_133 rfl rfl ?_
  refine zz_get (pc := 134) (v := _) 66 1 10 hb rfl in_X1 (by decide) q219 rfl dX1_copy_134 ?_
  refine zz_putI (pc := 137) tyX1 80 1 10 rfl rfl in_X1 tyX1_ok (fun b hb9 hbj => nmX1 _ (by decide) b hb9 (Ne.symm hbj)) (by decide) q219 rfl rfl rfl dX1_copy_137 ?_
  refine zz_aload_n (pc := 140) 1 dX1_copy_140 rfl rfl ?_
  refine zz_garet (q := 80) (C := "HiddenCube$Town") ?_ rfl rfl ?_ dX1_copy_141 rfl
  · rfl
  · exact ⟨a1, b0, b1, b2, b3, b4, b5, rfl⟩

/-- a block of seven places (a town) told anew: out of 80..86 -/
def pB (t k : Nat) : Nat := if t ≤ k ∧ k < t + 7 then 80 + (k - t) else k
def rS (π : Nat → Nat) (S : zSt) : zSt := (fun k i => S.1 (π k) i, fun k i => S.2 (π k) i)
theorem pB_in {t k : Nat} (h : t ≤ k ∧ k < t + 7) : pB t k = 80 + (k - t) := if_pos h
theorem pB_out {t k : Nat} (h : ¬ (t ≤ k ∧ k < t + 7)) : pB t k = k := if_neg h
def gN (G : zGw) (a1 b0 b1 b2 b3 b4 b5 : Nat) : zGw := gX1_init_80 (gA G 80 a1 (.inl 1)) b0 b1 b2 b3 b4 b5
theorem gN_lo {G : zGw} {a1 b0 b1 b2 b3 b4 b5 k : Nat} (h : k < 80) : (gN G a1 b0 b1 b2 b3 b4 b5).1 k = G.1 k ∧ (gN G a1 b0 b1 b2 b3 b4 b5).2.1 k = G.2.1 k ∧ ∀ i, (gN G a1 b0 b1 b2 b3 b4 b5).2.2.1 k i = G.2.2.1 k i := by
  have h0 : k ≠ 80 := by omega
  have h1 : k ≠ 81 := by omega
  have h2 : k ≠ 82 := by omega
  have h3 : k ≠ 83 := by omega
  have h4 : k ≠ 84 := by omega
  have h5 : k ≠ 85 := by omega
  have h6 : k ≠ 86 := by omega
  simp [gN, gX1_init_80, gA, gR, h0, h1, h2, h3, h4, h5, h6]
theorem gN_sh {G : zGw} {a1 b0 b1 b2 b3 b4 b5 o : Nat} (h : o < 7) : (gN G a1 b0 b1 b2 b3 b4 b5).2.1 (80 + o) = zshT[o]? := by
  match o, h with
  | 0, _ => rfl
  | 1, _ => rfl
  | 2, _ => rfl
  | 3, _ => rfl
  | 4, _ => rfl
  | 5, _ => rfl
  | 6, _ => rfl
theorem gN_rf {G : zGw} {a1 b0 b1 b2 b3 b4 b5 i : Nat} (h2 : 2 ≤ i) (h : i < 8) : (gN G a1 b0 b1 b2 b3 b4 b5).2.2.1 80 i = some (80 + i - 1) := by
  match i, h2, h with
  | 2, _, _ => rfl
  | 3, _, _ => rfl
  | 4, _, _ => rfl
  | 5, _, _ => rfl
  | 6, _, _ => rfl
  | 7, _, _ => rfl
theorem rf_town {i : Nat} (h : i < 11) (hz : zrft (zft 1 i) = true) : 2 ≤ i ∧ i < 8 := by
  have h0 : ∀ i : Fin 11, zrft (zft 1 i.1) = true → 2 ≤ i.1 ∧ i.1 < 8 := by decide +kernel
  exact h0 ⟨i, h⟩ hz
theorem zshT_o {o ci : Nat} (h : zshT[o]? = some (.inl ci)) : o = 0 ∧ ci = 1 := by
  match o with
  | 0 => cases h; exact ⟨rfl, rfl⟩
  | 1 => cases h
  | 2 => cases h
  | 3 => cases h
  | 4 => cases h
  | 5 => cases h
  | 6 => cases h
  | _ + 7 => cases h
theorem zshT_r {o n : Nat} {ty : FieldType} (h : zshT[o]? = some (.inr (n, ty))) : zrft ty = false := by
  match o with
  | 0 => cases h
  | 1 => cases h; rfl
  | 2 => cases h; rfl
  | 3 => cases h; rfl
  | 4 => cases h; rfl
  | 5 => cases h; rfl
  | 6 => cases h; rfl
  | _ + 7 => cases h
section
variable {Gz : zGw} {ad : Nat → Nat} {V : zSV} {I I' : Nat → Bool} {D : va_G} {t kr ir : Nat}
/-- what a block told anew asks -/
def blkH (Gz : zGw) (ad : Nat → Nat) (V : zSV) (I I' : Nat → Bool) (t kr ir : Nat) : Prop :=
  (∀ k, k < 80 → Gz.1 k = ad k ∧ Gz.2.1 k = cSh V I k ∧ ∀ i, Gz.2.2.1 k i = if k = kr ∧ i = ir then some 80 else cRf V I k i) ∧ (∀ o, o < 7 → Gz.2.1 (80 + o) = zshT[o]?) ∧ (∀ i, 2 ≤ i → i < 8 → Gz.2.2.1 80 i = some (80 + i - 1)) ∧
  (t + 7 ≤ 80 ∧ ∀ o, o < 7 → cSh V I' (t + o) = zshT[o]?) ∧ (∀ k, k < 80 → ¬ (t ≤ k ∧ k < t + 7) → cSh V I' k = cSh V I k) ∧ (∀ i, 2 ≤ i → i < 8 → cRf V I' t i = some (t + i - 1)) ∧
  (∀ k i, k < 80 → cSh V I' k ≠ none → ¬ (t ≤ k ∧ k < t + 7) → ¬ (k = kr ∧ i = ir) → cRf V I' k i = cRf V I k i ∧ ∀ q, cRf V I k i = some q → q < 80 ∧ ¬ (t ≤ q ∧ q < t + 7)) ∧ cRf V I' kr ir = some t ∧ ¬ (t ≤ kr ∧ kr < t + 7)
theorem blk_sh (h : blkH Gz ad V I I' t kr ir) : ∀ k, (cG (fun k => Gz.1 (pB t k)) V I' D).2.1 k ≠ none → (cG (fun k => Gz.1 (pB t k)) V I' D).2.1 k = Gz.2.1 (pB t k) ∧ (cG (fun k => Gz.1 (pB t k)) V I' D).1 k = Gz.1 (pB t k) := by
  obtain ⟨h1, h2, h3, h4, h5, h6, h7, h8, h9⟩ := h
  intro k hk
  refine ⟨?_, rfl⟩
  show cSh V I' k = Gz.2.1 (pB t k)
  have hk : cSh V I' k ≠ none := hk
  by_cases hb : t ≤ k ∧ k < t + 7
  · rw [pB_in hb, h2 _ (by omega), ← h4.2 _ (by omega), show t + (k - t) = k from by omega]
  · have h80 : k < 80 := Nat.not_le.mp fun e => hk (cSh_hi (by omega))
    rw [pB_out hb, (h1 k h80).2.1, h5 k h80 hb]
theorem blk_inj : ∀ i j, (cG (fun k => Gz.1 (pB t k)) V I' D).2.1 i ≠ none → (cG (fun k => Gz.1 (pB t k)) V I' D).2.1 j ≠ none → pB t i = pB t j → i = j := by
  intro i j hi hj he
  have h1 : i < 74 := Nat.not_le.mp fun e => hi (cSh_hi e)
  have h2 : j < 74 := Nat.not_le.mp fun e => hj (cSh_hi e)
  unfold pB at he
  split at he <;> split at he <;> omega
theorem blk_ref (h : blkH Gz ad V I I' t kr ir) {k i : Nat} (hk : cSh V I' k ≠ none) (hb : ¬ (t ≤ k ∧ k < t + 7)) : (cRf V I' k i).map (fun k => Gz.1 (pB t k)) = (Gz.2.2.1 (pB t k) i).map Gz.1 := by
  obtain ⟨h1, h2, h3, h4, h5, h6, h7, h8, h9⟩ := h
  have h80 : k < 80 := Nat.not_le.mp fun e => hk (cSh_hi (by omega))
  rw [pB_out hb, (h1 k h80).2.2]
  by_cases hr : k = kr ∧ i = ir
  · rw [if_pos hr, hr.1, hr.2, h8]
    show some (Gz.1 (pB t t)) = some (Gz.1 80)
    rw [pB_in (by omega), Nat.sub_self]
  · rw [if_neg hr]
    obtain ⟨a1, a2⟩ := h7 k i h80 hk hb hr
    rw [a1]
    cases hq : cRf V I k i with
    | none => rfl
    | some q =>
      show some (Gz.1 (pB t q)) = some (Gz.1 q)
      rw [pB_out (a2 q hq).2]
theorem blk_O (h : blkH Gz ad V I I' t kr ir) : ∀ k ci, (cG (fun k => Gz.1 (pB t k)) V I' D).2.1 k = some (.inl ci) → ∀ r, zcl[ci]? = some r → ∀ i, i < r.2.2 → zrft (zft ci i) = true → ((cG (fun k => Gz.1 (pB t k)) V I' D).2.2.1 k i).map (cG (fun k => Gz.1 (pB t k)) V I' D).1 = (Gz.2.2.1 (pB t k) i).map Gz.1 := by
  intro k ci hk r hr i hi hz
  have hk : cSh V I' k = some (.inl ci) := hk
  show (cRf V I' k i).map (fun k => Gz.1 (pB t k)) = (Gz.2.2.1 (pB t k) i).map Gz.1
  by_cases hb : t ≤ k ∧ k < t + 7
  · have h0 := h
    obtain ⟨h1, h2, h3, h4, h5, h6, h7, h8, h9⟩ := h
    have e := h4.2 (k - t) (by omega)
    rw [show t + (k - t) = k from by omega, hk] at e
    obtain ⟨e1, rfl⟩ := zshT_o e.symm
    have e2 : k = t := by omega
    subst e2
    cases hr
    obtain ⟨a1, a2⟩ := rf_town hi hz
    rw [pB_in hb, Nat.sub_self, Nat.add_zero, h6 i a1 a2, h3 i a1 a2]
    show some (Gz.1 (pB k (k + i - 1))) = some (Gz.1 (80 + i - 1))
    rw [pB_in (by omega), show 80 + (k + i - 1 - k) = 80 + i - 1 from by omega]
  · exact blk_ref h (by rw [hk]; simp) hb
theorem blk_A (h : blkH Gz ad V I I' t kr ir) : ∀ k n ty, (cG (fun k => Gz.1 (pB t k)) V I' D).2.1 k = some (.inr (n, ty)) → zrft ty = true → ∀ i, i < n → ((cG (fun k => Gz.1 (pB t k)) V I' D).2.2.1 k i).map (cG (fun k => Gz.1 (pB t k)) V I' D).1 = (Gz.2.2.1 (pB t k) i).map Gz.1 := by
  intro k n ty hk hz i hi
  have hk : cSh V I' k = some (.inr (n, ty)) := hk
  show (cRf V I' k i).map (fun k => Gz.1 (pB t k)) = (Gz.2.2.1 (pB t k) i).map Gz.1
  by_cases hb : t ≤ k ∧ k < t + 7
  · obtain ⟨h1, h2, h3, h4, h5, h6, h7, h8, h9⟩ := h
    have e := h4.2 (k - t) (by omega)
    rw [show t + (k - t) = k from by omega, hk] at e
    rw [zshT_r e.symm] at hz
    cases hz
  · exact blk_ref h (by rw [hk]; simp) hb
end
/-- where references of the canonical world go -/
theorem cRf_to {V : zSV} {I : Nat → Bool} {k i q : Nat} (h : cRf V I k i = some q) : (k = 38 ∧ i < 3 ∧ I i = true ∧ q = 50 + 8 * i) ∨ (k < 44 ∧ k ≠ 38 ∧ q < 48 ∧ ((1 ≤ k ∧ k < 8) ∨ (k = 0 ∧ i = 0) ∨ ¬ (1 ≤ q ∧ q < 8))) ∨ (50 ≤ k ∧ k < 74 ∧ (k - 50) % 8 = 0 ∧ 2 ≤ i ∧ i < 8 ∧ q = k + i - 1) := by
  unfold cRf at h
  split at h
  · split at h
    · cases h; exact Or.inr (Or.inl ⟨by omega, by omega, by omega, Or.inr (Or.inr (by omega))⟩)
    · cases h
  split at h
  · split at h
    · rename_i h1
      cases h; exact Or.inl ⟨by omega, h1.1, h1.2, rfl⟩
    · cases h
  split at h
  · have h0 : ∀ q ∈ zrfC, (1 ≤ q.1 ∧ q.1 < 8) ∨ (q.1 = 0 ∧ q.2.1 = 0) ∨ ¬ (1 ≤ q.2.2 ∧ q.2.2 < 8) := by decide +kernel
    have h4 := (cRl_lo h).1
    unfold cRl at h
    obtain ⟨x, h1, h2⟩ := Option.map_eq_some_iff.mp h
    have h3 := h0 x (List.mem_of_find?_eq_some h1)
    have h5 := List.find?_some h1
    simp only [Bool.and_eq_true, beq_iff_eq] at h5
    subst h2
    refine Or.inr (Or.inl ⟨by omega, by omega, by omega, ?_⟩)
    rw [h5.1, h5.2] at h3
    exact h3
  split at h
  · split at h
    · cases h; exact Or.inr (Or.inl ⟨by omega, by omega, by omega, Or.inr (Or.inr (by omega))⟩)
    · cases h
  split at h
  · rename_i h1
    cases h; exact Or.inr (Or.inr ⟨h1.1, h1.2.1, h1.2.2.1, h1.2.2.2.1, h1.2.2.2.2, rfl⟩)
  · cases h
def iU (I : Nat → Bool) (b : Nat) : Nat → Bool := fun i => if i = b then true else I i
theorem blkH_keep {ad : Nat → Nat} {V : zSV} {I : Nat → Bool} {D : va_G} {b a1 b0 b1 b2 b3 b4 b5 : Nat} (hb : b < 3) : blkH (gR (gN (cG ad V I D) a1 b0 b1 b2 b3 b4 b5) 38 b (some 80)) ad V I (iU I b) (50 + 8 * b) 38 b := by
  refine ⟨fun k hk => ?_, fun o ho => gN_sh (G := cG ad V I D) (a1 := a1) (b0 := b0) (b1 := b1) (b2 := b2) (b3 := b3) (b4 := b4) (b5 := b5) ho, fun i h1 h2 => ?_, ⟨by omega, fun o ho => ?_⟩, fun k hk hn => ?_, fun i h1 h2 => cRf_img hb h1 h2, fun k i hk hs hn hr => ?_, ?_, by omega⟩
  · obtain ⟨e1, e2, e3⟩ := gN_lo (G := cG ad V I D) (a1 := a1) (b0 := b0) (b1 := b1) (b2 := b2) (b3 := b3) (b4 := b4) (b5 := b5) hk
    refine ⟨e1, e2, fun i => ?_⟩
    show (if k = 38 then (if i = b then some 80 else (gN (cG ad V I D) a1 b0 b1 b2 b3 b4 b5).2.2.1 k i) else (gN (cG ad V I D) a1 b0 b1 b2 b3 b4 b5).2.2.1 k i) = _
    rw [e3]
    show (if k = 38 then (if i = b then some 80 else cRf V I k i) else cRf V I k i) = _
    by_cases h1 : k = 38 <;> by_cases h2 : i = b <;> simp [h1, h2]
  · have e : (gR (gN (cG ad V I D) a1 b0 b1 b2 b3 b4 b5) 38 b (some 80)).2.2.1 80 i = (gN (cG ad V I D) a1 b0 b1 b2 b3 b4 b5).2.2.1 80 i := rfl
    rw [e]
    exact gN_rf (G := cG ad V I D) (a1 := a1) (b0 := b0) (b1 := b1) (b2 := b2) (b3 := b3) (b4 := b4) (b5 := b5) h1 h2
  · exact cSh_img hb (by simp [iU]) (by omega)
  · by_cases h50 : 50 ≤ k ∧ k < 74
    · by_cases h8 : (k - 50) / 8 = b
      · have h9 : k = 50 + 8 * b + 7 := by omega
        have a1 : ¬ k < 44 := by omega
        have a2 : ¬ k < 48 := by omega
        unfold cSh
        simp only [if_neg a1, if_neg a2]
        rw [show (k - 50) % 8 = 7 from by omega]
        split <;> split <;> rfl
      · unfold cSh
        have : iU I b ((k - 50) / 8) = I ((k - 50) / 8) := if_neg h8
        rw [this]
    · unfold cSh
      by_cases h44 : k < 44
      · rw [if_pos h44, if_pos h44]
      · by_cases h48 : k < 48
        · rw [if_neg h44, if_neg h44, if_pos h48, if_pos h48]
        · rw [if_neg h44, if_neg h44, if_neg h48, if_neg h48, if_neg (by omega), if_neg (by omega)]
  · constructor
    · unfold cRf
      by_cases h38 : k = 38
      · subst h38
        have : iU I b i = I i := if_neg (fun e => hr ⟨rfl, e⟩)
        rw [this]
      · simp only [if_neg h38]
    · intro q hq
      rcases cRf_to hq with ⟨a1, a2, a3, a4⟩ | ⟨a1, a2, a3, a4⟩ | ⟨a1, a2, a3, a4, a5, a6⟩
      · have : i ≠ b := fun e => hr ⟨a1, e⟩
        omega
      · omega
      · omega
  · unfold cRf
    rw [if_neg (by decide), if_pos rfl, if_pos ⟨hb, by simp [iU]⟩]
theorem blkH_back {ad : Nat → Nat} {V : zSV} {I : Nat → Bool} {D : va_G} {a1 b0 b1 b2 b3 b4 b5 : Nat} : blkH (gR (gN (cG ad V I D) a1 b0 b1 b2 b3 b4 b5) 0 0 (some 80)) ad V I I 1 0 0 := by
  refine ⟨fun k hk => ?_, fun o ho => gN_sh (G := cG ad V I D) (a1 := a1) (b0 := b0) (b1 := b1) (b2 := b2) (b3 := b3) (b4 := b4) (b5 := b5) ho, fun i h1 h2 => ?_, ⟨by omega, fun o ho => ?_⟩, fun k hk hn => rfl, fun i h1 h2 => ?_, fun k i hk hs hn hr => ⟨rfl, fun q hq => ?_⟩, ?_, by omega⟩
  · obtain ⟨e1, e2, e3⟩ := gN_lo (G := cG ad V I D) (a1 := a1) (b0 := b0) (b1 := b1) (b2 := b2) (b3 := b3) (b4 := b4) (b5 := b5) hk
    refine ⟨e1, e2, fun i => ?_⟩
    show (if k = 0 then (if i = 0 then some 80 else (gN (cG ad V I D) a1 b0 b1 b2 b3 b4 b5).2.2.1 k i) else (gN (cG ad V I D) a1 b0 b1 b2 b3 b4 b5).2.2.1 k i) = _
    rw [e3]
    show (if k = 0 then (if i = 0 then some 80 else cRf V I k i) else cRf V I k i) = _
    by_cases h1 : k = 0 <;> by_cases h2 : i = 0 <;> simp [h1, h2]
  · have e : (gR (gN (cG ad V I D) a1 b0 b1 b2 b3 b4 b5) 0 0 (some 80)).2.2.1 80 i = (gN (cG ad V I D) a1 b0 b1 b2 b3 b4 b5).2.2.1 80 i := rfl
    rw [e]
    exact gN_rf (G := cG ad V I D) (a1 := a1) (b0 := b0) (b1 := b1) (b2 := b2) (b3 := b3) (b4 := b4) (b5 := b5) h1 h2
  · have h1 := cSh_lo (V := V) (I := I) (k := 1 + o) (by omega)
    have h2 : ∀ o, o < 7 → some (zshT[o]?) = zshC[1 + o]? := by
      intro o ho
      match o, ho with
      | 0, _ => rfl
      | 1, _ => rfl
      | 2, _ => rfl
      | 3, _ => rfl
      | 4, _ => rfl
      | 5, _ => rfl
      | 6, _ => rfl
    rw [← h2 o ho] at h1
    exact Option.some.inj h1
  · match i, h1, h2 with
    | 2, _, _ => exact cRf_lo (1, 2, 2) (by decide)
    | 3, _, _ => exact cRf_lo (1, 3, 3) (by decide)
    | 4, _, _ => exact cRf_lo (1, 4, 4) (by decide)
    | 5, _, _ => exact cRf_lo (1, 5, 5) (by decide)
    | 6, _, _ => exact cRf_lo (1, 6, 6) (by decide)
    | 7, _, _ => exact cRf_lo (1, 7, 7) (by decide)
  · rcases cRf_to hq with ⟨a1, a2, a3, a4⟩ | ⟨a1, a2, a3, a4⟩ | ⟨a1, a2, a3, a4, a5, a6⟩ <;> omega
  · exact cRf_lo (0, 0, 1) (by decide)
def zJIg : Int32 → zGw → Option Value := fun v _ => some (.int v)
abbrev mX0_keep : zMr := ("HiddenCube", cX0_keep, 2, some .int, 7, 7, 106, none)
/-- a keep that is allowed (others: none) -/
def F_X0_keep (a1 : Int32) (S : zSt) : Option (Int32 × zSt) :=
  zbind (F_X0_isIn ((a1).toInt64) 0 2 S) (fun r2 S1 =>
  if r2 = 0 then none else (F_X1_copy_1 S1).bind (fun r3 => chk a1 3 (some (0, rS (pB (50 + 8 * a1.toNatClampNeg)) r3.2))))
theorem mv_X0_keep : ZV mX0_keep yX0_keep 1 := ⟨q1291, q1292, q150, q1293, rfl, by decide, by decide, by decide +kernel⟩
theorem cg_X0_keep {ad : Nat → Nat} {V : zSV} {I : Nat → Bool} {D : va_G} (a1 : Int32) : Zg mX0_keep yX0_keep zJIg (cG ad V I D) (fun G' => ∃ ad', ad' 0 = ad 0 ∧ G' = cG ad' V (iU I a1.toNatClampNeg) D) [.ref ((cG ad V I D).1 0), .int a1] (F_X0_keep a1) := by
  have hG : zGC (cG ad V I D) := zGC_c
  refine Zg_of [some (.ref ((cG ad V I D).1 0)), some (.int a1)] (by decide) rfl rfl (Nat.le_of_ble_eq_true rfl) rfl (fun X S res => ?_)
  unfold F_X0_keep
  refine zz_iload_n (pc := 0) 1 dX0_keep_0 rfl rfl ?_
  refine zz_i2l (pc := 1) dX0_keep_1 ?_
  refine zz_lconst (pc := 2) (v := 0) dX0_keep_2 (by decide) ?_
  refine zz_ldc2 (pc := 3) (v := 2) dX0_keep_3 q1294 ?_
  refine zz_callSi (pc := 6) _ _ (ct_X0_isIn _ _ _) mv_X0_isIn q429 rfl (Nat.le_of_ble_eq_true rfl) (Nat.le_of_ble_eq_true rfl) rfl rfl (Nat.le_of_ble_eq_true rfl) dX0_keep_6 (fun r2 S1 => ?_)
  refine zz_if_ne (pc := 9) 15 dX0_keep_9 rfl ?_ ?_
  · refine zz_aload_n (pc := 15) 0 dX0_keep_15 rfl rfl ?_
    refine zz_get (pc := 16) (v := .ref ((cG ad V I D).1 38)) 0 0 38 (zGC_s0 hG) rfl in_X0 (by decide) q337 (zval_rf rfl (hG.2 (0, 38, 38) (by decide))) dX0_keep_16 ?_
    refine zz_iload_n (pc := 19) 1 dX0_keep_19 rfl rfl ?_
    refine zz_aload_n (pc := 20) 0 dX0_keep_20 rfl rfl ?_
    refine zz_get (pc := 21) (v := .ref ((cG ad V I D).1 1)) 0 0 0 (zGC_s0 hG) rfl in_X0 (by decide) q297 (zval_rf rfl (zGC_r0_0 hG)) dX0_keep_21 ?_
    have ct := cg_X1_copy_1 (G := cG ad V I D) zcd_c (zGC_s1 hG) (zGC_s2 hG) (zGC_r1_2 hG) (zGC_s3 hG) (zGC_r1_3 hG) (zGC_s4 hG) (zGC_r1_4 hG) (zGC_s5 hG) (zGC_r1_5 hG) (zGC_s6 hG) (zGC_r1_6 hG) (zGC_s7 hG) (zGC_r1_7 hG) (cG_hi 80 (by decide)) (cG_hi 81 (by decide)) (cG_hi 82 (by decide)) (cG_hi 83 (by decide)) (cG_hi 84 (by decide)) (cG_hi 85 (by decide)) (cG_hi 86 (by decide))
    refine zz_callGV (pc := 24) (idx := 505) (M := mX0_keep) (7, 106) [] [.int a1, .ref ((cG ad V I D).1 38)] 1 ct 1 (zGC_s1 hG) rfl mv_X1_copy_1 q1295 rfl (Nat.le_of_ble_eq_true rfl) (Nat.le_of_ble_eq_true rfl) rfl rfl rfl (Nat.le_of_ble_eq_true rfl) dX0_keep_24 (fun G1 r3 S3 hK => ?_)
    obtain ⟨a2, b0, b1, b2, b3, b4, b5, rfl⟩ := hK
    refine zz_chk (fun h4 => ?_)
    have hlt : a1.toNatClampNeg < 3 := Nat.not_le.mp fun q => h4 (Or.inr q)
    refine zz_aast (pc := 27) (C := "HiddenCube$Town") (T := TX1) (N := 11) (G := gN (cG ad V I D) a2 b0 b1 b2 b3 b4 b5) 38 3 80 1 ((gN_lo (G := cG ad V I D) (a1 := a2) (b0 := b0) (b1 := b1) (b2 := b2) (b3 := b3) (b4 := b4) (b5 := b5) (by decide)).2.1.trans (zGC_s38 hG)) rfl (gN_sh (G := cG ad V I D) (a1 := a2) (b0 := b0) (b1 := b1) (b2 := b2) (b3 := b3) (b4 := b4) (b5 := b5) (o := 0) (by decide)) h4 dX0_keep_27 ?_
    refine zz_iconst (pc := 28) (v := 0) dX0_keep_28 (by decide) ?_
    have hB := blkH_keep (ad := ad) (V := V) (I := I) (D := D) (a1 := a2) (b0 := b0) (b1 := b1) (b2 := b2) (b3 := b3) (b4 := b4) (b5 := b5) hlt
    exact zz_giretR (pB (50 + 8 * a1.toNatClampNeg)) (cG _ V (iU I a1.toNatClampNeg) D) (rS (pB (50 + 8 * a1.toNatClampNeg)) S3) rfl (fun _ _ => ⟨rfl, rfl⟩) (blk_sh hB) (blk_O hB) (blk_A hB) blk_inj (fun _ => rfl) rfl rfl ⟨_, (by show (Prod.fst (_ : zGw)) (pB _ 0) = _; rw [pB_out (by omega)]; rfl), rfl⟩ dX0_keep_29 rfl
  · exact zz_none
abbrev mX0_back : zMr := ("HiddenCube", cX0_back, 2, some .int, 7, 7, 106, none)
theorem mv_X0_back : ZV mX0_back yX0_back 1 := ⟨q1303, q1304, q150, q1305, rfl, by decide, by decide, by decide +kernel⟩
section
variable {ρ : Type} {X : zCx} {M : zMr} {A : (Nat → Prop) × String} {Q : zCx → ρ × zSt → State → Prop} {G : zGw} {cs : Nat × Nat} {res : ρ × zSt} {S : zSt} {pc : Nat} {ls : List (Option Value)} {st : List Value} {f : Option (ρ × zSt)}
theorem zz_nonnull {off : Int} {x : Nat} (tgt : Nat) (d : decode M.2.1 pc = .ok (.ifnonnull off, 3)) (ht : (pc : Int) + off = (tgt : Int)) (k : Zz X M A Q G cs res S tgt ls st f) : Zz X M A Q G cs res S pc ls (.ref x :: st) f :=
  fun hf ho hA H locs la hp hl1 hS => lv_ifnonnull ho.1 ho.2.1 d ht (k hf ho hA H locs la hp hl1 hS)
theorem zz_nonnullN {off : Int} (d : decode M.2.1 pc = .ok (.ifnonnull off, 3)) (k : Zz X M A Q G cs res S (pc + 3) ls st f) : Zz X M A Q G cs res S pc ls (.null :: st) f :=
  fun hf ho hA H locs la hp hl1 hS => lv_ifnonnullN ho.1 ho.2.1 d (k hf ho hA H locs la hp hl1 hS)
theorem zz_aaloadN {i : Int32} (kp n : Nat) (C : String) (hsh : G.2.1 kp = some (.inr (n, .object C))) (hin : vp_in i n) (hr : G.2.2.1 kp i.toNatClampNeg = none) (d : decode M.2.1 pc = .ok (.aaload, 1)) (k : Zz X M A Q G cs res S (pc + 1) ls (.null :: st) f) : Zz X M A Q G cs res S pc ls (.int i :: .ref (G.1 kp) :: st) f := by
  intro hf ho hA H locs la hp hl hS
  obtain ⟨cA, r1, r2, r3⟩ := zhp_arr hp hsh
  have hlt : i.toNatClampNeg < n := Nat.not_le.mp fun q => hin (Or.inr q)
  exact W.aald (v := .null) (ty := .object C) ho.1 ho.2.1 r1 (r2 n _) rfl (fun q => by cases q) (by show ¬ (i < 0 ∨ (arrV _ _ _).slots.size ≤ _); rw [arrV_size]; exact hin) (by rw [arrV_read _ _ hlt]; simp only [zval, hr]; rfl) rfl rfl d (k hf ho hA H locs la hp hl hS)
end
/-- nothing is kept there -/
def F_X0_backN (a1 : Int32) (S : zSt) : Option (Int32 × zSt) :=
  zbind (F_X0_isIn ((a1).toInt64) 0 2 S) (fun r2 S1 =>
  if r2 = 0 then none else chk a1 3 (some ((-6), S1)))
theorem cRf_no {V : zSV} {I : Nat → Bool} {b : Nat} (h : I b = false) : cRf V I 38 b = none := by
  unfold cRf
  rw [if_neg (by decide), if_pos rfl, if_neg (fun e => by rw [h] at e; exact absurd e.2 (by simp))]
theorem cRf_ye {V : zSV} {I : Nat → Bool} {b : Nat} (hb : b < 3) (h : I b = true) : cRf V I 38 b = some (50 + 8 * b) := by
  unfold cRf
  rw [if_neg (by decide), if_pos rfl, if_pos ⟨hb, h⟩]
theorem cg_X0_backN {ad : Nat → Nat} {V : zSV} {I : Nat → Bool} {D : va_G} (a1 : Int32) (hI : I a1.toNatClampNeg = false) : Zg mX0_back yX0_back zJIg (cG ad V I D) (fun G' => G' = cG ad V I D) [.ref ((cG ad V I D).1 0), .int a1] (F_X0_backN a1) := by
  have hG : zGC (cG ad V I D) := zGC_c
  refine Zg_of [some (.ref ((cG ad V I D).1 0)), some (.int a1)] (by decide) rfl rfl (Nat.le_of_ble_eq_true rfl) rfl (fun X S res => ?_)
  unfold F_X0_backN
  refine zz_iload_n (pc := 0) 1 dX0_back_0 rfl rfl ?_
  refine zz_i2l (pc := 1) dX0_back_1 ?_
  refine zz_lconst (pc := 2) (v := 0) dX0_back_2 (by decide) ?_
  refine zz_ldc2 (pc := 3) (v := 2) dX0_back_3 q1294 ?_
  refine zz_callSi (pc := 6) _ _ (ct_X0_isIn _ _ _) mv_X0_isIn q429 rfl (Nat.le_of_ble_eq_true rfl) (Nat.le_of_ble_eq_true rfl) rfl rfl (Nat.le_of_ble_eq_true rfl) dX0_back_6 (fun r2 S1 => ?_)
  refine zz_if_ne (pc := 9) 15 dX0_back_9 rfl ?_ ?_
  · refine zz_aload_n (pc := 15) 0 dX0_back_15 rfl rfl ?_
    refine zz_get (pc := 16) (v := .ref ((cG ad V I D).1 38)) 0 0 38 (zGC_s0 hG) rfl in_X0 (by decide) q337 (zval_rf rfl (hG.2 (0, 38, 38) (by decide))) dX0_back_16 ?_
    refine zz_iload_n (pc := 19) 1 dX0_back_19 rfl rfl ?_
    refine zz_chk (fun h4 => ?_)
    refine zz_aaloadN (pc := 20) 38 3 "HiddenCube$Town" (zGC_s38 hG) h4 (cRf_no (V := V) hI) dX0_back_20 ?_
    refine zz_nonnullN (pc := 21) dX0_back_21 ?_
    refine zz_bipush (pc := 24) (v := (-6)) dX0_back_24 (by decide) ?_
    exact zz_giret (fun _ => rfl) rfl rfl rfl dX0_back_26 rfl
  · exact zz_none
def F_X0_back0 (a1 : Int32) (S : zSt) : Option (Int32 × zSt) :=
  zbind (F_X0_isIn ((a1).toInt64) 0 2 S) (fun r2 S1 =>
  if r2 = 0 then none else chk a1 3 (chk a1 3 ((F_X1_copy_50 S1).bind (fun r3 => some (0, rS (pB 1) r3.2)))))
theorem cg_X0_back0 {ad : Nat → Nat} {V : zSV} {I : Nat → Bool} {D : va_G} (a1 : Int32) (ha : a1.toNatClampNeg = 0) (hI : I 0 = true) : Zg mX0_back yX0_back zJIg (cG ad V I D) (fun G' => ∃ ad', ad' 0 = ad 0 ∧ G' = cG ad' V I D) [.ref ((cG ad V I D).1 0), .int a1] (F_X0_back0 a1) := by
  have hG : zGC (cG ad V I D) := zGC_c
  refine Zg_of [some (.ref ((cG ad V I D).1 0)), some (.int a1)] (by decide) rfl rfl (Nat.le_of_ble_eq_true rfl) rfl (fun X S res => ?_)
  unfold F_X0_back0
  refine zz_iload_n (pc := 0) 1 dX0_back_0 rfl rfl ?_
  refine zz_i2l (pc := 1) dX0_back_1 ?_
  refine zz_lconst (pc := 2) (v := 0) dX0_back_2 (by decide) ?_
  refine zz_ldc2 (pc := 3) (v := 2) dX0_back_3 q1294 ?_
  refine zz_callSi (pc := 6) _ _ (ct_X0_isIn _ _ _) mv_X0_isIn q429 rfl (Nat.le_of_ble_eq_true rfl) (Nat.le_of_ble_eq_true rfl) rfl rfl (Nat.le_of_ble_eq_true rfl) dX0_back_6 (fun r2 S1 => ?_)
  refine zz_if_ne (pc := 9) 15 dX0_back_9 rfl ?_ ?_
  · refine zz_aload_n (pc := 15) 0 dX0_back_15 rfl rfl ?_
    refine zz_get (pc := 16) (v := .ref ((cG ad V I D).1 38)) 0 0 38 (zGC_s0 hG) rfl in_X0 (by decide) q337 (zval_rf rfl (hG.2 (0, 38, 38) (by decide))) dX0_back_16 ?_
    refine zz_iload_n (pc := 19) 1 dX0_back_19 rfl rfl ?_
    refine zz_chk (fun h4 => ?_)
    have hrf : (cG ad V I D).2.2.1 38 a1.toNatClampNeg = some 50 := by rw [ha]; exact cRf_ye (V := V) (by decide) hI
    refine zz_aaload (pc := 20) 38 3 50 "HiddenCube$Town" (zGC_s38 hG) h4 hrf dX0_back_20 ?_
    refine zz_nonnull (pc := 21) 27 dX0_back_21 rfl ?_
    refine zz_aload_n (pc := 27) 0 dX0_back_27 rfl rfl ?_
    refine zz_aload_n (pc := 28) 0 dX0_back_28 rfl rfl ?_
    refine zz_get (pc := 29) (v := .ref ((cG ad V I D).1 38)) 0 0 38 (zGC_s0 hG) rfl in_X0 (by decide) q337 (zval_rf rfl (hG.2 (0, 38, 38) (by decide))) dX0_back_29 ?_
    refine zz_iload_n (pc := 32) 1 dX0_back_32 rfl rfl ?_
    refine zz_chk (fun h5 => ?_)
    refine zz_aaload (pc := 33) 38 3 50 "HiddenCube$Town" (zGC_s38 hG) h4 hrf dX0_back_33 ?_
    have ct := cg_X1_copy_50 (G := cG ad V I D) zcd_c (cG_img 0 0 50 (by decide) hI (by decide) rfl rfl) (cG_img 0 1 51 (by decide) hI (by decide) rfl rfl) (cG_rimg 0 2 50 51 (by decide) (by decide) (by decide) rfl rfl) (cG_img 0 2 52 (by decide) hI (by decide) rfl rfl) (cG_rimg 0 3 50 52 (by decide) (by decide) (by decide) rfl rfl) (cG_img 0 3 53 (by decide) hI (by decide) rfl rfl) (cG_rimg 0 4 50 53 (by decide) (by decide) (by decide) rfl rfl) (cG_img 0 4 54 (by decide) hI (by decide) rfl rfl) (cG_rimg 0 5 50 54 (by decide) (by decide) (by decide) rfl rfl) (cG_img 0 5 55 (by decide) hI (by decide) rfl rfl) (cG_rimg 0 6 50 55 (by decide) (by decide) (by decide) rfl rfl) (cG_img 0 6 56 (by decide) hI (by decide) rfl rfl) (cG_rimg 0 7 50 56 (by decide) (by decide) (by decide) rfl rfl) (cG_hi 80 (by decide)) (cG_hi 81 (by decide)) (cG_hi 82 (by decide)) (cG_hi 83 (by decide)) (cG_hi 84 (by decide)) (cG_hi 85 (by decide)) (cG_hi 86 (by decide))
    refine zz_callGV (pc := 34) (idx := 505) (M := mX0_back) (7, 106) [] [.ref ((cG ad V I D).1 0)] 50 ct 1 (cG_img 0 0 50 (by decide) hI (by decide) rfl rfl) rfl mv_X1_copy_50 q1295 rfl (Nat.le_of_ble_eq_true rfl) (Nat.le_of_ble_eq_true rfl) rfl rfl rfl (Nat.le_of_ble_eq_true rfl) dX0_back_34 (fun G1 r3 S3 hK => ?_)
    obtain ⟨a2, b0, b1, b2, b3, b4, b5, rfl⟩ := hK
    refine zz_putR (pc := 37) (G := gN (cG ad V I D) a2 b0 b1 b2 b3 b4 b5) tyX0 0 0 0 80 ((gN_lo (G := cG ad V I D) (a1 := a2) (b0 := b0) (b1 := b1) (b2 := b2) (b3 := b3) (b4 := b4) (b5 := b5) (by decide)).2.1.trans (zGC_s0 hG)) rfl in_X0 tyX0_ok (fun b hb9 hbj => nmX0 _ (by decide) b hb9 (Ne.symm hbj)) (by decide) q297 (Or.inl rfl) rfl rfl dX0_back_37 ?_
    refine zz_iconst (pc := 40) (v := 0) dX0_back_40 (by decide) ?_
    have hB := blkH_back (ad := ad) (V := V) (I := I) (D := D) (a1 := a2) (b0 := b0) (b1 := b1) (b2 := b2) (b3 := b3) (b4 := b4) (b5 := b5)
    exact zz_giretR (pB 1) (cG _ V I D) (rS (pB 1) S3) rfl (fun _ _ => ⟨rfl, rfl⟩) (blk_sh hB) (blk_O hB) (blk_A hB) blk_inj (fun _ => rfl) rfl rfl ⟨_, by exact rfl, rfl⟩ dX0_back_41 rfl
  · exact zz_none
def F_X0_back1 (a1 : Int32) (S : zSt) : Option (Int32 × zSt) :=
  zbind (F_X0_isIn ((a1).toInt64) 0 2 S) (fun r2 S1 =>
  if r2 = 0 then none else chk a1 3 (chk a1 3 ((F_X1_copy_58 S1).bind (fun r3 => some (0, rS (pB 1) r3.2)))))
theorem cg_X0_back1 {ad : Nat → Nat} {V : zSV} {I : Nat → Bool} {D : va_G} (a1 : Int32) (ha : a1.toNatClampNeg = 1) (hI : I 1 = true) : Zg mX0_back yX0_back zJIg (cG ad V I D) (fun G' => ∃ ad', ad' 0 = ad 0 ∧ G' = cG ad' V I D) [.ref ((cG ad V I D).1 0), .int a1] (F_X0_back1 a1) := by
  have hG : zGC (cG ad V I D) := zGC_c
  refine Zg_of [some (.ref ((cG ad V I D).1 0)), some (.int a1)] (by decide) rfl rfl (Nat.le_of_ble_eq_true rfl) rfl (fun X S res => ?_)
  unfold F_X0_back1
  refine zz_iload_n (pc := 0) 1 dX0_back_0 rfl rfl ?_
  refine zz_i2l (pc := 1) dX0_back_1 ?_
  refine zz_lconst (pc := 2) (v := 0) dX0_back_2 (by decide) ?_
  refine zz_ldc2 (pc := 3) (v := 2) dX0_back_3 q1294 ?_
  refine zz_callSi (pc := 6) _ _ (ct_X0_isIn _ _ _) mv_X0_isIn q429 rfl (Nat.le_of_ble_eq_true rfl) (Nat.le_of_ble_eq_true rfl) rfl rfl (Nat.le_of_ble_eq_true rfl) dX0_back_6 (fun r2 S1 => ?_)
  refine zz_if_ne (pc := 9) 15 dX0_back_9 rfl ?_ ?_
  · refine zz_aload_n (pc := 15) 0 dX0_back_15 rfl rfl ?_
    refine zz_get (pc := 16) (v := .ref ((cG ad V I D).1 38)) 0 0 38 (zGC_s0 hG) rfl in_X0 (by decide) q337 (zval_rf rfl (hG.2 (0, 38, 38) (by decide))) dX0_back_16 ?_
    refine zz_iload_n (pc := 19) 1 dX0_back_19 rfl rfl ?_
    refine zz_chk (fun h4 => ?_)
    have hrf : (cG ad V I D).2.2.1 38 a1.toNatClampNeg = some 58 := by rw [ha]; exact cRf_ye (V := V) (by decide) hI
    refine zz_aaload (pc := 20) 38 3 58 "HiddenCube$Town" (zGC_s38 hG) h4 hrf dX0_back_20 ?_
    refine zz_nonnull (pc := 21) 27 dX0_back_21 rfl ?_
    refine zz_aload_n (pc := 27) 0 dX0_back_27 rfl rfl ?_
    refine zz_aload_n (pc := 28) 0 dX0_back_28 rfl rfl ?_
    refine zz_get (pc := 29) (v := .ref ((cG ad V I D).1 38)) 0 0 38 (zGC_s0 hG) rfl in_X0 (by decide) q337 (zval_rf rfl (hG.2 (0, 38, 38) (by decide))) dX0_back_29 ?_
    refine zz_iload_n (pc := 32) 1 dX0_back_32 rfl rfl ?_
    refine zz_chk (fun h5 => ?_)
    refine zz_aaload (pc := 33) 38 3 58 "HiddenCube$Town" (zGC_s38 hG) h4 hrf dX0_back_33 ?_
    have ct := cg_X1_copy_58 (G := cG ad V I D) zcd_c (cG_img 1 0 58 (by decide) hI (by decide) rfl rfl) (cG_img 1 1 59 (by decide) hI (by decide) rfl rfl) (cG_rimg 1 2 58 59 (by decide) (by decide) (by decide) rfl rfl) (cG_img 1 2 60 (by decide) hI (by decide) rfl rfl) (cG_rimg 1 3 58 60 (by decide) (by decide) (by decide) rfl rfl) (cG_img 1 3 61 (by decide) hI (by decide) rfl rfl) (cG_rimg 1 4 58 61 (by decide) (by decide) (by decide) rfl rfl) (cG_img 1 4 62 (by decide) hI (by decide) rfl rfl) (cG_rimg 1 5 58 62 (by decide) (by decide) (by decide) rfl rfl) (cG_img 1 5 63 (by decide) hI (by decide) rfl rfl) (cG_rimg 1 6 58 63 (by decide) (by decide) (by decide) rfl rfl) (cG_img 1 6 64 (by decide) hI (by decide) rfl rfl) (cG_rimg 1 7 58 64 (by decide) (by decide) (by decide) rfl rfl) (cG_hi 80 (by decide)) (cG_hi 81 (by decide)) (cG_hi 82 (by decide)) (cG_hi 83 (by decide)) (cG_hi 84 (by decide)) (cG_hi 85 (by decide)) (cG_hi 86 (by decide))
    refine zz_callGV (pc := 34) (idx := 505) (M := mX0_back) (7, 106) [] [.ref ((cG ad V I D).1 0)] 58 ct 1 (cG_img 1 0 58 (by decide) hI (by decide) rfl rfl) rfl mv_X1_copy_58 q1295 rfl (Nat.le_of_ble_eq_true rfl) (Nat.le_of_ble_eq_true rfl) rfl rfl rfl (Nat.le_of_ble_eq_true rfl) dX0_back_34 (fun G1 r3 S3 hK => ?_)
    obtain ⟨a2, b0, b1, b2, b3, b4, b5, rfl⟩ := hK
    refine zz_putR (pc := 37) (G := gN (cG ad V I D) a2 b0 b1 b2 b3 b4 b5) tyX0 0 0 0 80 ((gN_lo (G := cG ad V I D) (a1 := a2) (b0 := b0) (b1 := b1) (b2 := b2) (b3 := b3) (b4 := b4) (b5 := b5) (by decide)).2.1.trans (zGC_s0 hG)) rfl in_X0 tyX0_ok (fun b hb9 hbj => nmX0 _ (by decide) b hb9 (Ne.symm hbj)) (by decide) q297 (Or.inl rfl) rfl rfl dX0_back_37 ?_
    refine zz_iconst (pc := 40) (v := 0) dX0_back_40 (by decide) ?_
    have hB := blkH_back (ad := ad) (V := V) (I := I) (D := D) (a1 := a2) (b0 := b0) (b1 := b1) (b2 := b2) (b3 := b3) (b4 := b4) (b5 := b5)
    exact zz_giretR (pB 1) (cG _ V I D) (rS (pB 1) S3) rfl (fun _ _ => ⟨rfl, rfl⟩) (blk_sh hB) (blk_O hB) (blk_A hB) blk_inj (fun _ => rfl) rfl rfl ⟨_, by exact rfl, rfl⟩ dX0_back_41 rfl
  · exact zz_none
def F_X0_back2 (a1 : Int32) (S : zSt) : Option (Int32 × zSt) :=
  zbind (F_X0_isIn ((a1).toInt64) 0 2 S) (fun r2 S1 =>
  if r2 = 0 then none else chk a1 3 (chk a1 3 ((F_X1_copy_66 S1).bind (fun r3 => some (0, rS (pB 1) r3.2)))))
theorem cg_X0_back2 {ad : Nat → Nat} {V : zSV} {I : Nat → Bool} {D : va_G} (a1 : Int32) (ha : a1.toNatClampNeg = 2) (hI : I 2 = true) : Zg mX0_back yX0_back zJIg (cG ad V I D) (fun G' => ∃ ad', ad' 0 = ad 0 ∧ G' = cG ad' V I D) [.ref ((cG ad V I D).1 0), .int a1] (F_X0_back2 a1) := by
  have hG : zGC (cG ad V I D) := zGC_c
  refine Zg_of [some (.ref ((cG ad V I D).1 0)), some (.int a1)] (by decide) rfl rfl (Nat.le_of_ble_eq_true rfl) rfl (fun X S res => ?_)
  unfold F_X0_back2
  refine zz_iload_n (pc := 0) 1 dX0_back_0 rfl rfl ?_
  refine zz_i2l (pc := 1) dX0_back_1 ?_
  refine zz_lconst (pc := 2) (v := 0) dX0_back_2 (by decide) ?_
  refine zz_ldc2 (pc := 3) (v := 2) dX0_back_3 q1294 ?_
  refine zz_callSi (pc := 6) _ _ (ct_X0_isIn _ _ _) mv_X0_isIn q429 rfl (Nat.le_of_ble_eq_true rfl) (Nat.le_of_ble_eq_true rfl) rfl rfl (Nat.le_of_ble_eq_true rfl) dX0_back_6 (fun r2 S1 => ?_)
  refine zz_if_ne (pc := 9) 15 dX0_back_9 rfl ?_ ?_
  · refine zz_aload_n (pc := 15) 0 dX0_back_15 rfl rfl ?_
    refine zz_get (pc := 16) (v := .ref ((cG ad V I D).1 38)) 0 0 38 (zGC_s0 hG) rfl in_X0 (by decide) q337 (zval_rf rfl (hG.2 (0, 38, 38) (by decide))) dX0_back_16 ?_
    refine zz_iload_n (pc := 19) 1 dX0_back_19 rfl rfl ?_
    refine zz_chk (fun h4 => ?_)
    have hrf : (cG ad V I D).2.2.1 38 a1.toNatClampNeg = some 66 := by rw [ha]; exact cRf_ye (V := V) (by decide) hI
    refine zz_aaload (pc := 20) 38 3 66 "HiddenCube$Town" (zGC_s38 hG) h4 hrf dX0_back_20 ?_
    refine zz_nonnull (pc := 21) 27 dX0_back_21 rfl ?_
    refine zz_aload_n (pc := 27) 0 dX0_back_27 rfl rfl ?_
    refine zz_aload_n (pc := 28) 0 dX0_back_28 rfl rfl ?_
    refine zz_get (pc := 29) (v := .ref ((cG ad V I D).1 38)) 0 0 38 (zGC_s0 hG) rfl in_X0 (by decide) q337 (zval_rf rfl (hG.2 (0, 38, 38) (by decide))) dX0_back_29 ?_
    refine zz_iload_n (pc := 32) 1 dX0_back_32 rfl rfl ?_
    refine zz_chk (fun h5 => ?_)
    refine zz_aaload (pc := 33) 38 3 66 "HiddenCube$Town" (zGC_s38 hG) h4 hrf dX0_back_33 ?_
    have ct := cg_X1_copy_66 (G := cG ad V I D) zcd_c (cG_img 2 0 66 (by decide) hI (by decide) rfl rfl) (cG_img 2 1 67 (by decide) hI (by decide) rfl rfl) (cG_rimg 2 2 66 67 (by decide) (by decide) (by decide) rfl rfl) (cG_img 2 2 68 (by decide) hI (by decide) rfl rfl) (cG_rimg 2 3 66 68 (by decide) (by decide) (by decide) rfl rfl) (cG_img 2 3 69 (by decide) hI (by decide) rfl rfl) (cG_rimg 2 4 66 69 (by decide) (by decide) (by decide) rfl rfl) (cG_img 2 4 70 (by decide) hI (by decide) rfl rfl) (cG_rimg 2 5 66 70 (by decide) (by decide) (by decide) rfl rfl) (cG_img 2 5 71 (by decide) hI (by decide) rfl rfl) (cG_rimg 2 6 66 71 (by decide) (by decide) (by decide) rfl rfl) (cG_img 2 6 72 (by decide) hI (by decide) rfl rfl) (cG_rimg 2 7 66 72 (by decide) (by decide) (by decide) rfl rfl) (cG_hi 80 (by decide)) (cG_hi 81 (by decide)) (cG_hi 82 (by decide)) (cG_hi 83 (by decide)) (cG_hi 84 (by decide)) (cG_hi 85 (by decide)) (cG_hi 86 (by decide))
    refine zz_callGV (pc := 34) (idx := 505) (M := mX0_back) (7, 106) [] [.ref ((cG ad V I D).1 0)] 66 ct 1 (cG_img 2 0 66 (by decide) hI (by decide) rfl rfl) rfl mv_X1_copy_66 q1295 rfl (Nat.le_of_ble_eq_true rfl) (Nat.le_of_ble_eq_true rfl) rfl rfl rfl (Nat.le_of_ble_eq_true rfl) dX0_back_34 (fun G1 r3 S3 hK => ?_)
    obtain ⟨a2, b0, b1, b2, b3, b4, b5, rfl⟩ := hK
    refine zz_putR (pc := 37) (G := gN (cG ad V I D) a2 b0 b1 b2 b3 b4 b5) tyX0 0 0 0 80 ((gN_lo (G := cG ad V I D) (a1 := a2) (b0 := b0) (b1 := b1) (b2 := b2) (b3 := b3) (b4 := b4) (b5 := b5) (by decide)).2.1.trans (zGC_s0 hG)) rfl in_X0 tyX0_ok (fun b hb9 hbj => nmX0 _ (by decide) b hb9 (Ne.symm hbj)) (by decide) q297 (Or.inl rfl) rfl rfl dX0_back_37 ?_
    refine zz_iconst (pc := 40) (v := 0) dX0_back_40 (by decide) ?_
    have hB := blkH_back (ad := ad) (V := V) (I := I) (D := D) (a1 := a2) (b0 := b0) (b1 := b1) (b2 := b2) (b3 := b3) (b4 := b4) (b5 := b5)
    exact zz_giretR (pB 1) (cG _ V I D) (rS (pB 1) S3) rfl (fun _ _ => ⟨rfl, rfl⟩) (blk_sh hB) (blk_O hB) (blk_A hB) blk_inj (fun _ => rfl) rfl rfl ⟨_, by exact rfl, rfl⟩ dX0_back_41 rfl
  · exact zz_none
