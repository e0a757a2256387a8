/-! TOWN.copy (written by gen/mkcopy.py) -/
set_option maxRecDepth 100000
theorem zval_rf {ty : FieldType} {ad : Nat → Nat} {r : Option Nat} {q : Nat} {i : Int32} {l : Int64} (h : zrft ty = true) (hr : r = some q) : zval ty ad r i l = .ref (ad q) := by
  subst hr
  exact zrft_val h
def zfit {ρ : Type} (k n : Nat) (S : zSt) (f : Option ρ) : Option ρ := if (List.range n).all (fun i => fits .byte (.int (S.1 k i))) = true then f else none
theorem zz_fit {ρ : Type} {X : zCx} {M : zMr} {A : (Nat → Prop) × String} {Q : zCx → ρ × zSt → State → Prop} {G : zGw} {cs : Nat × Nat} {res : ρ × zSt} {S S1 : zSt} {pc k n : Nat} {ls : List (Option Value)} {st : List Value} {f : Option (ρ × zSt)} (kk : (∀ i, i < n → fits .byte (.int (S1.1 k i)) = true) → Zz X M A Q G cs res S pc ls st f) : Zz X M A Q G cs res S pc ls st (zfit k n S1 f) := by
  intro hf
  unfold zfit at hf
  by_cases h : (List.range n).all (fun i => fits .byte (.int (S1.1 k i))) = true
  · rw [if_pos h] at hf
    exact kk (fun i hi => List.all_eq_true.mp h i (List.mem_range.mpr hi)) hf
  · rw [if_neg h] at hf
    cases hf
abbrev mX1_copy_1 : zMr := ("HiddenCube$Town", cX1_copy, 2, some (.object "HiddenCube$Town"), 6, 7, 106, none)
def F_X1_copy_1 (S : zSt) : Option (Unit × zSt) :=
(F_X1_init_80 (sZ S 80)).bind (fun r1 =>
zfit 2 40 (sI (sI (r1.2) 80 0 ((r1.2).1 1 0)) 80 1 ((sI (r1.2) 80 0 ((r1.2).1 1 0)).1 1 1)) (acopy 40 40 0 0 40 (acopy 5 5 0 0 5 (acopy 6 6 0 0 6 (acopy 6 6 0 0 6 (acopy 6 6 0 0 6 (acopy 32 32 0 0 32 (some ((), sI (sI (sI (cpI (cpI (cpI (cpI (cpI (cpI (sI (sI (r1.2) 80 0 ((r1.2).1 1 0)) 80 1 ((sI (r1.2) 80 0 ((r1.2).1 1 0)).1 1 1)) 2 (0 : Int32).toNatClampNeg 81 (0 : Int32).toNatClampNeg (40 : Int32).toNatClampNeg) 3 (0 : Int32).toNatClampNeg 82 (0 : Int32).toNatClampNeg (5 : Int32).toNatClampNeg) 4 (0 : Int32).toNatClampNeg 83 (0 : Int32).toNatClampNeg (6 : Int32).toNatClampNeg) 5 (0 : Int32).toNatClampNeg 84 (0 : Int32).toNatClampNeg (6 : Int32).toNatClampNeg) 6 (0 : Int32).toNatClampNeg 85 (0 : Int32).toNatClampNeg (6 : Int32).toNatClampNeg) 7 (0 : Int32).toNatClampNeg 86 (0 : Int32).toNatClampNeg (32 : Int32).toNatClampNeg) 80 8 ((cpI (cpI (cpI (cpI (cpI (cpI (sI (sI (r1.2) 80 0 ((r1.2).1 1 0)) 80 1 ((sI (r1.2) 80 0 ((r1.2).1 1 0)).1 1 1)) 2 (0 : Int32).toNatClampNeg 81 (0 : Int32).toNatClampNeg (40 : Int32).toNatClampNeg) 3 (0 : Int32).toNatClampNeg 82 (0 : Int32).toNatClampNeg (5 : Int32).toNatClampNeg) 4 (0 : Int32).toNatClampNeg 83 (0 : Int32).toNatClampNeg (6 : Int32).toNatClampNeg) 5 (0 : Int32).toNatClampNeg 84 (0 : Int32).toNatClampNeg (6 : Int32).toNatClampNeg) 6 (0 : Int32).toNatClampNeg 85 (0 : Int32).toNatClampNeg (6 : Int32).toNatClampNeg) 7 (0 : Int32).toNatClampNeg 86 (0 : Int32).toNatClampNeg (32 : Int32).toNatClampNeg).1 1 8)) 80 9 ((sI (cpI (cpI (cpI (cpI (cpI (cpI (sI (sI (r1.2) 80 0 ((r1.2).1 1 0)) 80 1 ((sI (r1.2) 80 0 ((r1.2).1 1 0)).1 1 1)) 2 (0 : Int32).toNatClampNeg 81 (0 : Int32).toNatClampNeg (40 : Int32).toNatClampNeg) 3 (0 : Int32).toNatClampNeg 82 (0 : Int32).toNatClampNeg (5 : Int32).toNatClampNeg) 4 (0 : Int32).toNatClampNeg 83 (0 : Int32).toNatClampNeg (6 : Int32).toNatClampNeg) 5 (0 : Int32).toNatClampNeg 84 (0 : Int32).toNatClampNeg (6 : Int32).toNatClampNeg) 6 (0 : Int32).toNatClampNeg 85 (0 : Int32).toNatClampNeg (6 : Int32).toNatClampNeg) 7 (0 : Int32).toNatClampNeg 86 (0 : Int32).toNatClampNeg (32 : Int32).toNatClampNeg) 80 8 ((cpI (cpI (cpI (cpI (cpI (cpI (sI (sI (r1.2) 80 0 ((r1.2).1 1 0)) 80 1 ((sI (r1.2) 80 0 ((r1.2).1 1 0)).1 1 1)) 2 (0 : Int32).toNatClampNeg 81 (0 : Int32).toNatClampNeg (40 : Int32).toNatClampNeg) 3 (0 : Int32).toNatClampNeg 82 (0 : Int32).toNatClampNeg (5 : Int32).toNatClampNeg) 4 (0 : Int32).toNatClampNeg 83 (0 : Int32).toNatClampNeg (6 : Int32).toNatClampNeg) 5 (0 : Int32).toNatClampNeg 84 (0 : Int32).toNatClampNeg (6 : Int32).toNatClampNeg) 6 (0 : Int32).toNatClampNeg 85 (0 : Int32).toNatClampNeg (6 : Int32).toNatClampNeg) 7 (0 : Int32).toNatClampNeg 86 (0 : Int32).toNatClampNeg (32 : Int32).toNatClampNeg).1 1 8)).1 1 9)) 80 10 ((sI (sI (cpI (cpI (cpI (cpI (cpI (cpI (sI (sI (r1.2) 80 0 ((r1.2).1 1 0)) 80 1 ((sI (r1.2) 80 0 ((r1.2).1 1 0)).1 1 1)) 2 (0 : Int32).toNatClampNeg 81 (0 : Int32).toNatClampNeg (40 : Int32).toNatClampNeg) 3 (0 : Int32).toNatClampNeg 82 (0 : Int32).toNatClampNeg (5 : Int32).toNatClampNeg) 4 (0 : Int32).toNatClampNeg 83 (0 : Int32).toNatClampNeg (6 : Int32).toNatClampNeg) 5 (0 : Int32).toNatClampNeg 84 (0 : Int32).toNatClampNeg (6 : Int32).toNatClampNeg) 6 (0 : Int32).toNatClampNeg 85 (0 : Int32).toNatClampNeg (6 : Int32).toNatClampNeg) 7 (0 : Int32).toNatClampNeg 86 (0 : Int32).toNatClampNeg (32 : Int32).toNatClampNeg) 80 8 ((cpI (cpI (cpI (cpI (cpI (cpI (sI (sI (r1.2) 80 0 ((r1.2).1 1 0)) 80 1 ((sI (r1.2) 80 0 ((r1.2).1 1 0)).1 1 1)) 2 (0 : Int32).toNatClampNeg 81 (0 : Int32).toNatClampNeg (40 : Int32).toNatClampNeg) 3 (0 : Int32).toNatClampNeg 82 (0 : Int32).toNatClampNeg (5 : Int32).toNatClampNeg) 4 (0 : Int32).toNatClampNeg 83 (0 : Int32).toNatClampNeg (6 : Int32).toNatClampNeg) 5 (0 : Int32).toNatClampNeg 84 (0 : Int32).toNatClampNeg (6 : Int32).toNatClampNeg) 6 (0 : Int32).toNatClampNeg 85 (0 : Int32).toNatClampNeg (6 : Int32).toNatClampNeg) 7 (0 : Int32).toNatClampNeg 86 (0 : Int32).toNatClampNeg (32 : Int32).toNatClampNeg).1 1 8)) 80 9 ((sI (cpI (cpI (cpI (cpI (cpI (cpI (sI (sI (r1.2) 80 0 ((r1.2).1 1 0)) 80 1 ((sI (r1.2) 80 0 ((r1.2).1 1 0)).1 1 1)) 2 (0 : Int32).toNatClampNeg 81 (0 : Int32).toNatClampNeg (40 : Int32).toNatClampNeg) 3 (0 : Int32).toNatClampNeg 82 (0 : Int32).toNatClampNeg (5 : Int32).toNatClampNeg) 4 (0 : Int32).toNatClampNeg 83 (0 : Int32).toNatClampNeg (6 : Int32).toNatClampNeg) 5 (0 : Int32).toNatClampNeg 84 (0 : Int32).toNatClampNeg (6 : Int32).toNatClampNeg) 6 (0 : Int32).toNatClampNeg 85 (0 : Int32).toNatClampNeg (6 : Int32).toNatClampNeg) 7 (0 : Int32).toNatClampNeg 86 (0 : Int32).toNatClampNeg (32 : Int32).toNatClampNeg) 80 8 ((cpI (cpI (cpI (cpI (cpI (cpI (sI (sI (r1.2) 80 0 ((r1.2).1 1 0)) 80 1 ((sI (r1.2) 80 0 ((r1.2).1 1 0)).1 1 1)) 2 (0 : Int32).toNatClampNeg 81 (0 : Int32).toNatClampNeg (40 : Int32).toNatClampNeg) 3 (0 : Int32).toNatClampNeg 82 (0 : Int32).toNatClampNeg (5 : Int32).toNatClampNeg) 4 (0 : Int32).toNatClampNeg 83 (0 : Int32).toNatClampNeg (6 : Int32).toNatClampNeg) 5 (0 : Int32).toNatClampNeg 84 (0 : Int32).toNatClampNeg (6 : Int32).toNatClampNeg) 6 (0 : Int32).toNatClampNeg 85 (0 : Int32).toNatClampNeg (6 : Int32).toNatClampNeg) 7 (0 : Int32).toNatClampNeg 86 (0 : Int32).toNatClampNeg (32 : Int32).toNatClampNeg).1 1 8)).1 1 9)).1 1 10))))))))))
theorem mv_X1_copy_1 : ZV mX1_copy_1 yX1_copy 0 := ⟨q1296, q1297, q151, q1298, rfl, by decide, by decide, by decide +kernel⟩
theorem cg_X1_copy_1 {G : zGw} (hcd : zcd G) (hb : G.2.1 1 = some (.inl 1)) (hs1 : G.2.1 2 = some (.inr (40, .byte))) (hr2 : G.2.2.1 1 2 = some 2) (hs2 : G.2.1 3 = some (.inr (5, .int))) (hr3 : G.2.2.1 1 3 = some 3) (hs3 : G.2.1 4 = some (.inr (6, .int))) (hr4 : G.2.2.1 1 4 = some 4) (hs4 : G.2.1 5 = some (.inr (6, .int))) (hr5 : G.2.2.1 1 5 = some 5) (hs5 : G.2.1 6 = some (.inr (6, .int))) (hr6 : G.2.2.1 1 6 = some 6) (hs6 : G.2.1 7 = some (.inr (32, .int))) (hr7 : G.2.2.1 1 7 = some 7) (hf80 : G.2.1 80 = none) (hf81 : G.2.1 81 = none) (hf82 : G.2.1 82 = none) (hf83 : G.2.1 83 = none) (hf84 : G.2.1 84 = none) (hf85 : G.2.1 85 = none) (hf86 : G.2.1 86 = none) : Zg mX1_copy_1 yX1_copy (fun _ g => some (.ref (g.1 80))) G (fun G' => ∃ a1 b0 b1 b2 b3 b4 b5, G' = gX1_init_80 (gA G 80 a1 (.inl 1)) b0 b1 b2 b3 b4 b5) [.ref (G.1 1)] F_X1_copy_1 := by
  refine Zg_of [some (.ref (G.1 1)), none] (by decide) rfl rfl (Nat.le_of_ble_eq_true rfl) rfl (fun X S res => ?_)
  unfold F_X1_copy_1
  refine zz_new (pc := 0) (ci := 1) (C := RX1) (T := TX1) (N := 11) (N' := 11) (1, 11) 80 hcd hf80 tyX1 rfl in_X1 tyX1_ok rfl (by decide) q1299 q184 q151 rfl rfl dX1_copy_0 (fun a1 => ?_)
  have hc1 := zcd_gA (k := 80) (a := a1) (w := .inl 1) hcd
  refine zz_dup (pc := 3) dX1_copy_3 rfl ?_
  have ct := cg_X1_init_80 (G := gA G 80 a1 (.inl 1)) hc1 rfl hf81 hf82 hf83 hf84 hf85 hf86
  refine zz_callGI (pc := 4) (idx := 39) (M := mX1_copy_1) (7, 106) _ _ 80 ct mv_X1_init_80 q1300 rfl (Nat.le_of_ble_eq_true rfl) (Nat.le_of_ble_eq_true rfl) rfl rfl rfl (Nat.le_of_ble_eq_true rfl) dX1_copy_4 (fun G1 r1 S1 hK => ?_)
  obtain ⟨b0, b1, b2, b3, b4, b5, rfl⟩ := hK
  refine zz_astore_n (pc := 7) 1 dX1_copy_7 rfl (Nat.le_of_ble_eq_true rfl) rfl ?_
  refine zz_aload_n (pc := 8) 1 dX1_copy_8 rfl rfl ?_
  refine zz_aload_n (pc := 9) 0 dX1_copy_9 rfl rfl ?_
  refine zz_get (pc := 10) (v := _) 1 1 0 hb rfl in_X1 (by decide) q189 rfl dX1_copy_10 ?_
  refine zz_putI (pc := 13) tyX1 80 1 0 rfl rfl in_X1 tyX1_ok (fun b hb9 hbj => nmX1 _ (by decide) b hb9 (Ne.symm hbj)) (by decide) q189 rfl rfl rfl dX1_copy_13 ?_
  refine zz_aload_n (pc := 16) 1 dX1_copy_16 rfl rfl ?_
  refine zz_aload_n (pc := 17) 0 dX1_copy_17 rfl rfl ?_
  refine zz_get (pc := 18) (v := _) 1 1 1 hb rfl in_X1 (by decide) q193 rfl dX1_copy_18 ?_
  refine zz_putI (pc := 21) tyX1 80 1 1 rfl rfl in_X1 tyX1_ok (fun b hb9 hbj => nmX1 _ (by decide) b hb9 (Ne.symm hbj)) (by decide) q193 rfl rfl rfl dX1_copy_21 ?_
  refine zz_aload_n (pc := 24) 0 dX1_copy_24 rfl rfl ?_
  refine zz_get (pc := 25) (v := .ref ((gX1_init_80 (gA G 80 a1 (.inl 1)) b0 b1 b2 b3 b4 b5).1 2)) 1 1 2 hb rfl in_X1 (by decide) q196 (zval_rf rfl hr2) dX1_copy_25 ?_
  refine zz_iconst (pc := 28) (v := 0) dX1_copy_28 (by decide) ?_
  refine zz_aload_n (pc := 29) 1 dX1_copy_29 rfl rfl ?_
  refine zz_get (pc := 30) (v := .ref ((gX1_init_80 (gA G 80 a1 (.inl 1)) b0 b1 b2 b3 b4 b5).1 81)) 80 1 2 rfl rfl in_X1 (by decide) q196 rfl dX1_copy_30 ?_
  refine zz_iconst (pc := 33) (v := 0) dX1_copy_33 (by decide) ?_
  refine zz_aload_n (pc := 34) 0 dX1_copy_34 rfl rfl ?_
  refine zz_get (pc := 35) (v := .ref ((gX1_init_80 (gA G 80 a1 (.inl 1)) b0 b1 b2 b3 b4 b5).1 2)) 1 1 2 hb rfl in_X1 (by decide) q196 (zval_rf rfl hr2) dX1_copy_35 ?_
  refine zz_alen (pc := 38) 2 40 .byte hs1 (v := 40) (by decide) dX1_copy_38 ?_
  refine zz_fit (fun hfit => ?_)
  refine zz_acopyT (pc := 39) (ty := .byte) 2 81 40 40 hs1 rfl (fun _ _ _ _ => rfl) rfl (by decide) q1301 (Nat.le_of_ble_eq_true rfl) (Nat.le_of_ble_eq_true rfl) dX1_copy_39 (fun i hi => by have := hfit i hi; simpa using this) ?_
  refine zz_aload_n (pc := 42) 0 dX1_copy_42 rfl rfl ?_
  refine zz_get (pc := 43) (v := .ref ((gX1_init_80 (gA G 80 a1 (.inl 1)) b0 b1 b2 b3 b4 b5).1 3)) 1 1 3 hb rfl in_X1 (by decide) q199 (zval_rf rfl hr3) dX1_copy_43 ?_
  refine zz_iconst (pc := 46) (v := 0) dX1_copy_46 (by decide) ?_
  refine zz_aload_n (pc := 47) 1 dX1_copy_47 rfl rfl ?_
  refine zz_get (pc := 48) (v := .ref ((gX1_init_80 (gA G 80 a1 (.inl 1)) b0 b1 b2 b3 b4 b5).1 82)) 80 1 3 rfl rfl in_X1 (by decide) q199 rfl dX1_copy_48 ?_
  refine zz_iconst (pc := 51) (v := 0) dX1_copy_51 (by decide) ?_
  refine zz_iconst (pc := 52) (v := 5) dX1_copy_52 (by decide) ?_
  refine zz_acopyI (pc := 53) 3 82 5 5 hs2 rfl (by decide) q1301 (Nat.le_of_ble_eq_true rfl) (Nat.le_of_ble_eq_true rfl) dX1_copy_53 ?_
  refine zz_aload_n (pc := 56) 0 dX1_copy_56 rfl rfl ?_
  refine zz_get (pc := 57) (v := .ref ((gX1_init_80 (gA G 80 a1 (.inl 1)) b0 b1 b2 b3 b4 b5).1 4)) 1 1 4 hb rfl in_X1 (by decide) q202 (zval_rf rfl hr4) dX1_copy_57 ?_
  refine zz_iconst (pc := 60) (v := 0) dX1_copy_60 (by decide) ?_
  refine zz_aload_n (pc := 61) 1 dX1_copy_61 rfl rfl ?_
  refine zz_get (pc := 62) (v := .ref ((gX1_init_80 (gA G 80 a1 (.inl 1)) b0 b1 b2 b3 b4 b5).1 83)) 80 1 4 rfl rfl in_X1 (by decide) q202 rfl dX1_copy_62 ?_
  refine zz_iconst (pc := 65) (v := 0) dX1_copy_65 (by decide) ?_
  refine zz_bipush (pc := 66) (v := 6) dX1_copy_66 (by decide) ?_
  refine zz_acopyI (pc := 68) 4 83 6 6 hs3 rfl (by decide) q1301 (Nat.le_of_ble_eq_true rfl) (Nat.le_of_ble_eq_true rfl) dX1_copy_68 ?_
  refine zz_aload_n (pc := 71) 0 dX1_copy_71 rfl rfl ?_
  refine zz_get (pc := 72) (v := .ref ((gX1_init_80 (gA G 80 a1 (.inl 1)) b0 b1 b2 b3 b4 b5).1 5)) 1 1 5 hb rfl in_X1 (by decide) q205 (zval_rf rfl hr5) dX1_copy_72 ?_
  refine zz_iconst (pc := 75) (v := 0) dX1_copy_75 (by decide) ?_
  refine zz_aload_n (pc := 76) 1 dX1_copy_76 rfl rfl ?_
  refine zz_get (pc := 77) (v := .ref ((gX1_init_80 (gA G 80 a1 (.inl 1)) b0 b1 b2 b3 b4 b5).1 84)) 80 1 5 rfl rfl in_X1 (by decide) q205 rfl dX1_copy_77 ?_
  refine zz_iconst (pc := 80) (v := 0) dX1_copy_80 (by decide) ?_
  refine zz_bipush (pc := 81) (v := 6) dX1_copy_81 (by decide) ?_
  refine zz_acopyI (pc := 83) 5 84 6 6 hs4 rfl (by decide) q1301 (Nat.le_of_ble_eq_true rfl) (Nat.le_of_ble_eq_true rfl) dX1_copy_83 ?_
  refine zz_aload_n (pc := 86) 0 dX1_copy_86 rfl rfl ?_
  refine zz_get (pc := 87) (v := .ref ((gX1_init_80 (gA G 80 a1 (.inl 1)) b0 b1 b2 b3 b4 b5).1 6)) 1 1 6 hb rfl in_X1 (by decide) q208 (zval_rf rfl hr6) dX1_copy_87 ?_
  refine zz_iconst (pc := 90) (v := 0) dX1_copy_90 (by decide) ?_
  refine zz_aload_n (pc := 91) 1 dX1_copy_91 rfl rfl ?_
  refine zz_get (pc := 92) (v := .ref ((gX1_init_80 (gA G 80 a1 (.inl 1)) b0 b1 b2 b3 b4 b5).1 85)) 80 1 6 rfl rfl in_X1 (by decide) q208 rfl dX1_copy_92 ?_
  refine zz_iconst (pc := 95) (v := 0) dX1_copy_95 (by decide) ?_
  refine zz_bipush (pc := 96) (v := 6) dX1_copy_96 (by decide) ?_
  refine zz_acopyI (pc := 98) 6 85 6 6 hs5 rfl (by decide) q1301 (Nat.le_of_ble_eq_true rfl) (Nat.le_of_ble_eq_true rfl) dX1_copy_98 ?_
  refine zz_aload_n (pc := 101) 0 dX1_copy_101 rfl rfl ?_
  refine zz_get (pc := 102) (v := .ref ((gX1_init_80 (gA G 80 a1 (.inl 1)) b0 b1 b2 b3 b4 b5).1 7)) 1 1 7 hb rfl in_X1 (by decide) q211 (zval_rf rfl hr7) dX1_copy_102 ?_
  refine zz_iconst (pc := 105) (v := 0) dX1_copy_105 (by decide) ?_
  refine zz_aload_n (pc := 106) 1 dX1_copy_106 rfl rfl ?_
  refine zz_get (pc := 107) (v := .ref ((gX1_init_80 (gA G 80 a1 (.inl 1)) b0 b1 b2 b3 b4 b5).1 86)) 80 1 7 rfl rfl in_X1 (by decide) q211 rfl dX1_copy_107 ?_
  refine zz_iconst (pc := 110) (v := 0) dX1_copy_110 (by decide) ?_
  refine zz_bipush (pc := 111) (v := 32) dX1_copy_111 (by decide) ?_
  refine zz_acopyI (pc := 113) 7 86 32 32 hs6 rfl (by decide) q1301 (Nat.le_of_ble_eq_true rfl) (Nat.le_of_ble_eq_true rfl) dX1_copy_113 ?_
  refine zz_aload_n (pc := 116) 1 dX1_copy_116 rfl rfl ?_
  refine zz_aload_n (pc := 117) 0 dX1_copy_117 rfl rfl ?_
  refine zz_get (pc := 118) (v := _) 1 1 8 hb rfl in_X1 (by decide) q213 rfl dX1_copy_118 ?_
  refine zz_putI (pc := 121) tyX1 80 1 8 rfl rfl in_X1 tyX1_ok (fun b hb9 hbj => nmX1 _ (by decide) b hb9 (Ne.symm hbj)) (by decide) q213 rfl rfl rfl dX1_copy_121 ?_
  refine zz_aload_n (pc := 124) 1 dX1_copy_124 rfl rfl ?_
  refine zz_aload_n (pc := 125) 0 dX1_copy_125 rfl rfl ?_
  refine zz_get (pc := 126) (v := _) 1 1 9 hb rfl in_X1 (by decide) q216 rfl dX1_copy_126 ?_
  refine zz_putI (pc := 129) tyX1 80 1 9 rfl rfl in_X1 tyX1_ok (fun b hb9 hbj => nmX1 _ (by decide) b hb9 (Ne.symm hbj)) (by decide) q216 rfl rfl rfl dX1_copy_129 ?_
  refine zz_aload_n (pc := 132) 1 dX1_copy_132 rfl rfl ?_
  refine zz_aload_n (pc := 133) 0 dX1_copy_133 rfl rfl ?_
  refine zz_get (pc := 134) (v := _) 1 1 10 hb rfl in_X1 (by decide) q219 rfl dX1_copy_134 ?_
  refine zz_putI (pc := 137) tyX1 80 1 10 rfl rfl in_X1 tyX1_ok (fun b hb9 hbj => nmX1 _ (by decide) b hb9 (Ne.symm hbj)) (by decide) q219 rfl rfl rfl dX1_copy_137 ?_
  refine zz_aload_n (pc := 140) 1 dX1_copy_140 rfl rfl ?_
  refine zz_garet (q := 80) (C := "HiddenCube$Town") ?_ rfl rfl ?_ dX1_copy_141 rfl
  · rfl
  · exact ⟨a1, b0, b1, b2, b3, b4, b5, rfl⟩
abbrev mX1_copy_90 : zMr := ("HiddenCube$Town", cX1_copy, 2, some (.object "HiddenCube$Town"), 6, 7, 106, none)
def F_X1_copy_90 (S : zSt) : Option (Unit × zSt) :=
(F_X1_init_80 (sZ S 80)).bind (fun r1 =>
zfit 91 40 (sI (sI (r1.2) 80 0 ((r1.2).1 90 0)) 80 1 ((sI (r1.2) 80 0 ((r1.2).1 90 0)).1 90 1)) (acopy 40 40 0 0 40 (acopy 5 5 0 0 5 (acopy 6 6 0 0 6 (acopy 6 6 0 0 6 (acopy 6 6 0 0 6 (acopy 32 32 0 0 32 (some ((), sI (sI (sI (cpI (cpI (cpI (cpI (cpI (cpI (sI (sI (r1.2) 80 0 ((r1.2).1 90 0)) 80 1 ((sI (r1.2) 80 0 ((r1.2).1 90 0)).1 90 1)) 91 (0 : Int32).toNatClampNeg 81 (0 : Int32).toNatClampNeg (40 : Int32).toNatClampNeg) 92 (0 : Int32).toNatClampNeg 82 (0 : Int32).toNatClampNeg (5 : Int32).toNatClampNeg) 93 (0 : Int32).toNatClampNeg 83 (0 : Int32).toNatClampNeg (6 : Int32).toNatClampNeg) 94 (0 : Int32).toNatClampNeg 84 (0 : Int32).toNatClampNeg (6 : Int32).toNatClampNeg) 95 (0 : Int32).toNatClampNeg 85 (0 : Int32).toNatClampNeg (6 : Int32).toNatClampNeg) 96 (0 : Int32).toNatClampNeg 86 (0 : Int32).toNatClampNeg (32 : Int32).toNatClampNeg) 80 8 ((cpI (cpI (cpI (cpI (cpI (cpI (sI (sI (r1.2) 80 0 ((r1.2).1 90 0)) 80 1 ((sI (r1.2) 80 0 ((r1.2).1 90 0)).1 90 1)) 91 (0 : Int32).toNatClampNeg 81 (0 : Int32).toNatClampNeg (40 : Int32).toNatClampNeg) 92 (0 : Int32).toNatClampNeg 82 (0 : Int32).toNatClampNeg (5 : Int32).toNatClampNeg) 93 (0 : Int32).toNatClampNeg 83 (0 : Int32).toNatClampNeg (6 : Int32).toNatClampNeg) 94 (0 : Int32).toNatClampNeg 84 (0 : Int32).toNatClampNeg (6 : Int32).toNatClampNeg) 95 (0 : Int32).toNatClampNeg 85 (0 : Int32).toNatClampNeg (6 : Int32).toNatClampNeg) 96 (0 : Int32).toNatClampNeg 86 (0 : Int32).toNatClampNeg (32 : Int32).toNatClampNeg).1 90 8)) 80 9 ((sI (cpI (cpI (cpI (cpI (cpI (cpI (sI (sI (r1.2) 80 0 ((r1.2).1 90 0)) 80 1 ((sI (r1.2) 80 0 ((r1.2).1 90 0)).1 90 1)) 91 (0 : Int32).toNatClampNeg 81 (0 : Int32).toNatClampNeg (40 : Int32).toNatClampNeg) 92 (0 : Int32).toNatClampNeg 82 (0 : Int32).toNatClampNeg (5 : Int32).toNatClampNeg) 93 (0 : Int32).toNatClampNeg 83 (0 : Int32).toNatClampNeg (6 : Int32).toNatClampNeg) 94 (0 : Int32).toNatClampNeg 84 (0 : Int32).toNatClampNeg (6 : Int32).toNatClampNeg) 95 (0 : Int32).toNatClampNeg 85 (0 : Int32).toNatClampNeg (6 : Int32).toNatClampNeg) 96 (0 : Int32).toNatClampNeg 86 (0 : Int32).toNatClampNeg (32 : Int32).toNatClampNeg) 80 8 ((cpI (cpI (cpI (cpI (cpI (cpI (sI (sI (r1.2) 80 0 ((r1.2).1 90 0)) 80 1 ((sI (r1.2) 80 0 ((r1.2).1 90 0)).1 90 1)) 91 (0 : Int32).toNatClampNeg 81 (0 : Int32).toNatClampNeg (40 : Int32).toNatClampNeg) 92 (0 : Int32).toNatClampNeg 82 (0 : Int32).toNatClampNeg (5 : Int32).toNatClampNeg) 93 (0 : Int32).toNatClampNeg 83 (0 : Int32).toNatClampNeg (6 : Int32).toNatClampNeg) 94 (0 : Int32).toNatClampNeg 84 (0 : Int32).toNatClampNeg (6 : Int32).toNatClampNeg) 95 (0 : Int32).toNatClampNeg 85 (0 : Int32).toNatClampNeg (6 : Int32).toNatClampNeg) 96 (0 : Int32).toNatClampNeg 86 (0 : Int32).toNatClampNeg (32 : Int32).toNatClampNeg).1 90 8)).1 90 9)) 80 10 ((sI (sI (cpI (cpI (cpI (cpI (cpI (cpI (sI (sI (r1.2) 80 0 ((r1.2).1 90 0)) 80 1 ((sI (r1.2) 80 0 ((r1.2).1 90 0)).1 90 1)) 91 (0 : Int32).toNatClampNeg 81 (0 : Int32).toNatClampNeg (40 : Int32).toNatClampNeg) 92 (0 : Int32).toNatClampNeg 82 (0 : Int32).toNatClampNeg (5 : Int32).toNatClampNeg) 93 (0 : Int32).toNatClampNeg 83 (0 : Int32).toNatClampNeg (6 : Int32).toNatClampNeg) 94 (0 : Int32).toNatClampNeg 84 (0 : Int32).toNatClampNeg (6 : Int32).toNatClampNeg) 95 (0 : Int32).toNatClampNeg 85 (0 : Int32).toNatClampNeg (6 : Int32).toNatClampNeg) 96 (0 : Int32).toNatClampNeg 86 (0 : Int32).toNatClampNeg (32 : Int32).toNatClampNeg) 80 8 ((cpI (cpI (cpI (cpI (cpI (cpI (sI (sI (r1.2) 80 0 ((r1.2).1 90 0)) 80 1 ((sI (r1.2) 80 0 ((r1.2).1 90 0)).1 90 1)) 91 (0 : Int32).toNatClampNeg 81 (0 : Int32).toNatClampNeg (40 : Int32).toNatClampNeg) 92 (0 : Int32).toNatClampNeg 82 (0 : Int32).toNatClampNeg (5 : Int32).toNatClampNeg) 93 (0 : Int32).toNatClampNeg 83 (0 : Int32).toNatClampNeg (6 : Int32).toNatClampNeg) 94 (0 : Int32).toNatClampNeg 84 (0 : Int32).toNatClampNeg (6 : Int32).toNatClampNeg) 95 (0 : Int32).toNatClampNeg 85 (0 : Int32).toNatClampNeg (6 : Int32).toNatClampNeg) 96 (0 : Int32).toNatClampNeg 86 (0 : Int32).toNatClampNeg (32 : Int32).toNatClampNeg).1 90 8)) 80 9 ((sI (cpI (cpI (cpI (cpI (cpI (cpI (sI (sI (r1.2) 80 0 ((r1.2).1 90 0)) 80 1 ((sI (r1.2) 80 0 ((r1.2).1 90 0)).1 90 1)) 91 (0 : Int32).toNatClampNeg 81 (0 : Int32).toNatClampNeg (40 : Int32).toNatClampNeg) 92 (0 : Int32).toNatClampNeg 82 (0 : Int32).toNatClampNeg (5 : Int32).toNatClampNeg) 93 (0 : Int32).toNatClampNeg 83 (0 : Int32).toNatClampNeg (6 : Int32).toNatClampNeg) 94 (0 : Int32).toNatClampNeg 84 (0 : Int32).toNatClampNeg (6 : Int32).toNatClampNeg) 95 (0 : Int32).toNatClampNeg 85 (0 : Int32).toNatClampNeg (6 : Int32).toNatClampNeg) 96 (0 : Int32).toNatClampNeg 86 (0 : Int32).toNatClampNeg (32 : Int32).toNatClampNeg) 80 8 ((cpI (cpI (cpI (cpI (cpI (cpI (sI (sI (r1.2) 80 0 ((r1.2).1 90 0)) 80 1 ((sI (r1.2) 80 0 ((r1.2).1 90 0)).1 90 1)) 91 (0 : Int32).toNatClampNeg 81 (0 : Int32).toNatClampNeg (40 : Int32).toNatClampNeg) 92 (0 : Int32).toNatClampNeg 82 (0 : Int32).toNatClampNeg (5 : Int32).toNatClampNeg) 93 (0 : Int32).toNatClampNeg 83 (0 : Int32).toNatClampNeg (6 : Int32).toNatClampNeg) 94 (0 : Int32).toNatClampNeg 84 (0 : Int32).toNatClampNeg (6 : Int32).toNatClampNeg) 95 (0 : Int32).toNatClampNeg 85 (0 : Int32).toNatClampNeg (6 : Int32).toNatClampNeg) 96 (0 : Int32).toNatClampNeg 86 (0 : Int32).toNatClampNeg (32 : Int32).toNatClampNeg).1 90 8)).1 90 9)).1 90 10))))))))))
theorem mv_X1_copy_90 : ZV mX1_copy_90 yX1_copy 0 := ⟨q1296, q1297, q151, q1298, rfl, by decide, by decide, by decide +kernel⟩
theorem cg_X1_copy_90 {G : zGw} (hcd : zcd G) (hb : G.2.1 90 = some (.inl 1)) (hs1 : G.2.1 91 = some (.inr (40, .byte))) (hr2 : G.2.2.1 90 2 = some 91) (hs2 : G.2.1 92 = some (.inr (5, .int))) (hr3 : G.2.2.1 90 3 = some 92) (hs3 : G.2.1 93 = some (.inr (6, .int))) (hr4 : G.2.2.1 90 4 = some 93) (hs4 : G.2.1 94 = some (.inr (6, .int))) (hr5 : G.2.2.1 90 5 = some 94) (hs5 : G.2.1 95 = some (.inr (6, .int))) (hr6 : G.2.2.1 90 6 = some 95) (hs6 : G.2.1 96 = some (.inr (32, .int))) (hr7 : G.2.2.1 90 7 = some 96) (hf80 : G.2.1 80 = none) (hf81 : G.2.1 81 = none) (hf82 : G.2.1 82 = none) (hf83 : G.2.1 83 = none) (hf84 : G.2.1 84 = none) (hf85 : G.2.1 85 = none) (hf86 : G.2.1 86 = none) : Zg mX1_copy_90 yX1_copy (fun _ g => some (.ref (g.1 80))) G (fun G' => ∃ a1 b0 b1 b2 b3 b4 b5, G' = gX1_init_80 (gA G 80 a1 (.inl 1)) b0 b1 b2 b3 b4 b5) [.ref (G.1 90)] F_X1_copy_90 := by
  refine Zg_of [some (.ref (G.1 90)), none] (by decide) rfl rfl (Nat.le_of_ble_eq_true rfl) rfl (fun X S res => ?_)
  unfold F_X1_copy_90
  refine zz_new (pc := 0) (ci := 1) (C := RX1) (T := TX1) (N := 11) (N' := 11) (1, 11) 80 hcd hf80 tyX1 rfl in_X1 tyX1_ok rfl (by decide) q1299 q184 q151 rfl rfl dX1_copy_0 (fun a1 => ?_)
  have hc1 := zcd_gA (k := 80) (a := a1) (w := .inl 1) hcd
  refine zz_dup (pc := 3) dX1_copy_3 rfl ?_
  have ct := cg_X1_init_80 (G := gA G 80 a1 (.inl 1)) hc1 rfl hf81 hf82 hf83 hf84 hf85 hf86
  refine zz_callGI (pc := 4) (idx := 39) (M := mX1_copy_90) (7, 106) _ _ 80 ct mv_X1_init_80 q1300 rfl (Nat.le_of_ble_eq_true rfl) (Nat.le_of_ble_eq_true rfl) rfl rfl rfl (Nat.le_of_ble_eq_true rfl) dX1_copy_4 (fun G1 r1 S1 hK => ?_)
  obtain ⟨b0, b1, b2, b3, b4, b5, rfl⟩ := hK
  refine zz_astore_n (pc := 7) 1 dX1_copy_7 rfl (Nat.le_of_ble_eq_true rfl) rfl ?_
  refine zz_aload_n (pc := 8) 1 dX1_copy_8 rfl rfl ?_
  refine zz_aload_n (pc := 9) 0 dX1_copy_9 rfl rfl ?_
  refine zz_get (pc := 10) (v := _) 90 1 0 hb rfl in_X1 (by decide) q189 rfl dX1_copy_10 ?_
  refine zz_putI (pc := 13) tyX1 80 1 0 rfl rfl in_X1 tyX1_ok (fun b hb9 hbj => nmX1 _ (by decide) b hb9 (Ne.symm hbj)) (by decide) q189 rfl rfl rfl dX1_copy_13 ?_
  refine zz_aload_n (pc := 16) 1 dX1_copy_16 rfl rfl ?_
  refine zz_aload_n (pc := 17) 0 dX1_copy_17 rfl rfl ?_
  refine zz_get (pc := 18) (v := _) 90 1 1 hb rfl in_X1 (by decide) q193 rfl dX1_copy_18 ?_
  refine zz_putI (pc := 21) tyX1 80 1 1 rfl rfl in_X1 tyX1_ok (fun b hb9 hbj => nmX1 _ (by decide) b hb9 (Ne.symm hbj)) (by decide) q193 rfl rfl rfl dX1_copy_21 ?_
  refine zz_aload_n (pc := 24) 0 dX1_copy_24 rfl rfl ?_
  refine zz_get (pc := 25) (v := .ref ((gX1_init_80 (gA G 80 a1 (.inl 1)) b0 b1 b2 b3 b4 b5).1 91)) 90 1 2 hb rfl in_X1 (by decide) q196 (zval_rf rfl hr2) dX1_copy_25 ?_
  refine zz_iconst (pc := 28) (v := 0) dX1_copy_28 (by decide) ?_
  refine zz_aload_n (pc := 29) 1 dX1_copy_29 rfl rfl ?_
  refine zz_get (pc := 30) (v := .ref ((gX1_init_80 (gA G 80 a1 (.inl 1)) b0 b1 b2 b3 b4 b5).1 81)) 80 1 2 rfl rfl in_X1 (by decide) q196 rfl dX1_copy_30 ?_
  refine zz_iconst (pc := 33) (v := 0) dX1_copy_33 (by decide) ?_
  refine zz_aload_n (pc := 34) 0 dX1_copy_34 rfl rfl ?_
  refine zz_get (pc := 35) (v := .ref ((gX1_init_80 (gA G 80 a1 (.inl 1)) b0 b1 b2 b3 b4 b5).1 91)) 90 1 2 hb rfl in_X1 (by decide) q196 (zval_rf rfl hr2) dX1_copy_35 ?_
  refine zz_alen (pc := 38) 91 40 .byte hs1 (v := 40) (by decide) dX1_copy_38 ?_
  refine zz_fit (fun hfit => ?_)
  refine zz_acopyT (pc := 39) (ty := .byte) 91 81 40 40 hs1 rfl (fun _ _ _ _ => rfl) rfl (by decide) q1301 (Nat.le_of_ble_eq_true rfl) (Nat.le_of_ble_eq_true rfl) dX1_copy_39 (fun i hi => by have := hfit i hi; simpa using this) ?_
  refine zz_aload_n (pc := 42) 0 dX1_copy_42 rfl rfl ?_
  refine zz_get (pc := 43) (v := .ref ((gX1_init_80 (gA G 80 a1 (.inl 1)) b0 b1 b2 b3 b4 b5).1 92)) 90 1 3 hb rfl in_X1 (by decide) q199 (zval_rf rfl hr3) dX1_copy_43 ?_
  refine zz_iconst (pc := 46) (v := 0) dX1_copy_46 (by decide) ?_
  refine zz_aload_n (pc := 47) 1 dX1_copy_47 rfl rfl ?_
  refine zz_get (pc := 48) (v := .ref ((gX1_init_80 (gA G 80 a1 (.inl 1)) b0 b1 b2 b3 b4 b5).1 82)) 80 1 3 rfl rfl in_X1 (by decide) q199 rfl dX1_copy_48 ?_
  refine zz_iconst (pc := 51) (v := 0) dX1_copy_51 (by decide) ?_
  refine zz_iconst (pc := 52) (v := 5) dX1_copy_52 (by decide) ?_
  refine zz_acopyI (pc := 53) 92 82 5 5 hs2 rfl (by decide) q1301 (Nat.le_of_ble_eq_true rfl) (Nat.le_of_ble_eq_true rfl) dX1_copy_53 ?_
  refine zz_aload_n (pc := 56) 0 dX1_copy_56 rfl rfl ?_
  refine zz_get (pc := 57) (v := .ref ((gX1_init_80 (gA G 80 a1 (.inl 1)) b0 b1 b2 b3 b4 b5).1 93)) 90 1 4 hb rfl in_X1 (by decide) q202 (zval_rf rfl hr4) dX1_copy_57 ?_
  refine zz_iconst (pc := 60) (v := 0) dX1_copy_60 (by decide) ?_
  refine zz_aload_n (pc := 61) 1 dX1_copy_61 rfl rfl ?_
  refine zz_get (pc := 62) (v := .ref ((gX1_init_80 (gA G 80 a1 (.inl 1)) b0 b1 b2 b3 b4 b5).1 83)) 80 1 4 rfl rfl in_X1 (by decide) q202 rfl dX1_copy_62 ?_
  refine zz_iconst (pc := 65) (v := 0) dX1_copy_65 (by decide) ?_
  refine zz_bipush (pc := 66) (v := 6) dX1_copy_66 (by decide) ?_
  refine zz_acopyI (pc := 68) 93 83 6 6 hs3 rfl (by decide) q1301 (Nat.le_of_ble_eq_true rfl) (Nat.le_of_ble_eq_true rfl) dX1_copy_68 ?_
  refine zz_aload_n (pc := 71) 0 dX1_copy_71 rfl rfl ?_
  refine zz_get (pc := 72) (v := .ref ((gX1_init_80 (gA G 80 a1 (.inl 1)) b0 b1 b2 b3 b4 b5).1 94)) 90 1 5 hb rfl in_X1 (by decide) q205 (zval_rf rfl hr5) dX1_copy_72 ?_
  refine zz_iconst (pc := 75) (v := 0) dX1_copy_75 (by decide) ?_
  refine zz_aload_n (pc := 76) 1 dX1_copy_76 rfl rfl ?_
  refine zz_get (pc := 77) (v := .ref ((gX1_init_80 (gA G 80 a1 (.inl 1)) b0 b1 b2 b3 b4 b5).1 84)) 80 1 5 rfl rfl in_X1 (by decide) q205 rfl dX1_copy_77 ?_
  refine zz_iconst (pc := 80) (v := 0) dX1_copy_80 (by decide) ?_
  refine zz_bipush (pc := 81) (v := 6) dX1_copy_81 (by decide) ?_
  refine zz_acopyI (pc := 83) 94 84 6 6 hs4 rfl (by decide) q1301 (Nat.le_of_ble_eq_true rfl) (Nat.le_of_ble_eq_true rfl) dX1_copy_83 ?_
  refine zz_aload_n (pc := 86) 0 dX1_copy_86 rfl rfl ?_
  refine zz_get (pc := 87) (v := .ref ((gX1_init_80 (gA G 80 a1 (.inl 1)) b0 b1 b2 b3 b4 b5).1 95)) 90 1 6 hb rfl in_X1 (by decide) q208 (zval_rf rfl hr6) dX1_copy_87 ?_
  refine zz_iconst (pc := 90) (v := 0) dX1_copy_90 (by decide) ?_
  refine zz_aload_n (pc := 91) 1 dX1_copy_91 rfl rfl ?_
  refine zz_get (pc := 92) (v := .ref ((gX1_init_80 (gA G 80 a1 (.inl 1)) b0 b1 b2 b3 b4 b5).1 85)) 80 1 6 rfl rfl in_X1 (by decide) q208 rfl dX1_copy_92 ?_
  refine zz_iconst (pc := 95) (v := 0) dX1_copy_95 (by decide) ?_
  refine zz_bipush (pc := 96) (v := 6) dX1_copy_96 (by decide) ?_
  refine zz_acopyI (pc := 98) 95 85 6 6 hs5 rfl (by decide) q1301 (Nat.le_of_ble_eq_true rfl) (Nat.le_of_ble_eq_true rfl) dX1_copy_98 ?_
  refine zz_aload_n (pc := 101) 0 dX1_copy_101 rfl rfl ?_
  refine zz_get (pc := 102) (v := .ref ((gX1_init_80 (gA G 80 a1 (.inl 1)) b0 b1 b2 b3 b4 b5).1 96)) 90 1 7 hb rfl in_X1 (by decide) q211 (zval_rf rfl hr7) dX1_copy_102 ?_
  refine zz_iconst (pc := 105) (v := 0) dX1_copy_105 (by decide) ?_
  refine zz_aload_n (pc := 106) 1 dX1_copy_106 rfl rfl ?_
  refine zz_get (pc := 107) (v := .ref ((gX1_init_80 (gA G 80 a1 (.inl 1)) b0 b1 b2 b3 b4 b5).1 86)) 80 1 7 rfl rfl in_X1 (by decide) q211 rfl dX1_copy_107 ?_
  refine zz_iconst (pc := 110) (v := 0) dX1_copy_110 (by decide) ?_
  refine zz_bipush (pc := 111) (v := 32) dX1_copy_111 (by decide) ?_
  refine zz_acopyI (pc := 113) 96 86 32 32 hs6 rfl (by decide) q1301 (Nat.le_of_ble_eq_true rfl) (Nat.le_of_ble_eq_true rfl) dX1_copy_113 ?_
  refine zz_aload_n (pc := 116) 1 dX1_copy_116 rfl rfl ?_
  refine zz_aload_n (pc := 117) 0 dX1_copy_117 rfl rfl ?_
  refine zz_get (pc := 118) (v := _) 90 1 8 hb rfl in_X1 (by decide) q213 rfl dX1_copy_118 ?_
  refine zz_putI (pc := 121) tyX1 80 1 8 rfl rfl in_X1 tyX1_ok (fun b hb9 hbj => nmX1 _ (by decide) b hb9 (Ne.symm hbj)) (by decide) q213 rfl rfl rfl dX1_copy_121 ?_
  refine zz_aload_n (pc := 124) 1 dX1_copy_124 rfl rfl ?_
  refine zz_aload_n (pc := 125) 0 dX1_copy_125 rfl rfl ?_
  refine zz_get (pc := 126) (v := _) 90 1 9 hb rfl in_X1 (by decide) q216 rfl dX1_copy_126 ?_
  refine zz_putI (pc := 129) tyX1 80 1 9 rfl rfl in_X1 tyX1_ok (fun b hb9 hbj => nmX1 _ (by decide) b hb9 (Ne.symm hbj)) (by decide) q216 rfl rfl rfl dX1_copy_129 ?_
  refine zz_aload_n (pc := 132) 1 dX1_copy_132 rfl rfl ?_
  refine zz_aload_n (pc := 133) 0 dX1_copy_133 rfl rfl ?_
  refine zz_get (pc := 134) (v := _) 90 1 10 hb rfl in_X1 (by decide) q219 rfl dX1_copy_134 ?_
  refine zz_putI (pc := 137) tyX1 80 1 10 rfl rfl in_X1 tyX1_ok (fun b hb9 hbj => nmX1 _ (by decide) b hb9 (Ne.symm hbj)) (by decide) q219 rfl rfl rfl dX1_copy_137 ?_
  refine zz_aload_n (pc := 140) 1 dX1_copy_140 rfl rfl ?_
  refine zz_garet (q := 80) (C := "HiddenCube$Town") ?_ rfl rfl ?_ dX1_copy_141 rfl
  · rfl
  · exact ⟨a1, b0, b1, b2, b3, b4, b5, rfl⟩
