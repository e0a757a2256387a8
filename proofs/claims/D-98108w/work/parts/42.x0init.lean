/-! HIDDENCUBE.<init> (written by gen/mkx0.py) -/
set_option maxRecDepth 100000
theorem zsn {G : zGw} {k : Nat} {w : zCell} (h : G.2.1 k = some w) : G.2.1 k ≠ none := by rw [h]; simp
theorem zcd_X3_init_10 {G : zGw} (hcd : zcd G) (hp0 : G.2.1 0 ≠ none) (a1 : Nat) : zcd (gX3_init_10 G a1) := zcd_gR (fun x hx => by cases hx; exact gA_some) (zcd_gA (zcd_gR (fun x hx => by cases hx; exact hp0) (zcd_gR (fun x hx => by cases hx; exact hp0) hcd)))
abbrev mX0_init : zMr := ("HiddenCube", cX0_init, 1, none, 8, 42, 158987, none)
def gX0_init (G : zGw) (a1 : Nat) (b1_0 : Nat) (b1_1 : Nat) (b1_2 : Nat) (b1_3 : Nat) (b1_4 : Nat) (b1_5 : Nat) (a2 : Nat) (a3 : Nat) (b2_0 : Nat) (a4 : Nat) (b3_0 : Nat) (a5 : Nat) (a6 : Nat) (a7 : Nat) (a8 : Nat) (a9 : Nat) (a10 : Nat) (a11 : Nat) (a12 : Nat) (a13 : Nat) (a14 : Nat) (a15 : Nat) (a16 : Nat) (a17 : Nat) (a18 : Nat) (a19 : Nat) (a20 : Nat) (a21 : Nat) (a22 : Nat) (a23 : Nat) (a24 : Nat) (a25 : Nat) (a26 : Nat) (a27 : Nat) (a28 : Nat) (a29 : Nat) (a30 : Nat) (a31 : Nat) (a32 : Nat) (a33 : Nat) (a34 : Nat) : zGw := gR (gA (gR (gR (gX4_init_43 (gA (gR (gX4_init_42 (gA (gR (gX4_init_41 (gA (gR (gX4_init_40 (gA (gA (gR (gA (gR (gA (gR (gA (gR (gA (gR (gA (gR (gA (gR (gA (gR (gA (gR (gA (gR (gA (gR (gA (gR (gA (gR (gA (gR (gA (gR (gA (gR (gA (gR (gA (gR (gA (gR (gA (gR (gA (gR (gA (gR (gA (gR (gA (gR (gA (gR (gX3_init_10 (gA (gR (gX2_init_8 (gA (gR (gA (gR (gX1_init_1 (gA (G) 1 a1 (.inl 1)) b1_0 b1_1 b1_2 b1_3 b1_4 b1_5) 0 0 (some 1)) 12 a2 (.inr (1400, .byte))) 0 1 (some 12)) 8 a3 (.inl 2)) b2_0) 0 5 (some 8)) 10 a4 (.inl 3)) b3_0) 0 6 (some 10)) 13 a5 (.inr (32, .int))) 0 7 (some 13)) 14 a6 (.inr (32, .int))) 0 8 (some 14)) 15 a7 (.inr (64, .int))) 0 9 (some 15)) 16 a8 (.inr (64, .int))) 0 10 (some 16)) 17 a9 (.inr (33, .int))) 0 12 (some 17)) 18 a10 (.inr (33, .int))) 0 13 (some 18)) 19 a11 (.inr (32, .int))) 0 14 (some 19)) 20 a12 (.inr (1400, .int))) 0 15 (some 20)) 21 a13 (.inr (19200, .int))) 0 17 (some 21)) 22 a14 (.inr (3840, .int))) 0 18 (some 22)) 23 a15 (.inr (5, .int))) 0 19 (some 23)) 24 a16 (.inr (32, .int))) 0 21 (some 24)) 25 a17 (.inr (1400, .int))) 0 22 (some 25)) 26 a18 (.inr (65536, .int))) 0 23 (some 26)) 27 a19 (.inr (65536, .boolean))) 0 24 (some 27)) 28 a20 (.inr (32, .int))) 0 25 (some 28)) 29 a21 (.inr (32, .int))) 0 26 (some 29)) 30 a22 (.inr (6, .int))) 0 27 (some 30)) 31 a23 (.inr (6, .int))) 0 28 (some 31)) 32 a24 (.inr (6, .int))) 0 30 (some 32)) 33 a25 (.inr (6, .int))) 0 31 (some 33)) 34 a26 (.inr (6, .int))) 0 32 (some 34)) 35 a27 (.inr (6, .int))) 0 33 (some 35)) 36 a28 (.inr (60, .int))) 0 36 (some 36)) 37 a29 (.inr (4, .object "HiddenCube$Slot"))) 40 a30 (.inl 4)) ) 37 0 (some 40)) 41 a31 (.inl 4)) ) 37 1 (some 41)) 42 a32 (.inl 4)) ) 37 2 (some 42)) 43 a33 (.inl 4)) ) 37 3 (some 43)) 0 37 (some 37)) 38 a34 (.inr (3, .object "HiddenCube$Town"))) 0 38 (some 38)
def F_X0_init (S : zSt) : Option (Unit × zSt) :=
(F_X1_init_1 (sZ (S) 1)).bind (fun r1 =>
(F_X2_init_8 (sZ (sI (sZ (r1.2) 12) 0 4 (-1)) 8)).bind (fun r2 =>
(F_X2_init_10 (sZ (r2.2) 10)).bind (fun r3 =>
(F_X4_init_40 (sZ (sZ (sZ (sZ (sZ (sZ (sZ (sZ (sZ (sZ (sZ (sZ (sZ (sZ (sZ (sZ (sZ (sZ (sZ (sZ (sZ (sZ (sZ (sZ (sZ (sZ (r3.2) 13) 14) 15) 16) 17) 18) 19) 20) 21) 22) 23) 24) 25) 26) 27) 28) 29) 30) 31) 32) 33) 34) 35) 36) 37) 40)).bind (fun r4 =>
(F_X4_init_41 (sZ (r4.2) 41)).bind (fun r5 =>
(F_X4_init_42 (sZ (r5.2) 42)).bind (fun r6 =>
(F_X4_init_43 (sZ (r6.2) 43)).bind (fun r7 =>
some ((), sZ (r7.2) 38))))))))
theorem mv_X0_init : ZI mX0_init yX0_init 0 := ⟨q178, q150, q179, rfl, rfl, by decide, by decide, by decide +kernel⟩
theorem cg_X0_init {G : zGw} (hcd : zcd G) (hall : ∀ k, k ≠ 0 → G.2.1 k = none) (hb : G.2.1 0 = some (.inl 0)) : Zg mX0_init yX0_init (fun _ _ => none) G (fun G' => ∃ a1 b1_0 b1_1 b1_2 b1_3 b1_4 b1_5 a2 a3 b2_0 a4 b3_0 a5 a6 a7 a8 a9 a10 a11 a12 a13 a14 a15 a16 a17 a18 a19 a20 a21 a22 a23 a24 a25 a26 a27 a28 a29 a30 a31 a32 a33 a34, G' = gX0_init G a1 b1_0 b1_1 b1_2 b1_3 b1_4 b1_5 a2 a3 b2_0 a4 b3_0 a5 a6 a7 a8 a9 a10 a11 a12 a13 a14 a15 a16 a17 a18 a19 a20 a21 a22 a23 a24 a25 a26 a27 a28 a29 a30 a31 a32 a33 a34) [.ref (G.1 0)] F_X0_init := by
  have hf1 := hall 1 (by decide)
  have hf2 := hall 2 (by decide)
  have hf3 := hall 3 (by decide)
  have hf4 := hall 4 (by decide)
  have hf5 := hall 5 (by decide)
  have hf6 := hall 6 (by decide)
  have hf7 := hall 7 (by decide)
  have hf12 := hall 12 (by decide)
  have hf8 := hall 8 (by decide)
  have hf9 := hall 9 (by decide)
  have hf10 := hall 10 (by decide)
  have hf11 := hall 11 (by decide)
  have hf13 := hall 13 (by decide)
  have hf14 := hall 14 (by decide)
  have hf15 := hall 15 (by decide)
  have hf16 := hall 16 (by decide)
  have hf17 := hall 17 (by decide)
  have hf18 := hall 18 (by decide)
  have hf19 := hall 19 (by decide)
  have hf20 := hall 20 (by decide)
  have hf21 := hall 21 (by decide)
  have hf22 := hall 22 (by decide)
  have hf23 := hall 23 (by decide)
  have hf24 := hall 24 (by decide)
  have hf25 := hall 25 (by decide)
  have hf26 := hall 26 (by decide)
  have hf27 := hall 27 (by decide)
  have hf28 := hall 28 (by decide)
  have hf29 := hall 29 (by decide)
  have hf30 := hall 30 (by decide)
  have hf31 := hall 31 (by decide)
  have hf32 := hall 32 (by decide)
  have hf33 := hall 33 (by decide)
  have hf34 := hall 34 (by decide)
  have hf35 := hall 35 (by decide)
  have hf36 := hall 36 (by decide)
  have hf37 := hall 37 (by decide)
  have hf40 := hall 40 (by decide)
  have hf41 := hall 41 (by decide)
  have hf42 := hall 42 (by decide)
  have hf43 := hall 43 (by decide)
  have hf38 := hall 38 (by decide)
  refine Zg_of [some (.ref (G.1 0))] (by decide) rfl rfl (Nat.le_of_ble_eq_true rfl) rfl (fun X S res => ?_)
  unfold F_X0_init
  refine zz_aload_n (pc := 0) 0 dX0_init_0 rfl rfl ?_
  refine zz_objInit (pc := 1) (kp := 0) q180 zq_oi1 zq_oi2 (Nat.le_of_ble_eq_true rfl) (Nat.le_of_ble_eq_true rfl) dX0_init_1 ?_
  refine zz_aload_n (pc := 4) 0 dX0_init_4 rfl rfl ?_
  refine zz_new (pc := 5) (ci := 1) (C := RX1) (T := TX1) (N := 11) (N' := 11) (1, 11) 1 hcd hf1 tyX1 rfl in_X1 tyX1_ok rfl (by decide) q183 q184 q151 rfl rfl dX0_init_5 (fun a1 => ?_)
  have hc1 := zcd_gA (k := 1) (a := a1) (w := .inl 1) hcd
  refine zz_dup (pc := 8) dX0_init_8 rfl ?_
  have ct1 := cg_X1_init_1 (G := gA (G) 1 a1 (.inl 1)) hc1 rfl hf2 hf3 hf4 hf5 hf6 hf7
  refine zz_callGN (pc := 9) (idx := 9) (M := mX0_init) (7, 106) _ _ 1 ct1 mv_X1_init_1 (List.mem_of_getElem? (i := 0) rfl) rfl (Nat.le_of_ble_eq_true rfl) (Nat.le_of_ble_eq_true rfl) rfl rfl rfl (Nat.le_of_ble_eq_true rfl) dX0_init_9 (fun G1 r1 S1 hK1 => ?_)
  obtain ⟨b1_0, b1_1, b1_2, b1_3, b1_4, b1_5, rfl⟩ := hK1
  have hz1 := zcd_X1_init_1 (G := gA (G) 1 a1 (.inl 1)) hc1 rfl hf2 hf3 hf4 hf5 hf6 hf7 b1_0 b1_1 b1_2 b1_3 b1_4 b1_5
  refine zz_putR (pc := 12) tyX0 0 0 0 1 hb rfl in_X0 tyX0_ok (fun b hb9 hbj => nmX0 _ (by decide) b hb9 (Ne.symm hbj)) (by decide) q297 (by first | exact Or.inl rfl | exact Or.inr ⟨rfl, rfl, rfl⟩) rfl rfl dX0_init_12 ?_
  have hs12 := zcd_gR (k := 0) (i := 0) (q := some 1) (fun x hx => by cases hx; exact zsn rfl) hz1
  refine zz_aload_n (pc := 15) 0 dX0_init_15 rfl rfl ?_
  refine zz_sipush (pc := 16) (v := (1400)) dX0_init_16 (by decide) ?_
  refine zz_newa (pc := 19) (n := 1400) (N := 1400) (atype := .byte) (8, 1506) 12 hs12 hf12 rfl q245 (by decide) (by decide) (by decide) rfl rfl dX0_init_19 (fun a2 => ?_)
  have hc2 := zcd_gA (k := 12) (a := a2) (w := .inr (1400, newarray.typeOf .byte)) hs12
  refine zz_putR (pc := 21) tyX0 0 0 1 12 hb rfl in_X0 tyX0_ok (fun b hb9 hbj => nmX0 _ (by decide) b hb9 (Ne.symm hbj)) (by decide) q299 (by first | exact Or.inl rfl | exact Or.inr ⟨rfl, rfl, rfl⟩) rfl rfl dX0_init_21 ?_
  have hs21 := zcd_gR (k := 0) (i := 1) (q := some 12) (fun x hx => by cases hx; exact zsn rfl) hc2
  refine zz_aload_n (pc := 24) 0 dX0_init_24 rfl rfl ?_
  refine zz_iconst (pc := 25) (v := (-1)) dX0_init_25 (by decide) ?_
  refine zz_putI (pc := 26) (x := (-1)) tyX0 0 0 4 hb rfl in_X0 tyX0_ok (fun b hb9 hbj => nmX0 _ (by decide) b hb9 (Ne.symm hbj)) (by decide) q303 rfl rfl rfl dX0_init_26 ?_
  refine zz_aload_n (pc := 29) 0 dX0_init_29 rfl rfl ?_
  refine zz_new (pc := 30) (ci := 2) (C := RX2) (T := TX2) (N := 2) (N' := 2) (9, 1508) 8 hs21 hf8 tyX2 rfl in_X2 tyX2_ok rfl (by decide) q247 q248 q152 rfl rfl dX0_init_30 (fun a3 => ?_)
  have hc3 := zcd_gA (k := 8) (a := a3) (w := .inl 2) hs21
  refine zz_dup (pc := 33) dX0_init_33 rfl ?_
  refine zz_aload_n (pc := 34) 0 dX0_init_34 rfl rfl ?_
  have ct2 := cg_X2_init_8 (G := gA (gR (gA (gR (gX1_init_1 (gA (G) 1 a1 (.inl 1)) b1_0 b1_1 b1_2 b1_3 b1_4 b1_5) 0 0 (some 1)) 12 a2 (.inr (1400, .byte))) 0 1 (some 12)) 8 a3 (.inl 2)) hc3 rfl (zsn hb) hf9
  refine zz_callGN (pc := 35) (idx := 26) (M := mX0_init) (10, 1540) _ _ 8 ct2 mv_X2_init_8 (List.mem_of_getElem? (i := 1) rfl) rfl (Nat.le_of_ble_eq_true rfl) (Nat.le_of_ble_eq_true rfl) rfl rfl rfl (Nat.le_of_ble_eq_true rfl) dX0_init_35 (fun G2 r2 S2 hK2 => ?_)
  obtain ⟨b2_0, rfl⟩ := hK2
  have hz2 := zcd_X2_init_8 (G := gA (gR (gA (gR (gX1_init_1 (gA (G) 1 a1 (.inl 1)) b1_0 b1_1 b1_2 b1_3 b1_4 b1_5) 0 0 (some 1)) 12 a2 (.inr (1400, .byte))) 0 1 (some 12)) 8 a3 (.inl 2)) hc3 rfl (zsn hb) hf9 b2_0
  refine zz_putR (pc := 38) tyX0 0 0 5 8 hb rfl in_X0 tyX0_ok (fun b hb9 hbj => nmX0 _ (by decide) b hb9 (Ne.symm hbj)) (by decide) q304 (by first | exact Or.inl rfl | exact Or.inr ⟨rfl, rfl, rfl⟩) rfl rfl dX0_init_38 ?_
  have hs38 := zcd_gR (k := 0) (i := 5) (q := some 8) (fun x hx => by cases hx; exact zsn rfl) hz2
  refine zz_aload_n (pc := 41) 0 dX0_init_41 rfl rfl ?_
  refine zz_new (pc := 42) (ci := 3) (C := RX3) (T := TX3s) (N := 5) (N' := 5) (11, 1545) 10 hs38 hf10 tyX3s rfl in_X3s tyX3s_ok rfl (by decide) q261 q262 q153 rfl rfl dX0_init_42 (fun a4 => ?_)
  have hc4 := zcd_gA (k := 10) (a := a4) (w := .inl 3) hs38
  refine zz_dup (pc := 45) dX0_init_45 rfl ?_
  refine zz_aload_n (pc := 46) 0 dX0_init_46 rfl rfl ?_
  have ct3 := cg_X3_init_10 (G := gA (gR (gX2_init_8 (gA (gR (gA (gR (gX1_init_1 (gA (G) 1 a1 (.inl 1)) b1_0 b1_1 b1_2 b1_3 b1_4 b1_5) 0 0 (some 1)) 12 a2 (.inr (1400, .byte))) 0 1 (some 12)) 8 a3 (.inl 2)) b2_0) 0 5 (some 8)) 10 a4 (.inl 3)) hc4 rfl (zsn hb) hf11
  refine zz_callGN (pc := 47) (idx := 35) (M := mX0_init) (12, 1577) _ _ 10 ct3 mv_X3_init_10 (List.mem_of_getElem? (i := 2) rfl) rfl (Nat.le_of_ble_eq_true rfl) (Nat.le_of_ble_eq_true rfl) rfl rfl rfl (Nat.le_of_ble_eq_true rfl) dX0_init_47 (fun G3 r3 S3 hK3 => ?_)
  obtain ⟨b3_0, rfl⟩ := hK3
  have hz3 : zcd (gX3_init_10 (gA (gR (gX2_init_8 (gA (gR (gA (gR (gX1_init_1 (gA (G) 1 a1 (.inl 1)) b1_0 b1_1 b1_2 b1_3 b1_4 b1_5) 0 0 (some 1)) 12 a2 (.inr (1400, .byte))) 0 1 (some 12)) 8 a3 (.inl 2)) b2_0) 0 5 (some 8)) 10 a4 (.inl 3)) b3_0) := zcd_X3_init_10 hc4 (zsn hb) _
  refine zz_putR (pc := 50) tyX0 0 0 6 10 hb rfl in_X0 tyX0_ok (fun b hb9 hbj => nmX0 _ (by decide) b hb9 (Ne.symm hbj)) (by decide) q305 (by first | exact Or.inl rfl | exact Or.inr ⟨rfl, rfl, rfl⟩) rfl rfl dX0_init_50 ?_
  have hs50 := zcd_gR (k := 0) (i := 6) (q := some 10) (fun x hx => by cases hx; exact zsn rfl) hz3
  refine zz_aload_n (pc := 53) 0 dX0_init_53 rfl rfl ?_
  refine zz_bipush (pc := 54) (v := (32)) dX0_init_54 (by decide) ?_
  refine zz_newa (pc := 56) (n := 32) (N := 32) (atype := .int) (13, 1609) 13 hs50 hf13 rfl q246 (by decide) (by decide) (by decide) rfl rfl dX0_init_56 (fun a5 => ?_)
  have hc5 := zcd_gA (k := 13) (a := a5) (w := .inr (32, newarray.typeOf .int)) hs50
  refine zz_putR (pc := 58) tyX0 0 0 7 13 hb rfl in_X0 tyX0_ok (fun b hb9 hbj => nmX0 _ (by decide) b hb9 (Ne.symm hbj)) (by decide) q306 (by first | exact Or.inl rfl | exact Or.inr ⟨rfl, rfl, rfl⟩) rfl rfl dX0_init_58 ?_
  have hs58 := zcd_gR (k := 0) (i := 7) (q := some 13) (fun x hx => by cases hx; exact zsn rfl) hc5
  refine zz_aload_n (pc := 61) 0 dX0_init_61 rfl rfl ?_
  refine zz_bipush (pc := 62) (v := (32)) dX0_init_62 (by decide) ?_
  refine zz_newa (pc := 64) (n := 32) (N := 32) (atype := .int) (14, 1641) 14 hs58 hf14 rfl q246 (by decide) (by decide) (by decide) rfl rfl dX0_init_64 (fun a6 => ?_)
  have hc6 := zcd_gA (k := 14) (a := a6) (w := .inr (32, newarray.typeOf .int)) hs58
  refine zz_putR (pc := 66) tyX0 0 0 8 14 hb rfl in_X0 tyX0_ok (fun b hb9 hbj => nmX0 _ (by decide) b hb9 (Ne.symm hbj)) (by decide) q307 (by first | exact Or.inl rfl | exact Or.inr ⟨rfl, rfl, rfl⟩) rfl rfl dX0_init_66 ?_
  have hs66 := zcd_gR (k := 0) (i := 8) (q := some 14) (fun x hx => by cases hx; exact zsn rfl) hc6
  refine zz_aload_n (pc := 69) 0 dX0_init_69 rfl rfl ?_
  refine zz_bipush (pc := 70) (v := (64)) dX0_init_70 (by decide) ?_
  refine zz_newa (pc := 72) (n := 64) (N := 64) (atype := .int) (15, 1705) 15 hs66 hf15 rfl q246 (by decide) (by decide) (by decide) rfl rfl dX0_init_72 (fun a7 => ?_)
  have hc7 := zcd_gA (k := 15) (a := a7) (w := .inr (64, newarray.typeOf .int)) hs66
  refine zz_putR (pc := 74) tyX0 0 0 9 15 hb rfl in_X0 tyX0_ok (fun b hb9 hbj => nmX0 _ (by decide) b hb9 (Ne.symm hbj)) (by decide) q308 (by first | exact Or.inl rfl | exact Or.inr ⟨rfl, rfl, rfl⟩) rfl rfl dX0_init_74 ?_
  have hs74 := zcd_gR (k := 0) (i := 9) (q := some 15) (fun x hx => by cases hx; exact zsn rfl) hc7
  refine zz_aload_n (pc := 77) 0 dX0_init_77 rfl rfl ?_
  refine zz_bipush (pc := 78) (v := (64)) dX0_init_78 (by decide) ?_
  refine zz_newa (pc := 80) (n := 64) (N := 64) (atype := .int) (16, 1769) 16 hs74 hf16 rfl q246 (by decide) (by decide) (by decide) rfl rfl dX0_init_80 (fun a8 => ?_)
  have hc8 := zcd_gA (k := 16) (a := a8) (w := .inr (64, newarray.typeOf .int)) hs74
  refine zz_putR (pc := 82) tyX0 0 0 10 16 hb rfl in_X0 tyX0_ok (fun b hb9 hbj => nmX0 _ (by decide) b hb9 (Ne.symm hbj)) (by decide) q309 (by first | exact Or.inl rfl | exact Or.inr ⟨rfl, rfl, rfl⟩) rfl rfl dX0_init_82 ?_
  have hs82 := zcd_gR (k := 0) (i := 10) (q := some 16) (fun x hx => by cases hx; exact zsn rfl) hc8
  refine zz_aload_n (pc := 85) 0 dX0_init_85 rfl rfl ?_
  refine zz_bipush (pc := 86) (v := (33)) dX0_init_86 (by decide) ?_
  refine zz_newa (pc := 88) (n := 33) (N := 33) (atype := .int) (17, 1802) 17 hs82 hf17 rfl q246 (by decide) (by decide) (by decide) rfl rfl dX0_init_88 (fun a9 => ?_)
  have hc9 := zcd_gA (k := 17) (a := a9) (w := .inr (33, newarray.typeOf .int)) hs82
  refine zz_putR (pc := 90) tyX0 0 0 12 17 hb rfl in_X0 tyX0_ok (fun b hb9 hbj => nmX0 _ (by decide) b hb9 (Ne.symm hbj)) (by decide) q311 (by first | exact Or.inl rfl | exact Or.inr ⟨rfl, rfl, rfl⟩) rfl rfl dX0_init_90 ?_
  have hs90 := zcd_gR (k := 0) (i := 12) (q := some 17) (fun x hx => by cases hx; exact zsn rfl) hc9
  refine zz_aload_n (pc := 93) 0 dX0_init_93 rfl rfl ?_
  refine zz_bipush (pc := 94) (v := (33)) dX0_init_94 (by decide) ?_
  refine zz_newa (pc := 96) (n := 33) (N := 33) (atype := .int) (18, 1835) 18 hs90 hf18 rfl q246 (by decide) (by decide) (by decide) rfl rfl dX0_init_96 (fun a10 => ?_)
  have hc10 := zcd_gA (k := 18) (a := a10) (w := .inr (33, newarray.typeOf .int)) hs90
  refine zz_putR (pc := 98) tyX0 0 0 13 18 hb rfl in_X0 tyX0_ok (fun b hb9 hbj => nmX0 _ (by decide) b hb9 (Ne.symm hbj)) (by decide) q312 (by first | exact Or.inl rfl | exact Or.inr ⟨rfl, rfl, rfl⟩) rfl rfl dX0_init_98 ?_
  have hs98 := zcd_gR (k := 0) (i := 13) (q := some 18) (fun x hx => by cases hx; exact zsn rfl) hc10
  refine zz_aload_n (pc := 101) 0 dX0_init_101 rfl rfl ?_
  refine zz_bipush (pc := 102) (v := (32)) dX0_init_102 (by decide) ?_
  refine zz_newa (pc := 104) (n := 32) (N := 32) (atype := .int) (19, 1867) 19 hs98 hf19 rfl q246 (by decide) (by decide) (by decide) rfl rfl dX0_init_104 (fun a11 => ?_)
  have hc11 := zcd_gA (k := 19) (a := a11) (w := .inr (32, newarray.typeOf .int)) hs98
  refine zz_putR (pc := 106) tyX0 0 0 14 19 hb rfl in_X0 tyX0_ok (fun b hb9 hbj => nmX0 _ (by decide) b hb9 (Ne.symm hbj)) (by decide) q313 (by first | exact Or.inl rfl | exact Or.inr ⟨rfl, rfl, rfl⟩) rfl rfl dX0_init_106 ?_
  have hs106 := zcd_gR (k := 0) (i := 14) (q := some 19) (fun x hx => by cases hx; exact zsn rfl) hc11
  refine zz_aload_n (pc := 109) 0 dX0_init_109 rfl rfl ?_
  refine zz_sipush (pc := 110) (v := (1400)) dX0_init_110 (by decide) ?_
  refine zz_newa (pc := 113) (n := 1400) (N := 1400) (atype := .int) (20, 3267) 20 hs106 hf20 rfl q246 (by decide) (by decide) (by decide) rfl rfl dX0_init_113 (fun a12 => ?_)
  have hc12 := zcd_gA (k := 20) (a := a12) (w := .inr (1400, newarray.typeOf .int)) hs106
  refine zz_putR (pc := 115) tyX0 0 0 15 20 hb rfl in_X0 tyX0_ok (fun b hb9 hbj => nmX0 _ (by decide) b hb9 (Ne.symm hbj)) (by decide) q314 (by first | exact Or.inl rfl | exact Or.inr ⟨rfl, rfl, rfl⟩) rfl rfl dX0_init_115 ?_
  have hs115 := zcd_gR (k := 0) (i := 15) (q := some 20) (fun x hx => by cases hx; exact zsn rfl) hc12
  refine zz_aload_n (pc := 118) 0 dX0_init_118 rfl rfl ?_
  refine zz_sipush (pc := 119) (v := (19200)) dX0_init_119 (by decide) ?_
  refine zz_newa (pc := 122) (n := 19200) (N := 19200) (atype := .int) (21, 22467) 21 hs115 hf21 rfl q246 (by decide) (by decide) (by decide) rfl rfl dX0_init_122 (fun a13 => ?_)
  have hc13 := zcd_gA (k := 21) (a := a13) (w := .inr (19200, newarray.typeOf .int)) hs115
  refine zz_putR (pc := 124) tyX0 0 0 17 21 hb rfl in_X0 tyX0_ok (fun b hb9 hbj => nmX0 _ (by decide) b hb9 (Ne.symm hbj)) (by decide) q316 (by first | exact Or.inl rfl | exact Or.inr ⟨rfl, rfl, rfl⟩) rfl rfl dX0_init_124 ?_
  have hs124 := zcd_gR (k := 0) (i := 17) (q := some 21) (fun x hx => by cases hx; exact zsn rfl) hc13
  refine zz_aload_n (pc := 127) 0 dX0_init_127 rfl rfl ?_
  refine zz_sipush (pc := 128) (v := (3840)) dX0_init_128 (by decide) ?_
  refine zz_newa (pc := 131) (n := 3840) (N := 3840) (atype := .int) (22, 26307) 22 hs124 hf22 rfl q246 (by decide) (by decide) (by decide) rfl rfl dX0_init_131 (fun a14 => ?_)
  have hc14 := zcd_gA (k := 22) (a := a14) (w := .inr (3840, newarray.typeOf .int)) hs124
  refine zz_putR (pc := 133) tyX0 0 0 18 22 hb rfl in_X0 tyX0_ok (fun b hb9 hbj => nmX0 _ (by decide) b hb9 (Ne.symm hbj)) (by decide) q317 (by first | exact Or.inl rfl | exact Or.inr ⟨rfl, rfl, rfl⟩) rfl rfl dX0_init_133 ?_
  have hs133 := zcd_gR (k := 0) (i := 18) (q := some 22) (fun x hx => by cases hx; exact zsn rfl) hc14
  refine zz_aload_n (pc := 136) 0 dX0_init_136 rfl rfl ?_
  refine zz_iconst (pc := 137) (v := (5)) dX0_init_137 (by decide) ?_
  refine zz_newa (pc := 138) (n := 5) (N := 5) (atype := .int) (23, 26312) 23 hs133 hf23 rfl q246 (by decide) (by decide) (by decide) rfl rfl dX0_init_138 (fun a15 => ?_)
  have hc15 := zcd_gA (k := 23) (a := a15) (w := .inr (5, newarray.typeOf .int)) hs133
  refine zz_putR (pc := 140) tyX0 0 0 19 23 hb rfl in_X0 tyX0_ok (fun b hb9 hbj => nmX0 _ (by decide) b hb9 (Ne.symm hbj)) (by decide) q318 (by first | exact Or.inl rfl | exact Or.inr ⟨rfl, rfl, rfl⟩) rfl rfl dX0_init_140 ?_
  have hs140 := zcd_gR (k := 0) (i := 19) (q := some 23) (fun x hx => by cases hx; exact zsn rfl) hc15
  refine zz_aload_n (pc := 143) 0 dX0_init_143 rfl rfl ?_
  refine zz_bipush (pc := 144) (v := (32)) dX0_init_144 (by decide) ?_
  refine zz_newa (pc := 146) (n := 32) (N := 32) (atype := .int) (24, 26344) 24 hs140 hf24 rfl q246 (by decide) (by decide) (by decide) rfl rfl dX0_init_146 (fun a16 => ?_)
  have hc16 := zcd_gA (k := 24) (a := a16) (w := .inr (32, newarray.typeOf .int)) hs140
  refine zz_putR (pc := 148) tyX0 0 0 21 24 hb rfl in_X0 tyX0_ok (fun b hb9 hbj => nmX0 _ (by decide) b hb9 (Ne.symm hbj)) (by decide) q320 (by first | exact Or.inl rfl | exact Or.inr ⟨rfl, rfl, rfl⟩) rfl rfl dX0_init_148 ?_
  have hs148 := zcd_gR (k := 0) (i := 21) (q := some 24) (fun x hx => by cases hx; exact zsn rfl) hc16
  refine zz_aload_n (pc := 151) 0 dX0_init_151 rfl rfl ?_
  refine zz_sipush (pc := 152) (v := (1400)) dX0_init_152 (by decide) ?_
  refine zz_newa (pc := 155) (n := 1400) (N := 1400) (atype := .int) (25, 27744) 25 hs148 hf25 rfl q246 (by decide) (by decide) (by decide) rfl rfl dX0_init_155 (fun a17 => ?_)
  have hc17 := zcd_gA (k := 25) (a := a17) (w := .inr (1400, newarray.typeOf .int)) hs148
  refine zz_putR (pc := 157) tyX0 0 0 22 25 hb rfl in_X0 tyX0_ok (fun b hb9 hbj => nmX0 _ (by decide) b hb9 (Ne.symm hbj)) (by decide) q321 (by first | exact Or.inl rfl | exact Or.inr ⟨rfl, rfl, rfl⟩) rfl rfl dX0_init_157 ?_
  have hs157 := zcd_gR (k := 0) (i := 22) (q := some 25) (fun x hx => by cases hx; exact zsn rfl) hc17
  refine zz_aload_n (pc := 160) 0 dX0_init_160 rfl rfl ?_
  refine zz_ldc (pc := 161) (v := 65536) dX0_init_161 q281 ?_
  refine zz_newa (pc := 163) (n := 65536) (N := 65536) (atype := .int) (26, 93280) 26 hs157 hf26 rfl q246 (by decide) (by decide) (by decide) rfl rfl dX0_init_163 (fun a18 => ?_)
  have hc18 := zcd_gA (k := 26) (a := a18) (w := .inr (65536, newarray.typeOf .int)) hs157
  refine zz_putR (pc := 165) tyX0 0 0 23 26 hb rfl in_X0 tyX0_ok (fun b hb9 hbj => nmX0 _ (by decide) b hb9 (Ne.symm hbj)) (by decide) q322 (by first | exact Or.inl rfl | exact Or.inr ⟨rfl, rfl, rfl⟩) rfl rfl dX0_init_165 ?_
  have hs165 := zcd_gR (k := 0) (i := 23) (q := some 26) (fun x hx => by cases hx; exact zsn rfl) hc18
  refine zz_aload_n (pc := 168) 0 dX0_init_168 rfl rfl ?_
  refine zz_ldc (pc := 169) (v := 65536) dX0_init_169 q281 ?_
  refine zz_newa (pc := 171) (n := 65536) (N := 65536) (atype := .boolean) (27, 158816) 27 hs165 hf27 rfl q294 (by decide) (by decide) (by decide) rfl rfl dX0_init_171 (fun a19 => ?_)
  have hc19 := zcd_gA (k := 27) (a := a19) (w := .inr (65536, newarray.typeOf .boolean)) hs165
  refine zz_putR (pc := 173) tyX0 0 0 24 27 hb rfl in_X0 tyX0_ok (fun b hb9 hbj => nmX0 _ (by decide) b hb9 (Ne.symm hbj)) (by decide) q323 (by first | exact Or.inl rfl | exact Or.inr ⟨rfl, rfl, rfl⟩) rfl rfl dX0_init_173 ?_
  have hs173 := zcd_gR (k := 0) (i := 24) (q := some 27) (fun x hx => by cases hx; exact zsn rfl) hc19
  refine zz_aload_n (pc := 176) 0 dX0_init_176 rfl rfl ?_
  refine zz_bipush (pc := 177) (v := (32)) dX0_init_177 (by decide) ?_
  refine zz_newa (pc := 179) (n := 32) (N := 32) (atype := .int) (28, 158848) 28 hs173 hf28 rfl q246 (by decide) (by decide) (by decide) rfl rfl dX0_init_179 (fun a20 => ?_)
  have hc20 := zcd_gA (k := 28) (a := a20) (w := .inr (32, newarray.typeOf .int)) hs173
  refine zz_putR (pc := 181) tyX0 0 0 25 28 hb rfl in_X0 tyX0_ok (fun b hb9 hbj => nmX0 _ (by decide) b hb9 (Ne.symm hbj)) (by decide) q324 (by first | exact Or.inl rfl | exact Or.inr ⟨rfl, rfl, rfl⟩) rfl rfl dX0_init_181 ?_
  have hs181 := zcd_gR (k := 0) (i := 25) (q := some 28) (fun x hx => by cases hx; exact zsn rfl) hc20
  refine zz_aload_n (pc := 184) 0 dX0_init_184 rfl rfl ?_
  refine zz_bipush (pc := 185) (v := (32)) dX0_init_185 (by decide) ?_
  refine zz_newa (pc := 187) (n := 32) (N := 32) (atype := .int) (29, 158880) 29 hs181 hf29 rfl q246 (by decide) (by decide) (by decide) rfl rfl dX0_init_187 (fun a21 => ?_)
  have hc21 := zcd_gA (k := 29) (a := a21) (w := .inr (32, newarray.typeOf .int)) hs181
  refine zz_putR (pc := 189) tyX0 0 0 26 29 hb rfl in_X0 tyX0_ok (fun b hb9 hbj => nmX0 _ (by decide) b hb9 (Ne.symm hbj)) (by decide) q325 (by first | exact Or.inl rfl | exact Or.inr ⟨rfl, rfl, rfl⟩) rfl rfl dX0_init_189 ?_
  have hs189 := zcd_gR (k := 0) (i := 26) (q := some 29) (fun x hx => by cases hx; exact zsn rfl) hc21
  refine zz_aload_n (pc := 192) 0 dX0_init_192 rfl rfl ?_
  refine zz_bipush (pc := 193) (v := (6)) dX0_init_193 (by decide) ?_
  refine zz_newa (pc := 195) (n := 6) (N := 6) (atype := .int) (30, 158886) 30 hs189 hf30 rfl q246 (by decide) (by decide) (by decide) rfl rfl dX0_init_195 (fun a22 => ?_)
  have hc22 := zcd_gA (k := 30) (a := a22) (w := .inr (6, newarray.typeOf .int)) hs189
  refine zz_putR (pc := 197) tyX0 0 0 27 30 hb rfl in_X0 tyX0_ok (fun b hb9 hbj => nmX0 _ (by decide) b hb9 (Ne.symm hbj)) (by decide) q326 (by first | exact Or.inl rfl | exact Or.inr ⟨rfl, rfl, rfl⟩) rfl rfl dX0_init_197 ?_
  have hs197 := zcd_gR (k := 0) (i := 27) (q := some 30) (fun x hx => by cases hx; exact zsn rfl) hc22
  refine zz_aload_n (pc := 200) 0 dX0_init_200 rfl rfl ?_
  refine zz_bipush (pc := 201) (v := (6)) dX0_init_201 (by decide) ?_
  refine zz_newa (pc := 203) (n := 6) (N := 6) (atype := .int) (31, 158892) 31 hs197 hf31 rfl q246 (by decide) (by decide) (by decide) rfl rfl dX0_init_203 (fun a23 => ?_)
  have hc23 := zcd_gA (k := 31) (a := a23) (w := .inr (6, newarray.typeOf .int)) hs197
  refine zz_putR (pc := 205) tyX0 0 0 28 31 hb rfl in_X0 tyX0_ok (fun b hb9 hbj => nmX0 _ (by decide) b hb9 (Ne.symm hbj)) (by decide) q327 (by first | exact Or.inl rfl | exact Or.inr ⟨rfl, rfl, rfl⟩) rfl rfl dX0_init_205 ?_
  have hs205 := zcd_gR (k := 0) (i := 28) (q := some 31) (fun x hx => by cases hx; exact zsn rfl) hc23
  refine zz_aload_n (pc := 208) 0 dX0_init_208 rfl rfl ?_
  refine zz_bipush (pc := 209) (v := (6)) dX0_init_209 (by decide) ?_
  refine zz_newa (pc := 211) (n := 6) (N := 6) (atype := .int) (32, 158898) 32 hs205 hf32 rfl q246 (by decide) (by decide) (by decide) rfl rfl dX0_init_211 (fun a24 => ?_)
  have hc24 := zcd_gA (k := 32) (a := a24) (w := .inr (6, newarray.typeOf .int)) hs205
  refine zz_putR (pc := 213) tyX0 0 0 30 32 hb rfl in_X0 tyX0_ok (fun b hb9 hbj => nmX0 _ (by decide) b hb9 (Ne.symm hbj)) (by decide) q329 (by first | exact Or.inl rfl | exact Or.inr ⟨rfl, rfl, rfl⟩) rfl rfl dX0_init_213 ?_
  have hs213 := zcd_gR (k := 0) (i := 30) (q := some 32) (fun x hx => by cases hx; exact zsn rfl) hc24
  refine zz_aload_n (pc := 216) 0 dX0_init_216 rfl rfl ?_
  refine zz_bipush (pc := 217) (v := (6)) dX0_init_217 (by decide) ?_
  refine zz_newa (pc := 219) (n := 6) (N := 6) (atype := .int) (33, 158904) 33 hs213 hf33 rfl q246 (by decide) (by decide) (by decide) rfl rfl dX0_init_219 (fun a25 => ?_)
  have hc25 := zcd_gA (k := 33) (a := a25) (w := .inr (6, newarray.typeOf .int)) hs213
  refine zz_putR (pc := 221) tyX0 0 0 31 33 hb rfl in_X0 tyX0_ok (fun b hb9 hbj => nmX0 _ (by decide) b hb9 (Ne.symm hbj)) (by decide) q330 (by first | exact Or.inl rfl | exact Or.inr ⟨rfl, rfl, rfl⟩) rfl rfl dX0_init_221 ?_
  have hs221 := zcd_gR (k := 0) (i := 31) (q := some 33) (fun x hx => by cases hx; exact zsn rfl) hc25
  refine zz_aload_n (pc := 224) 0 dX0_init_224 rfl rfl ?_
  refine zz_bipush (pc := 225) (v := (6)) dX0_init_225 (by decide) ?_
  refine zz_newa (pc := 227) (n := 6) (N := 6) (atype := .int) (34, 158910) 34 hs221 hf34 rfl q246 (by decide) (by decide) (by decide) rfl rfl dX0_init_227 (fun a26 => ?_)
  have hc26 := zcd_gA (k := 34) (a := a26) (w := .inr (6, newarray.typeOf .int)) hs221
  refine zz_putR (pc := 229) tyX0 0 0 32 34 hb rfl in_X0 tyX0_ok (fun b hb9 hbj => nmX0 _ (by decide) b hb9 (Ne.symm hbj)) (by decide) q331 (by first | exact Or.inl rfl | exact Or.inr ⟨rfl, rfl, rfl⟩) rfl rfl dX0_init_229 ?_
  have hs229 := zcd_gR (k := 0) (i := 32) (q := some 34) (fun x hx => by cases hx; exact zsn rfl) hc26
  refine zz_aload_n (pc := 232) 0 dX0_init_232 rfl rfl ?_
  refine zz_bipush (pc := 233) (v := (6)) dX0_init_233 (by decide) ?_
  refine zz_newa (pc := 235) (n := 6) (N := 6) (atype := .int) (35, 158916) 35 hs229 hf35 rfl q246 (by decide) (by decide) (by decide) rfl rfl dX0_init_235 (fun a27 => ?_)
  have hc27 := zcd_gA (k := 35) (a := a27) (w := .inr (6, newarray.typeOf .int)) hs229
  refine zz_putR (pc := 237) tyX0 0 0 33 35 hb rfl in_X0 tyX0_ok (fun b hb9 hbj => nmX0 _ (by decide) b hb9 (Ne.symm hbj)) (by decide) q332 (by first | exact Or.inl rfl | exact Or.inr ⟨rfl, rfl, rfl⟩) rfl rfl dX0_init_237 ?_
  have hs237 := zcd_gR (k := 0) (i := 33) (q := some 35) (fun x hx => by cases hx; exact zsn rfl) hc27
  refine zz_aload_n (pc := 240) 0 dX0_init_240 rfl rfl ?_
  refine zz_bipush (pc := 241) (v := (60)) dX0_init_241 (by decide) ?_
  refine zz_newa (pc := 243) (n := 60) (N := 60) (atype := .int) (36, 158976) 36 hs237 hf36 rfl q246 (by decide) (by decide) (by decide) rfl rfl dX0_init_243 (fun a28 => ?_)
  have hc28 := zcd_gA (k := 36) (a := a28) (w := .inr (60, newarray.typeOf .int)) hs237
  refine zz_putR (pc := 245) tyX0 0 0 36 36 hb rfl in_X0 tyX0_ok (fun b hb9 hbj => nmX0 _ (by decide) b hb9 (Ne.symm hbj)) (by decide) q335 (by first | exact Or.inl rfl | exact Or.inr ⟨rfl, rfl, rfl⟩) rfl rfl dX0_init_245 ?_
  have hs245 := zcd_gR (k := 0) (i := 36) (q := some 36) (fun x hx => by cases hx; exact zsn rfl) hc28
  refine zz_aload_n (pc := 248) 0 dX0_init_248 rfl rfl ?_
  refine zz_iconst (pc := 249) (v := (4)) dX0_init_249 (by decide) ?_
  refine zz_anew (pc := 250) (n := 4) (N := 4) (C := "HiddenCube$Slot") (37, 158980) 37 hs245 hf37 q282 (fun s h => h.2.2.2.2.1) (by decide) (by decide) (by decide) rfl rfl dX0_init_250 (fun a29 => ?_)
  have hc29 := zcd_gA (k := 37) (a := a29) (w := .inr (4, .object "HiddenCube$Slot")) hs245
  refine zz_dup (pc := 253) dX0_init_253 rfl ?_
  refine zz_iconst (pc := 254) (v := (0)) dX0_init_254 (by decide) ?_
  refine zz_new (pc := 255) (ci := 4) (C := RX4) (T := TX4) (N := 1) (N' := 1) (38, 158981) 40 hc29 hf40 tyX4 rfl in_X4 tyX4_ok rfl (by decide) q282 q284 q154 rfl rfl dX0_init_255 (fun a30 => ?_)
  have hc30 := zcd_gA (k := 40) (a := a30) (w := .inl 4) hc29
  refine zz_dup (pc := 258) dX0_init_258 rfl ?_
  have ct4 := cg_X4_init_40 (G := gA (gA (gR (gA (gR (gA (gR (gA (gR (gA (gR (gA (gR (gA (gR (gA (gR (gA (gR (gA (gR (gA (gR (gA (gR (gA (gR (gA (gR (gA (gR (gA (gR (gA (gR (gA (gR (gA (gR (gA (gR (gA (gR (gA (gR (gA (gR (gA (gR (gA (gR (gX3_init_10 (gA (gR (gX2_init_8 (gA (gR (gA (gR (gX1_init_1 (gA (G) 1 a1 (.inl 1)) b1_0 b1_1 b1_2 b1_3 b1_4 b1_5) 0 0 (some 1)) 12 a2 (.inr (1400, .byte))) 0 1 (some 12)) 8 a3 (.inl 2)) b2_0) 0 5 (some 8)) 10 a4 (.inl 3)) b3_0) 0 6 (some 10)) 13 a5 (.inr (32, .int))) 0 7 (some 13)) 14 a6 (.inr (32, .int))) 0 8 (some 14)) 15 a7 (.inr (64, .int))) 0 9 (some 15)) 16 a8 (.inr (64, .int))) 0 10 (some 16)) 17 a9 (.inr (33, .int))) 0 12 (some 17)) 18 a10 (.inr (33, .int))) 0 13 (some 18)) 19 a11 (.inr (32, .int))) 0 14 (some 19)) 20 a12 (.inr (1400, .int))) 0 15 (some 20)) 21 a13 (.inr (19200, .int))) 0 17 (some 21)) 22 a14 (.inr (3840, .int))) 0 18 (some 22)) 23 a15 (.inr (5, .int))) 0 19 (some 23)) 24 a16 (.inr (32, .int))) 0 21 (some 24)) 25 a17 (.inr (1400, .int))) 0 22 (some 25)) 26 a18 (.inr (65536, .int))) 0 23 (some 26)) 27 a19 (.inr (65536, .boolean))) 0 24 (some 27)) 28 a20 (.inr (32, .int))) 0 25 (some 28)) 29 a21 (.inr (32, .int))) 0 26 (some 29)) 30 a22 (.inr (6, .int))) 0 27 (some 30)) 31 a23 (.inr (6, .int))) 0 28 (some 31)) 32 a24 (.inr (6, .int))) 0 30 (some 32)) 33 a25 (.inr (6, .int))) 0 31 (some 33)) 34 a26 (.inr (6, .int))) 0 32 (some 34)) 35 a27 (.inr (6, .int))) 0 33 (some 35)) 36 a28 (.inr (60, .int))) 0 36 (some 36)) 37 a29 (.inr (4, .object "HiddenCube$Slot"))) 40 a30 (.inl 4)) hc30 rfl 
  refine zz_callGN (pc := 259) (idx := 117) (M := mX0_init) (38, 158981) _ _ 40 ct4 mv_X4_init_40 (List.mem_of_getElem? (i := 3) rfl) rfl (Nat.le_of_ble_eq_true rfl) (Nat.le_of_ble_eq_true rfl) rfl rfl rfl (Nat.le_of_ble_eq_true rfl) dX0_init_259 (fun G4 r4 S4 hK4 => ?_)
  cases hK4
  have hz4 := zcd_X4_init_40 (G := gA (gA (gR (gA (gR (gA (gR (gA (gR (gA (gR (gA (gR (gA (gR (gA (gR (gA (gR (gA (gR (gA (gR (gA (gR (gA (gR (gA (gR (gA (gR (gA (gR (gA (gR (gA (gR (gA (gR (gA (gR (gA (gR (gA (gR (gA (gR (gA (gR (gA (gR (gX3_init_10 (gA (gR (gX2_init_8 (gA (gR (gA (gR (gX1_init_1 (gA (G) 1 a1 (.inl 1)) b1_0 b1_1 b1_2 b1_3 b1_4 b1_5) 0 0 (some 1)) 12 a2 (.inr (1400, .byte))) 0 1 (some 12)) 8 a3 (.inl 2)) b2_0) 0 5 (some 8)) 10 a4 (.inl 3)) b3_0) 0 6 (some 10)) 13 a5 (.inr (32, .int))) 0 7 (some 13)) 14 a6 (.inr (32, .int))) 0 8 (some 14)) 15 a7 (.inr (64, .int))) 0 9 (some 15)) 16 a8 (.inr (64, .int))) 0 10 (some 16)) 17 a9 (.inr (33, .int))) 0 12 (some 17)) 18 a10 (.inr (33, .int))) 0 13 (some 18)) 19 a11 (.inr (32, .int))) 0 14 (some 19)) 20 a12 (.inr (1400, .int))) 0 15 (some 20)) 21 a13 (.inr (19200, .int))) 0 17 (some 21)) 22 a14 (.inr (3840, .int))) 0 18 (some 22)) 23 a15 (.inr (5, .int))) 0 19 (some 23)) 24 a16 (.inr (32, .int))) 0 21 (some 24)) 25 a17 (.inr (1400, .int))) 0 22 (some 25)) 26 a18 (.inr (65536, .int))) 0 23 (some 26)) 27 a19 (.inr (65536, .boolean))) 0 24 (some 27)) 28 a20 (.inr (32, .int))) 0 25 (some 28)) 29 a21 (.inr (32, .int))) 0 26 (some 29)) 30 a22 (.inr (6, .int))) 0 27 (some 30)) 31 a23 (.inr (6, .int))) 0 28 (some 31)) 32 a24 (.inr (6, .int))) 0 30 (some 32)) 33 a25 (.inr (6, .int))) 0 31 (some 33)) 34 a26 (.inr (6, .int))) 0 32 (some 34)) 35 a27 (.inr (6, .int))) 0 33 (some 35)) 36 a28 (.inr (60, .int))) 0 36 (some 36)) 37 a29 (.inr (4, .object "HiddenCube$Slot"))) 40 a30 (.inl 4)) hc30 rfl  
  refine zz_aast (pc := 262) (i := 0) (C := RX4) (T := TX4) (N := 1) 37 4 40 4 rfl rfl rfl (by unfold vp_in; decide) dX0_init_262 ?_
  have hs262 := zcd_gR (k := 37) (i := 0) (q := some 40) (fun x hx => by cases hx; exact zsn rfl) hz4
  refine zz_dup (pc := 263) dX0_init_263 rfl ?_
  refine zz_iconst (pc := 264) (v := (1)) dX0_init_264 (by decide) ?_
  refine zz_new (pc := 265) (ci := 4) (C := RX4) (T := TX4) (N := 1) (N' := 1) (39, 158982) 41 hs262 hf41 tyX4 rfl in_X4 tyX4_ok rfl (by decide) q282 q284 q154 rfl rfl dX0_init_265 (fun a31 => ?_)
  have hc31 := zcd_gA (k := 41) (a := a31) (w := .inl 4) hs262
  refine zz_dup (pc := 268) dX0_init_268 rfl ?_
  have ct5 := cg_X4_init_41 (G := gA (gR (gX4_init_40 (gA (gA (gR (gA (gR (gA (gR (gA (gR (gA (gR (gA (gR (gA (gR (gA (gR (gA (gR (gA (gR (gA (gR (gA (gR (gA (gR (gA (gR (gA (gR (gA (gR (gA (gR (gA (gR (gA (gR (gA (gR (gA (gR (gA (gR (gA (gR (gA (gR (gA (gR (gX3_init_10 (gA (gR (gX2_init_8 (gA (gR (gA (gR (gX1_init_1 (gA (G) 1 a1 (.inl 1)) b1_0 b1_1 b1_2 b1_3 b1_4 b1_5) 0 0 (some 1)) 12 a2 (.inr (1400, .byte))) 0 1 (some 12)) 8 a3 (.inl 2)) b2_0) 0 5 (some 8)) 10 a4 (.inl 3)) b3_0) 0 6 (some 10)) 13 a5 (.inr (32, .int))) 0 7 (some 13)) 14 a6 (.inr (32, .int))) 0 8 (some 14)) 15 a7 (.inr (64, .int))) 0 9 (some 15)) 16 a8 (.inr (64, .int))) 0 10 (some 16)) 17 a9 (.inr (33, .int))) 0 12 (some 17)) 18 a10 (.inr (33, .int))) 0 13 (some 18)) 19 a11 (.inr (32, .int))) 0 14 (some 19)) 20 a12 (.inr (1400, .int))) 0 15 (some 20)) 21 a13 (.inr (19200, .int))) 0 17 (some 21)) 22 a14 (.inr (3840, .int))) 0 18 (some 22)) 23 a15 (.inr (5, .int))) 0 19 (some 23)) 24 a16 (.inr (32, .int))) 0 21 (some 24)) 25 a17 (.inr (1400, .int))) 0 22 (some 25)) 26 a18 (.inr (65536, .int))) 0 23 (some 26)) 27 a19 (.inr (65536, .boolean))) 0 24 (some 27)) 28 a20 (.inr (32, .int))) 0 25 (some 28)) 29 a21 (.inr (32, .int))) 0 26 (some 29)) 30 a22 (.inr (6, .int))) 0 27 (some 30)) 31 a23 (.inr (6, .int))) 0 28 (some 31)) 32 a24 (.inr (6, .int))) 0 30 (some 32)) 33 a25 (.inr (6, .int))) 0 31 (some 33)) 34 a26 (.inr (6, .int))) 0 32 (some 34)) 35 a27 (.inr (6, .int))) 0 33 (some 35)) 36 a28 (.inr (60, .int))) 0 36 (some 36)) 37 a29 (.inr (4, .object "HiddenCube$Slot"))) 40 a30 (.inl 4)) ) 37 0 (some 40)) 41 a31 (.inl 4)) hc31 rfl 
  refine zz_callGN (pc := 269) (idx := 117) (M := mX0_init) (39, 158982) _ _ 41 ct5 mv_X4_init_41 (List.mem_of_getElem? (i := 3) rfl) rfl (Nat.le_of_ble_eq_true rfl) (Nat.le_of_ble_eq_true rfl) rfl rfl rfl (Nat.le_of_ble_eq_true rfl) dX0_init_269 (fun G5 r5 S5 hK5 => ?_)
  cases hK5
  have hz5 := zcd_X4_init_41 (G := gA (gR (gX4_init_40 (gA (gA (gR (gA (gR (gA (gR (gA (gR (gA (gR (gA (gR (gA (gR (gA (gR (gA (gR (gA (gR (gA (gR (gA (gR (gA (gR (gA (gR (gA (gR (gA (gR (gA (gR (gA (gR (gA (gR (gA (gR (gA (gR (gA (gR (gA (gR (gA (gR (gA (gR (gX3_init_10 (gA (gR (gX2_init_8 (gA (gR (gA (gR (gX1_init_1 (gA (G) 1 a1 (.inl 1)) b1_0 b1_1 b1_2 b1_3 b1_4 b1_5) 0 0 (some 1)) 12 a2 (.inr (1400, .byte))) 0 1 (some 12)) 8 a3 (.inl 2)) b2_0) 0 5 (some 8)) 10 a4 (.inl 3)) b3_0) 0 6 (some 10)) 13 a5 (.inr (32, .int))) 0 7 (some 13)) 14 a6 (.inr (32, .int))) 0 8 (some 14)) 15 a7 (.inr (64, .int))) 0 9 (some 15)) 16 a8 (.inr (64, .int))) 0 10 (some 16)) 17 a9 (.inr (33, .int))) 0 12 (some 17)) 18 a10 (.inr (33, .int))) 0 13 (some 18)) 19 a11 (.inr (32, .int))) 0 14 (some 19)) 20 a12 (.inr (1400, .int))) 0 15 (some 20)) 21 a13 (.inr (19200, .int))) 0 17 (some 21)) 22 a14 (.inr (3840, .int))) 0 18 (some 22)) 23 a15 (.inr (5, .int))) 0 19 (some 23)) 24 a16 (.inr (32, .int))) 0 21 (some 24)) 25 a17 (.inr (1400, .int))) 0 22 (some 25)) 26 a18 (.inr (65536, .int))) 0 23 (some 26)) 27 a19 (.inr (65536, .boolean))) 0 24 (some 27)) 28 a20 (.inr (32, .int))) 0 25 (some 28)) 29 a21 (.inr (32, .int))) 0 26 (some 29)) 30 a22 (.inr (6, .int))) 0 27 (some 30)) 31 a23 (.inr (6, .int))) 0 28 (some 31)) 32 a24 (.inr (6, .int))) 0 30 (some 32)) 33 a25 (.inr (6, .int))) 0 31 (some 33)) 34 a26 (.inr (6, .int))) 0 32 (some 34)) 35 a27 (.inr (6, .int))) 0 33 (some 35)) 36 a28 (.inr (60, .int))) 0 36 (some 36)) 37 a29 (.inr (4, .object "HiddenCube$Slot"))) 40 a30 (.inl 4)) ) 37 0 (some 40)) 41 a31 (.inl 4)) hc31 rfl  
  refine zz_aast (pc := 272) (i := 1) (C := RX4) (T := TX4) (N := 1) 37 4 41 4 rfl rfl rfl (by unfold vp_in; decide) dX0_init_272 ?_
  have hs272 := zcd_gR (k := 37) (i := 1) (q := some 41) (fun x hx => by cases hx; exact zsn rfl) hz5
  refine zz_dup (pc := 273) dX0_init_273 rfl ?_
  refine zz_iconst (pc := 274) (v := (2)) dX0_init_274 (by decide) ?_
  refine zz_new (pc := 275) (ci := 4) (C := RX4) (T := TX4) (N := 1) (N' := 1) (40, 158983) 42 hs272 hf42 tyX4 rfl in_X4 tyX4_ok rfl (by decide) q282 q284 q154 rfl rfl dX0_init_275 (fun a32 => ?_)
  have hc32 := zcd_gA (k := 42) (a := a32) (w := .inl 4) hs272
  refine zz_dup (pc := 278) dX0_init_278 rfl ?_
  have ct6 := cg_X4_init_42 (G := gA (gR (gX4_init_41 (gA (gR (gX4_init_40 (gA (gA (gR (gA (gR (gA (gR (gA (gR (gA (gR (gA (gR (gA (gR (gA (gR (gA (gR (gA (gR (gA (gR (gA (gR (gA (gR (gA (gR (gA (gR (gA (gR (gA (gR (gA (gR (gA (gR (gA (gR (gA (gR (gA (gR (gA (gR (gA (gR (gA (gR (gX3_init_10 (gA (gR (gX2_init_8 (gA (gR (gA (gR (gX1_init_1 (gA (G) 1 a1 (.inl 1)) b1_0 b1_1 b1_2 b1_3 b1_4 b1_5) 0 0 (some 1)) 12 a2 (.inr (1400, .byte))) 0 1 (some 12)) 8 a3 (.inl 2)) b2_0) 0 5 (some 8)) 10 a4 (.inl 3)) b3_0) 0 6 (some 10)) 13 a5 (.inr (32, .int))) 0 7 (some 13)) 14 a6 (.inr (32, .int))) 0 8 (some 14)) 15 a7 (.inr (64, .int))) 0 9 (some 15)) 16 a8 (.inr (64, .int))) 0 10 (some 16)) 17 a9 (.inr (33, .int))) 0 12 (some 17)) 18 a10 (.inr (33, .int))) 0 13 (some 18)) 19 a11 (.inr (32, .int))) 0 14 (some 19)) 20 a12 (.inr (1400, .int))) 0 15 (some 20)) 21 a13 (.inr (19200, .int))) 0 17 (some 21)) 22 a14 (.inr (3840, .int))) 0 18 (some 22)) 23 a15 (.inr (5, .int))) 0 19 (some 23)) 24 a16 (.inr (32, .int))) 0 21 (some 24)) 25 a17 (.inr (1400, .int))) 0 22 (some 25)) 26 a18 (.inr (65536, .int))) 0 23 (some 26)) 27 a19 (.inr (65536, .boolean))) 0 24 (some 27)) 28 a20 (.inr (32, .int))) 0 25 (some 28)) 29 a21 (.inr (32, .int))) 0 26 (some 29)) 30 a22 (.inr (6, .int))) 0 27 (some 30)) 31 a23 (.inr (6, .int))) 0 28 (some 31)) 32 a24 (.inr (6, .int))) 0 30 (some 32)) 33 a25 (.inr (6, .int))) 0 31 (some 33)) 34 a26 (.inr (6, .int))) 0 32 (some 34)) 35 a27 (.inr (6, .int))) 0 33 (some 35)) 36 a28 (.inr (60, .int))) 0 36 (some 36)) 37 a29 (.inr (4, .object "HiddenCube$Slot"))) 40 a30 (.inl 4)) ) 37 0 (some 40)) 41 a31 (.inl 4)) ) 37 1 (some 41)) 42 a32 (.inl 4)) hc32 rfl 
  refine zz_callGN (pc := 279) (idx := 117) (M := mX0_init) (40, 158983) _ _ 42 ct6 mv_X4_init_42 (List.mem_of_getElem? (i := 3) rfl) rfl (Nat.le_of_ble_eq_true rfl) (Nat.le_of_ble_eq_true rfl) rfl rfl rfl (Nat.le_of_ble_eq_true rfl) dX0_init_279 (fun G6 r6 S6 hK6 => ?_)
  cases hK6
  have hz6 := zcd_X4_init_42 (G := gA (gR (gX4_init_41 (gA (gR (gX4_init_40 (gA (gA (gR (gA (gR (gA (gR (gA (gR (gA (gR (gA (gR (gA (gR (gA (gR (gA (gR (gA (gR (gA (gR (gA (gR (gA (gR (gA (gR (gA (gR (gA (gR (gA (gR (gA (gR (gA (gR (gA (gR (gA (gR (gA (gR (gA (gR (gA (gR (gA (gR (gX3_init_10 (gA (gR (gX2_init_8 (gA (gR (gA (gR (gX1_init_1 (gA (G) 1 a1 (.inl 1)) b1_0 b1_1 b1_2 b1_3 b1_4 b1_5) 0 0 (some 1)) 12 a2 (.inr (1400, .byte))) 0 1 (some 12)) 8 a3 (.inl 2)) b2_0) 0 5 (some 8)) 10 a4 (.inl 3)) b3_0) 0 6 (some 10)) 13 a5 (.inr (32, .int))) 0 7 (some 13)) 14 a6 (.inr (32, .int))) 0 8 (some 14)) 15 a7 (.inr (64, .int))) 0 9 (some 15)) 16 a8 (.inr (64, .int))) 0 10 (some 16)) 17 a9 (.inr (33, .int))) 0 12 (some 17)) 18 a10 (.inr (33, .int))) 0 13 (some 18)) 19 a11 (.inr (32, .int))) 0 14 (some 19)) 20 a12 (.inr (1400, .int))) 0 15 (some 20)) 21 a13 (.inr (19200, .int))) 0 17 (some 21)) 22 a14 (.inr (3840, .int))) 0 18 (some 22)) 23 a15 (.inr (5, .int))) 0 19 (some 23)) 24 a16 (.inr (32, .int))) 0 21 (some 24)) 25 a17 (.inr (1400, .int))) 0 22 (some 25)) 26 a18 (.inr (65536, .int))) 0 23 (some 26)) 27 a19 (.inr (65536, .boolean))) 0 24 (some 27)) 28 a20 (.inr (32, .int))) 0 25 (some 28)) 29 a21 (.inr (32, .int))) 0 26 (some 29)) 30 a22 (.inr (6, .int))) 0 27 (some 30)) 31 a23 (.inr (6, .int))) 0 28 (some 31)) 32 a24 (.inr (6, .int))) 0 30 (some 32)) 33 a25 (.inr (6, .int))) 0 31 (some 33)) 34 a26 (.inr (6, .int))) 0 32 (some 34)) 35 a27 (.inr (6, .int))) 0 33 (some 35)) 36 a28 (.inr (60, .int))) 0 36 (some 36)) 37 a29 (.inr (4, .object "HiddenCube$Slot"))) 40 a30 (.inl 4)) ) 37 0 (some 40)) 41 a31 (.inl 4)) ) 37 1 (some 41)) 42 a32 (.inl 4)) hc32 rfl  
  refine zz_aast (pc := 282) (i := 2) (C := RX4) (T := TX4) (N := 1) 37 4 42 4 rfl rfl rfl (by unfold vp_in; decide) dX0_init_282 ?_
  have hs282 := zcd_gR (k := 37) (i := 2) (q := some 42) (fun x hx => by cases hx; exact zsn rfl) hz6
  refine zz_dup (pc := 283) dX0_init_283 rfl ?_
  refine zz_iconst (pc := 284) (v := (3)) dX0_init_284 (by decide) ?_
  refine zz_new (pc := 285) (ci := 4) (C := RX4) (T := TX4) (N := 1) (N' := 1) (41, 158984) 43 hs282 hf43 tyX4 rfl in_X4 tyX4_ok rfl (by decide) q282 q284 q154 rfl rfl dX0_init_285 (fun a33 => ?_)
  have hc33 := zcd_gA (k := 43) (a := a33) (w := .inl 4) hs282
  refine zz_dup (pc := 288) dX0_init_288 rfl ?_
  have ct7 := cg_X4_init_43 (G := gA (gR (gX4_init_42 (gA (gR (gX4_init_41 (gA (gR (gX4_init_40 (gA (gA (gR (gA (gR (gA (gR (gA (gR (gA (gR (gA (gR (gA (gR (gA (gR (gA (gR (gA (gR (gA (gR (gA (gR (gA (gR (gA (gR (gA (gR (gA (gR (gA (gR (gA (gR (gA (gR (gA (gR (gA (gR (gA (gR (gA (gR (gA (gR (gA (gR (gX3_init_10 (gA (gR (gX2_init_8 (gA (gR (gA (gR (gX1_init_1 (gA (G) 1 a1 (.inl 1)) b1_0 b1_1 b1_2 b1_3 b1_4 b1_5) 0 0 (some 1)) 12 a2 (.inr (1400, .byte))) 0 1 (some 12)) 8 a3 (.inl 2)) b2_0) 0 5 (some 8)) 10 a4 (.inl 3)) b3_0) 0 6 (some 10)) 13 a5 (.inr (32, .int))) 0 7 (some 13)) 14 a6 (.inr (32, .int))) 0 8 (some 14)) 15 a7 (.inr (64, .int))) 0 9 (some 15)) 16 a8 (.inr (64, .int))) 0 10 (some 16)) 17 a9 (.inr (33, .int))) 0 12 (some 17)) 18 a10 (.inr (33, .int))) 0 13 (some 18)) 19 a11 (.inr (32, .int))) 0 14 (some 19)) 20 a12 (.inr (1400, .int))) 0 15 (some 20)) 21 a13 (.inr (19200, .int))) 0 17 (some 21)) 22 a14 (.inr (3840, .int))) 0 18 (some 22)) 23 a15 (.inr (5, .int))) 0 19 (some 23)) 24 a16 (.inr (32, .int))) 0 21 (some 24)) 25 a17 (.inr (1400, .int))) 0 22 (some 25)) 26 a18 (.inr (65536, .int))) 0 23 (some 26)) 27 a19 (.inr (65536, .boolean))) 0 24 (some 27)) 28 a20 (.inr (32, .int))) 0 25 (some 28)) 29 a21 (.inr (32, .int))) 0 26 (some 29)) 30 a22 (.inr (6, .int))) 0 27 (some 30)) 31 a23 (.inr (6, .int))) 0 28 (some 31)) 32 a24 (.inr (6, .int))) 0 30 (some 32)) 33 a25 (.inr (6, .int))) 0 31 (some 33)) 34 a26 (.inr (6, .int))) 0 32 (some 34)) 35 a27 (.inr (6, .int))) 0 33 (some 35)) 36 a28 (.inr (60, .int))) 0 36 (some 36)) 37 a29 (.inr (4, .object "HiddenCube$Slot"))) 40 a30 (.inl 4)) ) 37 0 (some 40)) 41 a31 (.inl 4)) ) 37 1 (some 41)) 42 a32 (.inl 4)) ) 37 2 (some 42)) 43 a33 (.inl 4)) hc33 rfl 
  refine zz_callGN (pc := 289) (idx := 117) (M := mX0_init) (41, 158984) _ _ 43 ct7 mv_X4_init_43 (List.mem_of_getElem? (i := 3) rfl) rfl (Nat.le_of_ble_eq_true rfl) (Nat.le_of_ble_eq_true rfl) rfl rfl rfl (Nat.le_of_ble_eq_true rfl) dX0_init_289 (fun G7 r7 S7 hK7 => ?_)
  cases hK7
  have hz7 := zcd_X4_init_43 (G := gA (gR (gX4_init_42 (gA (gR (gX4_init_41 (gA (gR (gX4_init_40 (gA (gA (gR (gA (gR (gA (gR (gA (gR (gA (gR (gA (gR (gA (gR (gA (gR (gA (gR (gA (gR (gA (gR (gA (gR (gA (gR (gA (gR (gA (gR (gA (gR (gA (gR (gA (gR (gA (gR (gA (gR (gA (gR (gA (gR (gA (gR (gA (gR (gA (gR (gX3_init_10 (gA (gR (gX2_init_8 (gA (gR (gA (gR (gX1_init_1 (gA (G) 1 a1 (.inl 1)) b1_0 b1_1 b1_2 b1_3 b1_4 b1_5) 0 0 (some 1)) 12 a2 (.inr (1400, .byte))) 0 1 (some 12)) 8 a3 (.inl 2)) b2_0) 0 5 (some 8)) 10 a4 (.inl 3)) b3_0) 0 6 (some 10)) 13 a5 (.inr (32, .int))) 0 7 (some 13)) 14 a6 (.inr (32, .int))) 0 8 (some 14)) 15 a7 (.inr (64, .int))) 0 9 (some 15)) 16 a8 (.inr (64, .int))) 0 10 (some 16)) 17 a9 (.inr (33, .int))) 0 12 (some 17)) 18 a10 (.inr (33, .int))) 0 13 (some 18)) 19 a11 (.inr (32, .int))) 0 14 (some 19)) 20 a12 (.inr (1400, .int))) 0 15 (some 20)) 21 a13 (.inr (19200, .int))) 0 17 (some 21)) 22 a14 (.inr (3840, .int))) 0 18 (some 22)) 23 a15 (.inr (5, .int))) 0 19 (some 23)) 24 a16 (.inr (32, .int))) 0 21 (some 24)) 25 a17 (.inr (1400, .int))) 0 22 (some 25)) 26 a18 (.inr (65536, .int))) 0 23 (some 26)) 27 a19 (.inr (65536, .boolean))) 0 24 (some 27)) 28 a20 (.inr (32, .int))) 0 25 (some 28)) 29 a21 (.inr (32, .int))) 0 26 (some 29)) 30 a22 (.inr (6, .int))) 0 27 (some 30)) 31 a23 (.inr (6, .int))) 0 28 (some 31)) 32 a24 (.inr (6, .int))) 0 30 (some 32)) 33 a25 (.inr (6, .int))) 0 31 (some 33)) 34 a26 (.inr (6, .int))) 0 32 (some 34)) 35 a27 (.inr (6, .int))) 0 33 (some 35)) 36 a28 (.inr (60, .int))) 0 36 (some 36)) 37 a29 (.inr (4, .object "HiddenCube$Slot"))) 40 a30 (.inl 4)) ) 37 0 (some 40)) 41 a31 (.inl 4)) ) 37 1 (some 41)) 42 a32 (.inl 4)) ) 37 2 (some 42)) 43 a33 (.inl 4)) hc33 rfl  
  refine zz_aast (pc := 292) (i := 3) (C := RX4) (T := TX4) (N := 1) 37 4 43 4 rfl rfl rfl (by unfold vp_in; decide) dX0_init_292 ?_
  have hs292 := zcd_gR (k := 37) (i := 3) (q := some 43) (fun x hx => by cases hx; exact zsn rfl) hz7
  refine zz_putR (pc := 293) tyX0 0 0 37 37 hb rfl in_X0 tyX0_ok (fun b hb9 hbj => nmX0 _ (by decide) b hb9 (Ne.symm hbj)) (by decide) q336 (by first | exact Or.inl rfl | exact Or.inr ⟨rfl, rfl, rfl⟩) rfl rfl dX0_init_293 ?_
  have hs293 := zcd_gR (k := 0) (i := 37) (q := some 37) (fun x hx => by cases hx; exact zsn rfl) hs292
  refine zz_aload_n (pc := 296) 0 dX0_init_296 rfl rfl ?_
  refine zz_iconst (pc := 297) (v := (3)) dX0_init_297 (by decide) ?_
  refine zz_anew (pc := 298) (n := 3) (N := 3) (C := "HiddenCube$Town") (42, 158987) 38 hs293 hf38 q183 (fun s h => h.2.2.2.2.2.1) (by decide) (by decide) (by decide) rfl rfl dX0_init_298 (fun a34 => ?_)
  have hc34 := zcd_gA (k := 38) (a := a34) (w := .inr (3, .object "HiddenCube$Town")) hs293
  refine zz_putR (pc := 301) tyX0 0 0 38 38 hb rfl in_X0 tyX0_ok (fun b hb9 hbj => nmX0 _ (by decide) b hb9 (Ne.symm hbj)) (by decide) q337 (by first | exact Or.inl rfl | exact Or.inr ⟨rfl, rfl, rfl⟩) rfl rfl dX0_init_301 ?_
  have hs301 := zcd_gR (k := 0) (i := 38) (q := some 38) (fun x hx => by cases hx; exact zsn rfl) hc34
  exact zz_gvret (fun _ => rfl) rfl rfl ⟨a1, b1_0, b1_1, b1_2, b1_3, b1_4, b1_5, a2, a3, b2_0, a4, b3_0, a5, a6, a7, a8, a9, a10, a11, a12, a13, a14, a15, a16, a17, a18, a19, a20, a21, a22, a23, a24, a25, a26, a27, a28, a29, a30, a31, a32, a33, a34, rfl⟩ dX0_init_304 rfl
