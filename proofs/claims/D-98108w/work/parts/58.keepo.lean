/-! keep, back out of range (written by gen/mkkeepo.py) -/
set_option maxRecDepth 100000
def F_oI (a1 : Int32) (S : zSt) : Option (Int32 × zSt) := zbind (F_X0_isIn ((a1).toInt64) 0 2 S) (fun r S1 => if r = 0 then some (-2, S1) else none)
theorem ct_X0_keepO {G : zGw} (a1 : Int32) : Zc mX0_keep yX0_keep zJI G [.ref (G.1 0), .int a1] (F_oI a1) := by
  refine Zc_of [some (.ref (G.1 0)), some (.int a1)] (by decide) rfl rfl (Nat.le_of_ble_eq_true rfl) rfl (fun X S res => ?_)
  unfold F_oI
  refine z_iload_n (pc := 0) 1 dX0_keep_0 rfl rfl ?_
  refine z_i2l (pc := 1) dX0_keep_1 ?_
  refine z_lconst (pc := 2) (v := 0) dX0_keep_2 (by decide) ?_
  refine z_ldc2 (pc := 3) (v := 2) dX0_keep_3 q1294 ?_
  refine z_callSi (pc := 6) _ _ (ct_X0_isIn _ _ _) mv_X0_isIn q429 rfl (Nat.le_of_ble_eq_true rfl) (Nat.le_of_ble_eq_true rfl) rfl rfl (Nat.le_of_ble_eq_true rfl) dX0_keep_6 (fun r2 S1 => ?_)
  refine z_if_ne (pc := 9) 15 dX0_keep_9 rfl (fun h => by cases h) ?_
  refine z_bipush (pc := 12) (v := (-2)) dX0_keep_12 (by decide) ?_
  exact z_iret rfl dX0_keep_14 rfl
theorem ct_X0_backO {G : zGw} (a1 : Int32) : Zc mX0_back yX0_back zJI G [.ref (G.1 0), .int a1] (F_oI a1) := by
  refine Zc_of [some (.ref (G.1 0)), some (.int a1)] (by decide) rfl rfl (Nat.le_of_ble_eq_true rfl) rfl (fun X S res => ?_)
  unfold F_oI
  refine z_iload_n (pc := 0) 1 dX0_back_0 rfl rfl ?_
  refine z_i2l (pc := 1) dX0_back_1 ?_
  refine z_lconst (pc := 2) (v := 0) dX0_back_2 (by decide) ?_
  refine z_ldc2 (pc := 3) (v := 2) dX0_back_3 q1294 ?_
  refine z_callSi (pc := 6) _ _ (ct_X0_isIn _ _ _) mv_X0_isIn q429 rfl (Nat.le_of_ble_eq_true rfl) (Nat.le_of_ble_eq_true rfl) rfl rfl (Nat.le_of_ble_eq_true rfl) dX0_back_6 (fun r2 S1 => ?_)
  refine z_if_ne (pc := 9) 15 dX0_back_9 rfl (fun h => by cases h) ?_
  refine z_bipush (pc := 12) (v := (-2)) dX0_back_12 (by decide) ?_
  exact z_iret rfl dX0_back_14 rfl
