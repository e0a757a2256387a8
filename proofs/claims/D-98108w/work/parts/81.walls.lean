/-! PLAIN LAW: walls counted (written by gen/mk81.py) -/
set_option maxRecDepth 100000
def wlG (n : Nat) (sh : Nat → Int32) (y : Int32) (i : Nat) : Nat := b2n (decide (n2 i &&& y = n2 0) && wlB n sh (n2 i) y)
def wlO (n : Nat) (sh : Nat → Int32) (x : Int32) : Nat := sumN (2 ^ n) (fun k => if n2 (pc (n2 k)) = x then sumN (2 ^ n) (wlG n sh (n2 k)) else 0)
theorem e_X0_wallsOf {S : zSt} {n : Nat} {sh : Nat → Int32} {x : Int32} (h : tC S n sh) (hn0 : n ≠ 0) : wp (F_X0_wallsOf x S) (fun r S' => r = n2 (wlO n sh x) ∧ S' = S) := by
  have hp := two_pow_le h.2.1
  have hn := h.2.1
  have hq := sqn_pos hn0
  unfold F_X0_wallsOf
  refine forZa (2 ^ n) (fun i u T => u = n2 (sumN i (fun k => if n2 (pc (n2 k)) = x then sumN (2 ^ n) (wlG n sh (n2 k)) else 0)) ∧ T = S) (by omega) ?_ ?_ (i := 0) (Nat.zero_le _) ⟨rfl, rfl⟩
  · rintro rec i u T hi ⟨rfl, rfl⟩ k
    unfold LB_X0_wallsOf_2
    rw [e_X1_squares h, zbind_some, hq, if_neg (le_f (by omega) hi), e_J7_bitCount, zbind_some]
    by_cases c : n2 (pc (n2 i)) = x
    · rw [if_pos c]
      refine forZa (2 ^ n) (fun j v U => v = n2 (sumN i (fun k => if n2 (pc (n2 k)) = x then sumN (2 ^ n) (wlG n sh (n2 k)) else 0) + sumN j (wlG n sh (n2 i))) ∧ U = T) (by omega) ?_ ?_ (i := 0) (Nat.zero_le _) ⟨rfl, rfl⟩
      · rintro rec2 j v U hj ⟨rfl, rfl⟩ k2
        unfold LB_X0_wallsOf_1
        rw [e_X1_squares h, zbind_some, hq, if_neg (le_f (by omega) hj), joinK_eq, joinK_eq, n2_0, n2_1, n2_add]
        have fin0 : wlG n sh (n2 i) j = 0 → wp (rec2 (n2 (sumN i (fun k => if n2 (pc (n2 k)) = x then sumN (2 ^ n) (wlG n sh (n2 k)) else 0) + sumN j (wlG n sh (n2 i))) + n2 0) (n2 (j + 1)) U) (fun r S' => r = n2 (wlO n sh x) ∧ S' = U) := fun hg => by
          refine k2 _ _ ⟨?_, rfl⟩
          rw [n2_add]
          show _ = n2 (_ + (sumN j _ + _))
          rw [hg]
          refine congrArg n2 ?_
          omega
        by_cases c1 : n2 j &&& n2 i = n2 0
        · rw [if_pos c1]
          refine wp_bind (e_X0_isWall h hn0) ?_
          rintro r S' ⟨rfl, rfl⟩
          rw [bI_if0]
          cases hb : wlB n sh (n2 j) (n2 i)
          · rw [if_neg (by simp)]
            exact fin0 (by simp [wlG, b2n, hb])
          · rw [if_pos rfl]
            refine k2 _ _ ⟨?_, rfl⟩
            rw [n2_add]
            show _ = n2 (_ + (sumN j _ + _))
            rw [show wlG n sh (n2 i) j = 1 by simp [wlG, b2n, hb, c1]]
            refine congrArg n2 ?_
            omega
        · rw [if_neg c1]
          exact fin0 (by simp [wlG, b2n, c1])
      · rintro rec2 v U ⟨rfl, rfl⟩
        unfold LB_X0_wallsOf_1
        rw [e_X1_squares h, zbind_some, hq, if_pos le_t]
        try rw [n2_1]
        rw [n2_add]
        refine k _ _ ⟨?_, rfl⟩
        show _ = n2 (sumN i _ + _)
        dsimp only
        rw [if_pos c]
    · rw [if_neg c]
      try rw [n2_1]
      rw [n2_add]
      refine k _ _ ⟨?_, rfl⟩
      show _ = n2 (sumN i _ + _)
      dsimp only
      rw [if_neg c, Nat.add_zero]
  · rintro rec u T ⟨rfl, rfl⟩
    unfold LB_X0_wallsOf_2
    rw [e_X1_squares h, zbind_some, hq, if_pos le_t]
    exact wp_some ⟨rfl, rfl⟩
theorem e_X5_wallsOf {S : zSt} {n : Nat} {sh : Nat → Int32} {x : Int32} (h : tM S n sh) (hn0 : n ≠ 0) : wp (F_X5_wallsOf x S) (fun r S' => r = n2 (wlO n sh x) ∧ S' = S) := by
  have hp := two_pow_le h.2.1
  have hn := h.2.1
  have hq := sqn_pos hn0
  unfold F_X5_wallsOf
  refine forZa (2 ^ n) (fun i u T => u = n2 (sumN i (fun k => if n2 (pc (n2 k)) = x then sumN (2 ^ n) (wlG n sh (n2 k)) else 0)) ∧ T = S) (by omega) ?_ ?_ (i := 0) (Nat.zero_le _) ⟨rfl, rfl⟩
  · rintro rec i u T hi ⟨rfl, rfl⟩ k
    unfold LB_X5_wallsOf_2
    rw [n2_0, n2_1, n2_31, chk_n2 (by decide) (by decide), n2_nat (by decide), h.1, shl_n2 (by omega), if_neg (le_f (by omega) hi), e_X5_bits, zbind_some]
    by_cases c : n2 (pc (n2 i)) = x
    · rw [if_pos c]
      refine forZa (2 ^ n) (fun j v U => v = n2 (sumN i (fun k => if n2 (pc (n2 k)) = x then sumN (2 ^ n) (wlG n sh (n2 k)) else 0) + sumN j (wlG n sh (n2 i))) ∧ U = T) (by omega) ?_ ?_ (i := 0) (Nat.zero_le _) ⟨rfl, rfl⟩
      · rintro rec2 j v U hj ⟨rfl, rfl⟩ k2
        unfold LB_X5_wallsOf_1
        rw [e_X5_squares h, zbind_some, hq, if_neg (le_f (by omega) hj), joinK_eq, joinK_eq, n2_0, n2_1, n2_add]
        have fin0 : wlG n sh (n2 i) j = 0 → wp (rec2 (n2 (sumN i (fun k => if n2 (pc (n2 k)) = x then sumN (2 ^ n) (wlG n sh (n2 k)) else 0) + sumN j (wlG n sh (n2 i))) + n2 0) (n2 (j + 1)) U) (fun r S' => r = n2 (wlO n sh x) ∧ S' = U) := fun hg => by
          refine k2 _ _ ⟨?_, rfl⟩
          rw [n2_add]
          show _ = n2 (_ + (sumN j _ + _))
          rw [hg]
          refine congrArg n2 ?_
          omega
        by_cases c1 : n2 j &&& n2 i = n2 0
        · rw [if_pos c1]
          refine wp_bind (e_X5_isWall h hn0) ?_
          rintro r S' ⟨rfl, rfl⟩
          rw [bI_if0]
          cases hb : wlB n sh (n2 j) (n2 i)
          · rw [if_neg (by simp)]
            exact fin0 (by simp [wlG, b2n, hb])
          · rw [if_pos rfl]
            refine k2 _ _ ⟨?_, rfl⟩
            rw [n2_add]
            show _ = n2 (_ + (sumN j _ + _))
            rw [show wlG n sh (n2 i) j = 1 by simp [wlG, b2n, hb, c1]]
            refine congrArg n2 ?_
            omega
        · rw [if_neg c1]
          exact fin0 (by simp [wlG, b2n, c1])
      · rintro rec2 v U ⟨rfl, rfl⟩
        unfold LB_X5_wallsOf_1
        rw [e_X5_squares h, zbind_some, hq, if_pos le_t]
        try rw [n2_1]
        rw [n2_add]
        refine k _ _ ⟨?_, rfl⟩
        show _ = n2 (sumN i _ + _)
        dsimp only
        rw [if_pos c]
    · rw [if_neg c]
      try rw [n2_1]
      rw [n2_add]
      refine k _ _ ⟨?_, rfl⟩
      show _ = n2 (sumN i _ + _)
      dsimp only
      rw [if_neg c, Nat.add_zero]
  · rintro rec u T ⟨rfl, rfl⟩
    unfold LB_X5_wallsOf_2
    rw [n2_0, n2_1, n2_31, chk_n2 (by decide) (by decide), n2_nat (by decide), h.1, shl_n2 (by omega), if_pos le_t]
    exact wp_some ⟨rfl, rfl⟩
theorem p_walls : OP_op_walls Rl := by
  intro V I a b h a1
  obtain ⟨n, hC, hM, hw⟩ := Rl_t h
  have hM1 : tM (sI b 0 0 0) n (a.1 7) := hM
  refine St1_of (v := if n ≠ 0 then (if inB a1 6 = true then n2 (wlO n (a.1 7) a1) else -2) else -2) h ?_ ?_
  · unfold F_X0_walls
    rw [e_X0_isTown hC, zbind_some, n2_0, bI_if0]
    by_cases hn0 : n = 0
    · rw [if_neg (by simp [hn0]), if_neg (by simp [hn0])]
      exact wp_some ⟨rfl, rfl⟩
    · rw [if_pos (by simp [hn0]), if_pos hn0, show (5 : Int64) = (n2 5).toInt64 from by decide, e_X0_isIn, in_le (by decide), zbind_some, bI_if0]
      cases h2 : inB a1 6
      · exact wp_some ⟨rfl, rfl⟩
      · rw [if_pos rfl, if_pos rfl]
        refine wp_bind (e_X0_wallsOf hC hn0) ?_
        rintro r S' ⟨rfl, rfl⟩
        exact wp_some ⟨rfl, rfl⟩
  · unfold F_X5_walls
    rw [zlet_eq]
    have hk := cut_thrown (S := b) (x := 0)
    generalize sI b 0 0 0 = b1 at hM1 hk ⊢
    rw [e_X5_isTown hM1, zbind_some, n2_0, bI_if0]
    by_cases hn0 : n = 0
    · rw [if_neg (by simp [hn0]), if_neg (by simp [hn0])]
      exact wp_some ⟨rfl, hk⟩
    · rw [if_pos (by simp [hn0]), if_pos hn0, show (5 : Int64) = (n2 5).toInt64 from by decide, e_X5_in, in_le (by decide), zbind_some, bI_if0]
      cases h2 : inB a1 6
      · exact wp_some ⟨rfl, hk⟩
      · rw [if_pos rfl, if_pos rfl]
        refine wp_bind (e_X5_wallsOf hM1 hn0) ?_
        rintro r S' ⟨rfl, rfl⟩
        exact wp_some ⟨rfl, hk⟩
theorem p_fours : OP_op_fours Rl := by
  intro V I a b h
  obtain ⟨n, hC, hM, hw⟩ := Rl_t h
  have hM1 : tM (sI b 0 0 0) n (a.1 7) := hM
  refine St1_of (v := if n ≠ 0 then n2 (wlO n (a.1 7) 2) else -2) h ?_ ?_
  · unfold F_X0_fours
    rw [e_X0_isTown hC, zbind_some, n2_0, bI_if0]
    by_cases hn0 : n = 0
    · rw [if_neg (by simp [hn0]), if_neg (by simp [hn0])]
      exact wp_some ⟨rfl, rfl⟩
    · rw [if_pos (by simp [hn0]), if_pos hn0]
      refine wp_bind (e_X0_wallsOf hC hn0) ?_
      rintro r S' ⟨rfl, rfl⟩
      exact wp_some ⟨rfl, rfl⟩
  · unfold F_X5_fours
    rw [zlet_eq]
    have hk := cut_thrown (S := b) (x := 0)
    generalize sI b 0 0 0 = b1 at hM1 hk ⊢
    rw [e_X5_isTown hM1, zbind_some, n2_0, bI_if0]
    by_cases hn0 : n = 0
    · rw [if_neg (by simp [hn0]), if_neg (by simp [hn0])]
      exact wp_some ⟨rfl, hk⟩
    · rw [if_pos (by simp [hn0]), if_pos hn0]
      refine wp_bind (e_X5_wallsOf hM1 hn0) ?_
      rintro r S' ⟨rfl, rfl⟩
      exact wp_some ⟨rfl, hk⟩
