/-! PLAIN LAW: ops that count bits -/
set_option maxRecDepth 100000
theorem p_ways : OP_op_ways Rl := by
  intro V I a b h a1
  obtain ⟨n, hC, hM, hw⟩ := Rl_t h
  have hM1 : tM (sI b 0 0 0) n (a.1 7) := hM
  have hn := hw.2.1
  refine St1_of (v := if inB a1 (sqn n) = true then n2 n - n2 (pc (a.1 7 a1.toNatClampNeg)) else -2) h ?_ ?_
  · unfold F_X0_ways
    rw [e_X0_isSquare hC, zbind_some, n2_0, bI_if0]
    cases h1 : inB a1 (sqn n)
    · exact wp_some ⟨rfl, rfl⟩
    · obtain ⟨s, rfl, hs, hs2, -, h32⟩ := inB_sq hw h1
      rw [if_pos rfl, if_pos rfl]
      unfold F_X0_waysOf
      rw [chk_n2 (by omega) (by decide), n2_nat (by omega), e_J7_bitCount, zbind_some, zbind_some, hC.1]
      exact wp_some ⟨rfl, rfl⟩
  · unfold F_X5_ways
    rw [zlet_eq]
    have hk := cut_thrown (S := b) (x := 0)
    generalize sI b 0 0 0 = b1 at hM1 hk ⊢
    rw [e_X5_isSquare hM1, zbind_some, n2_0, bI_if0]
    cases h1 : inB a1 (sqn n)
    · exact wp_some ⟨rfl, hk⟩
    · obtain ⟨s, rfl, hs, hs2, -, h32⟩ := inB_sq hw h1
      rw [if_pos rfl, if_pos rfl, chk_n2 (by decide) (by decide), chk_n2 (by omega) (by decide), n2_nat (by omega), n2_nat (by decide), e_X5_bits, zbind_some, hM1.2.2.1 s (by omega), hM1.1]
      exact wp_some ⟨rfl, hk⟩
theorem p_apart : OP_op_apart Rl := by
  intro V I a b h a1 a2
  obtain ⟨n, hC, hM, hw⟩ := Rl_t h
  have hM1 : tM (sI b 0 0 0) n (a.1 7) := hM
  have hn := hw.2.1
  refine St1_of (v := if inB a1 (sqn n) = true then (if inB a2 (sqn n) = true then n2 (pc (a1 ^^^ a2)) else -2) else -2) h ?_ ?_
  · unfold F_X0_apart
    rw [e_X0_isSquare hC, zbind_some, n2_0, bI_if0]
    cases h1 : inB a1 (sqn n)
    · exact wp_some ⟨rfl, rfl⟩
    · rw [if_pos rfl, if_pos rfl, e_X0_isSquare hC, zbind_some, bI_if0]
      cases h2 : inB a2 (sqn n)
      · exact wp_some ⟨rfl, rfl⟩
      · rw [if_pos rfl, if_pos rfl, e_J7_bitCount, zbind_some]
        exact wp_some ⟨rfl, rfl⟩
  · unfold F_X5_apart
    rw [zlet_eq]
    have hk := cut_thrown (S := b) (x := 0)
    generalize sI b 0 0 0 = b1 at hM1 hk ⊢
    rw [e_X5_isSquare hM1, zbind_some, n2_0, bI_if0]
    cases h1 : inB a1 (sqn n)
    · exact wp_some ⟨rfl, hk⟩
    · rw [if_pos rfl, if_pos rfl, e_X5_isSquare hM1, zbind_some, bI_if0]
      cases h2 : inB a2 (sqn n)
      · exact wp_some ⟨rfl, hk⟩
      · rw [if_pos rfl, if_pos rfl, e_X5_bits, zbind_some]
        exact wp_some ⟨rfl, hk⟩
theorem xor_all {n s : Nat} (hn : n ≤ 5) (hs : s < 2 ^ n) : s ^^^ (2 ^ n - 1) = 2 ^ n - 1 - s := by
  have h0 : ∀ n : Fin 6, ∀ s : Fin 32, s.1 < 2 ^ n.1 → s.1 ^^^ (2 ^ n.1 - 1) = 2 ^ n.1 - 1 - s.1 := by decide +kernel
  have := two_pow_le hn
  exact h0 ⟨n, by omega⟩ ⟨s, by omega⟩ hs
theorem p_opposite : OP_op_opposite Rl := by
  intro V I a b h a1
  obtain ⟨n, hC, hM, hw⟩ := Rl_t h
  have hM1 : tM (sI b 0 0 0) n (a.1 7) := hM
  have hn := hw.2.1
  refine St1_of (v := if inB a1 (sqn n) = true then n2 (2 ^ n - 1 - a1.toNatClampNeg) else -2) h ?_ ?_
  · unfold F_X0_opposite
    rw [e_X0_isSquare hC, zbind_some, n2_0, bI_if0]
    cases h1 : inB a1 (sqn n)
    · exact wp_some ⟨rfl, rfl⟩
    · obtain ⟨s, rfl, hs, hs2, hn0, h32⟩ := inB_sq hw h1
      rw [if_pos rfl, if_pos rfl, e_X1_squares hC, zbind_some, sqn_pos hn0, n2_1, n2_sub (by omega), n2_xor, xor_all hn hs2, n2_nat (by omega)]
      exact wp_some ⟨rfl, rfl⟩
  · unfold F_X5_opposite
    rw [zlet_eq]
    have hk := cut_thrown (S := b) (x := 0)
    generalize sI b 0 0 0 = b1 at hM1 hk ⊢
    rw [e_X5_isSquare hM1, zbind_some, n2_0, bI_if0]
    cases h1 : inB a1 (sqn n)
    · exact wp_some ⟨rfl, hk⟩
    · obtain ⟨s, rfl, hs, hs2, hn0, h32⟩ := inB_sq hw h1
      rw [if_pos rfl, if_pos rfl, e_X5_squares hM1, zbind_some, sqn_pos hn0, n2_1, n2_sub (by omega), n2_sub (by omega), n2_nat (by omega)]
      exact wp_some ⟨rfl, hk⟩
