/-! PLAIN LAW: shadows, people, the tape's end -/
set_option maxRecDepth 100000
theorem p_shadow : OP_op_shadow Rl := by
  intro V I a b h a1 a2
  obtain ⟨n, hC, hM, hw⟩ := Rl_t h
  have hM1 : tM (sI b 0 0 0) n (a.1 7) := hM
  refine St1_of (v := if inB a1 (sqn n) = true then (if inB a2 n = true then ((a1 &&& (((1 : Int32) <<< (a2 &&& 31)) - 1)) ||| ((a1 >>> ((a2 + 1) &&& 31)) <<< (a2 &&& 31))) else -2) else -2) h ?_ ?_
  · unfold F_X0_shadow
    rw [e_X0_isSquare hC, zbind_some, n2_0, bI_if0]
    cases h1 : inB a1 (sqn n)
    · exact wp_some ⟨rfl, rfl⟩
    · rw [if_pos rfl, if_pos rfl, e_X0_isName hC, zbind_some, bI_if0]
      cases h2 : inB a2 n
      · exact wp_some ⟨rfl, rfl⟩
      · exact wp_some ⟨rfl, rfl⟩
  · unfold F_X5_shadow
    rw [zlet_eq]
    have hk := cut_thrown (S := b) (x := 0)
    generalize sI b 0 0 0 = b1 at hM1 hk ⊢
    rw [e_X5_isSquare hM1, zbind_some, n2_0, bI_if0]
    cases h1 : inB a1 (sqn n)
    · exact wp_some ⟨rfl, hk⟩
    · rw [if_pos rfl, if_pos rfl, e_X5_isName hM1, zbind_some, bI_if0]
      cases h2 : inB a2 n
      · exact wp_some ⟨rfl, hk⟩
      · exact wp_some ⟨rfl, hk⟩
/-- the people in hand -/
theorem Rl_p {V : zSV} {I : Nat → Bool} {S T : zSt} (h : Rl V I S T) : ∃ p, p ≤ 6 ∧ S.1 1 8 = n2 p ∧ T.1 18 1 = n2 p ∧ ∀ k, k < p → S.1 4 k = T.1 24 k := by
  obtain ⟨⟨n, p, c, -, -, h1, h2, -, -, hp, -, -, -, -, -, -, -, h3, -⟩, -⟩ := h
  refine ⟨p, hp, h1, h2, fun k hk => ?_⟩
  obtain ⟨s, -, g1, g2⟩ := h3 k hk
  have e1 : (cut pcB S).1 (1 + 3) k = S.1 4 k := cut_1 rfl
  have e2 : (cut pmB T).1 24 (6 * 0 + k) = T.1 24 k := by rw [Nat.mul_zero, Nat.zero_add]; exact cut_1 rfl
  rw [← e1, ← e2, g1, g2]
theorem e_X0_isPerson {S : zSt} {p : Nat} {x : Int32} (hp : p ≤ 6) (h : S.1 1 8 = n2 p) : F_X0_isPerson x.toInt64 S = some (bI (inB x p), S) := by
  unfold F_X0_isPerson
  rw [h, n2_1, e_X0_isIn, in_pred (by omega), zbind_some, bI_and]
theorem e_X5_isPerson {S : zSt} {p : Nat} {x : Int32} (hp : p ≤ 6) (h : S.1 18 1 = n2 p) : F_X5_isPerson x.toInt64 S = some (bI (inB x p), S) := by
  unfold F_X5_isPerson
  rw [n2_1, chk_n2 (by decide) (by decide), n2_nat (by decide), h, i64_pred (by omega), e_X5_in, in_pred (by omega), zbind_some, bI_and]
theorem p_person : OP_op_person Rl := by
  intro V I a b h a1
  obtain ⟨p, hp, h8, h18, hk4⟩ := Rl_p h
  refine St1_of (v := if inB a1 p = true then a.1 4 a1.toNatClampNeg else -2) h ?_ ?_
  · unfold F_X0_person
    rw [e_X0_isPerson hp h8, zbind_some, n2_0, bI_if0]
    cases h1 : inB a1 p
    · exact wp_some ⟨rfl, rfl⟩
    · obtain ⟨k, rfl, hk⟩ := (inB_t (by omega)).mp h1
      rw [if_pos rfl, if_pos rfl, chk_n2 (by omega) (by decide)]
      exact wp_some ⟨rfl, rfl⟩
  · unfold F_X5_person
    rw [zlet_eq]
    have hk := cut_thrown (S := b) (x := 0)
    have h18' : (sI b 0 0 0).1 18 1 = n2 p := h18
    have h24 : ∀ k, k < p → a.1 4 k = (sI b 0 0 0).1 24 k := hk4
    generalize sI b 0 0 0 = b1 at h18' h24 hk ⊢
    rw [e_X5_isPerson hp h18', zbind_some, n2_0, bI_if0]
    cases h1 : inB a1 p
    · exact wp_some ⟨rfl, hk⟩
    · obtain ⟨k, rfl, hk9⟩ := (inB_t (by omega)).mp h1
      rw [if_pos rfl, if_pos rfl, chk_n2 (by omega) (by decide), n2_nat (by omega), ← h24 k hk9]
      exact wp_some ⟨rfl, hk⟩
