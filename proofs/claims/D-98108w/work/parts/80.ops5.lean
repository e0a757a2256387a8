/-! PLAIN LAW: walls -/
set_option maxRecDepth 100000
def wlB (n : Nat) (sh : Nat → Int32) (x y : Int32) : Bool := decide (∀ o, o < 2 ^ n → ((n2 o ^^^ x) &&& (y ^^^ (-1)) = n2 0 → sh o &&& y = n2 0))
theorem e_X0_isWall {S : zSt} {n : Nat} {sh : Nat → Int32} {x y : Int32} (h : tC S n sh) (hn0 : n ≠ 0) : wp (F_X0_isWall x y S) (fun r S' => r = bI (wlB n sh x y) ∧ S' = S) := by
  have hp := two_pow_le h.2.1
  have hq := sqn_pos hn0
  unfold F_X0_isWall
  refine forZ (2 ^ n) (fun i T => T = S ∧ ∀ o, o < i → ((n2 o ^^^ x) &&& (y ^^^ (-1)) = n2 0 → sh o &&& y = n2 0)) (by omega) ?_ ?_ (i := 0) (Nat.zero_le _) ⟨rfl, fun o ho => absurd ho (by omega)⟩
  · rintro rec i T hi ⟨rfl, hA⟩ k
    unfold LB_X0_isWall_1
    rw [e_X1_squares h, zbind_some, hq, if_neg (le_f (by omega) hi), n2_0, n2_1, n2_add]
    by_cases c1 : (n2 i ^^^ x) &&& (y ^^^ (-n2 1)) = n2 0
    · rw [if_pos c1, chk_n2 (by omega) (by decide), n2_nat (by omega), h.2.2]
      by_cases c2 : sh i &&& y = n2 0
      · rw [if_pos c2]
        refine k _ ⟨rfl, fun o ho => ?_⟩
        by_cases e : o = i
        · subst e; exact fun _ => c2
        · exact hA o (by omega)
      · rw [if_neg c2]
        refine wp_some ⟨?_, rfl⟩
        have : wlB n sh x y = false := decide_eq_false (fun hall => c2 (hall i hi c1))
        rw [this]; rfl
    · rw [if_neg c1]
      refine k _ ⟨rfl, fun o ho => ?_⟩
      by_cases e : o = i
      · subst e; exact fun h9 => absurd h9 c1
      · exact hA o (by omega)
  · rintro rec T ⟨rfl, hA⟩
    unfold LB_X0_isWall_1
    rw [e_X1_squares h, zbind_some, hq, if_pos le_t]
    refine wp_some ⟨?_, rfl⟩
    have : wlB n sh x y = true := decide_eq_true hA
    rw [this]; rfl
theorem e_X5_isWall {S : zSt} {n : Nat} {sh : Nat → Int32} {x y : Int32} (h : tM S n sh) (hn0 : n ≠ 0) : wp (F_X5_isWall x y S) (fun r S' => r = bI (wlB n sh x y) ∧ S' = S) := by
  have hp := two_pow_le h.2.1
  have hq := sqn_pos hn0
  unfold F_X5_isWall
  refine forZ (2 ^ n) (fun i T => T = S ∧ ∀ o, o < i → ((n2 o ^^^ x) &&& (y ^^^ (-1)) = n2 0 → sh o &&& y = n2 0)) (by omega) ?_ ?_ (i := 0) (Nat.zero_le _) ⟨rfl, fun o ho => absurd ho (by omega)⟩
  · rintro rec i T hi ⟨rfl, hA⟩ k
    unfold LB_X5_isWall_1
    rw [e_X5_squares h, zbind_some, hq, if_neg (le_f (by omega) hi), n2_0, n2_1, n2_add]
    by_cases c1 : (n2 i ^^^ x) &&& (y ^^^ (-n2 1)) = n2 0
    · rw [if_pos c1, chk_n2 (by omega) (by decide), n2_nat (by omega), h.2.2.1 i (by omega)]
      by_cases c2 : sh i &&& y = n2 0
      · rw [if_pos c2]
        refine k _ ⟨rfl, fun o ho => ?_⟩
        by_cases e : o = i
        · subst e; exact fun _ => c2
        · exact hA o (by omega)
      · rw [if_neg c2]
        refine wp_some ⟨?_, rfl⟩
        have : wlB n sh x y = false := decide_eq_false (fun hall => c2 (hall i hi c1))
        rw [this]; rfl
    · rw [if_neg c1]
      refine k _ ⟨rfl, fun o ho => ?_⟩
      by_cases e : o = i
      · subst e; exact fun h9 => absurd h9 c1
      · exact hA o (by omega)
  · rintro rec T ⟨rfl, hA⟩
    unfold LB_X5_isWall_1
    rw [e_X5_squares h, zbind_some, hq, if_pos le_t]
    refine wp_some ⟨?_, rfl⟩
    have : wlB n sh x y = true := decide_eq_true hA
    rw [this]; rfl
theorem p_wall : OP_op_wall Rl := by
  intro V I a b h a1 a2
  obtain ⟨n, hC, hM, hw⟩ := Rl_t h
  have hM1 : tM (sI b 0 0 0) n (a.1 7) := hM
  have hn := hw.2.1
  have hp := two_pow_le hn
  refine St1_of (v := if inB a1 (sqn n) = true then (if inB a2 (sqn n) = true then bI (wlB n (a.1 7) a1 a2) else -2) else -2) h ?_ ?_
  · unfold F_X0_wall
    rw [e_X0_isSquare hC, zbind_some, n2_0, bI_if0]
    cases h1 : inB a1 (sqn n)
    · exact wp_some ⟨rfl, rfl⟩
    · obtain ⟨s, -, -, -, hn0, -⟩ := inB_sq hw h1
      rw [if_pos rfl, if_pos rfl, e_X0_isSquare hC, zbind_some, bI_if0]
      cases h2 : inB a2 (sqn n)
      · exact wp_some ⟨rfl, rfl⟩
      · rw [if_pos rfl, if_pos rfl]
        refine wp_bind (e_X0_isWall hC hn0) ?_
        rintro r S' ⟨rfl, rfl⟩
        rw [bI_if0, n2_1]
        cases wlB n (S'.1 7) a1 a2 <;> exact wp_some ⟨rfl, rfl⟩
  · unfold F_X5_wall
    rw [zlet_eq]
    have hk := cut_thrown (S := b) (x := 0)
    generalize sI b 0 0 0 = b1 at hM1 hk ⊢
    rw [e_X5_isSquare hM1, zbind_some, n2_0, bI_if0]
    cases h1 : inB a1 (sqn n)
    · exact wp_some ⟨rfl, hk⟩
    · obtain ⟨s, -, -, -, hn0, -⟩ := inB_sq hw h1
      have hq := sqn_pos hn0
      rw [if_pos rfl, if_pos rfl, chk_n2 (by decide) (by decide), n2_nat (by decide), hM1.1, n2_1, n2_31, shl_n2 (by omega), e_X5_in, in_pred (by omega), zbind_some, bI_if0, hq]
      cases h2 : inB a2 (2 ^ n)
      · exact wp_some ⟨rfl, hk⟩
      · rw [if_pos rfl, if_pos rfl]
        refine wp_bind (e_X5_isWall hM1 hn0) ?_
        rintro r S' ⟨rfl, rfl⟩
        rw [bI_if0]
        cases wlB n (a.1 7) a1 a2 <;> exact wp_some ⟨rfl, hk⟩
