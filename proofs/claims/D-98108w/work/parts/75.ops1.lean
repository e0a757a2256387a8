/-! PLAIN LAW: ops of squares and streets -/
set_option maxRecDepth 100000
theorem inB_sq {a : Int32} {n : Nat} {sh : Nat → Int32} (hw : wT n sh) (h : inB a (sqn n) = true) : ∃ s, a = n2 s ∧ s < sqn n ∧ s < 2 ^ n ∧ n ≠ 0 ∧ 2 ^ n ≤ 32 := by
  have h5 := sqn_le hw.2.1
  obtain ⟨s, rfl, hs⟩ := (inB_t (by omega)).mp h
  obtain ⟨g1, g2⟩ := sqn_lt hs
  exact ⟨s, rfl, hs, g2, g1, two_pow_le hw.2.1⟩
theorem inB_nm {a : Int32} {n : Nat} (hn : n ≤ 5) (h : inB a n = true) : ∃ w, a = n2 w ∧ w < n := (inB_t (by omega)).mp h
theorem p_open : OP_op_open Rl := by
  intro V I a b h a1 a2
  obtain ⟨n, hC, hM, hw⟩ := Rl_t h
  have hM1 : tM (sI b 0 0 0) n (a.1 7) := hM
  have hn := hw.2.1
  have e1 : F_X0_open a1 a2 a = some (if inB a1 (sqn n) = true then (if inB a2 n = true then bI (opn (a.1 7) a1.toNatClampNeg a2.toNatClampNeg) else -2) else -2, a) := by
    unfold F_X0_open
    rw [e_X0_isSquare hC, zbind_some, n2_0, bI_if0]
    cases h1 : inB a1 (sqn n)
    · rfl
    · rw [if_pos rfl, e_X0_isName hC, zbind_some, bI_if0]
      cases h2 : inB a2 n
      · rfl
      · obtain ⟨s, rfl, -, hs, -, h32⟩ := inB_sq hw h1
        obtain ⟨w, rfl, hw2⟩ := inB_nm hn h2
        rw [if_pos rfl, e_X1_isOpen hC (by omega) (by omega), zbind_some, bI_if0, n2_nat (by omega), n2_nat (by omega)]
        cases opn (a.1 7) s w <;> rfl
  have e2 : F_X5_open a1 a2 b = some (if inB a1 (sqn n) = true then (if inB a2 n = true then bI (opn (a.1 7) a1.toNatClampNeg a2.toNatClampNeg) else -2) else -2, sI b 0 0 0) := by
    unfold F_X5_open
    rw [zlet_eq]
    generalize sI b 0 0 0 = b1 at hM1 ⊢
    rw [e_X5_isSquare hM1, zbind_some, n2_0, bI_if0]
    cases h1 : inB a1 (sqn n)
    · rfl
    · rw [if_pos rfl, e_X5_isName hM1, zbind_some, bI_if0]
      cases h2 : inB a2 n
      · rfl
      · obtain ⟨s, rfl, -, hs, -, h32⟩ := inB_sq hw h1
        obtain ⟨w, rfl, hw2⟩ := inB_nm hn h2
        rw [if_pos rfl, e_X5_isOpen hM1 (by omega) (by omega), zbind_some, bI_if0, n2_nat (by omega), n2_nat (by omega)]
        cases opn (a.1 7) s w <;> rfl
  exact St1_eq h e1 rfl e2 cut_thrown
theorem p_step : OP_op_step Rl := by
  intro V I a b h a1 a2
  obtain ⟨n, hC, hM, hw⟩ := Rl_t h
  have hM1 : tM (sI b 0 0 0) n (a.1 7) := hM
  have hn := hw.2.1
  have e1 : F_X0_step a1 a2 a = some (if inB a1 (sqn n) = true then (if inB a2 n = true then (if opn (a.1 7) a1.toNatClampNeg a2.toNatClampNeg = true then a1 ^^^ ((1 : Int32) <<< (a2 &&& 31)) else -1) else -2) else -2, a) := by
    unfold F_X0_step
    rw [e_X0_isSquare hC, zbind_some, n2_0, bI_if0]
    cases h1 : inB a1 (sqn n)
    · rfl
    · rw [if_pos rfl, e_X0_isName hC, zbind_some, bI_if0]
      cases h2 : inB a2 n
      · rfl
      · obtain ⟨s, rfl, -, hs, -, h32⟩ := inB_sq hw h1
        obtain ⟨w, rfl, hw2⟩ := inB_nm hn h2
        rw [if_pos rfl, e_X1_isOpen hC (by omega) (by omega), zbind_some, bI_if0, n2_nat (by omega), n2_nat (by omega)]
        cases opn (a.1 7) s w <;> rfl
  have e2 : F_X5_step a1 a2 b = some (if inB a1 (sqn n) = true then (if inB a2 n = true then (if opn (a.1 7) a1.toNatClampNeg a2.toNatClampNeg = true then a1 ^^^ ((1 : Int32) <<< (a2 &&& 31)) else -1) else -2) else -2, sI b 0 0 0) := by
    unfold F_X5_step
    rw [zlet_eq]
    generalize sI b 0 0 0 = b1 at hM1 ⊢
    rw [e_X5_isSquare hM1, zbind_some, n2_0, bI_if0]
    cases h1 : inB a1 (sqn n)
    · rfl
    · rw [if_pos rfl, e_X5_isName hM1, zbind_some, bI_if0]
      cases h2 : inB a2 n
      · rfl
      · obtain ⟨s, rfl, -, hs, -, h32⟩ := inB_sq hw h1
        obtain ⟨w, rfl, hw2⟩ := inB_nm hn h2
        rw [if_pos rfl, e_X5_isOpen hM1 (by omega) (by omega), zbind_some, bI_if0, n2_nat (by omega), n2_nat (by omega)]
        cases opn (a.1 7) s w <;> rfl
  exact St1_eq h e1 rfl e2 cut_thrown
theorem p_far : OP_op_far Rl := by
  intro V I a b h a1 a2
  obtain ⟨n, hC, hM, hw⟩ := Rl_t h
  have hM1 : tM (sI b 0 0 0) n (a.1 7) := hM
  have ho := hw.2.2.1
  refine St1_of (v := if inB a1 (sqn n) = true then (if inB a2 (sqn n) = true then (if dis (Ed n (opn (a.1 7))) a1.toNatClampNeg a2.toNatClampNeg = 1000000 then mo else n2 (dis (Ed n (opn (a.1 7))) a1.toNatClampNeg a2.toNatClampNeg)) else -2) else -2) h ?_ ?_
  · unfold F_X0_far
    rw [e_X0_isSquare hC, zbind_some, n2_0, bI_if0]
    cases h1 : inB a1 (sqn n)
    · exact wp_some ⟨rfl, rfl⟩
    · rw [if_pos rfl, if_pos rfl, e_X0_isSquare hC, zbind_some, bI_if0]
      cases h2 : inB a2 (sqn n)
      · exact wp_some ⟨rfl, rfl⟩
      · obtain ⟨s, rfl, hs, hs2, -, h32⟩ := inB_sq hw h1
        obtain ⟨t, rfl, ht, ht2, -, -⟩ := inB_sq hw h2
        rw [if_pos rfl, if_pos rfl, n2_nat (by omega), n2_nat (by omega)]
        unfold F_X0_farOf
        refine wp_bind (P := fun r S' => r = (if dis (Ed n (opn (a.1 7))) s t = 1000000 then mo else n2 (dis (Ed n (opn (a.1 7))) s t)) ∧ cut pcB S' = cut pcB a) (wp_bind (w_X2_spreads_w8 hC ho hs) ?_) (fun r S' hr => wp_some hr)
        rintro - S' ⟨A, rfl, hA⟩
        rw [chk_n2 (by omega) (by decide), n2_nat (by omega)]
        refine wp_some ⟨?_, cut_sA (fun i => rfl)⟩
        rw [sA_1, if_pos rfl, hA t ht2]
  · unfold F_X5_far
    rw [zlet_eq]
    have hk := cut_thrown (S := b) (x := 0)
    generalize sI b 0 0 0 = b1 at hM1 hk ⊢
    rw [e_X5_isSquare hM1, zbind_some, n2_0, bI_if0]
    cases h1 : inB a1 (sqn n)
    · exact wp_some ⟨rfl, hk⟩
    · rw [if_pos rfl, if_pos rfl, e_X5_isSquare hM1, zbind_some, bI_if0]
      cases h2 : inB a2 (sqn n)
      · exact wp_some ⟨rfl, hk⟩
      · obtain ⟨s, rfl, hs, hs2, -, h32⟩ := inB_sq hw h1
        obtain ⟨t, rfl, ht, ht2, -, -⟩ := inB_sq hw h2
        rw [if_pos rfl, if_pos rfl, n2_nat (by omega), n2_nat (by omega)]
        refine wp_bind (w_X5_laysFar hM1 ho ht) ?_
        rintro - S' ⟨A, rfl, hA⟩
        rw [chk_n2 (by omega) (by decide), chk_n2 (by omega) (by decide), sA_1, if_pos rfl, hA s hs2, dis_sym (E := Ed n (opn (a.1 7))) (fun x y => Ed_sym ho) t s, n2_1000000]
        rcases dis_or (op := opn (a.1 7)) hs2 t with hd | hd
        · have : ¬ dis (Ed n (opn (a.1 7))) s t = 1000000 := by omega
          rw [if_neg this, if_neg (by rw [n2_eq (by omega) (by omega)]; exact this), if_neg this]
          exact wp_some ⟨rfl, (cut_sA (fun i => rfl)).trans hk⟩
        · rw [if_pos hd, if_pos rfl, if_pos hd]
          exact wp_some ⟨rfl, (cut_sA (fun i => rfl)).trans hk⟩
theorem p_fault : OP_op_fault Rl := by
  intro V I a b h a1
  have h3 : a.1 0 3 = b.1 0 14 := h.2.2.2.1
  have h4 : a.1 0 4 = b.1 0 15 := h.2.2.2.2.1
  refine St1_eq (v := if a1 = 0 then a.1 0 3 else if a1 = 1 then a.1 0 4 else -1) (S' := a) (T' := sI b 0 0 0) h ?_ rfl ?_ cut_thrown
  · unfold F_X0_fault
    by_cases g1 : a1 = 0
    · rw [if_pos g1, if_pos g1]
    · rw [if_neg g1, if_neg g1]
      by_cases g2 : a1 = 1
      · rw [if_pos g2, if_pos g2]
      · rw [if_neg g2, if_neg g2]
  · unfold F_X5_fault
    rw [zlet_eq, h3, h4]
    by_cases g1 : a1 = 0
    · rw [if_pos g1, if_pos g1]; rfl
    · rw [if_neg g1, if_neg g1]
      by_cases g2 : a1 = 1
      · rw [if_pos g2, if_pos g2]; rfl
      · rw [if_neg g2, if_neg g2]
