/-! PLAIN LAW: sums over squares -/
set_option maxRecDepth 100000
def sumN : Nat → (Nat → Nat) → Nat
  | 0, _ => 0
  | k + 1, f => sumN k f + f k
def b2n (b : Bool) : Nat := if b = true then 1 else 0
theorem sumN_congr {f g : Nat → Nat} : ∀ {N : Nat}, (∀ k, k < N → f k = g k) → sumN N f = sumN N g
  | 0, _ => rfl
  | N + 1, h => by
    show sumN N f + f N = sumN N g + g N
    rw [sumN_congr (fun k hk => h k (by omega)), h N (by omega)]
theorem le_f {a b : Nat} (ha : a < 2147483648) (hb : b < a) : ¬ n2 a ≤ n2 b := by
  rw [n2_le ha (by omega)]; omega
theorem le_t {a : Nat} : n2 a ≤ n2 a := Int32.le_refl _
theorem p_streets : OP_op_streets Rl := by
  intro V I a b h a1
  obtain ⟨n, hC, hM, hw⟩ := Rl_t h
  have hM1 : tM (sI b 0 0 0) n (a.1 7) := hM
  have hn := hw.2.1
  have hp := two_pow_le hn
  refine St1_of (v := if inB a1 n = true then n2 (sumN (2 ^ n) (fun s => b2n (!zb (n2 s) a1.toNatClampNeg && opn (a.1 7) s a1.toNatClampNeg))) else -2) h ?_ ?_
  · unfold F_X0_streets
    rw [e_X0_isName hC, zbind_some, n2_0, bI_if0]
    cases h1 : inB a1 n
    · exact wp_some ⟨rfl, rfl⟩
    · obtain ⟨w, rfl, hw2⟩ := inB_nm hn h1
      have hq := sqn_pos (n := n) (by omega)
      rw [if_pos rfl, if_pos rfl, n2_nat (by omega)]
      refine forZa (2 ^ n) (fun i x S => x = n2 (sumN i (fun s => b2n (!zb (n2 s) w && opn (a.1 7) s w))) ∧ S = a) (by omega) ?_ ?_ (i := 0) (Nat.zero_le _) ⟨rfl, rfl⟩
      · rintro rec i x S hi ⟨rfl, rfl⟩ k
        unfold LB_X0_streets_1
        rw [e_X1_squares hC, zbind_some, hq, if_neg (le_f (by omega) hi), e_X0_has (by omega), zbind_some, joinK_eq, joinK_eq, n2_0, n2_1, bI_if0]
        cases hb : zb (n2 i) w
        · rw [if_neg (by simp), e_X1_isOpen hC (by omega) (by omega), zbind_some, bI_if0]
          cases ho : opn (S.1 7) i w
          · rw [if_neg (by simp), n2_add]
            refine k _ _ ⟨?_, rfl⟩
            rw [n2_add]
            simp [sumN, b2n, hb, ho]
          · rw [if_pos rfl, n2_add]
            refine k _ _ ⟨?_, rfl⟩
            rw [n2_add]
            simp [sumN, b2n, hb, ho]
        · rw [if_pos rfl, n2_add]
          refine k _ _ ⟨?_, rfl⟩
          rw [n2_add]
          simp [sumN, b2n, hb]
      · rintro rec x S ⟨rfl, rfl⟩
        unfold LB_X0_streets_1
        rw [e_X1_squares hC, zbind_some, hq, if_pos le_t]
        exact wp_some ⟨rfl, rfl⟩
  · unfold F_X5_streets
    rw [zlet_eq]
    have hk := cut_thrown (S := b) (x := 0)
    generalize sI b 0 0 0 = b1 at hM1 hk ⊢
    rw [e_X5_isName hM1, zbind_some, n2_0, bI_if0]
    cases h1 : inB a1 n
    · exact wp_some ⟨rfl, hk⟩
    · obtain ⟨w, rfl, hw2⟩ := inB_nm hn h1
      have hq := sqn_pos (n := n) (by omega)
      rw [if_pos rfl, if_pos rfl, n2_nat (by omega)]
      unfold F_X5_streetsOf
      refine wp_bind (P := fun r S' => r = n2 (sumN (2 ^ n) (fun s => b2n (!zb (n2 s) w && opn (a.1 7) s w))) ∧ cut pmB S' = cut pmB b) ?_ (fun r S' hr => wp_some hr)
      refine forZa (2 ^ n) (fun i x S => x = n2 (sumN i (fun s => b2n (!zb (n2 s) w && opn (a.1 7) s w))) ∧ S = b1) (by omega) ?_ ?_ (i := 0) (Nat.zero_le _) ⟨rfl, rfl⟩
      · rintro rec i x S hi ⟨rfl, rfl⟩ k
        unfold LB_X5_streetsOf_1
        rw [e_X5_squares hM1, zbind_some, hq, if_neg (le_f (by omega) hi), e_X5_isBit (by omega), zbind_some, joinK_eq, joinK_eq, n2_0, n2_1, bI_if0]
        cases hb : zb (n2 i) w
        · rw [if_neg (by simp), e_X5_isOpen hM1 (by omega) (by omega), zbind_some, bI_if0]
          cases ho : opn (a.1 7) i w
          · rw [if_neg (by simp), n2_add]
            refine k _ _ ⟨?_, rfl⟩
            rw [n2_add]
            simp [sumN, b2n, hb, ho]
          · rw [if_pos rfl, n2_add]
            refine k _ _ ⟨?_, rfl⟩
            rw [n2_add]
            simp [sumN, b2n, hb, ho]
        · rw [if_pos rfl, n2_add]
          refine k _ _ ⟨?_, rfl⟩
          rw [n2_add]
          simp [sumN, b2n, hb]
      · rintro rec x S ⟨rfl, rfl⟩
        unfold LB_X5_streetsOf_1
        rw [e_X5_squares hM1, zbind_some, hq, if_pos le_t]
        exact wp_some ⟨rfl, hk⟩
theorem p_within : OP_op_within Rl := by
  intro V I a b h a1 a2
  obtain ⟨n, hC, hM, hw⟩ := Rl_t h
  have hM1 : tM (sI b 0 0 0) n (a.1 7) := hM
  have hn := hw.2.1
  have ho := hw.2.2.1
  have hp := two_pow_le hn
  have hg : ∀ i, b2n (decide (dis (Ed n (opn (a.1 7))) a1.toNatClampNeg i ≠ 1000000 ∧ dis (Ed n (opn (a.1 7))) a1.toNatClampNeg i ≤ a2.toNatClampNeg)) ≤ 1 := fun i => by unfold b2n; split <;> omega
  refine St1_of (v := if inB a1 (sqn n) = true then (if n2 0 ≤ a2 then n2 (sumN (2 ^ n) (fun i => b2n (decide (dis (Ed n (opn (a.1 7))) a1.toNatClampNeg i ≠ 1000000 ∧ dis (Ed n (opn (a.1 7))) a1.toNatClampNeg i ≤ a2.toNatClampNeg)))) else -2) else -2) h ?_ ?_
  · unfold F_X0_within
    rw [e_X0_isSquare hC, zbind_some, n2_0, bI_if0]
    cases h1 : inB a1 (sqn n)
    · exact wp_some ⟨rfl, rfl⟩
    · obtain ⟨s, rfl, hs, hs2, hn0, h32⟩ := inB_sq hw h1
      have hq := sqn_pos hn0
      rw [if_pos rfl, if_pos rfl, n2_nat (by omega)]
      by_cases hz : n2 0 ≤ a2
      · rw [if_pos hz, if_pos hz]
        have e2 := n2_of (x := a2) hz
        have l2 := Int32.toNatClampNeg_lt a2
        refine wp_bind (w_X2_spreads_w8 hC ho hs) ?_
        rintro - S' ⟨A, rfl, hA⟩
        refine forZa (2 ^ n) (fun i x S => x = n2 (sumN i (fun i => b2n (decide (dis (Ed n (opn (a.1 7))) s i ≠ 1000000 ∧ dis (Ed n (opn (a.1 7))) s i ≤ a2.toNatClampNeg)))) ∧ S = sA a 9 A) (by omega) ?_ ?_ (i := 0) (Nat.zero_le _) ⟨rfl, rfl⟩
        · rintro rec i x S hi ⟨rfl, rfl⟩ k
          have hT : tC (sA a 9 A) n (a.1 7) := hC
          unfold LB_X0_within_1
          rw [e_X1_squares hT, zbind_some, hq, if_neg (le_f (by omega) hi), chk_n2 (by omega) (by decide), n2_nat (by omega), sA_1, if_pos rfl, hA i hi, e_X0_isIn, zbind_some, zlet_eq, n2_0, n2_1, bI_if0, i64_0, n2_add]
          refine k _ _ ⟨?_, rfl⟩
          show _ = n2 (sumN i _ + _)
          rcases dis_or (op := opn (a.1 7)) hs2 i with hd | hd
          · have hd9 : ¬ dis (Ed n (opn (a.1 7))) s i = 1000000 := by omega
            rw [if_neg hd9]
            simp only [i64_le]
            by_cases hle : dis (Ed n (opn (a.1 7))) s i ≤ a2.toNatClampNeg
            · have g1 : n2 0 ≤ n2 (dis (Ed n (opn (a.1 7))) s i) := (n2_le (by omega) (by omega)).mpr (Nat.zero_le _)
              have g2 : n2 (dis (Ed n (opn (a.1 7))) s i) ≤ a2 := by rw [e2]; exact (n2_le (by omega) l2).mpr hle
              simp only [g1, g2, hle, hd9, ne_eq, not_false_eq_true, and_self, decide_true, if_true, n2_add, b2n]
            · have g2 : ¬ n2 (dis (Ed n (opn (a.1 7))) s i) ≤ a2 := by rw [e2, n2_le (by omega) l2]; exact hle
              simp only [g2, hle, and_false, decide_false, if_false, Bool.false_eq_true, n2_add, b2n]
          · rw [if_pos hd]
            simp only [i64_le]
            have g1 : ¬ n2 0 ≤ mo := by rw [n2_le_mo (by decide)]; exact not_false
            simp only [g1, hd, ne_eq, not_true_eq_false, false_and, decide_false, if_false, Bool.false_eq_true, n2_add, b2n]
        · rintro rec x S ⟨rfl, rfl⟩
          have hT : tC (sA a 9 A) n (a.1 7) := hC
          unfold LB_X0_within_1
          rw [e_X1_squares hT, zbind_some, hq, if_pos le_t]
          exact wp_some ⟨rfl, cut_sA (fun i => rfl)⟩
      · rw [if_neg hz, if_neg hz]
        exact wp_some ⟨rfl, rfl⟩
  · unfold F_X5_within
    rw [zlet_eq]
    have hk := cut_thrown (S := b) (x := 0)
    generalize sI b 0 0 0 = b1 at hM1 hk ⊢
    rw [e_X5_isSquare hM1, zbind_some, n2_0, bI_if0]
    cases h1 : inB a1 (sqn n)
    · exact wp_some ⟨rfl, hk⟩
    · obtain ⟨s, rfl, hs, hs2, hn0, h32⟩ := inB_sq hw h1
      have hq := sqn_pos hn0
      rw [if_pos rfl, if_pos rfl, n2_nat (by omega)]
      by_cases hz : n2 0 ≤ a2
      · rw [if_pos hz, if_pos hz]
        have e2 := n2_of (x := a2) hz
        have l2 := Int32.toNatClampNeg_lt a2
        refine wp_bind (w_X5_laysFar hM1 ho hs) ?_
        rintro - S' ⟨A, rfl, hA⟩
        refine forZa (2 ^ n) (fun i x S => x = n2 (sumN i (fun i => b2n (decide (dis (Ed n (opn (a.1 7))) s i ≠ 1000000 ∧ dis (Ed n (opn (a.1 7))) s i ≤ a2.toNatClampNeg)))) ∧ S = sA b1 27 A) (by omega) ?_ ?_ (i := 0) (Nat.zero_le _) ⟨rfl, rfl⟩
        · rintro rec i x S hi ⟨rfl, rfl⟩ k
          have hT : tM (sA b1 27 A) n (a.1 7) := hM1
          unfold LB_X5_within_1
          rw [e_X5_squares hT, zbind_some, hq, if_neg (le_f (by omega) hi), chk_n2 (by omega) (by decide), joinK_eq, joinK_eq, n2_0, n2_1, n2_1000000]
          dsimp only
          rw [chk_n2 (by omega) (by decide), n2_nat (by omega), sA_1, if_pos rfl, hA i hi, n2_add, n2_add, n2_add]
          rcases dis_or (op := opn (a.1 7)) hs2 i with hd | hd
          · have hd9 : ¬ dis (Ed n (opn (a.1 7))) s i = 1000000 := by omega
            rw [if_neg hd9]
            by_cases hle : dis (Ed n (opn (a.1 7))) s i ≤ a2.toNatClampNeg
            · have g2 : ¬ a2 < n2 (dis (Ed n (opn (a.1 7))) s i) := by rw [e2, n2_lt l2 (by omega)]; omega
              rw [if_neg g2, if_neg (by rw [n2_eq (by omega) (by omega)]; exact hd9)]
              refine k _ _ ⟨?_, rfl⟩
              show _ = n2 (sumN i _ + _)
              simp only [hle, hd9, ne_eq, not_false_eq_true, and_self, decide_true, if_true, b2n]
            · have g2 : a2 < n2 (dis (Ed n (opn (a.1 7))) s i) := by rw [e2, n2_lt l2 (by omega)]; omega
              rw [if_pos g2]
              refine k _ _ ⟨?_, rfl⟩
              show _ = n2 (sumN i _ + _)
              simp only [hle, and_false, decide_false, if_false, Bool.false_eq_true, b2n]
          · rw [if_pos hd]
            have hfin : ∀ f : Option (Int32 × zSt), (if a2 < n2 1000000 then f else (if n2 1000000 = n2 1000000 then f else rec (n2 (sumN i (fun i => b2n (decide (dis (Ed n (opn (a.1 7))) s i ≠ 1000000 ∧ dis (Ed n (opn (a.1 7))) s i ≤ a2.toNatClampNeg))) + 1)) (n2 (i + 1)) (sA b1 27 A))) = f := fun f => by split; rfl; rw [if_pos rfl]
            rw [hfin]
            refine k _ _ ⟨?_, rfl⟩
            show _ = n2 (sumN i _ + _)
            simp only [hd, ne_eq, not_true_eq_false, false_and, decide_false, if_false, Bool.false_eq_true, b2n]
        · rintro rec x S ⟨rfl, rfl⟩
          have hT : tM (sA b1 27 A) n (a.1 7) := hM1
          unfold LB_X5_within_1
          rw [e_X5_squares hT, zbind_some, hq, if_pos le_t]
          exact wp_some ⟨rfl, (cut_sA (fun i => rfl)).trans hk⟩
      · rw [if_neg hz, if_neg hz]
        exact wp_some ⟨rfl, hk⟩
