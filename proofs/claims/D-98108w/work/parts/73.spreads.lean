/-! PLAIN LAW: how far all are from one -/
set_option maxRecDepth 100000
theorem e_X2_goes_w8 {S : zSt} {n : Nat} {sh : Nat → Int32} {s w : Nat} (h : tC S n sh) (hs : s < 32) (hw : w < 32) : F_X2_goes_w8 (n2 s) (n2 w) S = some (bI (opn sh s w), S) := by
  unfold F_X2_goes_w8
  rw [e_X1_isOpen h hs hw, zbind_some, n2_1, bI_and]
theorem e_X2_goes_w10 {S : zSt} {n : Nat} {sh : Nat → Int32} {s w : Nat} (h : tC S n sh) (hs : s < 32) (hw : w < 32) : F_X2_goes_w10 (n2 s) (n2 w) S = some (bI (opn sh s w), S) := by
  unfold F_X2_goes_w10
  rw [e_X1_isOpen h hs hw, zbind_some, n2_1, bI_and]
/-- all streets but that of square x by name y -/
def opw (sh : Nat → Int32) (x y s w : Nat) : Bool := opn sh s w && (!decide (w = y) || (!decide (s = x) && !decide (nb s w = x)))
theorem nb_lt32 {s w : Nat} (hs : s < 32) (hw : w < 5) : nb s w < 32 := nb_lt (n := 5) hs hw
theorem e_X3_goes_w10 {S : zSt} {n : Nat} {sh : Nat → Int32} {s w x y : Nat} (h : tC S n sh) (hx2 : S.1 10 2 = n2 x) (hx3 : S.1 10 3 = n2 y) (hxl : x < 32) (hyl : y < 32) (hs : s < 32) (hw : w < 5) : F_X3_goes_w10 (n2 s) (n2 w) S = some (bI (opw sh x y s w), S) := by
  unfold F_X3_goes_w10
  have := nb_lt32 hs hw
  rw [e_X2_goes_w10 h hs (by omega), zbind_some, n2_0, n2_1, n2_31, bI_if0, hx2, hx3, n2_nb (by omega)]
  simp (disch := omega) only [n2_eq]
  unfold opw
  cases opn sh s w
  · rfl
  · by_cases h1 : w = y
    · subst h1
      by_cases h2 : s = x
      · simp [h2, bI]
      · by_cases h3 : nb s w = x <;> simp [h2, h3, bI]
    · simp [h1, bI]

theorem w_X2_spreads_w8 {S : zSt} {n a : Nat} {sh : Nat → Int32} (h : tC S n sh) (ho : opS n (opn sh)) (ha : a < sqn n) : wp (F_X2_spreads_w8 (n2 a) S) (fun _ S' => ∃ A, S' = sA S 9 A ∧ ∀ t, t < 2 ^ n → A t = if dis (Ed n (opn sh)) a t = 1000000 then mo else n2 (dis (Ed n (opn sh)) a t)) := by
  obtain ⟨hn0, ha'⟩ := sqn_lt ha
  have hp := two_pow_le h.2.1
  have hq := sqn_pos hn0
  have hn5 := h.2.1
  have hnn : ∀ k, k < 1000000 → n2 k ≠ mo := fun k hk => by rw [ne_eq, n2_ne_mo (by omega)]; exact not_false
  unfold F_X2_spreads_w8
  rw [joinK_eq]
  refine forZ 32 (fun i T => ∃ A, T = sA S 9 A ∧ ∀ t, t < i → A t = mo) (by decide) ?_ ?_ (i := 0) (Nat.zero_le _) ⟨S.1 9, sA_self.symm, fun t ht => absurd ht (by omega)⟩
  · rintro rec i T hi ⟨A, rfl, hA⟩ k
    unfold LB_X2_spreads_w8_4
    simp (disch := first | omega | assumption) only [n2_0, n2_1, n2_2, n2_3, n2_4, n2_5, n2_6, n2_8, n2_20, n2_31, n2_32, n2_60, n2_64, n2_100, n2_1000000, n2_mo, n2_le, n2_lt, n2_eq, n2_add, n2_nat, chk_n2, zlet_eq, joinK_eq, zbind_some, n2_ne_mo, mo_ne_n2, mo_lt, mo_le, n2_lt_mo, n2_le_mo, bI_if0, bI_if1, bI_and, n2_xnb, shl_n2, sI_sA, sA_1, sI_1, ↓reduceIte, Nat.reduceAdd, Nat.reduceEqDiff, Nat.reduceLeDiff, if_true, if_false, zif_t, zif_f, not_false_eq_true, not_true_eq_false, ne_eq, Nat.lt_irrefl, Nat.le_refl]
    refine k _ ⟨_, rfl, fun t ht => ?_⟩
    by_cases e : t = i
    · subst e
      simp (disch := first | omega | assumption) only [n2_0, n2_1, n2_2, n2_3, n2_4, n2_5, n2_6, n2_8, n2_20, n2_31, n2_32, n2_60, n2_64, n2_100, n2_1000000, n2_mo, n2_le, n2_lt, n2_eq, n2_add, n2_nat, chk_n2, zlet_eq, joinK_eq, zbind_some, n2_ne_mo, mo_ne_n2, mo_lt, mo_le, n2_lt_mo, n2_le_mo, bI_if0, bI_if1, bI_and, n2_xnb, shl_n2, sI_sA, sA_1, sI_1, ↓reduceIte, Nat.reduceAdd, Nat.reduceEqDiff, Nat.reduceLeDiff, if_true, if_false, zif_t, zif_f, not_false_eq_true, not_true_eq_false, ne_eq, Nat.lt_irrefl, Nat.le_refl]
    · have := hA t (by omega)
      simp (disch := first | omega | assumption) only [n2_0, n2_1, n2_2, n2_3, n2_4, n2_5, n2_6, n2_8, n2_20, n2_31, n2_32, n2_60, n2_64, n2_100, n2_1000000, n2_mo, n2_le, n2_lt, n2_eq, n2_add, n2_nat, chk_n2, zlet_eq, joinK_eq, zbind_some, n2_ne_mo, mo_ne_n2, mo_lt, mo_le, n2_lt_mo, n2_le_mo, bI_if0, bI_if1, bI_and, n2_xnb, shl_n2, sI_sA, sA_1, sI_1, ↓reduceIte, Nat.reduceAdd, Nat.reduceEqDiff, Nat.reduceLeDiff, if_true, if_false, zif_t, zif_f, not_false_eq_true, not_true_eq_false, ne_eq, Nat.lt_irrefl, Nat.le_refl, e, this]
  · rintro rec T ⟨A, rfl, hA⟩
    unfold LB_X2_spreads_w8_4
    simp (disch := first | omega | assumption) only [n2_0, n2_1, n2_2, n2_3, n2_4, n2_5, n2_6, n2_8, n2_20, n2_31, n2_32, n2_60, n2_64, n2_100, n2_1000000, n2_mo, n2_le, n2_lt, n2_eq, n2_add, n2_nat, chk_n2, zlet_eq, joinK_eq, zbind_some, n2_ne_mo, mo_ne_n2, mo_lt, mo_le, n2_lt_mo, n2_le_mo, bI_if0, bI_if1, bI_and, n2_xnb, shl_n2, sI_sA, sA_1, sI_1, ↓reduceIte, Nat.reduceAdd, Nat.reduceEqDiff, Nat.reduceLeDiff, if_true, if_false, zif_t, zif_f, not_false_eq_true, not_true_eq_false, ne_eq, Nat.lt_irrefl, Nat.le_refl]
    refine forZ (2 ^ n) (fun d T => ∃ A, T = sA S 9 A ∧ Mid n (dis (Ed n (opn sh)) a) mo d (Lvl n (opn sh) (dis (Ed n (opn sh)) a) d 0) A) (by omega) ?_ ?_ (i := 0) (Nat.zero_le _) ⟨_, rfl, Mid_start (fun t ht => ?_)⟩
    · rintro rec d T hd ⟨A, rfl, hM⟩ k
      have hT : tC (sA S 9 A) n sh := h
      unfold LB_X2_spreads_w8_3
      simp (disch := first | omega | assumption) only [n2_0, n2_1, n2_2, n2_3, n2_4, n2_5, n2_6, n2_8, n2_20, n2_31, n2_32, n2_60, n2_64, n2_100, n2_1000000, n2_mo, n2_le, n2_lt, n2_eq, n2_add, n2_nat, chk_n2, zlet_eq, joinK_eq, zbind_some, n2_ne_mo, mo_ne_n2, mo_lt, mo_le, n2_lt_mo, n2_le_mo, bI_if0, bI_if1, bI_and, n2_xnb, shl_n2, sI_sA, sA_1, sI_1, ↓reduceIte, Nat.reduceAdd, Nat.reduceEqDiff, Nat.reduceLeDiff, if_true, if_false, zif_t, zif_f, not_false_eq_true, not_true_eq_false, ne_eq, Nat.lt_irrefl, Nat.le_refl, e_X1_squares (n := n) (sh := sh), hq]
      refine forZ (2 ^ n) (fun s T => ∃ A, T = sA S 9 A ∧ Mid n (dis (Ed n (opn sh)) a) mo d (Lvl n (opn sh) (dis (Ed n (opn sh)) a) d s) A) (by omega) ?_ ?_ (i := 0) (Nat.zero_le _) ⟨A, rfl, hM⟩
      · rintro rec2 s T hs ⟨A, rfl, hM⟩ k2
        have hT : tC (sA S 9 A) n sh := h
        unfold LB_X2_spreads_w8_2
        simp (disch := first | omega | assumption) only [n2_0, n2_1, n2_2, n2_3, n2_4, n2_5, n2_6, n2_8, n2_20, n2_31, n2_32, n2_60, n2_64, n2_100, n2_1000000, n2_mo, n2_le, n2_lt, n2_eq, n2_add, n2_nat, chk_n2, zlet_eq, joinK_eq, zbind_some, n2_ne_mo, mo_ne_n2, mo_lt, mo_le, n2_lt_mo, n2_le_mo, bI_if0, bI_if1, bI_and, n2_xnb, shl_n2, sI_sA, sA_1, sI_1, ↓reduceIte, Nat.reduceAdd, Nat.reduceEqDiff, Nat.reduceLeDiff, if_true, if_false, zif_t, zif_f, not_false_eq_true, not_true_eq_false, ne_eq, Nat.lt_irrefl, Nat.le_refl, e_X1_squares (n := n) (sh := sh), hq]
        by_cases hds : dis (Ed n (opn sh)) a s = d
        · rw [if_pos ((Mid_at hnn (by omega) hM hs).mpr hds)]
          refine forZ n (fun w T => ∃ A, T = sA S 9 A ∧ Mid n (dis (Ed n (opn sh)) a) mo d (Lvw n (opn sh) (dis (Ed n (opn sh)) a) d s w) A) (by omega) ?_ ?_ (i := 0) (Nat.zero_le _) ⟨A, rfl, Mid_to hM (fun t _ => Lvw_zero)⟩
          · rintro rec3 w T hw ⟨A, rfl, hM⟩ k3
            have hT : tC (sA S 9 A) n sh := h
            have hx := nb_lt hs hw
            unfold LB_X2_spreads_w8_1
            simp (disch := first | omega | assumption) only [n2_0, n2_1, n2_2, n2_3, n2_4, n2_5, n2_6, n2_8, n2_20, n2_31, n2_32, n2_60, n2_64, n2_100, n2_1000000, n2_mo, n2_le, n2_lt, n2_eq, n2_add, n2_nat, chk_n2, zlet_eq, joinK_eq, zbind_some, n2_ne_mo, mo_ne_n2, mo_lt, mo_le, n2_lt_mo, n2_le_mo, bI_if0, bI_if1, bI_and, n2_xnb, shl_n2, sI_sA, sA_1, sI_1, ↓reduceIte, Nat.reduceAdd, Nat.reduceEqDiff, Nat.reduceLeDiff, if_true, if_false, zif_t, zif_f, not_false_eq_true, not_true_eq_false, ne_eq, Nat.lt_irrefl, Nat.le_refl, h.1, e_X2_goes_w8 (n := n) (sh := sh)]
            cases hop : (opn sh) s w
            · simp (disch := first | omega | assumption) only [n2_0, n2_1, n2_2, n2_3, n2_4, n2_5, n2_6, n2_8, n2_20, n2_31, n2_32, n2_60, n2_64, n2_100, n2_1000000, n2_mo, n2_le, n2_lt, n2_eq, n2_add, n2_nat, chk_n2, zlet_eq, joinK_eq, zbind_some, n2_ne_mo, mo_ne_n2, mo_lt, mo_le, n2_lt_mo, n2_le_mo, bI_if0, bI_if1, bI_and, n2_xnb, shl_n2, sI_sA, sA_1, sI_1, ↓reduceIte, Nat.reduceAdd, Nat.reduceEqDiff, Nat.reduceLeDiff, if_true, if_false, zif_t, zif_f, not_false_eq_true, not_true_eq_false, ne_eq, Nat.lt_irrefl, Nat.le_refl, Bool.false_eq_true]
              exact k3 _ ⟨A, rfl, Mid_to hM (fun t _ => Lvw_shut hop)⟩
            · simp (disch := first | omega | assumption) only [n2_0, n2_1, n2_2, n2_3, n2_4, n2_5, n2_6, n2_8, n2_20, n2_31, n2_32, n2_60, n2_64, n2_100, n2_1000000, n2_mo, n2_le, n2_lt, n2_eq, n2_add, n2_nat, chk_n2, zlet_eq, joinK_eq, zbind_some, n2_ne_mo, mo_ne_n2, mo_lt, mo_le, n2_lt_mo, n2_le_mo, bI_if0, bI_if1, bI_and, n2_xnb, shl_n2, sI_sA, sA_1, sI_1, ↓reduceIte, Nat.reduceAdd, Nat.reduceEqDiff, Nat.reduceLeDiff, if_true, if_false, zif_t, zif_f, not_false_eq_true, not_true_eq_false, ne_eq, Nat.lt_irrefl, Nat.le_refl]
              by_cases hA3 : A (nb s w) = mo
              · rw [if_pos hA3]
                exact k3 _ ⟨_, rfl, Mid_to (Mid_put hnn (by omega) hM hx hA3) (fun t _ => Lvw_succ hop)⟩
              · rw [if_neg hA3]
                exact k3 _ ⟨A, rfl, Mid_to (Mid_had hM hx hA3) (fun t _ => Lvw_succ hop)⟩
          · rintro rec3 T ⟨A, rfl, hM⟩
            have hT : tC (sA S 9 A) n sh := h
            unfold LB_X2_spreads_w8_1
            simp (disch := first | omega | assumption) only [n2_0, n2_1, n2_2, n2_3, n2_4, n2_5, n2_6, n2_8, n2_20, n2_31, n2_32, n2_60, n2_64, n2_100, n2_1000000, n2_mo, n2_le, n2_lt, n2_eq, n2_add, n2_nat, chk_n2, zlet_eq, joinK_eq, zbind_some, n2_ne_mo, mo_ne_n2, mo_lt, mo_le, n2_lt_mo, n2_le_mo, bI_if0, bI_if1, bI_and, n2_xnb, shl_n2, sI_sA, sA_1, sI_1, ↓reduceIte, Nat.reduceAdd, Nat.reduceEqDiff, Nat.reduceLeDiff, if_true, if_false, zif_t, zif_f, not_false_eq_true, not_true_eq_false, ne_eq, Nat.lt_irrefl, Nat.le_refl, h.1, e_X2_goes_w8 (n := n) (sh := sh)]
            exact k2 _ ⟨A, rfl, Mid_to hM (fun t _ => Lvw_end hs hds)⟩
        · rw [if_neg (fun h9 => hds ((Mid_at hnn (by omega) hM hs).mp h9))]
          exact k2 _ ⟨A, rfl, Mid_to hM (fun t _ => Lvl_skip hds)⟩
      · rintro rec2 T ⟨A, rfl, hM⟩
        have hT : tC (sA S 9 A) n sh := h
        unfold LB_X2_spreads_w8_2
        simp (disch := first | omega | assumption) only [n2_0, n2_1, n2_2, n2_3, n2_4, n2_5, n2_6, n2_8, n2_20, n2_31, n2_32, n2_60, n2_64, n2_100, n2_1000000, n2_mo, n2_le, n2_lt, n2_eq, n2_add, n2_nat, chk_n2, zlet_eq, joinK_eq, zbind_some, n2_ne_mo, mo_ne_n2, mo_lt, mo_le, n2_lt_mo, n2_le_mo, bI_if0, bI_if1, bI_and, n2_xnb, shl_n2, sI_sA, sA_1, sI_1, ↓reduceIte, Nat.reduceAdd, Nat.reduceEqDiff, Nat.reduceLeDiff, if_true, if_false, zif_t, zif_f, not_false_eq_true, not_true_eq_false, ne_eq, Nat.lt_irrefl, Nat.le_refl, e_X1_squares (n := n) (sh := sh), hq]
        exact k _ ⟨A, rfl, Mid_next ha' (by omega) hM⟩
    · rintro rec T ⟨A, rfl, hM⟩
      have hT : tC (sA S 9 A) n sh := h
      unfold LB_X2_spreads_w8_3
      simp (disch := first | omega | assumption) only [n2_0, n2_1, n2_2, n2_3, n2_4, n2_5, n2_6, n2_8, n2_20, n2_31, n2_32, n2_60, n2_64, n2_100, n2_1000000, n2_mo, n2_le, n2_lt, n2_eq, n2_add, n2_nat, chk_n2, zlet_eq, joinK_eq, zbind_some, n2_ne_mo, mo_ne_n2, mo_lt, mo_le, n2_lt_mo, n2_le_mo, bI_if0, bI_if1, bI_and, n2_xnb, shl_n2, sI_sA, sA_1, sI_1, ↓reduceIte, Nat.reduceAdd, Nat.reduceEqDiff, Nat.reduceLeDiff, if_true, if_false, zif_t, zif_f, not_false_eq_true, not_true_eq_false, ne_eq, Nat.lt_irrefl, Nat.le_refl, e_X1_squares (n := n) (sh := sh), hq]
      refine wp_some ?_
      exact ⟨A, rfl, Mid_end ha' (by omega) hM⟩
    · by_cases e : t = a
      · subst e; simp (disch := first | omega | assumption) only [n2_0, n2_1, n2_2, n2_3, n2_4, n2_5, n2_6, n2_8, n2_20, n2_31, n2_32, n2_60, n2_64, n2_100, n2_1000000, n2_mo, n2_le, n2_lt, n2_eq, n2_add, n2_nat, chk_n2, zlet_eq, joinK_eq, zbind_some, n2_ne_mo, mo_ne_n2, mo_lt, mo_le, n2_lt_mo, n2_le_mo, bI_if0, bI_if1, bI_and, n2_xnb, shl_n2, sI_sA, sA_1, sI_1, ↓reduceIte, Nat.reduceAdd, Nat.reduceEqDiff, Nat.reduceLeDiff, if_true, if_false, zif_t, zif_f, not_false_eq_true, not_true_eq_false, ne_eq, Nat.lt_irrefl, Nat.le_refl]
      · have := hA t (by omega)
        simp (disch := first | omega | assumption) only [n2_0, n2_1, n2_2, n2_3, n2_4, n2_5, n2_6, n2_8, n2_20, n2_31, n2_32, n2_60, n2_64, n2_100, n2_1000000, n2_mo, n2_le, n2_lt, n2_eq, n2_add, n2_nat, chk_n2, zlet_eq, joinK_eq, zbind_some, n2_ne_mo, mo_ne_n2, mo_lt, mo_le, n2_lt_mo, n2_le_mo, bI_if0, bI_if1, bI_and, n2_xnb, shl_n2, sI_sA, sA_1, sI_1, ↓reduceIte, Nat.reduceAdd, Nat.reduceEqDiff, Nat.reduceLeDiff, if_true, if_false, zif_t, zif_f, not_false_eq_true, not_true_eq_false, ne_eq, Nat.lt_irrefl, Nat.le_refl, e, this]

theorem w_X5_laysFar {S : zSt} {n a : Nat} {sh : Nat → Int32} (h : tM S n sh) (ho : opS n (opn sh)) (ha : a < sqn n) : wp (F_X5_laysFar (n2 a) S) (fun _ S' => ∃ A, S' = sA S 27 A ∧ ∀ t, t < 2 ^ n → A t = if dis (Ed n (opn sh)) a t = 1000000 then (n2 1000000) else n2 (dis (Ed n (opn sh)) a t)) := by
  obtain ⟨hn0, ha'⟩ := sqn_lt ha
  have hp := two_pow_le h.2.1
  have hq := sqn_pos hn0
  have hn5 := h.2.1
  have hnn : ∀ k, k < 1000000 → n2 k ≠ (n2 1000000) := fun k hk => by rw [ne_eq, n2_eq (by omega) (by omega)]; omega
  unfold F_X5_laysFar
  rw [joinK_eq]
  refine forZ 32 (fun i T => ∃ A, T = sA S 27 A ∧ ∀ t, t < i → A t = if t = a then n2 0 else n2 1000000) (by decide) ?_ ?_ (i := 0) (Nat.zero_le _) ⟨S.1 27, sA_self.symm, fun t ht => absurd ht (by omega)⟩
  · rintro rec i T hi ⟨A, rfl, hA⟩ k
    unfold LB_X5_laysFar_4
    simp (disch := first | omega | assumption) only [n2_0, n2_1, n2_2, n2_3, n2_4, n2_5, n2_6, n2_8, n2_20, n2_31, n2_32, n2_60, n2_64, n2_100, n2_1000000, n2_mo, n2_le, n2_lt, n2_eq, n2_add, n2_nat, chk_n2, zlet_eq, joinK_eq, zbind_some, n2_ne_mo, mo_ne_n2, mo_lt, mo_le, n2_lt_mo, n2_le_mo, bI_if0, bI_if1, bI_and, n2_xnb, shl_n2, sI_sA, sA_1, sI_1, ↓reduceIte, Nat.reduceAdd, Nat.reduceEqDiff, Nat.reduceLeDiff, if_true, if_false, zif_t, zif_f, not_false_eq_true, not_true_eq_false, ne_eq, Nat.lt_irrefl, Nat.le_refl]
    refine k _ ⟨_, rfl, fun t ht => ?_⟩
    by_cases e : t = i
    · subst e
      simp (disch := first | omega | assumption) only [n2_0, n2_1, n2_2, n2_3, n2_4, n2_5, n2_6, n2_8, n2_20, n2_31, n2_32, n2_60, n2_64, n2_100, n2_1000000, n2_mo, n2_le, n2_lt, n2_eq, n2_add, n2_nat, chk_n2, zlet_eq, joinK_eq, zbind_some, n2_ne_mo, mo_ne_n2, mo_lt, mo_le, n2_lt_mo, n2_le_mo, bI_if0, bI_if1, bI_and, n2_xnb, shl_n2, sI_sA, sA_1, sI_1, ↓reduceIte, Nat.reduceAdd, Nat.reduceEqDiff, Nat.reduceLeDiff, if_true, if_false, zif_t, zif_f, not_false_eq_true, not_true_eq_false, ne_eq, Nat.lt_irrefl, Nat.le_refl]
    · have := hA t (by omega)
      simp (disch := first | omega | assumption) only [n2_0, n2_1, n2_2, n2_3, n2_4, n2_5, n2_6, n2_8, n2_20, n2_31, n2_32, n2_60, n2_64, n2_100, n2_1000000, n2_mo, n2_le, n2_lt, n2_eq, n2_add, n2_nat, chk_n2, zlet_eq, joinK_eq, zbind_some, n2_ne_mo, mo_ne_n2, mo_lt, mo_le, n2_lt_mo, n2_le_mo, bI_if0, bI_if1, bI_and, n2_xnb, shl_n2, sI_sA, sA_1, sI_1, ↓reduceIte, Nat.reduceAdd, Nat.reduceEqDiff, Nat.reduceLeDiff, if_true, if_false, zif_t, zif_f, not_false_eq_true, not_true_eq_false, ne_eq, Nat.lt_irrefl, Nat.le_refl, e, this]
  · rintro rec T ⟨A, rfl, hA⟩
    unfold LB_X5_laysFar_4
    simp (disch := first | omega | assumption) only [n2_0, n2_1, n2_2, n2_3, n2_4, n2_5, n2_6, n2_8, n2_20, n2_31, n2_32, n2_60, n2_64, n2_100, n2_1000000, n2_mo, n2_le, n2_lt, n2_eq, n2_add, n2_nat, chk_n2, zlet_eq, joinK_eq, zbind_some, n2_ne_mo, mo_ne_n2, mo_lt, mo_le, n2_lt_mo, n2_le_mo, bI_if0, bI_if1, bI_and, n2_xnb, shl_n2, sI_sA, sA_1, sI_1, ↓reduceIte, Nat.reduceAdd, Nat.reduceEqDiff, Nat.reduceLeDiff, if_true, if_false, zif_t, zif_f, not_false_eq_true, not_true_eq_false, ne_eq, Nat.lt_irrefl, Nat.le_refl]
    refine forZ (2 ^ n) (fun d T => ∃ A, T = sA S 27 A ∧ Mid n (dis (Ed n (opn sh)) a) (n2 1000000) d (Lvl n (opn sh) (dis (Ed n (opn sh)) a) d 0) A) (by omega) ?_ ?_ (i := 0) (Nat.zero_le _) ⟨_, rfl, Mid_start (fun t ht => ?_)⟩
    · rintro rec d T hd ⟨A, rfl, hM⟩ k
      have hT : tM (sA S 27 A) n sh := h
      unfold LB_X5_laysFar_3
      simp (disch := first | omega | assumption) only [n2_0, n2_1, n2_2, n2_3, n2_4, n2_5, n2_6, n2_8, n2_20, n2_31, n2_32, n2_60, n2_64, n2_100, n2_1000000, n2_mo, n2_le, n2_lt, n2_eq, n2_add, n2_nat, chk_n2, zlet_eq, joinK_eq, zbind_some, n2_ne_mo, mo_ne_n2, mo_lt, mo_le, n2_lt_mo, n2_le_mo, bI_if0, bI_if1, bI_and, n2_xnb, shl_n2, sI_sA, sA_1, sI_1, ↓reduceIte, Nat.reduceAdd, Nat.reduceEqDiff, Nat.reduceLeDiff, if_true, if_false, zif_t, zif_f, not_false_eq_true, not_true_eq_false, ne_eq, Nat.lt_irrefl, Nat.le_refl, e_X5_squares (n := n) (sh := sh), hq]
      refine forZ (2 ^ n) (fun s T => ∃ A, T = sA S 27 A ∧ Mid n (dis (Ed n (opn sh)) a) (n2 1000000) d (Lvl n (opn sh) (dis (Ed n (opn sh)) a) d s) A) (by omega) ?_ ?_ (i := 0) (Nat.zero_le _) ⟨A, rfl, hM⟩
      · rintro rec2 s T hs ⟨A, rfl, hM⟩ k2
        have hT : tM (sA S 27 A) n sh := h
        unfold LB_X5_laysFar_2
        simp (disch := first | omega | assumption) only [n2_0, n2_1, n2_2, n2_3, n2_4, n2_5, n2_6, n2_8, n2_20, n2_31, n2_32, n2_60, n2_64, n2_100, n2_1000000, n2_mo, n2_le, n2_lt, n2_eq, n2_add, n2_nat, chk_n2, zlet_eq, joinK_eq, zbind_some, n2_ne_mo, mo_ne_n2, mo_lt, mo_le, n2_lt_mo, n2_le_mo, bI_if0, bI_if1, bI_and, n2_xnb, shl_n2, sI_sA, sA_1, sI_1, ↓reduceIte, Nat.reduceAdd, Nat.reduceEqDiff, Nat.reduceLeDiff, if_true, if_false, zif_t, zif_f, not_false_eq_true, not_true_eq_false, ne_eq, Nat.lt_irrefl, Nat.le_refl, e_X5_squares (n := n) (sh := sh), hq]
        by_cases hds : dis (Ed n (opn sh)) a s = d
        · rw [if_pos ((Mid_at hnn (by omega) hM hs).mpr hds)]
          refine forZ n (fun w T => ∃ A, T = sA S 27 A ∧ Mid n (dis (Ed n (opn sh)) a) (n2 1000000) d (Lvw n (opn sh) (dis (Ed n (opn sh)) a) d s w) A) (by omega) ?_ ?_ (i := 0) (Nat.zero_le _) ⟨A, rfl, Mid_to hM (fun t _ => Lvw_zero)⟩
          · rintro rec3 w T hw ⟨A, rfl, hM⟩ k3
            have hT : tM (sA S 27 A) n sh := h
            have hx := nb_lt hs hw
            unfold LB_X5_laysFar_1
            simp (disch := first | omega | assumption) only [n2_0, n2_1, n2_2, n2_3, n2_4, n2_5, n2_6, n2_8, n2_20, n2_31, n2_32, n2_60, n2_64, n2_100, n2_1000000, n2_mo, n2_le, n2_lt, n2_eq, n2_add, n2_nat, chk_n2, zlet_eq, joinK_eq, zbind_some, n2_ne_mo, mo_ne_n2, mo_lt, mo_le, n2_lt_mo, n2_le_mo, bI_if0, bI_if1, bI_and, n2_xnb, shl_n2, sI_sA, sA_1, sI_1, ↓reduceIte, Nat.reduceAdd, Nat.reduceEqDiff, Nat.reduceLeDiff, if_true, if_false, zif_t, zif_f, not_false_eq_true, not_true_eq_false, ne_eq, Nat.lt_irrefl, Nat.le_refl, h.1, e_X5_isOpen (n := n) (sh := sh)]
            cases hop : (opn sh) s w
            · simp (disch := first | omega | assumption) only [n2_0, n2_1, n2_2, n2_3, n2_4, n2_5, n2_6, n2_8, n2_20, n2_31, n2_32, n2_60, n2_64, n2_100, n2_1000000, n2_mo, n2_le, n2_lt, n2_eq, n2_add, n2_nat, chk_n2, zlet_eq, joinK_eq, zbind_some, n2_ne_mo, mo_ne_n2, mo_lt, mo_le, n2_lt_mo, n2_le_mo, bI_if0, bI_if1, bI_and, n2_xnb, shl_n2, sI_sA, sA_1, sI_1, ↓reduceIte, Nat.reduceAdd, Nat.reduceEqDiff, Nat.reduceLeDiff, if_true, if_false, zif_t, zif_f, not_false_eq_true, not_true_eq_false, ne_eq, Nat.lt_irrefl, Nat.le_refl, Bool.false_eq_true]
              exact k3 _ ⟨A, rfl, Mid_to hM (fun t _ => Lvw_shut hop)⟩
            · simp (disch := first | omega | assumption) only [n2_0, n2_1, n2_2, n2_3, n2_4, n2_5, n2_6, n2_8, n2_20, n2_31, n2_32, n2_60, n2_64, n2_100, n2_1000000, n2_mo, n2_le, n2_lt, n2_eq, n2_add, n2_nat, chk_n2, zlet_eq, joinK_eq, zbind_some, n2_ne_mo, mo_ne_n2, mo_lt, mo_le, n2_lt_mo, n2_le_mo, bI_if0, bI_if1, bI_and, n2_xnb, shl_n2, sI_sA, sA_1, sI_1, ↓reduceIte, Nat.reduceAdd, Nat.reduceEqDiff, Nat.reduceLeDiff, if_true, if_false, zif_t, zif_f, not_false_eq_true, not_true_eq_false, ne_eq, Nat.lt_irrefl, Nat.le_refl]
              by_cases hA3 : A (nb s w) = (n2 1000000)
              · rw [if_pos hA3]
                exact k3 _ ⟨_, rfl, Mid_to (Mid_put hnn (by omega) hM hx hA3) (fun t _ => Lvw_succ hop)⟩
              · rw [if_neg hA3]
                exact k3 _ ⟨A, rfl, Mid_to (Mid_had hM hx hA3) (fun t _ => Lvw_succ hop)⟩
          · rintro rec3 T ⟨A, rfl, hM⟩
            have hT : tM (sA S 27 A) n sh := h
            unfold LB_X5_laysFar_1
            simp (disch := first | omega | assumption) only [n2_0, n2_1, n2_2, n2_3, n2_4, n2_5, n2_6, n2_8, n2_20, n2_31, n2_32, n2_60, n2_64, n2_100, n2_1000000, n2_mo, n2_le, n2_lt, n2_eq, n2_add, n2_nat, chk_n2, zlet_eq, joinK_eq, zbind_some, n2_ne_mo, mo_ne_n2, mo_lt, mo_le, n2_lt_mo, n2_le_mo, bI_if0, bI_if1, bI_and, n2_xnb, shl_n2, sI_sA, sA_1, sI_1, ↓reduceIte, Nat.reduceAdd, Nat.reduceEqDiff, Nat.reduceLeDiff, if_true, if_false, zif_t, zif_f, not_false_eq_true, not_true_eq_false, ne_eq, Nat.lt_irrefl, Nat.le_refl, h.1, e_X5_isOpen (n := n) (sh := sh)]
            exact k2 _ ⟨A, rfl, Mid_to hM (fun t _ => Lvw_end hs hds)⟩
        · rw [if_neg (fun h9 => hds ((Mid_at hnn (by omega) hM hs).mp h9))]
          exact k2 _ ⟨A, rfl, Mid_to hM (fun t _ => Lvl_skip hds)⟩
      · rintro rec2 T ⟨A, rfl, hM⟩
        have hT : tM (sA S 27 A) n sh := h
        unfold LB_X5_laysFar_2
        simp (disch := first | omega | assumption) only [n2_0, n2_1, n2_2, n2_3, n2_4, n2_5, n2_6, n2_8, n2_20, n2_31, n2_32, n2_60, n2_64, n2_100, n2_1000000, n2_mo, n2_le, n2_lt, n2_eq, n2_add, n2_nat, chk_n2, zlet_eq, joinK_eq, zbind_some, n2_ne_mo, mo_ne_n2, mo_lt, mo_le, n2_lt_mo, n2_le_mo, bI_if0, bI_if1, bI_and, n2_xnb, shl_n2, sI_sA, sA_1, sI_1, ↓reduceIte, Nat.reduceAdd, Nat.reduceEqDiff, Nat.reduceLeDiff, if_true, if_false, zif_t, zif_f, not_false_eq_true, not_true_eq_false, ne_eq, Nat.lt_irrefl, Nat.le_refl, e_X5_squares (n := n) (sh := sh), hq]
        exact k _ ⟨A, rfl, Mid_next ha' (by omega) hM⟩
    · rintro rec T ⟨A, rfl, hM⟩
      have hT : tM (sA S 27 A) n sh := h
      unfold LB_X5_laysFar_3
      simp (disch := first | omega | assumption) only [n2_0, n2_1, n2_2, n2_3, n2_4, n2_5, n2_6, n2_8, n2_20, n2_31, n2_32, n2_60, n2_64, n2_100, n2_1000000, n2_mo, n2_le, n2_lt, n2_eq, n2_add, n2_nat, chk_n2, zlet_eq, joinK_eq, zbind_some, n2_ne_mo, mo_ne_n2, mo_lt, mo_le, n2_lt_mo, n2_le_mo, bI_if0, bI_if1, bI_and, n2_xnb, shl_n2, sI_sA, sA_1, sI_1, ↓reduceIte, Nat.reduceAdd, Nat.reduceEqDiff, Nat.reduceLeDiff, if_true, if_false, zif_t, zif_f, not_false_eq_true, not_true_eq_false, ne_eq, Nat.lt_irrefl, Nat.le_refl, e_X5_squares (n := n) (sh := sh), hq]
      refine wp_some ?_
      exact ⟨A, rfl, Mid_end ha' (by omega) hM⟩
    · exact hA t (by omega)

theorem w_X2_spreads_w10 {S : zSt} {n a : Nat} {sh : Nat → Int32} (h : tC S n sh) {x y : Nat} (hx2 : S.1 10 2 = n2 x) (hx3 : S.1 10 3 = n2 y) (hxl : x < 32) (hyl : y < 32) (ho : opS n (opw sh x y)) (ha : a < sqn n) : wp (F_X2_spreads_w10 (n2 a) S) (fun _ S' => ∃ A, S' = sA S 11 A ∧ ∀ t, t < 2 ^ n → A t = if dis (Ed n (opw sh x y)) a t = 1000000 then mo else n2 (dis (Ed n (opw sh x y)) a t)) := by
  obtain ⟨hn0, ha'⟩ := sqn_lt ha
  have hp := two_pow_le h.2.1
  have hq := sqn_pos hn0
  have hn5 := h.2.1
  have hnn : ∀ k, k < 1000000 → n2 k ≠ mo := fun k hk => by rw [ne_eq, n2_ne_mo (by omega)]; exact not_false
  unfold F_X2_spreads_w10
  rw [joinK_eq]
  refine forZ 32 (fun i T => ∃ A, T = sA S 11 A ∧ ∀ t, t < i → A t = mo) (by decide) ?_ ?_ (i := 0) (Nat.zero_le _) ⟨S.1 11, sA_self.symm, fun t ht => absurd ht (by omega)⟩
  · rintro rec i T hi ⟨A, rfl, hA⟩ k
    unfold LB_X2_spreads_w10_4
    simp (disch := first | omega | assumption) only [n2_0, n2_1, n2_2, n2_3, n2_4, n2_5, n2_6, n2_8, n2_20, n2_31, n2_32, n2_60, n2_64, n2_100, n2_1000000, n2_mo, n2_le, n2_lt, n2_eq, n2_add, n2_nat, chk_n2, zlet_eq, joinK_eq, zbind_some, n2_ne_mo, mo_ne_n2, mo_lt, mo_le, n2_lt_mo, n2_le_mo, bI_if0, bI_if1, bI_and, n2_xnb, shl_n2, sI_sA, sA_1, sI_1, ↓reduceIte, Nat.reduceAdd, Nat.reduceEqDiff, Nat.reduceLeDiff, if_true, if_false, zif_t, zif_f, not_false_eq_true, not_true_eq_false, ne_eq, Nat.lt_irrefl, Nat.le_refl]
    refine k _ ⟨_, rfl, fun t ht => ?_⟩
    by_cases e : t = i
    · subst e
      simp (disch := first | omega | assumption) only [n2_0, n2_1, n2_2, n2_3, n2_4, n2_5, n2_6, n2_8, n2_20, n2_31, n2_32, n2_60, n2_64, n2_100, n2_1000000, n2_mo, n2_le, n2_lt, n2_eq, n2_add, n2_nat, chk_n2, zlet_eq, joinK_eq, zbind_some, n2_ne_mo, mo_ne_n2, mo_lt, mo_le, n2_lt_mo, n2_le_mo, bI_if0, bI_if1, bI_and, n2_xnb, shl_n2, sI_sA, sA_1, sI_1, ↓reduceIte, Nat.reduceAdd, Nat.reduceEqDiff, Nat.reduceLeDiff, if_true, if_false, zif_t, zif_f, not_false_eq_true, not_true_eq_false, ne_eq, Nat.lt_irrefl, Nat.le_refl]
    · have := hA t (by omega)
      simp (disch := first | omega | assumption) only [n2_0, n2_1, n2_2, n2_3, n2_4, n2_5, n2_6, n2_8, n2_20, n2_31, n2_32, n2_60, n2_64, n2_100, n2_1000000, n2_mo, n2_le, n2_lt, n2_eq, n2_add, n2_nat, chk_n2, zlet_eq, joinK_eq, zbind_some, n2_ne_mo, mo_ne_n2, mo_lt, mo_le, n2_lt_mo, n2_le_mo, bI_if0, bI_if1, bI_and, n2_xnb, shl_n2, sI_sA, sA_1, sI_1, ↓reduceIte, Nat.reduceAdd, Nat.reduceEqDiff, Nat.reduceLeDiff, if_true, if_false, zif_t, zif_f, not_false_eq_true, not_true_eq_false, ne_eq, Nat.lt_irrefl, Nat.le_refl, e, this]
  · rintro rec T ⟨A, rfl, hA⟩
    unfold LB_X2_spreads_w10_4
    simp (disch := first | omega | assumption) only [n2_0, n2_1, n2_2, n2_3, n2_4, n2_5, n2_6, n2_8, n2_20, n2_31, n2_32, n2_60, n2_64, n2_100, n2_1000000, n2_mo, n2_le, n2_lt, n2_eq, n2_add, n2_nat, chk_n2, zlet_eq, joinK_eq, zbind_some, n2_ne_mo, mo_ne_n2, mo_lt, mo_le, n2_lt_mo, n2_le_mo, bI_if0, bI_if1, bI_and, n2_xnb, shl_n2, sI_sA, sA_1, sI_1, ↓reduceIte, Nat.reduceAdd, Nat.reduceEqDiff, Nat.reduceLeDiff, if_true, if_false, zif_t, zif_f, not_false_eq_true, not_true_eq_false, ne_eq, Nat.lt_irrefl, Nat.le_refl]
    refine forZ (2 ^ n) (fun d T => ∃ A, T = sA S 11 A ∧ Mid n (dis (Ed n (opw sh x y)) a) mo d (Lvl n (opw sh x y) (dis (Ed n (opw sh x y)) a) d 0) A) (by omega) ?_ ?_ (i := 0) (Nat.zero_le _) ⟨_, rfl, Mid_start (fun t ht => ?_)⟩
    · rintro rec d T hd ⟨A, rfl, hM⟩ k
      have hT : tC (sA S 11 A) n sh := h
      have hX2 : (sA S 11 A).1 10 2 = n2 x := hx2
      have hX3 : (sA S 11 A).1 10 3 = n2 y := hx3
      unfold LB_X2_spreads_w10_3
      simp (disch := first | omega | assumption) only [n2_0, n2_1, n2_2, n2_3, n2_4, n2_5, n2_6, n2_8, n2_20, n2_31, n2_32, n2_60, n2_64, n2_100, n2_1000000, n2_mo, n2_le, n2_lt, n2_eq, n2_add, n2_nat, chk_n2, zlet_eq, joinK_eq, zbind_some, n2_ne_mo, mo_ne_n2, mo_lt, mo_le, n2_lt_mo, n2_le_mo, bI_if0, bI_if1, bI_and, n2_xnb, shl_n2, sI_sA, sA_1, sI_1, ↓reduceIte, Nat.reduceAdd, Nat.reduceEqDiff, Nat.reduceLeDiff, if_true, if_false, zif_t, zif_f, not_false_eq_true, not_true_eq_false, ne_eq, Nat.lt_irrefl, Nat.le_refl, e_X1_squares (n := n) (sh := sh), hq]
      refine forZ (2 ^ n) (fun s T => ∃ A, T = sA S 11 A ∧ Mid n (dis (Ed n (opw sh x y)) a) mo d (Lvl n (opw sh x y) (dis (Ed n (opw sh x y)) a) d s) A) (by omega) ?_ ?_ (i := 0) (Nat.zero_le _) ⟨A, rfl, hM⟩
      · rintro rec2 s T hs ⟨A, rfl, hM⟩ k2
        have hT : tC (sA S 11 A) n sh := h
        have hX2 : (sA S 11 A).1 10 2 = n2 x := hx2
        have hX3 : (sA S 11 A).1 10 3 = n2 y := hx3
        unfold LB_X2_spreads_w10_2
        simp (disch := first | omega | assumption) only [n2_0, n2_1, n2_2, n2_3, n2_4, n2_5, n2_6, n2_8, n2_20, n2_31, n2_32, n2_60, n2_64, n2_100, n2_1000000, n2_mo, n2_le, n2_lt, n2_eq, n2_add, n2_nat, chk_n2, zlet_eq, joinK_eq, zbind_some, n2_ne_mo, mo_ne_n2, mo_lt, mo_le, n2_lt_mo, n2_le_mo, bI_if0, bI_if1, bI_and, n2_xnb, shl_n2, sI_sA, sA_1, sI_1, ↓reduceIte, Nat.reduceAdd, Nat.reduceEqDiff, Nat.reduceLeDiff, if_true, if_false, zif_t, zif_f, not_false_eq_true, not_true_eq_false, ne_eq, Nat.lt_irrefl, Nat.le_refl, e_X1_squares (n := n) (sh := sh), hq]
        by_cases hds : dis (Ed n (opw sh x y)) a s = d
        · rw [if_pos ((Mid_at hnn (by omega) hM hs).mpr hds)]
          refine forZ n (fun w T => ∃ A, T = sA S 11 A ∧ Mid n (dis (Ed n (opw sh x y)) a) mo d (Lvw n (opw sh x y) (dis (Ed n (opw sh x y)) a) d s w) A) (by omega) ?_ ?_ (i := 0) (Nat.zero_le _) ⟨A, rfl, Mid_to hM (fun t _ => Lvw_zero)⟩
          · rintro rec3 w T hw ⟨A, rfl, hM⟩ k3
            have hT : tC (sA S 11 A) n sh := h
            have hX2 : (sA S 11 A).1 10 2 = n2 x := hx2
            have hX3 : (sA S 11 A).1 10 3 = n2 y := hx3
            have hx := nb_lt hs hw
            unfold LB_X2_spreads_w10_1
            simp (disch := first | omega | assumption) only [n2_0, n2_1, n2_2, n2_3, n2_4, n2_5, n2_6, n2_8, n2_20, n2_31, n2_32, n2_60, n2_64, n2_100, n2_1000000, n2_mo, n2_le, n2_lt, n2_eq, n2_add, n2_nat, chk_n2, zlet_eq, joinK_eq, zbind_some, n2_ne_mo, mo_ne_n2, mo_lt, mo_le, n2_lt_mo, n2_le_mo, bI_if0, bI_if1, bI_and, n2_xnb, shl_n2, sI_sA, sA_1, sI_1, ↓reduceIte, Nat.reduceAdd, Nat.reduceEqDiff, Nat.reduceLeDiff, if_true, if_false, zif_t, zif_f, not_false_eq_true, not_true_eq_false, ne_eq, Nat.lt_irrefl, Nat.le_refl, h.1, e_X3_goes_w10 (n := n) (sh := sh) (x := x) (y := y)]
            cases hop : (opw sh x y) s w
            · simp (disch := first | omega | assumption) only [n2_0, n2_1, n2_2, n2_3, n2_4, n2_5, n2_6, n2_8, n2_20, n2_31, n2_32, n2_60, n2_64, n2_100, n2_1000000, n2_mo, n2_le, n2_lt, n2_eq, n2_add, n2_nat, chk_n2, zlet_eq, joinK_eq, zbind_some, n2_ne_mo, mo_ne_n2, mo_lt, mo_le, n2_lt_mo, n2_le_mo, bI_if0, bI_if1, bI_and, n2_xnb, shl_n2, sI_sA, sA_1, sI_1, ↓reduceIte, Nat.reduceAdd, Nat.reduceEqDiff, Nat.reduceLeDiff, if_true, if_false, zif_t, zif_f, not_false_eq_true, not_true_eq_false, ne_eq, Nat.lt_irrefl, Nat.le_refl, Bool.false_eq_true]
              exact k3 _ ⟨A, rfl, Mid_to hM (fun t _ => Lvw_shut hop)⟩
            · simp (disch := first | omega | assumption) only [n2_0, n2_1, n2_2, n2_3, n2_4, n2_5, n2_6, n2_8, n2_20, n2_31, n2_32, n2_60, n2_64, n2_100, n2_1000000, n2_mo, n2_le, n2_lt, n2_eq, n2_add, n2_nat, chk_n2, zlet_eq, joinK_eq, zbind_some, n2_ne_mo, mo_ne_n2, mo_lt, mo_le, n2_lt_mo, n2_le_mo, bI_if0, bI_if1, bI_and, n2_xnb, shl_n2, sI_sA, sA_1, sI_1, ↓reduceIte, Nat.reduceAdd, Nat.reduceEqDiff, Nat.reduceLeDiff, if_true, if_false, zif_t, zif_f, not_false_eq_true, not_true_eq_false, ne_eq, Nat.lt_irrefl, Nat.le_refl]
              by_cases hA3 : A (nb s w) = mo
              · rw [if_pos hA3]
                exact k3 _ ⟨_, rfl, Mid_to (Mid_put hnn (by omega) hM hx hA3) (fun t _ => Lvw_succ hop)⟩
              · rw [if_neg hA3]
                exact k3 _ ⟨A, rfl, Mid_to (Mid_had hM hx hA3) (fun t _ => Lvw_succ hop)⟩
          · rintro rec3 T ⟨A, rfl, hM⟩
            have hT : tC (sA S 11 A) n sh := h
            have hX2 : (sA S 11 A).1 10 2 = n2 x := hx2
            have hX3 : (sA S 11 A).1 10 3 = n2 y := hx3
            unfold LB_X2_spreads_w10_1
            simp (disch := first | omega | assumption) only [n2_0, n2_1, n2_2, n2_3, n2_4, n2_5, n2_6, n2_8, n2_20, n2_31, n2_32, n2_60, n2_64, n2_100, n2_1000000, n2_mo, n2_le, n2_lt, n2_eq, n2_add, n2_nat, chk_n2, zlet_eq, joinK_eq, zbind_some, n2_ne_mo, mo_ne_n2, mo_lt, mo_le, n2_lt_mo, n2_le_mo, bI_if0, bI_if1, bI_and, n2_xnb, shl_n2, sI_sA, sA_1, sI_1, ↓reduceIte, Nat.reduceAdd, Nat.reduceEqDiff, Nat.reduceLeDiff, if_true, if_false, zif_t, zif_f, not_false_eq_true, not_true_eq_false, ne_eq, Nat.lt_irrefl, Nat.le_refl, h.1, e_X3_goes_w10 (n := n) (sh := sh) (x := x) (y := y)]
            exact k2 _ ⟨A, rfl, Mid_to hM (fun t _ => Lvw_end hs hds)⟩
        · rw [if_neg (fun h9 => hds ((Mid_at hnn (by omega) hM hs).mp h9))]
          exact k2 _ ⟨A, rfl, Mid_to hM (fun t _ => Lvl_skip hds)⟩
      · rintro rec2 T ⟨A, rfl, hM⟩
        have hT : tC (sA S 11 A) n sh := h
        have hX2 : (sA S 11 A).1 10 2 = n2 x := hx2
        have hX3 : (sA S 11 A).1 10 3 = n2 y := hx3
        unfold LB_X2_spreads_w10_2
        simp (disch := first | omega | assumption) only [n2_0, n2_1, n2_2, n2_3, n2_4, n2_5, n2_6, n2_8, n2_20, n2_31, n2_32, n2_60, n2_64, n2_100, n2_1000000, n2_mo, n2_le, n2_lt, n2_eq, n2_add, n2_nat, chk_n2, zlet_eq, joinK_eq, zbind_some, n2_ne_mo, mo_ne_n2, mo_lt, mo_le, n2_lt_mo, n2_le_mo, bI_if0, bI_if1, bI_and, n2_xnb, shl_n2, sI_sA, sA_1, sI_1, ↓reduceIte, Nat.reduceAdd, Nat.reduceEqDiff, Nat.reduceLeDiff, if_true, if_false, zif_t, zif_f, not_false_eq_true, not_true_eq_false, ne_eq, Nat.lt_irrefl, Nat.le_refl, e_X1_squares (n := n) (sh := sh), hq]
        exact k _ ⟨A, rfl, Mid_next ha' (by omega) hM⟩
    · rintro rec T ⟨A, rfl, hM⟩
      have hT : tC (sA S 11 A) n sh := h
      have hX2 : (sA S 11 A).1 10 2 = n2 x := hx2
      have hX3 : (sA S 11 A).1 10 3 = n2 y := hx3
      unfold LB_X2_spreads_w10_3
      simp (disch := first | omega | assumption) only [n2_0, n2_1, n2_2, n2_3, n2_4, n2_5, n2_6, n2_8, n2_20, n2_31, n2_32, n2_60, n2_64, n2_100, n2_1000000, n2_mo, n2_le, n2_lt, n2_eq, n2_add, n2_nat, chk_n2, zlet_eq, joinK_eq, zbind_some, n2_ne_mo, mo_ne_n2, mo_lt, mo_le, n2_lt_mo, n2_le_mo, bI_if0, bI_if1, bI_and, n2_xnb, shl_n2, sI_sA, sA_1, sI_1, ↓reduceIte, Nat.reduceAdd, Nat.reduceEqDiff, Nat.reduceLeDiff, if_true, if_false, zif_t, zif_f, not_false_eq_true, not_true_eq_false, ne_eq, Nat.lt_irrefl, Nat.le_refl, e_X1_squares (n := n) (sh := sh), hq]
      refine wp_some ?_
      exact ⟨A, rfl, Mid_end ha' (by omega) hM⟩
    · by_cases e : t = a
      · subst e; simp (disch := first | omega | assumption) only [n2_0, n2_1, n2_2, n2_3, n2_4, n2_5, n2_6, n2_8, n2_20, n2_31, n2_32, n2_60, n2_64, n2_100, n2_1000000, n2_mo, n2_le, n2_lt, n2_eq, n2_add, n2_nat, chk_n2, zlet_eq, joinK_eq, zbind_some, n2_ne_mo, mo_ne_n2, mo_lt, mo_le, n2_lt_mo, n2_le_mo, bI_if0, bI_if1, bI_and, n2_xnb, shl_n2, sI_sA, sA_1, sI_1, ↓reduceIte, Nat.reduceAdd, Nat.reduceEqDiff, Nat.reduceLeDiff, if_true, if_false, zif_t, zif_f, not_false_eq_true, not_true_eq_false, ne_eq, Nat.lt_irrefl, Nat.le_refl]
      · have := hA t (by omega)
        simp (disch := first | omega | assumption) only [n2_0, n2_1, n2_2, n2_3, n2_4, n2_5, n2_6, n2_8, n2_20, n2_31, n2_32, n2_60, n2_64, n2_100, n2_1000000, n2_mo, n2_le, n2_lt, n2_eq, n2_add, n2_nat, chk_n2, zlet_eq, joinK_eq, zbind_some, n2_ne_mo, mo_ne_n2, mo_lt, mo_le, n2_lt_mo, n2_le_mo, bI_if0, bI_if1, bI_and, n2_xnb, shl_n2, sI_sA, sA_1, sI_1, ↓reduceIte, Nat.reduceAdd, Nat.reduceEqDiff, Nat.reduceLeDiff, if_true, if_false, zif_t, zif_f, not_false_eq_true, not_true_eq_false, ne_eq, Nat.lt_irrefl, Nat.le_refl, e, this]
