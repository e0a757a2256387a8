/-! PLAIN LAW: the small functions -/
set_option maxRecDepth 100000
def bI (b : Bool) : Int32 := n2 (if b = true then 1 else 0)
theorem bI_t : bI true = n2 1 := rfl
theorem bI_f : bI false = n2 0 := rfl
theorem bI_0 {b : Bool} : bI b = n2 0 ↔ b = false := by
  cases b
  · simp [bI]
  · simp only [bI, if_true]; rw [n2_eq (by decide) (by decide)]; simp
theorem bI_1 {b : Bool} : bI b = n2 1 ↔ b = true := by
  cases b
  · simp only [bI]; rw [n2_eq (by decide) (by decide)]; simp
  · simp [bI]
theorem bI_and {b : Bool} : bI b &&& n2 1 = bI b := by cases b <;> decide
theorem bI_dec {c : Prop} [Decidable c] {S : zSt} : (if c then some (n2 1, S) else some (n2 0, S)) = some (bI (decide c), S) := by
  by_cases h : c <;> simp [h, bI]
theorem bI_dec' {c : Prop} [Decidable c] {S : zSt} : (if c then some (n2 0, S) else some (n2 1, S)) = some (bI (!decide c), S) := by
  by_cases h : c <;> simp [h, bI]
theorem bI_if0 {ρ : Type} {b : Bool} {x y : ρ} : (if bI b = n2 0 then x else y) = if b = true then y else x := by
  cases b
  · rw [if_pos (bI_0.mpr rfl)]; rfl
  · rw [if_neg (by rw [bI_0]; simp)]; rfl
theorem bI_if1 {ρ : Type} {b : Bool} {x y : ρ} : (if bI b = n2 1 then x else y) = if b = true then x else y := by
  cases b
  · rw [if_neg (by rw [bI_1]; simp)]; rfl
  · rw [if_pos (bI_1.mpr rfl)]; rfl
/-- towns in the two worlds -/
def sqn (n : Nat) : Nat := if n = 0 then 0 else 2 ^ n
def opn (sh : Nat → Int32) (s w : Nat) : Bool := !zb (sh s) w
def tC (S : zSt) (n : Nat) (sh : Nat → Int32) : Prop := S.1 1 0 = n2 n ∧ n ≤ 5 ∧ S.1 7 = sh
def tM (S : zSt) (n : Nat) (sh : Nat → Int32) : Prop := S.1 18 0 = n2 n ∧ n ≤ 5 ∧ (∀ s, s < 32 → S.1 22 s = sh s) ∧ (0 < S.1 17 0 ↔ n ≠ 0)
def wT (n : Nat) (sh : Nat → Int32) : Prop := (n = 0 ∨ 2 ≤ n) ∧ n ≤ 5 ∧ opS n (opn sh) ∧ ∀ s, s < 32 → ∀ k, zb (sh s) k = true → k < n ∧ s < 2 ^ n
theorem two_pow_le {n : Nat} (h : n ≤ 5) : 2 ^ n ≤ 32 := Nat.pow_le_pow_right (by decide) h
theorem sqn_le {n : Nat} (h : n ≤ 5) : sqn n ≤ 32 := by
  unfold sqn
  split
  · omega
  · exact two_pow_le h
theorem sqn_pos {n : Nat} (h : n ≠ 0) : sqn n = 2 ^ n := if_neg h
theorem sqn_lt {n s : Nat} (h : s < sqn n) : n ≠ 0 ∧ s < 2 ^ n := by
  unfold sqn at h
  split at h
  · omega
  · rename_i h0; exact ⟨h0, h⟩
theorem e_X0_isIn {a b c : Int64} {S : zSt} : F_X0_isIn a b c S = some (bI (decide (b ≤ a ∧ a ≤ c)), S) := by
  unfold F_X0_isIn
  by_cases h1 : a < b
  · rw [if_pos ((lg_cmp_lt a b).mpr h1)]
    have : ¬ (b ≤ a ∧ a ≤ c) := fun h => absurd h1 (Int64.not_lt.mpr h.1)
    simp only [this, decide_false]; rfl
  · rw [if_neg (fun h => h1 ((lg_cmp_lt a b).mp h))]
    by_cases h2 : c < a
    · rw [if_pos ((lg_cmp_gt a c).mpr h2)]
      have : ¬ (b ≤ a ∧ a ≤ c) := fun h => absurd h2 (Int64.not_lt.mpr h.2)
      simp only [this, decide_false]; rfl
    · rw [if_neg (fun h => h2 ((lg_cmp_gt a c).mp h))]
      have : b ≤ a ∧ a ≤ c := ⟨Int64.not_lt.mp h1, Int64.not_lt.mp h2⟩
      simp only [this, and_self, decide_true]; rfl
theorem e_X5_in {a b c : Int64} {S : zSt} : F_X5_in a b c S = some (bI (decide (b ≤ a ∧ a ≤ c)), S) := e_X0_isIn (a := a) (b := b) (c := c) (S := S)
/-- in the range from 0 to below m -/
def inB (a : Int32) (m : Nat) : Bool := decide (n2 0 ≤ a ∧ a < n2 m)
theorem inB_t {a : Int32} {m : Nat} (hm : m < 2147483648) : inB a m = true ↔ ∃ k, a = n2 k ∧ k < m := by
  unfold inB
  rw [decide_eq_true_iff]
  constructor
  · rintro ⟨h1, h2⟩; exact n2_of_lt h1 h2 hm
  · rintro ⟨k, rfl, h⟩
    exact ⟨(n2_le (by decide) (by omega)).mpr (Nat.zero_le _), (n2_lt (by omega) hm).mpr h⟩
theorem inB_n2 {k m : Nat} (hk : k < 2147483648) (hm : m < 2147483648) : inB (n2 k) m = decide (k < m) := by
  unfold inB
  rw [decide_eq_decide, n2_le (by decide) hk, n2_lt hk hm]
  exact ⟨fun h => h.2, fun h => ⟨Nat.zero_le _, h⟩⟩
theorem le_pred {a : Int32} {m : Nat} (hm : m < 2147483648) : a ≤ n2 m - n2 1 ↔ a < n2 m := by
  rw [Int32.le_iff_toInt_le, Int32.lt_iff_toInt_lt, Int32.toInt_sub, n2_int hm, n2_int (by decide)]
  rw [Int.bmod_eq_of_le (by omega) (by omega)]
  omega
theorem in_pred {a : Int32} {m : Nat} (hm : m < 2147483648) : decide ((0 : Int64) ≤ a.toInt64 ∧ a.toInt64 ≤ (n2 m - n2 1).toInt64) = inB a m := by
  unfold inB
  rw [decide_eq_decide, i64_0, i64_le, i64_le, le_pred hm]
theorem in_le {a : Int32} {m : Nat} (hm : m < 2147483647) : decide ((0 : Int64) ≤ a.toInt64 ∧ a.toInt64 ≤ (n2 m).toInt64) = inB a (m + 1) := by
  have := in_pred (a := a) (m := m + 1) (by omega)
  rw [n2_sub (by omega), Nat.add_sub_cancel] at this
  exact this
theorem e_X0_has {a : Int32} {k : Nat} {S : zSt} (hk : k < 32) : F_X0_has a (n2 k) S = some (bI (zb a k), S) := by
  unfold F_X0_has
  rw [n2_1, iushr_one hk]
  cases h : zb a k
  · rw [if_neg (by decide)]; rfl
  · rw [if_pos rfl]; rfl
theorem e_X5_isBit {a : Int32} {k : Nat} {S : zSt} (hk : k < 32) : F_X5_isBit a (n2 k) S = some (bI (zb a k), S) := by
  unfold F_X5_isBit
  rw [n2_1, n2_31, sshr_one hk]
  cases h : zb a k
  · rw [if_neg (by decide)]; rfl
  · rw [if_pos rfl]; rfl
theorem e_X1_squares {S : zSt} {n : Nat} {sh : Nat → Int32} (h : tC S n sh) : F_X1_squares 1 S = some (n2 (sqn n), S) := by
  unfold F_X1_squares
  obtain ⟨h1, h2, -⟩ := h
  rw [h1, n2_0, n2_1, n2_31]
  unfold sqn
  by_cases h0 : n = 0
  · subst h0
    rw [if_pos rfl, if_pos rfl]
  · rw [if_neg (fun e => h0 ((n2_eq (by omega) (by decide)).mp e)), if_neg h0, shl_n2 (by omega)]
theorem e_X1_isOpen {S : zSt} {n : Nat} {sh : Nat → Int32} {s w : Nat} (h : tC S n sh) (hs : s < 32) (hw : w < 32) : F_X1_isOpen 1 (n2 s) (n2 w) S = some (bI (opn sh s w), S) := by
  unfold F_X1_isOpen
  rw [chk_n2 hs (by decide), n2_nat (by omega), e_X0_has hw, zbind_some, n2_0, n2_1]
  show (if bI (zb (S.1 7 s) w) = n2 0 then some (n2 1, S) else some (n2 0, S)) = _
  rw [h.2.2, bI_if0]
  unfold opn
  cases zb (sh s) w <;> rfl
theorem e_X0_isTown {S : zSt} {n : Nat} {sh : Nat → Int32} (h : tC S n sh) : F_X0_isTown S = some (bI (decide (n ≠ 0)), S) := by
  unfold F_X0_isTown
  have := h.2.1
  rw [h.1, n2_0, n2_1]
  by_cases h0 : n = 0
  · subst h0
    rw [if_pos Int32.le_rfl]; rfl
  · rw [if_neg (fun e => h0 (by have := (n2_le (by omega) (by decide)).mp e; omega))]; simp [h0, bI]
theorem e_X0_isName {S : zSt} {n : Nat} {sh : Nat → Int32} {a : Int32} (h : tC S n sh) : F_X0_isName a S = some (bI (inB a n), S) := by
  unfold F_X0_isName
  have := h.2.1
  rw [h.1, n2_1, e_X0_isIn, in_pred (by omega), zbind_some, bI_and]
theorem e_X0_isSquare {S : zSt} {n : Nat} {sh : Nat → Int32} {a : Int32} (h : tC S n sh) : F_X0_isSquare a.toInt64 S = some (bI (inB a (sqn n)), S) := by
  unfold F_X0_isSquare
  have := sqn_le h.2.1
  rw [e_X1_squares h, zbind_some, n2_1, e_X0_isIn, in_pred (by omega), zbind_some, bI_and]
theorem e_X0_isOneOf {S : zSt} {a : Int32} {m : Nat} (hm : m < 2147483648) : F_X0_isOneOf a (n2 m) S = some (bI (inB a m), S) := by
  unfold F_X0_isOneOf
  rw [n2_1, e_X0_isIn, in_pred hm, zbind_some, bI_and]
theorem e_X0_isSlot {S : zSt} {a : Int32} : F_X0_isSlot a S = some (bI (inB a 4), S) := by
  unfold F_X0_isSlot
  rw [e_X0_isIn, i64_3, in_le (by decide), zbind_some, n2_1, bI_and]
theorem e_X0_areTwo {S : zSt} {n : Nat} {sh : Nat → Int32} {a b : Int32} (h : tC S n sh) : F_X0_areTwo a b S = some (bI (inB a (sqn n) && (inB b (sqn n) && !decide (a = b))), S) := by
  unfold F_X0_areTwo
  rw [e_X0_isSquare h, zbind_some, n2_0, bI_if0, e_X0_isSquare h, zbind_some, bI_if0, n2_1]
  cases inB a (sqn n) <;> cases inB b (sqn n) <;> by_cases h : a = b <;> simp [h, bI]
theorem e_X5_isTown {S : zSt} {n : Nat} {sh : Nat → Int32} (h : tM S n sh) : F_X5_isTown S = some (bI (decide (n ≠ 0)), S) := by
  unfold F_X5_isTown
  rw [n2_0, n2_1, chk_n2 (by decide) (by decide), n2_nat (by decide)]
  by_cases h0 : n = 0
  · have : S.1 17 0 ≤ n2 0 := Int32.not_lt.mp (fun h9 => (h.2.2.2.mp h9) h0)
    rw [if_pos this]; simp [h0, bI]
  · have : ¬ S.1 17 0 ≤ n2 0 := Int32.not_le.mpr (h.2.2.2.mpr h0)
    rw [if_neg this]; simp [h0, bI]
theorem e_X5_squares {S : zSt} {n : Nat} {sh : Nat → Int32} (h : tM S n sh) : F_X5_squares S = some (n2 (sqn n), S) := by
  unfold F_X5_squares
  have := h.2.1
  rw [e_X5_isTown h, zbind_some, n2_0, n2_1, n2_31, chk_n2 (by decide) (by decide), n2_nat (by decide), h.1, bI_if0, shl_n2 (by omega)]
  unfold sqn
  by_cases h0 : n = 0 <;> simp [h0]
theorem e_X5_isOpen {S : zSt} {n : Nat} {sh : Nat → Int32} {s w : Nat} (h : tM S n sh) (hs : s < 32) (hw : w < 32) : F_X5_isOpen (n2 s) (n2 w) S = some (bI (opn sh s w), S) := by
  unfold F_X5_isOpen
  rw [chk_n2 (by omega) (by decide), n2_nat (by omega), e_X5_isBit hw, zbind_some, n2_0, n2_1, h.2.2.1 s hs, bI_if0]
  unfold opn
  cases zb (sh s) w <;> rfl
theorem e_X5_isName {S : zSt} {n : Nat} {sh : Nat → Int32} {a : Int32} (h : tM S n sh) : F_X5_isName a S = some (bI (inB a n), S) := by
  unfold F_X5_isName
  have := h.2.1
  rw [n2_0, n2_1, chk_n2 (by decide) (by decide), n2_nat (by decide), h.1, e_X5_in, in_pred (by omega), zbind_some, bI_and]
theorem i64_pred {m : Nat} (h : m < 2147483648) : (n2 m).toInt64 - 1 = (n2 m - n2 1).toInt64 := by
  rw [← Int64.toInt_inj, Int64.toInt_sub, Int32.toInt_toInt64, Int32.toInt_toInt64, Int32.toInt_sub, n2_int h, n2_int (by decide)]
  have : (1 : Int64).toInt = 1 := by decide
  rw [this, Int.bmod_eq_of_le (by omega) (by omega), Int.bmod_eq_of_le (by omega) (by omega)]
  rfl
theorem e_X5_isSquare {S : zSt} {n : Nat} {sh : Nat → Int32} {a : Int32} (h : tM S n sh) : F_X5_isSquare a.toInt64 S = some (bI (inB a (sqn n)), S) := by
  unfold F_X5_isSquare
  have := sqn_le h.2.1
  rw [e_X5_squares h, zbind_some, n2_1, i64_pred (by omega), e_X5_in, in_pred (by omega), zbind_some, bI_and]
theorem e_X5_isSlot {S : zSt} {a : Int32} : F_X5_isSlot a S = some (bI (inB a 4), S) := by
  unfold F_X5_isSlot
  rw [e_X5_in, i64_3, in_le (by decide), zbind_some, n2_1, bI_and]
theorem e_X5_areTwo {S : zSt} {n : Nat} {sh : Nat → Int32} {a b : Int32} (h : tM S n sh) : F_X5_areTwo a b S = some (bI (inB a (sqn n) && (inB b (sqn n) && !decide (a = b))), S) := by
  unfold F_X5_areTwo
  rw [e_X5_isSquare h, zbind_some, n2_0, bI_if0, e_X5_isSquare h, zbind_some, bI_if0, n2_1]
  cases inB a (sqn n) <;> cases inB b (sqn n) <;> by_cases h : a = b <;> simp [h, bI]
