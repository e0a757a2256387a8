/-! PLAIN LAW: the relation of the two states -/
set_option maxRecDepth 100000
/-- what lasts in the component's state -/
def pcB (k i : Nat) : Bool := (decide (k = 0) && (decide (i = 2) || decide (i = 3) || decide (i = 4))) || (decide (1 ≤ k) && decide (k ≤ 7)) || decide (k = 12) || (decide (44 ≤ k) && decide (k < 48)) || (decide (50 ≤ k) && decide (k < 74))
/-- what lasts in the model's -/
def pmB (k i : Nat) : Bool := (decide (k = 0) && (decide (i = 6) || decide (i = 14) || decide (i = 15))) || decide (k = 2) || decide (k = 3) || decide (k = 4) || decide (k = 6) || decide (k = 17) || decide (k = 18) || (decide (20 ≤ k) && decide (k ≤ 26))
def cut (p : Nat → Nat → Bool) (S : zSt) : zSt := (fun k i => if p k i = true then S.1 k i else 0, fun k i => if p k i = true then S.2 k i else 0)
theorem cut_1 {p : Nat → Nat → Bool} {S : zSt} {k i : Nat} (h : p k i = true) : (cut p S).1 k i = S.1 k i := if_pos h
theorem cut_2 {p : Nat → Nat → Bool} {S : zSt} {k i : Nat} (h : p k i = true) : (cut p S).2 k i = S.2 k i := if_pos h
theorem cut_eq {p : Nat → Nat → Bool} {S T : zSt} (h1 : ∀ k i, p k i = true → T.1 k i = S.1 k i) (h2 : ∀ k i, p k i = true → T.2 k i = S.2 k i) : cut p T = cut p S := by
  refine zSt_ext (fun k i => ?_) (fun k i => ?_)
  · show (if p k i = true then T.1 k i else 0) = (if p k i = true then S.1 k i else 0)
    by_cases h : p k i = true
    · rw [if_pos h, if_pos h, h1 k i h]
    · rw [if_neg h, if_neg h]
  · show (if p k i = true then T.2 k i else 0) = (if p k i = true then S.2 k i else 0)
    by_cases h : p k i = true
    · rw [if_pos h, if_pos h, h2 k i h]
    · rw [if_neg h, if_neg h]
theorem cut_at {p : Nat → Nat → Bool} {S T : zSt} (h : cut p T = cut p S) {k i : Nat} (hp : p k i = true) : T.1 k i = S.1 k i := by
  rw [← cut_1 (S := T) hp, h, cut_1 hp]
theorem cut_at2 {p : Nat → Nat → Bool} {S T : zSt} (h : cut p T = cut p S) {k i : Nat} (hp : p k i = true) : T.2 k i = S.2 k i := by
  rw [← cut_2 (S := T) hp, h, cut_2 hp]
theorem cut_sA {p : Nat → Nat → Bool} {S : zSt} {k : Nat} {A : Nat → Int32} (h : ∀ i, p k i = false) : cut p (sA S k A) = cut p S := cut_eq (fun a b hp => by
  rw [sA_1, if_neg]
  intro e
  rw [e, h b] at hp
  cases hp) (fun a b hp => rfl)
theorem cut_sB {p : Nat → Nat → Bool} {S : zSt} {k : Nat} {A : Nat → Int64} (h : ∀ i, p k i = false) : cut p (sB S k A) = cut p S := cut_eq (fun a b hp => rfl) (fun a b hp => by
  rw [sB_2, if_neg]
  intro e
  rw [e, h b] at hp
  cases hp)
theorem cut_sI {p : Nat → Nat → Bool} {S : zSt} {k j : Nat} {x : Int32} (h : p k j = false) : cut p (sI S k j x) = cut p S := cut_eq (fun a b hp => by
  rw [sI_1]
  by_cases e : a = k
  · rw [if_pos e, if_neg]
    intro e2
    rw [e, e2, h] at hp
    cases hp
  · rw [if_neg e]) (fun a b hp => rfl)
theorem cut_sL {p : Nat → Nat → Bool} {S : zSt} {k j : Nat} {x : Int64} (h : p k j = false) : cut p (sL S k j x) = cut p S := cut_eq (fun a b hp => rfl) (fun a b hp => by
  rw [sL_2]
  by_cases e : a = k
  · rw [if_pos e, if_neg]
    intro e2
    rw [e, e2, h] at hp
    cases hp
  · rw [if_neg e])
/-- a town of the component at place t, of the model at w -/
def tR (S : zSt) (t : Nat) (T : zSt) (w : Nat) : Prop := ∃ n p c : Nat, S.1 t 0 = n2 n ∧ T.1 18 (3 * w) = n2 n ∧ S.1 t 8 = n2 p ∧ T.1 18 (3 * w + 1) = n2 p ∧ S.1 t 9 = n2 c ∧ T.1 18 (3 * w + 2) = n2 c ∧ p ≤ 6 ∧ c ≤ 6 ∧ wT n (S.1 (t + 6)) ∧ (n = 0 → p = 0 ∧ c = 0) ∧
  S.1 t 1 = T.1 17 w ∧ (0 < T.1 17 w ↔ n ≠ 0) ∧ (∀ s, s < 32 → T.1 22 (32 * w + s) = S.1 (t + 6) s) ∧
  (∀ k, k < n → ∃ m, S.1 (t + 2) k = n2 m ∧ T.1 20 (5 * w + k) = n2 m ∧ m ≤ 8 ∧ ∀ i, i < m → S.1 (t + 1) (8 * k + i) = T.1 21 (40 * w + (8 * k + i))) ∧
  (∀ k, k < p → ∃ s, s < 2 ^ n ∧ S.1 (t + 3) k = n2 s ∧ T.1 24 (6 * w + k) = n2 s) ∧
  (∀ k, k < c → ∃ s o, s < 2 ^ n ∧ o < 2 ^ n ∧ S.1 (t + 4) k = n2 s ∧ S.1 (t + 5) k = n2 o ∧ T.1 25 (12 * w + 2 * k) = n2 s ∧ T.1 25 (12 * w + 2 * k + 1) = n2 o) ∧
  S.1 t 10 = T.1 23 w ∧ ∀ k, zb (T.1 23 w) k = true → k < sqn n
/-- a slot's row -/
def slR (q : Option (Nat × FieldType)) (S : zSt) (k : Nat) (T : zSt) (i : Nat) : Prop := match q with
  | none => T.1 2 i = mo
  | some x => T.1 3 i = n2 x.1 ∧ x.1 ≤ 60 ∧ ((x.2 = .byte ∧ T.1 2 i = n2 0 ∧ ∀ j, j < x.1 → T.2 4 (60 * i + j) = (S.1 k j).toInt64 ∧ (S.1 k j).toInt8.toInt32 = S.1 k j) ∨ (x.2 = .short ∧ T.1 2 i = n2 1 ∧ ∀ j, j < x.1 → T.2 4 (60 * i + j) = (S.1 k j).toInt64 ∧ (S.1 k j).toInt16.toInt32 = S.1 k j) ∨ (x.2 = .int ∧ T.1 2 i = n2 2 ∧ ∀ j, j < x.1 → T.2 4 (60 * i + j) = (S.1 k j).toInt64) ∨ (x.2 = .long ∧ T.1 2 i = n2 3 ∧ ∀ j, j < x.1 → T.2 4 (60 * i + j) = S.2 k j))
def RelP (V : zSV) (I : Nat → Bool) (S T : zSt) : Prop := tR S 1 T 0 ∧ (∀ k, k < 3 → T.1 26 k = bI (I k) ∧ (I k = true → tR S (50 + 8 * k) T (1 + k))) ∧ (∃ m, S.1 0 2 = n2 m ∧ T.1 0 6 = n2 m ∧ m ≤ 1400 ∧ ∀ i, i < m → S.1 12 i = T.1 6 i ∧ (S.1 12 i).toInt8.toInt32 = S.1 12 i) ∧ S.1 0 3 = T.1 0 14 ∧ S.1 0 4 = T.1 0 15 ∧ ∀ i, i < 4 → slR (V i) S (44 + i) T i
/-- THE RELATION -/
def Rl : zRl := fun V I S T => RelP V I (cut pcB S) (cut pmB T)
theorem Rl_keep {V : zSV} {I : Nat → Bool} {S S' T T' : zSt} (h : Rl V I S T) (h1 : cut pcB S' = cut pcB S) (h2 : cut pmB T' = cut pmB T) : Rl V I S' T' := by
  unfold Rl
  rw [h1, h2]
  exact h
/-- both answer v, what lasts lasts -/
theorem St1_of {ρ : Type} {V : zSV} {I : Nat → Bool} {S T : zSt} {f g : Option (ρ × zSt)} {v : ρ} (h : Rl V I S T) (hf : wp f (fun r S' => r = v ∧ cut pcB S' = cut pcB S)) (hg : wp g (fun r T' => r = v ∧ cut pmB T' = cut pmB T)) : St1 Rl V I f g := by
  obtain ⟨r, S', e1, rfl, k1⟩ := hf
  obtain ⟨r2, T', e2, rfl, k2⟩ := hg
  exact ⟨_, _, _, e1, e2, Rl_keep h k1 k2⟩
theorem St1_eq {ρ : Type} {V : zSV} {I : Nat → Bool} {S T S' T' : zSt} {f g : Option (ρ × zSt)} {v : ρ} (h : Rl V I S T) (hf : f = some (v, S')) (k1 : cut pcB S' = cut pcB S) (hg : g = some (v, T')) (k2 : cut pmB T' = cut pmB T) : St1 Rl V I f g := ⟨v, S', T', hf, hg, Rl_keep h k1 k2⟩
theorem Rl_slots {V : zSV} {I : Nat → Bool} {S T : zSt} (h : Rl V I S T) : zVok V := fun i hi q hq => by
  have h1 := h.2.2.2.2.2 i hi
  rw [hq] at h1
  obtain ⟨-, h2, h3⟩ := h1
  refine ⟨?_, h2⟩
  rcases h3 with h | h | h | h
  · exact Or.inl h.1
  · exact Or.inr (Or.inl h.1)
  · exact Or.inr (Or.inr (Or.inl h.1))
  · exact Or.inr (Or.inr (Or.inr h.1))
/-- the towns in hand -/
theorem Rl_t {V : zSV} {I : Nat → Bool} {S T : zSt} (h : Rl V I S T) : ∃ n, tC S n (S.1 7) ∧ tM T n (S.1 7) ∧ wT n (S.1 7) := by
  obtain ⟨⟨n, p, c, h1, h2, -, -, -, -, -, -, h3, -, -, h4, h5, -⟩, -⟩ := h
  have e7 : (cut pcB S).1 (1 + 6) = S.1 7 := funext fun i => cut_1 rfl
  rw [e7] at h3
  have g1 : S.1 1 0 = n2 n := h1
  have g2 : T.1 18 0 = n2 n := h2
  refine ⟨n, ⟨g1, h3.2.1, rfl⟩, ⟨g2, h3.2.1, fun s hs => ?_, h4⟩, h3⟩
  have := h5 s hs
  rw [e7] at this
  have e : (cut pmB T).1 22 (32 * 0 + s) = T.1 22 s := by rw [Nat.mul_zero, Nat.zero_add]; exact cut_1 rfl
  rw [← e]
  exact this
/-- the model's note of a throw -/
theorem cut_thrown {S : zSt} {x : Int32} : cut pmB (sI S 0 0 x) = cut pmB S := cut_sI rfl
