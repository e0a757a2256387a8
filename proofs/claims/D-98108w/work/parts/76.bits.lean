/-! PLAIN LAW: how many bits -/
set_option maxRecDepth 100000
def pcN : Nat → Nat → Nat
  | 0, _ => 0
  | k + 1, m => m % 2 + pcN k (m / 2)
def i32n (v : Int32) : Nat := v.toBitVec.toNat
def pc (v : Int32) : Nat := pcN 32 (i32n v)
theorem pcN_le : ∀ k m, pcN k m ≤ k
  | 0, _ => Nat.le_refl _
  | k + 1, m => by
    have := pcN_le k (m / 2)
    show m % 2 + pcN k (m / 2) ≤ k + 1
    omega
theorem pc_le (v : Int32) : pc v ≤ 32 := pcN_le 32 _
theorem pcN_0 : ∀ k, pcN k 0 = 0
  | 0 => rfl
  | k + 1 => by
    show 0 % 2 + pcN k (0 / 2) = 0
    rw [show 0 / 2 = 0 from rfl, pcN_0 k]
theorem pcN_pos : ∀ k m, 0 < m → m < 2 ^ k → 0 < pcN k m
  | 0, m, h0, h => by simp at h; omega
  | k + 1, m, h0, h => by
    show 0 < m % 2 + pcN k (m / 2)
    by_cases h1 : m % 2 = 1
    · omega
    · have := pcN_pos k (m / 2) (by omega) (by rw [Nat.pow_succ] at h; omega)
      omega
theorem pcN_clear : ∀ k m, 0 < m → m < 2 ^ k → pcN k (m &&& (m - 1)) + 1 = pcN k m
  | 0, m, h0, h => by simp at h; omega
  | k + 1, m, h0, h => by
    show (m &&& (m - 1)) % 2 + pcN k ((m &&& (m - 1)) / 2) + 1 = m % 2 + pcN k (m / 2)
    have e1 : (m &&& (m - 1)) / 2 = m / 2 &&& (m - 1) / 2 := Nat.and_div_two
    have e2 : (m &&& (m - 1)) % 2 = 0 := by
      have h9 : (m &&& (m - 1)) % 2 = (m % 2) &&& ((m - 1) % 2) := by
        have := Nat.and_mod_two_pow (a := m) (b := m - 1) (n := 1)
        simpa using this
      rw [h9]
      rcases Nat.mod_two_eq_zero_or_one m with g | g
      · rw [g]; simp
      · rw [g, show (m - 1) % 2 = 0 by omega]; rfl
    rw [e1, e2]
    by_cases h1 : m % 2 = 1
    · rw [show (m - 1) / 2 = m / 2 by omega, Nat.and_self]
      omega
    · have g := pcN_clear k (m / 2) (by omega) (by rw [Nat.pow_succ] at h; omega)
      rw [show (m - 1) / 2 = m / 2 - 1 by omega]
      omega
theorem i32n_lt (v : Int32) : i32n v < 2 ^ 32 := v.toBitVec.isLt
theorem i32n_0 {v : Int32} : i32n v = 0 ↔ v = 0 := by
  constructor
  · intro h
    exact Int32.toBitVec.inj (BitVec.eq_of_toNat_eq h)
  · rintro rfl; rfl
theorem i32n_clear {v : Int32} (h : v ≠ 0) : i32n (v &&& (v - 1)) = i32n v &&& (i32n v - 1) := by
  have h0 : i32n v ≠ 0 := fun e => h (i32n_0.mp e)
  have hl := i32n_lt v
  show (v.toBitVec &&& (v.toBitVec - (1 : Int32).toBitVec)).toNat = _
  rw [BitVec.toNat_and, BitVec.toNat_sub]
  have e1 : (1 : Int32).toBitVec.toNat = 1 := rfl
  rw [e1]
  show i32n v &&& (2 ^ 32 - 1 + i32n v) % 2 ^ 32 = _
  congr 1
  omega
theorem pc_clear {v : Int32} (h : v ≠ 0) : pc (v &&& (v - 1)) + 1 = pc v := by
  unfold pc
  rw [i32n_clear h]
  exact pcN_clear 32 _ (Nat.pos_of_ne_zero fun e => h (i32n_0.mp e)) (i32n_lt v)
theorem pc_0 : pc 0 = 0 := pcN_0 32
theorem e_X5_bits {v : Int32} {S : zSt} : F_X5_bits v S = some (n2 (pc v), S) := by
  unfold F_X5_bits
  have key := loopZ (bot := (fun _ _ => none : Int32 → Int32 → Option (Int32 × zSt))) (body := LB_X5_bits_1 S) (fun m k => ∀ c x, pc x = m → k (n2 c) x = some (n2 (c + m), S)) ?_ (pc v) (by have := pc_le v; omega) 0 v rfl
  · rw [Nat.zero_add] at key
    exact key
  · intro m rec hr c x hx
    unfold LB_X5_bits_1
    by_cases h : x = 0
    · subst h
      rw [pc_0] at hx
      subst hx
      rw [if_pos rfl, Nat.add_zero]
    · rw [if_neg h, zlet_eq]
      have := pc_clear h
      have h2 := hr (m - 1) (by omega) (c + 1) (x &&& (x - 1)) (by omega)
      rw [n2_1, n2_add]
      rw [n2_1] at h2
      rw [h2, show c + 1 + (m - 1) = c + m by omega]
theorem land_split {x y W M : Nat} (hx : x < 256) (hy : y < 256) : (x + 256 * W) &&& (y + 256 * M) = (x &&& y) + 256 * (W &&& M) := by
  have e : ∀ {u v : Nat}, u < 256 → u + 256 * v = 2 ^ 8 * v + u := fun _ => by omega
  have hxy : x &&& y < 256 := Nat.lt_of_le_of_lt Nat.and_le_left hx
  rw [e hx, e hy, e hxy]
  refine Nat.eq_of_testBit_eq fun j => ?_
  rw [Nat.testBit_and, Nat.testBit_two_pow_mul_add _ hx, Nat.testBit_two_pow_mul_add _ hy, Nat.testBit_two_pow_mul_add _ hxy]
  by_cases h : j < 8
  · rw [if_pos h, if_pos h, if_pos h, Nat.testBit_and]
  · rw [if_neg h, if_neg h, if_neg h, Nat.testBit_and]
theorem pcN_split {k W : Nat} : ∀ {j b : Nat}, b < 2 ^ j → pcN (j + k) (b + 2 ^ j * W) = pcN j b + pcN k W
  | 0, b, h => by
    have : b = 0 := by simp at h; omega
    subst this
    simp [pcN]
  | j + 1, b, h => by
    have e : j + 1 + k = (j + k) + 1 := by omega
    rw [e]
    show (b + 2 ^ (j + 1) * W) % 2 + pcN (j + k) ((b + 2 ^ (j + 1) * W) / 2) = b % 2 + pcN j (b / 2) + pcN k W
    have e1 : 2 ^ (j + 1) * W = 2 * (2 ^ j * W) := by rw [Nat.pow_succ]; rw [Nat.mul_comm (2 ^ j) 2, Nat.mul_assoc]
    rw [e1, show (b + 2 * (2 ^ j * W)) % 2 = b % 2 by omega, show (b + 2 * (2 ^ j * W)) / 2 = b / 2 + 2 ^ j * W by omega, pcN_split (by rw [Nat.pow_succ] at h; omega), Nat.add_assoc]
theorem by_1 (b u : Nat) (hb : b < 256) (hu : u < 2) : (b / 2 + 128 * u) &&& 85 = (b / 2) &&& 85 := by
  have h : ∀ b : Fin 256, ∀ u : Fin 2, (b.1 / 2 + 128 * u.1) &&& 85 = (b.1 / 2) &&& 85 := by decide +kernel
  exact h ⟨b, hb⟩ ⟨u, hu⟩
theorem by_2 (b u : Nat) (hb : b < 256) (hu : u < 4) : (b / 4 + 64 * u) &&& 51 = (b / 4) &&& 51 := by
  have h : ∀ b : Fin 256, ∀ u : Fin 4, (b.1 / 4 + 64 * u.1) &&& 51 = (b.1 / 4) &&& 51 := by decide +kernel
  exact h ⟨b, hb⟩ ⟨u, hu⟩
theorem sh_1 {b W M : Nat} (hb : b < 256) : ((b + 256 * W) / 2) &&& (85 + 256 * M) = ((b / 2) &&& 85) + 256 * ((W / 2) &&& M) := by
  rw [show (b + 256 * W) / 2 = (b / 2 + 128 * (W % 2)) + 256 * (W / 2) by omega, land_split (by omega) (by omega), by_1 b _ hb (by omega)]
theorem sh_2 {b W M : Nat} (hb : b < 256) : ((b + 256 * W) / 4) &&& (51 + 256 * M) = ((b / 4) &&& 51) + 256 * ((W / 4) &&& M) := by
  rw [show (b + 256 * W) / 4 = (b / 4 + 64 * (W % 4)) + 256 * (W / 4) by omega, land_split (by omega) (by omega), by_2 b _ hb (by omega)]
def g1 (b : Nat) : Nat := b - ((b / 2) &&& 85)
def g2 (b : Nat) : Nat := (b &&& 51) + ((b / 4) &&& 51)
def g3 (b : Nat) : Nat := (b + b / 16) % 16
theorem g_ok (b : Nat) (hb : b < 256) : ((b / 2) &&& 85) ≤ b ∧ g1 b < 256 ∧ (g2 (g1 b) ≤ 68 ∧ g2 (g1 b) % 16 ≤ 4) ∧ g3 (g2 (g1 b)) = pcN 8 b ∧ pcN 8 b ≤ 8 := by
  have h : ∀ b : Fin 256, ((b.1 / 2) &&& 85) ≤ b.1 ∧ g1 b.1 < 256 ∧ (g2 (g1 b.1) ≤ 68 ∧ g2 (g1 b.1) % 16 ≤ 4) ∧ g3 (g2 (g1 b.1)) = pcN 8 b.1 ∧ pcN 8 b.1 ≤ 8 := by decide +kernel
  exact h ⟨b, hb⟩
def W4 (a b c d : Nat) : Nat := a + 256 * (b + 256 * (c + 256 * d))
theorem m_1 {a b c d : Nat} (ha : a < 256) (hb : b < 256) (hc : c < 256) (hd : d < 256) : (W4 a b c d / 2) &&& 1431655765 = W4 ((a / 2) &&& 85) ((b / 2) &&& 85) ((c / 2) &&& 85) ((d / 2) &&& 85) := by
  unfold W4
  rw [show (1431655765 : Nat) = 85 + 256 * (85 + 256 * (85 + 256 * 85)) from rfl, sh_1 ha, sh_1 hb, sh_1 hc]
theorem m_2 {a b c d : Nat} (ha : a < 256) (hb : b < 256) (hc : c < 256) (hd : d < 256) : (W4 a b c d / 4) &&& 858993459 = W4 ((a / 4) &&& 51) ((b / 4) &&& 51) ((c / 4) &&& 51) ((d / 4) &&& 51) := by
  unfold W4
  rw [show (858993459 : Nat) = 51 + 256 * (51 + 256 * (51 + 256 * 51)) from rfl, sh_2 ha, sh_2 hb, sh_2 hc]
theorem m_3 {a b c d : Nat} (ha : a < 256) (hb : b < 256) (hc : c < 256) (hd : d < 256) : W4 a b c d &&& 858993459 = W4 (a &&& 51) (b &&& 51) (c &&& 51) (d &&& 51) := by
  unfold W4
  rw [show (858993459 : Nat) = 51 + 256 * (51 + 256 * (51 + 256 * 51)) from rfl, land_split ha (by omega), land_split hb (by omega), land_split hc (by omega)]
theorem m_4 {a b c d : Nat} (ha : a < 256) (hb : b < 256) (hc : c < 256) (hd : d < 256) : W4 a b c d &&& 252645135 = W4 (a % 16) (b % 16) (c % 16) (d % 16) := by
  unfold W4
  have e : ∀ x : Nat, x % 16 = x &&& 15 := fun x => (Nat.and_two_pow_sub_one_eq_mod x 4).symm
  rw [show (252645135 : Nat) = 15 + 256 * (15 + 256 * (15 + 256 * 15)) from rfl, land_split ha (by omega), land_split hb (by omega), land_split hc (by omega), e, e, e, e]
theorem W4_lt {a b c d : Nat} (ha : a < 256) (hb : b < 256) (hc : c < 256) (hd : d < 256) : W4 a b c d < 4294967296 := by unfold W4; omega
theorem e_J7_bitCount {v : Int32} {S : zSt} : F_J7_bitCount v S = some (n2 (pc v), S) := by
  have hN : ∀ x : Nat, x < 4294967296 → i32n (n2 x) = x := fun x hx => by
    show (BitVec.ofNat 32 x).toNat = x
    rw [BitVec.toNat_ofNat]
    exact Nat.mod_eq_of_lt hx
  have hO : ∀ u : Int32, u = n2 (i32n u) := fun u => Int32.toBitVec.inj (BitVec.eq_of_toNat_eq (by
    show u.toBitVec.toNat = (BitVec.ofNat 32 u.toBitVec.toNat).toNat
    rw [BitVec.toNat_ofNat, Nat.mod_eq_of_lt u.toBitVec.isLt]))
  have hand : ∀ x y : Nat, x < 4294967296 → y < 4294967296 → n2 x &&& n2 y = n2 (x &&& y) := fun x y hx hy => by
    rw [hO (n2 x &&& n2 y)]
    show n2 (((n2 x).toBitVec &&& (n2 y).toBitVec).toNat) = _
    rw [BitVec.toNat_and]
    show n2 (i32n (n2 x) &&& i32n (n2 y)) = _
    rw [hN x hx, hN y hy]
  have hsh : ∀ x k : Nat, x < 4294967296 → k < 32 → iushr (n2 x) (n2 k) = n2 (x / 2 ^ k) := fun x k hx hk => by
    rw [hO (iushr (n2 x) (n2 k))]
    unfold i32n
    rw [iushr_n2 hk, BitVec.toNat_ushiftRight]
    show n2 (i32n (n2 x) >>> k) = _
    rw [hN x hx, Nat.shiftRight_eq_div_pow]
  have hl := i32n_lt v
  rw [hO v]
  obtain ⟨a, b, c, d, ha, hb, hc, hd, e0⟩ : ∃ a b c d, a < 256 ∧ b < 256 ∧ c < 256 ∧ d < 256 ∧ i32n v = W4 a b c d := ⟨i32n v % 256, i32n v / 256 % 256, i32n v / 65536 % 256, i32n v / 16777216, by omega, by omega, by omega, by omega, by unfold W4; omega⟩
  rw [e0]
  have hw := W4_lt ha hb hc hd
  have hpc : pc (n2 (W4 a b c d)) = pcN 8 a + (pcN 8 b + (pcN 8 c + pcN 8 d)) := by
    unfold pc
    rw [hN _ hw]
    unfold W4
    rw [show (32 : Nat) = 8 + 24 from rfl, show 256 * (b + 256 * (c + 256 * d)) = 2 ^ 8 * (b + 256 * (c + 256 * d)) from rfl, pcN_split ha, show (24 : Nat) = 8 + 16 from rfl, show 256 * (c + 256 * d) = 2 ^ 8 * (c + 256 * d) from rfl, pcN_split hb, show (16 : Nat) = 8 + 8 from rfl, show 256 * d = 2 ^ 8 * d from rfl, pcN_split hc]
  rw [hpc]
  obtain ⟨a1, a2, a3, a4, a5⟩ := g_ok a ha
  obtain ⟨b1, b2, b3, b4, b5⟩ := g_ok b hb
  obtain ⟨c1, c2, c3, c4, c5⟩ := g_ok c hc
  obtain ⟨d1, d2, d3, d4, d5⟩ := g_ok d hd
  unfold F_J7_bitCount
  simp only [zlet_eq]
  have k1 : (1431655765 : Int32) = n2 1431655765 := rfl
  have k2 : (858993459 : Int32) = n2 858993459 := rfl
  have k3 : (252645135 : Int32) = n2 252645135 := rfl
  have s1 : n2 (W4 a b c d) - (iushr (n2 (W4 a b c d)) 1 &&& 1431655765) = n2 (W4 (g1 a) (g1 b) (g1 c) (g1 d)) := by
    rw [k1, n2_1, hsh _ 1 hw (by decide), hand _ _ (by omega) (by decide), show W4 a b c d / 2 ^ 1 = W4 a b c d / 2 from rfl, m_1 ha hb hc hd, n2_sub (by unfold W4; omega)]
    refine congrArg n2 ?_
    unfold W4 g1
    omega
  have hw1 := W4_lt a2 b2 c2 d2
  have s2 : (n2 (W4 (g1 a) (g1 b) (g1 c) (g1 d)) &&& 858993459) + (iushr (n2 (W4 (g1 a) (g1 b) (g1 c) (g1 d))) 2 &&& 858993459) = n2 (W4 (g2 (g1 a)) (g2 (g1 b)) (g2 (g1 c)) (g2 (g1 d))) := by
    rw [k2, n2_2, hsh _ 2 hw1 (by decide), hand _ _ hw1 (by decide), hand _ _ (by omega) (by decide), show W4 (g1 a) (g1 b) (g1 c) (g1 d) / 2 ^ 2 = W4 (g1 a) (g1 b) (g1 c) (g1 d) / 4 from rfl, m_2 a2 b2 c2 d2, m_3 a2 b2 c2 d2, n2_add]
    refine congrArg n2 ?_
    unfold W4 g2
    omega
  rw [s1, s2]
  generalize g2 (g1 a) = p at a3 a4 ⊢
  generalize g2 (g1 b) = q at b3 b4 ⊢
  generalize g2 (g1 c) = r at c3 c4 ⊢
  generalize g2 (g1 d) = t at d3 d4 ⊢
  have hw2 : W4 p q r t < 4294967296 := W4_lt (by omega) (by omega) (by omega) (by omega)
  have s3 : (n2 (W4 p q r t) + iushr (n2 (W4 p q r t)) 4) &&& 252645135 = n2 (W4 (g3 p) (g3 q) (g3 r) (g3 t)) := by
    have e9 : W4 p q r t + W4 p q r t / 2 ^ 4 = W4 (p + p / 16 + 16 * (q % 16)) (q + q / 16 + 16 * (r % 16)) (r + r / 16 + 16 * (t % 16)) (t + t / 16) := by
      show W4 p q r t + W4 p q r t / 16 = _
      unfold W4
      omega
    rw [k3, n2_4, hsh _ 4 hw2 (by decide), n2_add, e9, hand _ _ (W4_lt (by omega) (by omega) (by omega) (by omega)) (by decide), m_4 (by omega) (by omega) (by omega) (by omega)]
    refine congrArg n2 ?_
    unfold W4 g3
    omega
  rw [s3, a4, b4, c4, d4]
  generalize pcN 8 a = x at a5 ⊢
  generalize pcN 8 b = y at b5 ⊢
  generalize pcN 8 c = z at c5 ⊢
  generalize pcN 8 d = w at d5 ⊢
  have hw3 : W4 x y z w < 4294967296 := W4_lt (by omega) (by omega) (by omega) (by omega)
  have s4 : n2 (W4 x y z w) + iushr (n2 (W4 x y z w)) 8 = n2 (W4 (x + y) (y + z) (z + w) w) := by
    rw [n2_8, hsh _ 8 hw3 (by decide), n2_add]
    refine congrArg n2 ?_
    show W4 x y z w + W4 x y z w / 256 = _
    unfold W4
    omega
  have hw4 : W4 (x + y) (y + z) (z + w) w < 4294967296 := W4_lt (by omega) (by omega) (by omega) (by omega)
  have s5 : n2 (W4 (x + y) (y + z) (z + w) w) + iushr (n2 (W4 (x + y) (y + z) (z + w) w)) 16 = n2 (W4 (x + y + (z + w)) (y + z + w) (z + w) w) := by
    rw [show (16 : Int32) = n2 16 from rfl, hsh _ 16 hw4 (by decide), n2_add]
    refine congrArg n2 ?_
    show W4 (x + y) (y + z) (z + w) w + W4 (x + y) (y + z) (z + w) w / 65536 = _
    unfold W4
    omega
  rw [s4, s5, show (63 : Int32) = n2 63 from rfl, hand _ _ (W4_lt (by omega) (by omega) (by omega) (by omega)) (by decide)]
  have e : ∀ u : Nat, u &&& 63 = u % 64 := fun u => Nat.and_two_pow_sub_one_eq_mod u 6
  rw [e, show W4 (x + y + (z + w)) (y + z + w) (z + w) w % 64 = x + (y + (z + w)) by unfold W4; omega]
