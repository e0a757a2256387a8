/-! PLAIN LAW: words of the calculus -/
set_option maxRecDepth 100000
def n2 (k : Nat) : Int32 := Int32.ofNat k
def mo : Int32 := -1
theorem n2_0 : (0 : Int32) = n2 0 := rfl
theorem n2_1 : (1 : Int32) = n2 1 := rfl
theorem n2_2 : (2 : Int32) = n2 2 := rfl
theorem n2_3 : (3 : Int32) = n2 3 := rfl
theorem n2_4 : (4 : Int32) = n2 4 := rfl
theorem n2_5 : (5 : Int32) = n2 5 := rfl
theorem n2_6 : (6 : Int32) = n2 6 := rfl
theorem n2_8 : (8 : Int32) = n2 8 := rfl
theorem n2_20 : (20 : Int32) = n2 20 := rfl
theorem n2_31 : (31 : Int32) = n2 31 := rfl
theorem n2_32 : (32 : Int32) = n2 32 := rfl
theorem n2_60 : (60 : Int32) = n2 60 := rfl
theorem n2_64 : (64 : Int32) = n2 64 := rfl
theorem n2_100 : (100 : Int32) = n2 100 := rfl
theorem n2_1000000 : (1000000 : Int32) = n2 1000000 := rfl
theorem n2_mo : -(n2 1) = mo := rfl
theorem n2_int {k : Nat} (h : k < 2147483648) : (n2 k).toInt = k := Int32.toInt_ofNat_of_lt h
theorem n2_nat {k : Nat} (h : k < 2147483648) : (n2 k).toNatClampNeg = k := Int32.toNatClampNeg_ofNat_of_lt h
theorem n2_le {a b : Nat} (ha : a < 2147483648) (hb : b < 2147483648) : n2 a ≤ n2 b ↔ a ≤ b := Int32.ofNat_le_iff_le ha hb
theorem n2_lt {a b : Nat} (ha : a < 2147483648) (hb : b < 2147483648) : n2 a < n2 b ↔ a < b := Int32.ofNat_lt_iff_lt ha hb
theorem n2_eq {a b : Nat} (ha : a < 2147483648) (hb : b < 2147483648) : n2 a = n2 b ↔ a = b := ⟨fun h => by
  have := congrArg Int32.toInt h
  rw [n2_int ha, n2_int hb] at this
  omega, fun h => by rw [h]⟩
theorem n2_add {a b : Nat} : n2 a + n2 b = n2 (a + b) := (Int32.ofNat_add a b).symm
theorem n2_mul {a b : Nat} : n2 a * n2 b = n2 (a * b) := (Int32.ofNat_mul a b).symm
theorem n2_sub {a b : Nat} (h : b ≤ a) : n2 a - n2 b = n2 (a - b) := (Int32.ofNat_sub a b h).symm
theorem n2_div {a b : Nat} (ha : a < 2147483648) (hb : b < 2147483648) : n2 a / n2 b = n2 (a / b) := (Int32.ofNat_div ha hb).symm
theorem n2_mod {a b : Nat} (ha : a < 2147483648) (hb : b < 2147483648) : n2 a % n2 b = n2 (a % b) := (Int32.ofNat_mod ha hb).symm
theorem mo_int : mo.toInt = -1 := by decide
theorem n2_ne_mo {a : Nat} (ha : a < 2147483648) : (n2 a = mo) = False := by
  refine eq_false fun h => ?_
  have := congrArg Int32.toInt h
  rw [n2_int ha, mo_int] at this
  omega
theorem mo_ne_n2 {a : Nat} (ha : a < 2147483648) : (mo = n2 a) = False := by
  rw [eq_comm (a := mo)]; exact n2_ne_mo ha
theorem mo_lt {a : Nat} (ha : a < 2147483648) : (mo < n2 a) = True := by
  rw [Int32.lt_iff_toInt_lt, n2_int ha, mo_int]; exact eq_true (by omega)
theorem mo_le {a : Nat} (ha : a < 2147483648) : (mo ≤ n2 a) = True := by
  rw [Int32.le_iff_toInt_le, n2_int ha, mo_int]; exact eq_true (by omega)
theorem n2_lt_mo {a : Nat} (ha : a < 2147483648) : (n2 a < mo) = False := by
  rw [Int32.lt_iff_toInt_lt, n2_int ha, mo_int]; exact eq_false (by omega)
theorem n2_le_mo {a : Nat} (ha : a < 2147483648) : (n2 a ≤ mo) = False := by
  rw [Int32.le_iff_toInt_le, n2_int ha, mo_int]; exact eq_false (by omega)
theorem n2_dec {a : Nat} (h : 0 < a) : n2 a + mo = n2 (a - 1) := by
  have : n2 (a - 1) + n2 1 = n2 a := by rw [n2_add]; congr 1; omega
  rw [← this, Int32.add_assoc]
  have : n2 1 + mo = 0 := by decide
  rw [this, Int32.add_zero]
theorem n2_dec0 : n2 0 + mo = mo := by decide
theorem n2_of {x : Int32} (h0 : (0 : Int32) ≤ x) : x = n2 x.toNatClampNeg := (Int32.ofNat_toNatClampNeg x h0).symm
theorem n2_of_lt {x : Int32} {m : Nat} (h0 : n2 0 ≤ x) (hm : x < n2 m) (h : m < 2147483648) : ∃ k, x = n2 k ∧ k < m := by
  refine ⟨x.toNatClampNeg, n2_of h0, ?_⟩
  rw [n2_of h0, n2_lt ?_ h] at hm
  · exact hm
  · exact Int32.toNatClampNeg_lt x
/-- lists of ints in a place -/
def sA (S : zSt) (k : Nat) (A : Nat → Int32) : zSt := (fun a b => if a = k then A b else S.1 a b, S.2)
def sB (S : zSt) (k : Nat) (A : Nat → Int64) : zSt := (S.1, fun a b => if a = k then A b else S.2 a b)
theorem sA_1 {S : zSt} {k a b : Nat} {A : Nat → Int32} : (sA S k A).1 a b = if a = k then A b else S.1 a b := rfl
theorem sA_2 {S : zSt} {k : Nat} {A : Nat → Int32} : (sA S k A).2 = S.2 := rfl
theorem sI_1 {S : zSt} {k j a b : Nat} {x : Int32} : (sI S k j x).1 a b = if a = k then (if b = j then x else S.1 a b) else S.1 a b := rfl
theorem sIx_2 {S : zSt} {k j : Nat} {x : Int32} : (sI S k j x).2 = S.2 := rfl
theorem sL_1 {S : zSt} {k j : Nat} {x : Int64} : (sL S k j x).1 = S.1 := rfl
theorem sL_2 {S : zSt} {k j a b : Nat} {x : Int64} : (sL S k j x).2 a b = if a = k then (if b = j then x else S.2 a b) else S.2 a b := rfl
theorem sB_1 {S : zSt} {k : Nat} {A : Nat → Int64} : (sB S k A).1 = S.1 := rfl
theorem sB_2 {S : zSt} {k a b : Nat} {A : Nat → Int64} : (sB S k A).2 a b = if a = k then A b else S.2 a b := rfl
theorem zSt_ext {S T : zSt} (h1 : ∀ a b, S.1 a b = T.1 a b) (h2 : ∀ a b, S.2 a b = T.2 a b) : S = T := by
  obtain ⟨s1, s2⟩ := S
  obtain ⟨t1, t2⟩ := T
  have e1 : s1 = t1 := funext fun a => funext fun b => h1 a b
  have e2 : s2 = t2 := funext fun a => funext fun b => h2 a b
  rw [e1, e2]
theorem sI_sA {S : zSt} {k j : Nat} {A : Nat → Int32} {x : Int32} : sI (sA S k A) k j x = sA S k (fun b => if b = j then x else A b) := by
  refine zSt_ext (fun a b => ?_) (fun a b => rfl)
  simp only [sI_1, sA_1]
  by_cases h : a = k <;> simp [h]
theorem sI_sA_ne {S : zSt} {k l j : Nat} {B : Nat → Int32} {x : Int32} (h : k ≠ l) : sI (sA S l B) k j x = sA (sI S k j x) l B := by
  refine zSt_ext (fun a b => ?_) (fun a b => rfl)
  simp only [sI_1, sA_1]
  by_cases h1 : a = k
  · subst h1; simp [h]
  · by_cases h2 : a = l
    · subst h2; simp [h1]
    · simp [h1, h2]
theorem sI_to {S : zSt} {k j : Nat} {x : Int32} : sI S k j x = sA S k (fun b => if b = j then x else S.1 k b) := by
  refine zSt_ext (fun a b => ?_) (fun a b => rfl)
  simp only [sI_1, sA_1]
  by_cases h : a = k
  · subst h; simp
  · simp [h]
theorem sA_sA {S : zSt} {k : Nat} {A B : Nat → Int32} : sA (sA S k A) k B = sA S k B := by
  refine zSt_ext (fun a b => ?_) (fun a b => rfl)
  simp only [sA_1]
  by_cases h : a = k <;> simp [h]
theorem sA_sA_ne {S : zSt} {k l : Nat} {A B : Nat → Int32} (h : k ≠ l) : sA (sA S l B) k A = sA (sA S k A) l B := by
  refine zSt_ext (fun a b => ?_) (fun a b => rfl)
  simp only [sA_1]
  by_cases h1 : a = k
  · subst h1; simp [h]
  · by_cases h2 : a = l
    · subst h2; simp [h1]
    · simp [h1, h2]
theorem sA_self {S : zSt} {k : Nat} : sA S k (S.1 k) = S := by
  refine zSt_ext (fun a b => ?_) (fun a b => rfl)
  simp only [sA_1]
  by_cases h : a = k
  · subst h; simp
  · simp [h]
theorem sI_sI {S : zSt} {k j : Nat} {x y : Int32} : sI (sI S k j x) k j y = sI S k j y := by
  refine zSt_ext (fun a b => ?_) (fun a b => rfl)
  simp only [sI_1]
  by_cases h : a = k
  · by_cases h2 : b = j <;> simp [h, h2]
  · simp [h]
theorem sI_self {S : zSt} {k j : Nat} {x : Int32} (h : S.1 k j = x) : sI S k j x = S := by
  refine zSt_ext (fun a b => ?_) (fun a b => rfl)
  simp only [sI_1]
  by_cases h1 : a = k
  · by_cases h2 : b = j
    · subst h1; subst h2; simp [h]
    · simp [h1, h2]
  · simp [h1]
/-- ends of the pure functions -/
def wp {ρ : Type} (f : Option (ρ × zSt)) (Q : ρ → zSt → Prop) : Prop := ∃ r S, f = some (r, S) ∧ Q r S
theorem wp_some {ρ : Type} {r : ρ} {S : zSt} {Q : ρ → zSt → Prop} (h : Q r S) : wp (some (r, S)) Q := ⟨r, S, rfl, h⟩
theorem wp_eq {ρ : Type} {f : Option (ρ × zSt)} {r : ρ} {S : zSt} {Q : ρ → zSt → Prop} (e : f = some (r, S)) (h : Q r S) : wp f Q := ⟨r, S, e, h⟩
theorem wp_mono {ρ : Type} {f : Option (ρ × zSt)} {P Q : ρ → zSt → Prop} (h : wp f P) (k : ∀ r S, P r S → Q r S) : wp f Q := by
  obtain ⟨r, S, e, p⟩ := h
  exact ⟨r, S, e, k r S p⟩
theorem zbind_some {ρ σ : Type} {r : ρ} {S : zSt} {k : ρ → zSt → Option σ} : zbind (some (r, S)) k = k r S := rfl
theorem wp_bind {ρ σ : Type} {f : Option (ρ × zSt)} {P : ρ → zSt → Prop} {k : ρ → zSt → Option (σ × zSt)} {Q : σ → zSt → Prop} (h : wp f P) (hk : ∀ r S, P r S → wp (k r S) Q) : wp (zbind f k) Q := by
  obtain ⟨r, S, e, p⟩ := h
  rw [e]
  exact hk r S p
theorem zlet_eq {α β : Type} {e : α} {f : α → β} : zlet e f = f e := rfl
theorem joinK_eq {κ ρ : Type} {k : κ} {e : κ → ρ} : joinK k e = e k := rfl
theorem chk_n2 {ρ : Type} {k n : Nat} {f : Option ρ} (h : k < n) (hn : n ≤ 2147483648) : chk (n2 k) n f = f := by
  unfold chk
  have hk : k < 2147483648 := Nat.lt_of_lt_of_le h hn
  rw [if_neg]
  rintro (h1 | h1)
  · rw [n2_0, n2_lt hk (by decide)] at h1
    omega
  · rw [n2_nat hk] at h1
    omega
theorem nz_n2 {ρ : Type} {k : Nat} {f : Option ρ} (h : 0 < k) (hn : k < 2147483648) : nz (n2 k) f = f := by
  unfold nz
  rw [if_neg]
  rw [n2_0, n2_eq hn (by decide)]
  omega
theorem zif_t {ρ : Type} {c : Prop} [Decidable c] {a b : ρ} (h : c) : (if c then a else b) = a := if_pos h
theorem zif_f {ρ : Type} {c : Prop} [Decidable c] {a b : ρ} (h : ¬ c) : (if c then a else b) = b := if_neg h
/-- loops: any measure -/
theorem loopK_rule {κ : Type} {bot : κ} {body : κ → κ} (P : Nat → κ → Prop) (h : ∀ m rec, (∀ m', m' < m → P m' rec) → P m (body rec)) : ∀ n m, m < n → P m (loopK bot body n) := by
  intro n
  induction n with
  | zero => intro m hm; omega
  | succ n ih => intro m hm; exact h m _ (fun m' hm' => ih m' (by omega))
theorem loopZ {κ : Type} {bot : κ} {body : κ → κ} (P : Nat → κ → Prop) (h : ∀ m rec, (∀ m', m' < m → P m' rec) → P m (body rec)) (m : Nat) (hm : m < 1000000) : P m (loopK bot body zfuel) := loopK_rule P h zfuel m hm
/-- a loop that counts up to N -/
theorem forZ {ρ : Type} {bot : Int32 → zSt → Option (ρ × zSt)} {body : (Int32 → zSt → Option (ρ × zSt)) → Int32 → zSt → Option (ρ × zSt)} {Q : ρ → zSt → Prop} (N : Nat) (I : Nat → zSt → Prop) (hN : N < 1000000)
    (step : ∀ rec i S, i < N → I i S → (∀ S', I (i + 1) S' → wp (rec (n2 (i + 1)) S') Q) → wp (body rec (n2 i) S) Q)
    (stop : ∀ rec S, I N S → wp (body rec (n2 N) S) Q) {i : Nat} {S : zSt} (hi : i ≤ N) (hI : I i S) : wp (loopK bot body zfuel (n2 i) S) Q := by
  refine loopZ (fun m (k : Int32 → zSt → Option (ρ × zSt)) => ∀ i S, i + m = N → I i S → wp (k (n2 i) S) Q) ?_ (N - i) (by omega) i S (by omega) hI
  intro m rec hr i S hm hI
  by_cases h : i < N
  · exact step rec i S h hI (fun S' h' => hr (m - 1) (by omega) (i + 1) S' (by omega) h')
  · have : i = N := by omega
    subst this
    exact stop rec S hI
/-- the same, another number ahead of the count -/
theorem forZa {ρ α : Type} {bot : α → Int32 → zSt → Option (ρ × zSt)} {body : (α → Int32 → zSt → Option (ρ × zSt)) → α → Int32 → zSt → Option (ρ × zSt)} {Q : ρ → zSt → Prop} (N : Nat) (I : Nat → α → zSt → Prop) (hN : N < 1000000)
    (step : ∀ rec i x S, i < N → I i x S → (∀ x' S', I (i + 1) x' S' → wp (rec x' (n2 (i + 1)) S') Q) → wp (body rec x (n2 i) S) Q)
    (stop : ∀ rec x S, I N x S → wp (body rec x (n2 N) S) Q) {i : Nat} {x : α} {S : zSt} (hi : i ≤ N) (hI : I i x S) : wp (loopK bot body zfuel x (n2 i) S) Q := by
  refine loopZ (fun m (k : α → Int32 → zSt → Option (ρ × zSt)) => ∀ i x S, i + m = N → I i x S → wp (k x (n2 i) S) Q) ?_ (N - i) (by omega) i x S (by omega) hI
  intro m rec hr i x S hm hI
  by_cases h : i < N
  · exact step rec i x S h hI (fun x' S' h' => hr (m - 1) (by omega) (i + 1) x' S' (by omega) h')
  · have : i = N := by omega
    subst this
    exact stop rec x S hI
/-- the same, another number behind the count -/
theorem forZb {ρ α : Type} {bot : Int32 → α → zSt → Option (ρ × zSt)} {body : (Int32 → α → zSt → Option (ρ × zSt)) → Int32 → α → zSt → Option (ρ × zSt)} {Q : ρ → zSt → Prop} (N : Nat) (I : Nat → α → zSt → Prop) (hN : N < 1000000)
    (step : ∀ rec i x S, i < N → I i x S → (∀ x' S', I (i + 1) x' S' → wp (rec (n2 (i + 1)) x' S') Q) → wp (body rec (n2 i) x S) Q)
    (stop : ∀ rec x S, I N x S → wp (body rec (n2 N) x S) Q) {i : Nat} {x : α} {S : zSt} (hi : i ≤ N) (hI : I i x S) : wp (loopK bot body zfuel (n2 i) x S) Q := by
  refine loopZ (fun m (k : Int32 → α → zSt → Option (ρ × zSt)) => ∀ i x S, i + m = N → I i x S → wp (k (n2 i) x S) Q) ?_ (N - i) (by omega) i x S (by omega) hI
  intro m rec hr i x S hm hI
  by_cases h : i < N
  · exact step rec i x S h hI (fun x' S' h' => hr (m - 1) (by omega) (i + 1) x' S' (by omega) h')
  · have : i = N := by omega
    subst this
    exact stop rec x S hI
/-- bits -/
def zb (v : Int32) (k : Nat) : Bool := v.toBitVec.getLsbD k
theorem zb_and {a b : Int32} {k : Nat} : zb (a &&& b) k = (zb a k && zb b k) := by simp [zb]
theorem zb_or {a b : Int32} {k : Nat} : zb (a ||| b) k = (zb a k || zb b k) := by simp [zb]
theorem zb_xor {a b : Int32} {k : Nat} : zb (a ^^^ b) k = (zb a k ^^ zb b k) := by simp [zb]
theorem zb_not {a : Int32} {k : Nat} (h : k < 32) : zb (~~~a) k = !zb a k := by simp [zb, h]
theorem zb_ge {a : Int32} {k : Nat} (h : 32 ≤ k) : zb a k = false := BitVec.getLsbD_of_ge _ _ h
theorem zb_ext {a b : Int32} (h : ∀ k, k < 32 → zb a k = zb b k) : a = b := by
  refine Int32.toBitVec.inj (BitVec.eq_of_getLsbD_eq fun i hi => h i hi)
theorem zb_n2 {m k : Nat} (h : k < 32) : zb (n2 m) k = m.testBit k := by
  show (BitVec.ofNat 32 m).getLsbD k = _
  rw [BitVec.getLsbD_ofNat]
  simp [h]
theorem zb_mo {k : Nat} (h : k < 32) : zb mo k = true := by
  have : ∀ k : Fin 32, zb mo k.1 = true := by decide +kernel
  exact this ⟨k, h⟩
theorem shl_n2 {k : Nat} (h : k < 32) : n2 1 <<< (n2 k &&& n2 31) = n2 (2 ^ k) := by
  have : ∀ k : Fin 32, n2 1 <<< (n2 k.1 &&& n2 31) = n2 (2 ^ k.1) := by decide +kernel
  exact this ⟨k, h⟩
theorem zb_two {k j : Nat} (hj : j < 32) : zb (n2 (2 ^ k)) j = decide (k = j) := by
  rw [zb_n2 hj, Nat.testBit_two_pow]
theorem iushr_n2 {a : Int32} {k : Nat} (h : k < 32) : (iushr a (n2 k)).toBitVec = a.toBitVec >>> k := by
  have h1 : ∀ k : Fin 32, ((n2 k.1).toUInt32 &&& Int32.toUInt32 31) = UInt32.ofNat k.1 := by decide +kernel
  have h2 := h1 ⟨k, h⟩
  unfold iushr
  rw [h2]
  show (a.toUInt32 >>> UInt32.ofNat k).toBitVec = _
  rw [UInt32.toBitVec_shiftRight]
  have h3 : ((UInt32.ofNat k).toBitVec % 32).toNat = k := by
    have : ∀ k : Fin 32, ((UInt32.ofNat k.1).toBitVec % 32).toNat = k.1 := by decide +kernel
    exact this ⟨k, h⟩
  rw [BitVec.ushiftRight_eq', h3]
  rfl
theorem zb_iushr {a : Int32} {k j : Nat} (h : k < 32) : zb (iushr a (n2 k)) j = zb a (k + j) := by
  unfold zb
  rw [iushr_n2 h, BitVec.getLsbD_ushiftRight]
theorem zb_one {a : Int32} : a &&& n2 1 = n2 (if zb a 0 then 1 else 0) := by
  refine zb_ext fun k hk => ?_
  rw [zb_and, zb_n2 hk, zb_n2 hk]
  by_cases h0 : k = 0
  · subst h0
    cases zb a 0 <;> rfl
  · have h1 : Nat.testBit 1 k = false := by
      rw [show (1 : Nat) = 2 ^ 0 from rfl, Nat.testBit_two_pow]
      simpa using Ne.symm h0
    rw [h1, Bool.and_false]
    cases zb a 0
    · simp
    · simp [h1]
theorem iushr_one {a : Int32} {k : Nat} (h : k < 32) : iushr a (n2 k) &&& n2 1 = n2 (if zb a k then 1 else 0) := by
  rw [zb_one, zb_iushr h]; rfl
theorem toBitVec_n2 {k : Nat} : (n2 k).toBitVec = BitVec.ofNat 32 k := rfl
theorem zb_sshr {a : Int32} {k j : Nat} (h : k + j < 32) : zb (a >>> (n2 k &&& n2 31)) j = zb a (k + j) := by
  have h1 : ∀ k : Fin 32, ((n2 k.1 &&& n2 31).toBitVec.smod 32).toNat = k.1 := by decide +kernel
  have h2 := h1 ⟨k, by omega⟩
  show (BitVec.sshiftRight' a.toBitVec ((n2 k &&& n2 31).toBitVec.smod 32)).getLsbD j = _
  unfold BitVec.sshiftRight'
  rw [h2, BitVec.getLsbD_sshiftRight]
  have h3 : ¬ 32 ≤ j := by omega
  simp [h3, h, zb]
theorem sshr_one {a : Int32} {k : Nat} (h : k < 32) : (a >>> (n2 k &&& n2 31)) &&& n2 1 = n2 (if zb a k then 1 else 0) := by
  rw [zb_one, zb_sshr (by omega)]; rfl
/-- neighbours -/
def nb (s w : Nat) : Nat := s ^^^ 2 ^ w
theorem nb_lt {n s w : Nat} (hs : s < 2 ^ n) (hw : w < n) : nb s w < 2 ^ n := Nat.xor_lt_two_pow hs (Nat.pow_lt_pow_right (by decide) hw)
theorem nb_nb {s w : Nat} : nb (nb s w) w = s := by unfold nb; rw [Nat.xor_assoc, Nat.xor_self, Nat.xor_zero]
theorem nb_bit {s w j : Nat} : (nb s w).testBit j = (s.testBit j ^^ decide (w = j)) := by
  unfold nb
  rw [Nat.testBit_xor, Nat.testBit_two_pow]
theorem nb_ne {s w : Nat} : nb s w ≠ s := by
  intro h
  have := congrArg (fun x => x.testBit w) h
  simp only [nb_bit] at this
  cases h : s.testBit w <;> simp [h] at this
theorem nb_inj {s w v : Nat} (h : nb s w = nb s v) : w = v := by
  have := congrArg (fun x => x.testBit w) h
  simp only [nb_bit] at this
  by_cases e : v = w
  · exact e.symm
  · cases h : s.testBit w <;> simp [h, e] at this
theorem n2_xor {a b : Nat} : n2 a ^^^ n2 b = n2 (a ^^^ b) := by
  refine zb_ext fun k hk => ?_
  rw [zb_xor, zb_n2 hk, zb_n2 hk, zb_n2 hk, Nat.testBit_xor]
theorem n2_and {a b : Nat} : n2 a &&& n2 b = n2 (a &&& b) := by
  refine zb_ext fun k hk => ?_
  rw [zb_and, zb_n2 hk, zb_n2 hk, zb_n2 hk, Nat.testBit_and]
theorem n2_or {a b : Nat} : n2 a ||| n2 b = n2 (a ||| b) := by
  refine zb_ext fun k hk => ?_
  rw [zb_or, zb_n2 hk, zb_n2 hk, zb_n2 hk, Nat.testBit_or]
theorem n2_nb {s w : Nat} (hw : w < 32) : n2 s ^^^ (n2 1 <<< (n2 w &&& n2 31)) = n2 (nb s w) := by
  rw [shl_n2 hw, n2_xor]; rfl
/-- longs -/
theorem i64_le {a b : Int32} : a.toInt64 ≤ b.toInt64 ↔ a ≤ b := Int32.toInt64_le
theorem i64_lt {a b : Int32} : a.toInt64 < b.toInt64 ↔ a < b := Int32.toInt64_lt
theorem i64_0 : (0 : Int64) = (n2 0).toInt64 := by decide
theorem i64_1 : (1 : Int64) = (n2 1).toInt64 := by decide
theorem i64_3 : (3 : Int64) = (n2 3).toInt64 := by decide
theorem n2_xnb {s w : Nat} : n2 s ^^^ n2 (2 ^ w) = n2 (nb s w) := n2_xor
