/-! PLAIN LAW: towns as graphs, how far, walks counted -/
set_option maxRecDepth 100000
theorem ex_least {p : Nat → Prop} (h : ∃ k, p k) : ∃ k, p k ∧ ∀ m, m < k → ¬ p m := by
  obtain ⟨k, hk⟩ := h
  induction k using Nat.strongRecOn with
  | ind k ih =>
    by_cases hm : ∃ m, m < k ∧ p m
    · obtain ⟨m, h1, h2⟩ := hm
      exact ih m h1 h2
    · exact ⟨k, hk, fun m h1 h2 => hm ⟨m, h1, h2⟩⟩
theorem php : ∀ (N : Nat) (f : Nat → Nat), (∀ i, i ≤ N → f i < N) → ∃ i j, i < j ∧ j ≤ N ∧ f i = f j := by
  intro N
  induction N with
  | zero => intro f h; have := h 0 (Nat.le_refl _); omega
  | succ N ih =>
    intro f h
    by_cases hx : ∃ i, i ≤ N ∧ f i = f (N + 1)
    · obtain ⟨i, h1, h2⟩ := hx
      exact ⟨i, N + 1, by omega, Nat.le_refl _, h2⟩
    · obtain ⟨i, j, h1, h2, h3⟩ := ih (fun i => if f i = N then f (N + 1) else f i) (by
        intro i hi
        show (if f i = N then f (N + 1) else f i) < N
        have a1 := h i (by omega)
        have a2 := h (N + 1) (Nat.le_refl _)
        have a3 : f i ≠ f (N + 1) := fun e => hx ⟨i, hi, e⟩
        split <;> omega)
      have a1 : f i ≠ f (N + 1) := fun e => hx ⟨i, by omega, e⟩
      have a2 : f j ≠ f (N + 1) := fun e => hx ⟨j, h2, e⟩
      refine ⟨i, j, h1, by omega, ?_⟩
      have h3 : (if f i = N then f (N + 1) else f i) = (if f j = N then f (N + 1) else f j) := h3
      split at h3 <;> split at h3 <;> omega
/-- a town: names n, which street is open -/
def Ed (n : Nat) (op : Nat → Nat → Bool) (s t : Nat) : Prop := s < 2 ^ n ∧ ∃ w, w < n ∧ op s w = true ∧ t = nb s w
def opS (n : Nat) (op : Nat → Nat → Bool) : Prop := ∀ s w, s < 2 ^ n → w < n → op (nb s w) w = op s w
theorem Ed_lt {n : Nat} {op : Nat → Nat → Bool} {s t : Nat} (h : Ed n op s t) : t < 2 ^ n := by
  obtain ⟨h1, w, h2, -, rfl⟩ := h
  exact nb_lt h1 h2
theorem Ed_sym {n : Nat} {op : Nat → Nat → Bool} (ho : opS n op) {s t : Nat} (h : Ed n op s t) : Ed n op t s := by
  have ht := Ed_lt h
  obtain ⟨h1, w, h2, h3, rfl⟩ := h
  exact ⟨ht, w, h2, by rw [ho s w h1 h2]; exact h3, nb_nb.symm⟩
def wk (E : Nat → Nat → Prop) : Nat → Nat → Nat → Prop
  | 0, a, b => a = b
  | d + 1, a, b => ∃ u, E a u ∧ wk E d u b
theorem wk_app {E : Nat → Nat → Prop} : ∀ {d e a b c : Nat}, wk E d a b → wk E e b c → wk E (d + e) a c := by
  intro d
  induction d with
  | zero => intro e a b c h1 h2; rw [Nat.zero_add]; cases h1; exact h2
  | succ d ih =>
    intro e a b c h1 h2
    obtain ⟨u, h3, h4⟩ := h1
    rw [Nat.add_right_comm]
    exact ⟨u, h3, ih h4 h2⟩
theorem wk_one {E : Nat → Nat → Prop} {a b : Nat} (h : E a b) : wk E 1 a b := ⟨b, h, rfl⟩
theorem wk_rev {E : Nat → Nat → Prop} (hs : ∀ a b, E a b → E b a) : ∀ {d a b : Nat}, wk E d a b → wk E d b a := by
  intro d
  induction d with
  | zero => intro a b h; exact h.symm
  | succ d ih =>
    intro a b h
    obtain ⟨u, h3, h4⟩ := h
    exact wk_app (ih h4) (wk_one (hs _ _ h3))
theorem wk_snoc {E : Nat → Nat → Prop} : ∀ {d a b : Nat}, wk E (d + 1) a b → ∃ u, wk E d a u ∧ E u b := by
  intro d
  induction d with
  | zero =>
    intro a b h
    obtain ⟨u, h3, h4⟩ := h
    cases h4
    exact ⟨a, rfl, h3⟩
  | succ d ih =>
    intro a b h
    obtain ⟨u, h3, h4⟩ := h
    obtain ⟨v, h5, h6⟩ := ih h4
    exact ⟨v, ⟨u, h3, h5⟩, h6⟩
theorem wk_lt {n : Nat} {op : Nat → Nat → Bool} : ∀ {d a b : Nat}, a < 2 ^ n → wk (Ed n op) d a b → b < 2 ^ n := by
  intro d
  induction d with
  | zero => intro a b h1 h; cases h; exact h1
  | succ d ih =>
    intro a b h1 h
    obtain ⟨u, h3, h4⟩ := h
    exact ih (Ed_lt h3) h4
/-- how far: 1000000 where there is no way -/
noncomputable def dis (E : Nat → Nat → Prop) (a b : Nat) : Nat := @dite Nat (∃ d, wk E d a b) (Classical.propDecidable _) (fun h => Classical.choose (ex_least h)) (fun _ => 1000000)
theorem dis_wk {E : Nat → Nat → Prop} {a b : Nat} (h : ∃ d, wk E d a b) : wk E (dis E a b) a b ∧ ∀ m, m < dis E a b → ¬ wk E m a b := by
  have e : dis E a b = Classical.choose (ex_least h) := dif_pos h
  rw [e]
  exact Classical.choose_spec (ex_least h)
theorem dis_no {E : Nat → Nat → Prop} {a b : Nat} (h : ¬ ∃ d, wk E d a b) : dis E a b = 1000000 := dif_neg h
theorem dis_le {E : Nat → Nat → Prop} {a b d : Nat} (h : wk E d a b) : dis E a b ≤ d := Nat.not_lt.mp fun hl => (dis_wk ⟨d, h⟩).2 d hl h
theorem dis_eq {E : Nat → Nat → Prop} {a b d : Nat} (h : wk E d a b) (hm : ∀ m, m < d → ¬ wk E m a b) : dis E a b = d := by
  have h1 := dis_le h
  have h2 := dis_wk ⟨d, h⟩
  rcases Nat.lt_or_ge (dis E a b) d with h3 | h3
  · exact absurd h2.1 (hm _ h3)
  · omega
theorem dis_sym {E : Nat → Nat → Prop} (hs : ∀ a b, E a b → E b a) (a b : Nat) : dis E a b = dis E b a := by
  by_cases h : ∃ d, wk E d a b
  · have h1 := dis_wk h
    exact (dis_eq (wk_rev hs h1.1) (fun m hm hw => h1.2 m hm (wk_rev hs hw))).symm
  · rw [dis_no h, dis_no (fun ⟨d, hd⟩ => h ⟨d, wk_rev hs hd⟩)]
theorem dis_self {E : Nat → Nat → Prop} (a : Nat) : dis E a a = 0 := dis_eq (d := 0) rfl (fun m hm => by omega)
/-- below a distance all lesser ones are met -/
theorem wk_mid {E : Nat → Nat → Prop} {a b d : Nat} (h : wk E d a b) (hm : ∀ m, m < d → ¬ wk E m a b) : ∀ e, e ≤ d → ∃ u, wk E e a u ∧ dis E a u = e ∧ wk E (d - e) u b := by
  intro e he
  obtain ⟨u, h1, h2⟩ : ∃ u, wk E e a u ∧ wk E (d - e) u b := by
    induction e with
    | zero => exact ⟨a, rfl, h⟩
    | succ e ih =>
      obtain ⟨u, h1, h2⟩ := ih (by omega)
      have : d - e = (d - (e + 1)) + 1 := by omega
      rw [this] at h2
      obtain ⟨v, h3, h4⟩ := h2
      exact ⟨v, wk_app h1 (wk_one h3), h4⟩
  refine ⟨u, h1, dis_eq h1 (fun m hm' hw => ?_), h2⟩
  exact hm (m + (d - e)) (by omega) (wk_app hw h2)
theorem dis_rch {E : Nat → Nat → Prop} {a b : Nat} (h : dis E a b ≠ 1000000) : ∃ d, wk E d a b := Classical.byContradiction fun hn => h (dis_no hn)
theorem dis_w {E : Nat → Nat → Prop} {a b : Nat} (h : dis E a b ≠ 1000000) : wk E (dis E a b) a b := (dis_wk (dis_rch h)).1
theorem dis_succ_le {E : Nat → Nat → Prop} {a u t : Nat} (h : dis E a u ≠ 1000000) (he : E u t) : dis E a t ≤ dis E a u + 1 := dis_le (wk_app (dis_w h) (wk_one he))
theorem dis_succ {E : Nat → Nat → Prop} {a u t d : Nat} (hd : d < 1000000) (h1 : dis E a u = d) (he : E u t) (hn : ¬ dis E a t ≤ d) : dis E a t = d + 1 := by
  have := dis_succ_le (E := E) (a := a) (u := u) (by omega) he
  omega
theorem dis_pred {E : Nat → Nat → Prop} {a t d : Nat} (h : dis E a t = d + 1) (hd : d + 1 < 1000000) : ∃ u, dis E a u = d ∧ E u t := by
  have hw := dis_w (E := E) (a := a) (b := t) (by omega)
  rw [h] at hw
  obtain ⟨u, h1, h2⟩ := wk_snoc hw
  refine ⟨u, ?_, h2⟩
  have h3 := dis_le h1
  have h4 := dis_succ_le (E := E) (a := a) (by omega) h2
  omega
theorem dis_zero {E : Nat → Nat → Prop} {a t : Nat} : dis E a t = 0 ↔ a = t := by
  constructor
  · intro h
    have hw := dis_w (E := E) (a := a) (b := t) (by omega)
    rw [h] at hw
    exact hw
  · rintro rfl; exact dis_self a
section
variable {n : Nat} {op : Nat → Nat → Bool}
theorem dis_lt {a b : Nat} (ha : a < 2 ^ n) (h : ∃ d, wk (Ed n op) d a b) : dis (Ed n op) a b < 2 ^ n := by
  have h1 := dis_wk h
  refine Nat.not_le.mp fun hge => ?_
  have h2 := wk_mid h1.1 h1.2
  have h3 : ∀ e, ∃ u, e ≤ dis (Ed n op) a b → dis (Ed n op) a u = e ∧ u < 2 ^ n := by
    intro e
    by_cases he : e ≤ dis (Ed n op) a b
    · obtain ⟨u, hu, hd, -⟩ := h2 e he
      exact ⟨u, fun _ => ⟨hd, wk_lt ha hu⟩⟩
    · exact ⟨0, fun h => absurd h he⟩
  obtain ⟨f, hf⟩ := Classical.axiomOfChoice h3
  obtain ⟨i, j, h4, h5, h6⟩ := php (2 ^ n) f (fun i hi => (hf i (by omega)).2)
  have a1 := (hf i (by omega)).1
  have a2 := (hf j (by omega)).1
  rw [h6] at a1
  omega
theorem dis_or {a : Nat} (ha : a < 2 ^ n) (b : Nat) : dis (Ed n op) a b < 2 ^ n ∨ dis (Ed n op) a b = 1000000 := by
  by_cases h : ∃ d, wk (Ed n op) d a b
  · exact Or.inl (dis_lt ha h)
  · exact Or.inr (dis_no h)
theorem dis_out {a b : Nat} (ha : a < 2 ^ n) (hb : ¬ b < 2 ^ n) : dis (Ed n op) a b = 1000000 := dis_no fun ⟨_, h⟩ => hb (wk_lt ha h)
/-- in the midst of a spread: those up to d are told, of the next level those that P names -/
def Mid (n : Nat) (D : Nat → Nat) (nn : Int32) (d : Nat) (P : Nat → Prop) (A : Nat → Int32) : Prop := ∀ t, t < 2 ^ n → (D t ≤ d ∧ A t = n2 (D t)) ∨ (¬ D t ≤ d ∧ P t ∧ A t = n2 (d + 1)) ∨ (¬ D t ≤ d ∧ ¬ P t ∧ A t = nn)
def Lvl (n : Nat) (op : Nat → Nat → Bool) (D : Nat → Nat) (d s : Nat) (t : Nat) : Prop := ∃ u, u < s ∧ D u = d ∧ Ed n op u t
def Lvw (n : Nat) (op : Nat → Nat → Bool) (D : Nat → Nat) (d s w : Nat) (t : Nat) : Prop := Lvl n op D d s t ∨ ∃ v, v < w ∧ op s v = true ∧ t = nb s v
theorem Mid_to {D : Nat → Nat} {nn : Int32} {d : Nat} {P P' : Nat → Prop} {A : Nat → Int32} (h : Mid n D nn d P A) (hp : ∀ t, t < 2 ^ n → (P t ↔ P' t)) : Mid n D nn d P' A := by
  intro t ht
  rcases h t ht with h1 | ⟨h1, h2, h3⟩ | ⟨h1, h2, h3⟩
  · exact Or.inl h1
  · exact Or.inr (Or.inl ⟨h1, (hp t ht).mp h2, h3⟩)
  · exact Or.inr (Or.inr ⟨h1, fun h => h2 ((hp t ht).mpr h), h3⟩)
theorem Mid_at {D : Nat → Nat} {nn : Int32} {d : Nat} {P : Nat → Prop} {A : Nat → Int32} (hnn : ∀ k, k < 1000000 → n2 k ≠ nn) (hd : d < 500000) (h : Mid n D nn d P A) {s : Nat} (hs : s < 2 ^ n) : A s = n2 d ↔ D s = d := by
  rcases h s hs with ⟨h1, h2⟩ | ⟨h1, h2, h3⟩ | ⟨h1, h2, h3⟩
  · rw [h2, n2_eq (by omega) (by omega)]
  · rw [h3, n2_eq (by omega) (by omega)]; omega
  · rw [h3]
    constructor
    · intro h; exact absurd h.symm (hnn d (by omega))
    · intro h; omega
theorem Mid_put {D : Nat → Nat} {nn : Int32} {d : Nat} {P : Nat → Prop} {A : Nat → Int32} (hnn : ∀ k, k < 1000000 → n2 k ≠ nn) (hd : d < 500000) (h : Mid n D nn d P A) {x : Nat} (hx : x < 2 ^ n) (ha : A x = nn) : Mid n D nn d (fun t => P t ∨ t = x) (fun t => if t = x then n2 (d + 1) else A t) := by
  intro t ht
  show (D t ≤ d ∧ (if t = x then n2 (d + 1) else A t) = n2 (D t)) ∨ (¬ D t ≤ d ∧ (P t ∨ t = x) ∧ (if t = x then n2 (d + 1) else A t) = n2 (d + 1)) ∨ (¬ D t ≤ d ∧ ¬ (P t ∨ t = x) ∧ (if t = x then n2 (d + 1) else A t) = nn)
  by_cases e : t = x
  · subst e
    rw [if_pos rfl]
    rcases h t ht with ⟨h1, h2⟩ | ⟨h1, h2, h3⟩ | ⟨h1, h2, h3⟩
    · exact absurd (h2.symm.trans ha) (hnn _ (by omega))
    · exact absurd (h3.symm.trans ha) (hnn _ (by omega))
    · exact Or.inr (Or.inl ⟨h1, Or.inr rfl, rfl⟩)
  · rw [if_neg e]
    rcases h t ht with h1 | ⟨h1, h2, h3⟩ | ⟨h1, h2, h3⟩
    · exact Or.inl h1
    · exact Or.inr (Or.inl ⟨h1, Or.inl h2, h3⟩)
    · exact Or.inr (Or.inr ⟨h1, fun h => h.elim h2 e, h3⟩)
theorem Mid_had {D : Nat → Nat} {nn : Int32} {d : Nat} {P : Nat → Prop} {A : Nat → Int32} (h : Mid n D nn d P A) {x : Nat} (hx : x < 2 ^ n) (ha : A x ≠ nn) : Mid n D nn d (fun t => P t ∨ t = x) A := by
  intro t ht
  rcases h t ht with h1 | ⟨h1, h2, h3⟩ | ⟨h1, h2, h3⟩
  · exact Or.inl h1
  · exact Or.inr (Or.inl ⟨h1, Or.inl h2, h3⟩)
  · exact Or.inr (Or.inr ⟨h1, fun h => h.elim h2 (fun e => ha (e ▸ h3)), h3⟩)
theorem Lvw_zero {D : Nat → Nat} {d s t : Nat} : Lvl n op D d s t ↔ Lvw n op D d s 0 t := by
  unfold Lvw
  constructor
  · exact Or.inl
  · rintro (h | ⟨v, h, -⟩)
    · exact h
    · omega
theorem Lvw_succ {D : Nat → Nat} {d s w t : Nat} (ho : op s w = true) : (Lvw n op D d s w t ∨ t = nb s w) ↔ Lvw n op D d s (w + 1) t := by
  unfold Lvw
  constructor
  · rintro ((h | ⟨v, h1, h2, h3⟩) | h)
    · exact Or.inl h
    · exact Or.inr ⟨v, by omega, h2, h3⟩
    · exact Or.inr ⟨w, by omega, ho, h⟩
  · rintro (h | ⟨v, h1, h2, h3⟩)
    · exact Or.inl (Or.inl h)
    · rcases Nat.lt_or_ge v w with h4 | h4
      · exact Or.inl (Or.inr ⟨v, h4, h2, h3⟩)
      · have : v = w := by omega
        subst this
        exact Or.inr h3
theorem Lvw_shut {D : Nat → Nat} {d s w t : Nat} (ho : op s w = false) : Lvw n op D d s w t ↔ Lvw n op D d s (w + 1) t := by
  unfold Lvw
  constructor
  · rintro (h | ⟨v, h1, h2, h3⟩)
    · exact Or.inl h
    · exact Or.inr ⟨v, by omega, h2, h3⟩
  · rintro (h | ⟨v, h1, h2, h3⟩)
    · exact Or.inl h
    · rcases Nat.lt_or_ge v w with h4 | h4
      · exact Or.inr ⟨v, h4, h2, h3⟩
      · have : v = w := by omega
        subst this
        rw [ho] at h2
        cases h2
theorem Lvw_end {D : Nat → Nat} {d s t : Nat} (hs : s < 2 ^ n) (hd : D s = d) : Lvw n op D d s n t ↔ Lvl n op D d (s + 1) t := by
  unfold Lvw Lvl
  constructor
  · rintro (⟨u, h1, h2, h3⟩ | ⟨v, h1, h2, h3⟩)
    · exact ⟨u, by omega, h2, h3⟩
    · exact ⟨s, by omega, hd, hs, v, h1, h2, h3⟩
  · rintro ⟨u, h1, h2, h3⟩
    rcases Nat.lt_or_ge u s with h4 | h4
    · exact Or.inl ⟨u, h4, h2, h3⟩
    · have : u = s := by omega
      subst this
      obtain ⟨-, v, h5, h6, h7⟩ := h3
      exact Or.inr ⟨v, h5, h6, h7⟩
theorem Lvl_skip {D : Nat → Nat} {d s t : Nat} (hd : D s ≠ d) : Lvl n op D d s t ↔ Lvl n op D d (s + 1) t := by
  unfold Lvl
  constructor
  · rintro ⟨u, h1, h2⟩
    exact ⟨u, by omega, h2⟩
  · rintro ⟨u, h1, h2, h3⟩
    rcases Nat.lt_or_ge u s with h4 | h4
    · exact ⟨u, h4, h2, h3⟩
    · have : u = s := by omega
      subst this
      exact absurd h2 hd
theorem Mid_start {a : Nat} {nn : Int32} {A : Nat → Int32} (hA : ∀ t, t < 2 ^ n → A t = if t = a then n2 0 else nn) : Mid n (dis (Ed n op) a) nn 0 (Lvl n op (dis (Ed n op) a) 0 0) A := by
  intro t ht
  rw [hA t ht]
  by_cases e : t = a
  · subst e
    left
    rw [if_pos rfl, dis_self]
    exact ⟨Nat.le_refl _, rfl⟩
  · rw [if_neg e]
    refine Or.inr (Or.inr ⟨fun h => e ?_, ?_, rfl⟩)
    · exact (dis_zero.mp (Nat.le_zero.mp h)).symm
    · rintro ⟨u, h1, -⟩
      omega
theorem Mid_next {a d : Nat} {nn : Int32} {A : Nat → Int32} (ha : a < 2 ^ n) (hd : d < 500000) (h : Mid n (dis (Ed n op) a) nn d (Lvl n op (dis (Ed n op) a) d (2 ^ n)) A) : Mid n (dis (Ed n op) a) nn (d + 1) (Lvl n op (dis (Ed n op) a) (d + 1) 0) A := by
  intro t ht
  have h0 : ¬ Lvl n op (dis (Ed n op) a) (d + 1) 0 t := by
    rintro ⟨u, h1, -⟩
    omega
  rcases h t ht with ⟨h1, h2⟩ | ⟨h1, ⟨u, h2, h3, h4⟩, h5⟩ | ⟨h1, h2, h3⟩
  · exact Or.inl ⟨by omega, h2⟩
  · have := dis_succ (by omega) h3 h4 h1
    exact Or.inl ⟨by omega, by rw [this]; exact h5⟩
  · refine Or.inr (Or.inr ⟨fun h6 => ?_, h0, h3⟩)
    have h7 : dis (Ed n op) a t = d + 1 := by omega
    obtain ⟨u, h8, h9⟩ := dis_pred h7 (by omega)
    exact h2 ⟨u, h9.1, h8, h9⟩
theorem Mid_end {a : Nat} {nn : Int32} {A : Nat → Int32} (ha : a < 2 ^ n) (hn : 2 ^ n < 1000000) (h : Mid n (dis (Ed n op) a) nn (2 ^ n) (Lvl n op (dis (Ed n op) a) (2 ^ n) 0) A) : ∀ t, t < 2 ^ n → A t = if dis (Ed n op) a t = 1000000 then nn else n2 (dis (Ed n op) a t) := by
  intro t ht
  rcases h t ht with ⟨h1, h2⟩ | ⟨h1, ⟨u, h2, -⟩, h5⟩ | ⟨h1, h2, h3⟩
  · rw [if_neg (by omega)]; exact h2
  · omega
  · rcases dis_or (op := op) ha t with h4 | h4
    · omega
    · rw [if_pos h4]; exact h3
/-- walks of a length, counted -/
def nw (n : Nat) (op : Nat → Nat → Bool) : Nat → Nat → Nat → Nat
  | 0, a, b => if a = b then 1 else 0
  | d + 1, a, b => ((List.range n).map (fun w => if op a w = true then nw n op d (nb a w) b else 0)).sum
end
