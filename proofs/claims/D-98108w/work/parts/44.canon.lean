/-! THE COMPONENT'S WORLD in one form: addresses ad, rows V, images I -/
set_option maxRecDepth 100000
def zshT : List zCell := [.inl 1, .inr (40, .byte), .inr (5, .int), .inr (6, .int), .inr (6, .int), .inr (6, .int), .inr (32, .int)]
def cSh (V : zSV) (I : Nat → Bool) (k : Nat) : Option zCell :=
  if k < 44 then (zshC[k]?).join
  else if k < 48 then (V (k - 44)).map Sum.inr
  else if 50 ≤ k ∧ k < 74 ∧ I ((k - 50) / 8) = true then zshT[(k - 50) % 8]?
  else none
def cRl (k i : Nat) : Option Nat := (zrfC.find? (fun q => q.1 == k && q.2.1 == i)).map (fun q => q.2.2)
def cRf (V : zSV) (I : Nat → Bool) (k i : Nat) : Option Nat :=
  if k = 37 then (if i < 4 then some (40 + i) else none)
  else if k = 38 then (if i < 3 ∧ I i = true then some (50 + 8 * i) else none)
  else if k < 40 then cRl k i
  else if k < 44 then (if i = 0 ∧ (V (k - 40)).isSome = true then some (k + 4) else none)
  else if 50 ≤ k ∧ k < 74 ∧ (k - 50) % 8 = 0 ∧ 2 ≤ i ∧ i < 8 then some (k + i - 1)
  else none
def cG (ad : Nat → Nat) (V : zSV) (I : Nat → Bool) (D : va_G) : zGw := (ad, cSh V I, cRf V I, D)
def zVok (V : zSV) : Prop := ∀ i, i < 4 → ∀ q, V i = some q → (q.2 = .byte ∨ q.2 = .short ∨ q.2 = .int ∨ q.2 = .long) ∧ q.1 ≤ 60
theorem cSh_lo {V : zSV} {I : Nat → Bool} {k : Nat} (h : k < 44) : some (cSh V I k) = zshC[k]? := by
  unfold cSh
  rw [if_pos h]
  have h2 : k < zshC.length := h
  rw [List.getElem?_eq_getElem h2]
  rfl
theorem cRf_lo {V : zSV} {I : Nat → Bool} : ∀ q ∈ zrfC, cRf V I q.1 q.2.1 = some q.2.2 := by
  have h : ∀ q ∈ zrfC, q.1 ≠ 37 ∧ q.1 ≠ 38 ∧ q.1 < 40 ∧ cRl q.1 q.2.1 = some q.2.2 := by decide +kernel
  intro q hq
  obtain ⟨h1, h2, h3, h4⟩ := h q hq
  unfold cRf
  rw [if_neg h1, if_neg h2, if_pos h3]
  exact h4
theorem cRl_lo {k i q : Nat} (h : cRl k i = some q) : q < 38 + 1 ∧ (zshC[q]?).join ≠ none := by
  have h0 : ∀ q ∈ zrfC, q.2.2 < 38 + 1 ∧ ((zshC[q.2.2]?).join).isSome = true := by decide +kernel
  unfold cRl at h
  obtain ⟨x, h1, h2⟩ := Option.map_eq_some_iff.mp h
  have h3 := h0 x (List.mem_of_find?_eq_some h1)
  subst h2
  exact ⟨h3.1, fun e => by rw [e] at h3; exact absurd h3.2 (by simp)⟩
theorem zGC_c {ad : Nat → Nat} {V : zSV} {I : Nat → Bool} {D : va_G} : zGC (cG ad V I D) := ⟨fun _ hk => cSh_lo hk, cRf_lo⟩
theorem cSh_slot {V : zSV} {I : Nat → Bool} {i : Nat} (h : i < 4) : cSh V I (40 + i) = some (.inl 4) := by
  have h1 := cSh_lo (V := V) (I := I) (k := 40 + i) (by omega)
  have h2 : ∀ i, i < 4 → zshC[40 + i]? = some (some (.inl 4)) := by
    intro i hi
    match i, hi with
    | 0, _ => rfl
    | 1, _ => rfl
    | 2, _ => rfl
    | 3, _ => rfl
  rw [h2 i h] at h1
  exact Option.some.inj h1
theorem zGV_c {ad : Nat → Nat} {V : zSV} {I : Nat → Bool} {D : va_G} (hV : zVok V) : zGV (cG ad V I D) V := by
  intro i hi
  refine ⟨cSh_slot hi, ?_, ?_⟩
  · show cRf V I 37 i = _
    unfold cRf
    rw [if_pos rfl, if_pos hi]
  · have hr : cRf V I (40 + i) 0 = if (V i).isSome = true then some (44 + i) else none := by
      unfold cRf
      rw [if_neg (by omega), if_neg (by omega), if_neg (by omega), if_pos (by omega), show 40 + i - 40 = i from by omega, show 40 + i + 4 = 44 + i from by omega]
      simp
    cases hq : V i with
    | none =>
      show cRf V I (40 + i) 0 = none
      rw [hr, hq]; rfl
    | some q =>
      refine ⟨?_, ?_, hV i hi q hq⟩
      · show cRf V I (40 + i) 0 = _
        rw [hr, hq]; rfl
      · show cSh V I (44 + i) = _
        unfold cSh
        rw [if_neg (by omega), if_pos (by omega), show 44 + i - 44 = i from by omega, hq]; rfl
theorem cSh_img {V : zSV} {I : Nat → Bool} {b o : Nat} (hb : b < 3) (hI : I b = true) (ho : o < 8) : cSh V I (50 + 8 * b + o) = zshT[o]? := by
  unfold cSh
  rw [if_neg (by omega), if_neg (by omega), if_pos ⟨by omega, by omega, by rw [show (50 + 8 * b + o - 50) / 8 = b from by omega]; exact hI⟩, show (50 + 8 * b + o - 50) % 8 = o from by omega]
theorem cRf_img {V : zSV} {I : Nat → Bool} {b i : Nat} (hb : b < 3) (h2 : 2 ≤ i) (hi : i < 8) : cRf V I (50 + 8 * b) i = some (50 + 8 * b + i - 1) := by
  unfold cRf
  rw [if_neg (by omega), if_neg (by omega), if_neg (by omega), if_neg (by omega), if_pos ⟨by omega, by omega, by omega, h2, hi⟩]
theorem cSh_hi {V : zSV} {I : Nat → Bool} {k : Nat} (h : 74 ≤ k) : cSh V I k = none := by
  unfold cSh
  rw [if_neg (by omega), if_neg (by omega), if_neg (by omega)]
theorem zcd_c {ad : Nat → Nat} {V : zSV} {I : Nat → Bool} {D : va_G} : zcd (cG ad V I D) := by
  intro j i q hj hq
  have hj : cSh V I j ≠ none := hj
  have hq : cRf V I j i = some q := hq
  show cSh V I q ≠ none
  unfold cRf at hq
  split at hq
  · split at hq
    · cases hq
      rw [cSh_slot (by assumption)]
      simp
    · cases hq
  split at hq
  · split at hq
    · rename_i h1
      cases hq
      have := cSh_img (V := V) (I := I) (b := i) (o := 0) h1.1 h1.2 (by omega)
      rw [Nat.add_zero] at this
      rw [this]
      simp [zshT]
    · cases hq
  split at hq
  · obtain ⟨h1, h2⟩ := cRl_lo hq
    unfold cSh
    rw [if_pos (by omega)]
    exact h2
  split at hq
  · split at hq
    · rename_i h40 h44 h1
      cases hq
      unfold cSh
      rw [if_neg (by omega), if_pos (by omega), show j + 4 - 44 = j - 40 from by omega]
      intro e
      have h2 := h1.2
      cases hv : V (j - 40) with
      | none => rw [hv] at h2; cases h2
      | some x => rw [hv] at e; cases e
    · cases hq
  split at hq
  · rename_i h1
    cases hq
    have hI : I ((j - 50) / 8) = true := by
      unfold cSh at hj
      rw [if_neg (by omega), if_neg (by omega)] at hj
      split at hj
      · rename_i h2; exact h2.2.2
      · exact absurd rfl hj
    have := cSh_img (V := V) (I := I) (b := (j - 50) / 8) (o := i - 1) (by omega) hI (by omega)
    rw [show 50 + 8 * ((j - 50) / 8) + (i - 1) = j + i - 1 from by omega] at this
    rw [this]
    have h3 : i - 1 < zshT.length := by show i - 1 < 7; omega
    rw [List.getElem?_eq_getElem h3]
    simp
  · cases hq
theorem arrV_to {cA : ClassId} {n : Nat} {f g : Nat → Value} (h : ∀ i, i < n → f i = g i) : arrV cA n f = arrV cA n g := by
  unfold arrV
  congr 1
  congr 1
  funext j
  exact h j.1 j.2
theorem zval_to {ty : FieldType} {ad ad' : Nat → Nat} {r r' : Option Nat} {i : Int32} {l : Int64} (h : zrft ty = true → r.map ad = r'.map ad') : zval ty ad r i l = zval ty ad' r' i l := by
  cases ty <;> first | rfl | (unfold zval; rw [h rfl])
/-- places told anew -/
theorem zhp_to {G G2 : zGw} {S S2 : zSt} {s : State} {H : Heap} (π : Nat → Nat) (hD : G2.2.2.2 = G.2.2.2) (hS : ∀ k i, S2.1 k i = S.1 (π k) i ∧ S2.2 k i = S.2 (π k) i)
    (hsh : ∀ k, G2.2.1 k ≠ none → G2.2.1 k = G.2.1 (π k) ∧ G2.1 k = G.1 (π k))
    (hO : ∀ k ci, G2.2.1 k = some (.inl ci) → ∀ r, zcl[ci]? = some r → ∀ i, i < r.2.2 → zrft (zft ci i) = true → (G2.2.2.1 k i).map G2.1 = (G.2.2.1 (π k) i).map G.1)
    (hA : ∀ k n ty, G2.2.1 k = some (.inr (n, ty)) → zrft ty = true → ∀ i, i < n → (G2.2.2.1 k i).map G2.1 = (G.2.2.1 (π k) i).map G.1) (h : zhp G S s H) : zhp G2 S2 s H := by
  intro k
  unfold zcellIs
  cases hk : G2.2.1 k with
  | none => trivial
  | some w =>
    obtain ⟨e1, e2⟩ := hsh k (by rw [hk]; simp)
    have hj := h (π k)
    unfold zcellIs at hj
    rw [← e1, hk] at hj
    cases w with
    | inl ci =>
      obtain ⟨r, r1, r2⟩ := hj
      refine ⟨r, r1, ?_⟩
      rw [e2, hD]
      refine r2.to fun i hi => ?_
      rw [(hS k i).1, (hS k i).2]
      exact (zval_to (fun hz => (hO k ci hk r r1 i hi hz))).symm
    | inr x =>
      obtain ⟨cA, r1, r2⟩ := hj
      refine ⟨cA, ?_, r2⟩
      rw [e2, r1]
      refine congrArg some (arrV_to fun i hi => ?_)
      rw [(hS k i).1, (hS k i).2]
      exact (zval_to (fun hz => (hA k x.1 x.2 hk hz i hi))).symm
theorem zap_to {G G2 : zGw} (π : Nat → Nat) (hsh : ∀ k, G2.2.1 k ≠ none → G2.2.1 k = G.2.1 (π k) ∧ G2.1 k = G.1 (π k)) (hi : ∀ i j, G2.2.1 i ≠ none → G2.2.1 j ≠ none → π i = π j → i = j) (h : zap G) : zap G2 := by
  intro i j h1 h2 h3
  obtain ⟨a1, a2⟩ := hsh i h1
  obtain ⟨b1, b2⟩ := hsh j h2
  refine hi i j h1 h2 (h _ _ (by rw [← a1]; exact h1) (by rw [← b1]; exact h2) ?_)
  rw [← a2, ← b2]
  exact h3
/-- the end of a method that answers an int, the world told anew -/
theorem zz_giretR {X : zCx} {M : zMr} {G0 G : zGw} {nm : String} {K : zGw → Prop} {cs : Nat × Nat} {S : zSt} {pc : Nat} {ls : List (Option Value)} {inj : Int32 → zGw → Option Value} {res : Int32 × zSt} {v : Int32} (π : Nat → Nat) (G2 : zGw) (S2 : zSt)
    (hD : G2.2.2.2 = G.2.2.2) (hS2 : ∀ k i, S2.1 k i = S.1 (π k) i ∧ S2.2 k i = S.2 (π k) i)
    (hsh : ∀ k, G2.2.1 k ≠ none → G2.2.1 k = G.2.1 (π k) ∧ G2.1 k = G.1 (π k))
    (hO : ∀ k ci, G2.2.1 k = some (.inl ci) → ∀ r, zcl[ci]? = some r → ∀ i, i < r.2.2 → zrft (zft ci i) = true → (G2.2.2.1 k i).map G2.1 = (G.2.2.1 (π k) i).map G.1)
    (hAr : ∀ k n ty, G2.2.1 k = some (.inr (n, ty)) → zrft ty = true → ∀ i, i < n → (G2.2.2.1 k i).map G2.1 = (G.2.2.1 (π k) i).map G.1)
    (hinj : ∀ i j, G2.2.1 i ≠ none → G2.2.1 j ≠ none → π i = π j → i = j)
    (hi : ∀ g, inj v g = some (.int v)) (hr : M.2.2.2.1 = some .int) (heq : G.2.2.2 = G0.2.2.2) (hK : K G2) (d : decode M.2.1 pc = .ok (.ireturn, 1)) (hc : zcs cs M = true) : Zz X M (zA G0 X.2.2.2.2.1.heap.size, nm) (zQg inj M G0 K) G cs res S pc ls [.int v] (some (v, S2)) := by
  intro hf ho hA H locs la hp hl hS
  cases hf
  refine W.widen (zcs1 hc) (zcs2 hc) (W.iret ho.1 ho.2.1 (ho.2.2.2.2.2.2.2.1.trans hr) (fun t ht hW => ⟨G2, by rw [hi], ?_, ?_, hD.trans heq, ?_, hK, hS.F ht⟩) hS.2.2 d ho.2.2.2.2.2.2.1)
  · rw [ht]
    exact zhp_moved hW.alike (zhp_to π hD hS2 hsh hO hAr hp)
  · exact zap_to π hsh hinj ho.2.2.2.2.2.2.2.2.2.1
  · intro k hk
    obtain ⟨a1, a2⟩ := hsh k hk
    rw [a2]
    exact hA.1 _ (by rw [← a1]; exact hk)
theorem cG_hi {ad : Nat → Nat} {V : zSV} {I : Nat → Bool} {D : va_G} (k : Nat) (h : 74 ≤ k) : (cG ad V I D).2.1 k = none := cSh_hi h
theorem cG_img {ad : Nat → Nat} {V : zSV} {I : Nat → Bool} {D : va_G} {w : zCell} (b o k : Nat) (hb : b < 3) (hI : I b = true) (ho : o < 8) (hk : 50 + 8 * b + o = k) (hw : zshT[o]? = some w) : (cG ad V I D).2.1 k = some w := by
  subst hk
  exact (cSh_img hb hI ho).trans hw
theorem cG_rimg {ad : Nat → Nat} {V : zSV} {I : Nat → Bool} {D : va_G} (b i k q : Nat) (hb : b < 3) (h2 : 2 ≤ i) (hi : i < 8) (hk : 50 + 8 * b = k) (hq : k + i - 1 = q) : (cG ad V I D).2.2.1 k i = some q := by
  subst hk
  subst hq
  exact cRf_img hb h2 hi
