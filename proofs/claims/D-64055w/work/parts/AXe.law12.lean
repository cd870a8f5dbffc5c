set_option maxRecDepth 100000
def v3N (l : List Nat) (g k : Nat) : Nat := if k = 0 then 0 else if k = 1 then gD l (3 * g) else if k = 2 then gD l (3 * g) * 256 + gD l (3 * g + 1) else (gD l (3 * g) * 256 + gD l (3 * g + 1)) * 256 + gD l (3 * g + 2)
theorem sgI_v {l : List Nat} (hl : byt l) {g k : Nat} (hg : 3 * g < l.length) (hk : k < 4) : sgI l (4 * g + k) = if k ≤ min 3 (l.length - 3 * g) then sgnN (v3N l g 3 / 2 ^ (18 - 6 * k) % 64) else 61 := by
  have h0 := byt_gD hl (3 * g)
  have h1 := byt_gD hl (3 * g + 1)
  have h2 := byt_gD hl (3 * g + 2)
  have h3 := byt_gD hl (3 * g + 3)
  have e3 : v3N l g 3 = (gD l (3 * g) * 256 + gD l (3 * g + 1)) * 256 + gD l (3 * g + 2) := rfl
  unfold sgI
  by_cases q : k ≤ min 3 (l.length - 3 * g)
  · rw [if_pos q, if_pos (by omega), e3]
    congr 1
    rcases (show k = 0 ∨ k = 1 ∨ k = 2 ∨ k = 3 by omega) with z | z | z | z <;> subst z
    · rw [show 6 * (4 * g + 0) / 8 = 3 * g by omega, show 6 * (4 * g + 0) % 8 = 0 by omega]; simp only [Nat.sub_zero, Nat.mul_zero]; omega
    · rw [show 6 * (4 * g + 1) / 8 = 3 * g by omega, show 6 * (4 * g + 1) % 8 = 6 by omega]; simp only [Nat.reduceMul, Nat.reduceSub, Nat.reducePow]; omega
    · rw [show 6 * (4 * g + 2) / 8 = 3 * g + 1 by omega, show 6 * (4 * g + 2) % 8 = 4 by omega]; simp only [Nat.reduceMul, Nat.reduceSub, Nat.reducePow, Nat.add_assoc, Nat.reduceAdd]; omega
    · rw [show 6 * (4 * g + 3) / 8 = 3 * g + 2 by omega, show 6 * (4 * g + 3) % 8 = 2 by omega]; simp only [Nat.reduceMul, Nat.reduceSub, Nat.reducePow, Nat.add_assoc, Nat.reduceAdd]; omega
  · rw [if_neg q, if_neg (by omega)]
/-! signs: what was armored comes back -/
theorem gD_l {a b : List Nat} {j : Nat} (h : j < a.length) : gD (a ++ b) j = gD a j := by
  unfold gD
  rw [List.getD_eq_getElem?_getD, List.getD_eq_getElem?_getD, List.getElem?_append_left h]
theorem gD_r {a b : List Nat} {j : Nat} : gD (a ++ b) (a.length + j) = gD b j := by
  unfold gD
  rw [List.getD_eq_getElem?_getD, List.getD_eq_getElem?_getD, List.getElem?_append_right (by omega), Nat.add_sub_cancel_left]
theorem gD_s {a : List Nat} {j x : Nat} (h : a[j]? = some x) : gD a j = x := by
  unfold gD
  rw [List.getD_eq_getElem?_getD, h]; rfl
theorem eolL_at {l : List Nat} : ∀ (n p : Nat), p + n < l.length → (∀ j, j < n → gD l (p + j) ≠ 10) → gD l (p + n) = 10 → eolL l p = p + n
  | 0, p, _, _, h => eolL_e (Or.inr h)
  | n + 1, p, hl, h1, h2 => by
    rw [eolL_s (by omega) (by have := h1 0 (by omega); rwa [Nat.add_zero] at this), eolL_at n (p + 1) (by omega) (fun j hj => by have := h1 (j + 1) (by omega); rwa [show p + (j + 1) = p + 1 + j by omega] at this) (by rwa [show p + 1 + n = p + (n + 1) by omega])]
    omega
theorem sgn_facts : ∀ v, v < 64 → vN (sgnN v) = v ∧ sgnN v ≠ 10 ∧ sgnN v ≠ 61 ∧ isBl (sgnN v) = false ∧ sgnN v < 128 ∧ 43 ≤ sgnN v := by decide +kernel
theorem sgn_ok : ∀ v, v < 64 → vOk (sgnN v) = true := by decide +kernel
theorem sgI_ne (l : List Nat) (i : Nat) : sgI l i ≠ 10 ∧ isBl (sgI l i) = false := by
  unfold sgI
  split
  · have := sgn_facts _ (Nat.mod_lt ((gD l (6 * i / 8) * 256 + gD l (6 * i / 8 + 1)) / 2 ^ (10 - 6 * i % 8)) (show 0 < 64 by decide))
    exact ⟨this.2.1, this.2.2.2.1⟩
  · exact ⟨by decide, by decide⟩
def n4 (l : List Nat) : Nat := 4 * ((l.length + 2) / 3)
theorem sgS_l (l : List Nat) : ∀ m, m < n4 l → (sgS l m).length = m + m / 64
  | 0, _ => rfl
  | m + 1, h => by
    rw [sgS, List.length_append, List.length_append, sgS_l l m (by omega)]
    show m + m / 64 + (1 + _) = _
    by_cases q : m % 64 = 63
    · rw [if_pos (Or.inl q)]; show m + m / 64 + (1 + 1) = _; omega
    · rw [if_neg (fun z => z.elim q (fun z => by unfold n4 at h; omega))]; show m + m / 64 + (1 + 0) = _; omega
theorem sgS_end (l : List Nat) (h : 0 < n4 l) : (sgS l (n4 l)).length = n4 l + (n4 l - 1) / 64 + 1 := by
  obtain ⟨m, hm⟩ : ∃ m, n4 l = m + 1 := ⟨n4 l - 1, by omega⟩
  rw [hm, sgS, List.length_append, List.length_append, sgS_l l m (by omega), if_pos (Or.inr (by unfold n4 at hm; omega))]
  show m + m / 64 + (1 + 1) = _
  rw [Nat.add_sub_cancel]; omega
theorem sgS_get (l : List Nat) : ∀ m, m ≤ n4 l → ∀ i, i < m → (sgS l m)[i + i / 64]? = some (sgI l i) ∧ (i % 64 = 63 ∨ i + 1 = n4 l → (sgS l m)[i + i / 64 + 1]? = some 10)
  | 0, _, i, hi => absurd hi (Nat.not_lt_zero i)
  | m + 1, h, i, hi => by
    have hl := sgS_l l m (by omega)
    rw [sgS]
    by_cases q : i = m
    · subst q
      refine ⟨?_, fun z => ?_⟩
      · rw [List.getElem?_append_right (by omega), hl, Nat.sub_self]; rfl
      · rw [List.getElem?_append_right (by omega), hl, if_pos (z.imp id (fun z => by unfold n4 at z; omega)), show i + i / 64 + 1 - (i + i / 64) = 1 by omega]; rfl
    · obtain ⟨h1, h2⟩ := sgS_get l m (by omega) i (by omega)
      have hlt : ∀ n x, (sgS l m)[n]? = some x → n < (sgS l m).length := fun n x hx => (List.getElem?_eq_some_iff.mp hx).1
      exact ⟨by rw [List.getElem?_append_left (hlt _ _ h1)]; exact h1, fun z => by rw [List.getElem?_append_left (hlt _ _ (h2 z))]; exact h2 z⟩
/-- a text whose signs stand from a0 on -/
def SgAt (tx l : List Nat) (a0 : Nat) : Prop := ∀ i, i < n4 l → a0 + i + i / 64 < tx.length ∧ gD tx (a0 + i + i / 64) = sgI l i ∧ (i % 64 = 63 ∨ i + 1 = n4 l → a0 + i + i / 64 + 1 < tx.length ∧ gD tx (a0 + i + i / 64 + 1) = 10)
theorem SgAt.mk {A C l : List Nat} : SgAt (A ++ (sgS l (n4 l) ++ C)) l A.length := by
  intro i hi
  obtain ⟨h1, h2⟩ := sgS_get l (n4 l) (Nat.le_refl _) i hi
  have hlt : ∀ n x, (sgS l (n4 l))[n]? = some x → A.length + n < (A ++ (sgS l (n4 l) ++ C)).length ∧ gD (A ++ (sgS l (n4 l) ++ C)) (A.length + n) = x := by
    intro n x hx
    have hn := (List.getElem?_eq_some_iff.mp hx).1
    refine ⟨by simp only [List.length_append]; omega, ?_⟩
    rw [gD_r, gD_l hn]; exact gD_s hx
  have a1 := hlt _ _ h1
  rw [← Nat.add_assoc] at a1
  refine ⟨a1.1, a1.2, fun z => ?_⟩
  have a2 := hlt _ _ (h2 z)
  rwa [← Nat.add_assoc, ← Nat.add_assoc] at a2
theorem v3_lt {l : List Nat} (hl : byt l) (g : Nat) : v3N l g 3 < 16777216 := by
  have h0 := byt_gD hl (3 * g)
  have h1 := byt_gD hl (3 * g + 1)
  have h2 := byt_gD hl (3 * g + 2)
  show (gD l (3 * g) * 256 + gD l (3 * g + 1)) * 256 + gD l (3 * g + 2) < _
  omega
/-- one group of four signs -/
theorem four_at {tx l : List Nat} {a0 : Nat} (hl : byt l) (h : SgAt tx l a0) {g : Nat} (hg : 3 * g < l.length) : fourF tx (a0 + 4 * g + g / 16) = some (sl (fun j => gD l (3 * g + j)) 0 (min 3 (l.length - 3 * g))) := by
  have hn : 4 * g + 3 < n4 l := by unfold n4; omega
  have hs : ∀ k, k < 4 → gD tx (a0 + 4 * g + g / 16 + k) = if k ≤ min 3 (l.length - 3 * g) then sgnN (v3N l g 3 / 2 ^ (18 - 6 * k) % 64) else 61 := by
    intro k hk
    rw [← sgI_v hl hg hk, ← (h (4 * g + k) (by omega)).2.1]
    congr 1
    omega
  have h3 := v3_lt hl g
  have e3 : v3N l g 3 = (gD l (3 * g) * 256 + gD l (3 * g + 1)) * 256 + gD l (3 * g + 2) := rfl
  have b0 := byt_gD hl (3 * g)
  have b1 := byt_gD hl (3 * g + 1)
  have b2 := byt_gD hl (3 * g + 2)
  obtain ⟨p, hp⟩ : ∃ p, p = a0 + 4 * g + g / 16 := ⟨_, rfl⟩
  rw [← hp] at hs ⊢
  obtain ⟨V, hV⟩ : ∃ V, V = v3N l g 3 := ⟨_, rfl⟩
  rw [← hV] at hs h3 e3
  have s0 := hs 0 (by decide)
  have s1 := hs 1 (by decide)
  have s2 := hs 2 (by decide)
  have s3 := hs 3 (by decide)
  rw [if_pos (by omega)] at s0 s1
  rw [Nat.add_zero] at s0
  have f := fun x : Nat => sgn_facts (x % 64) (Nat.mod_lt _ (by decide))
  have o := fun x : Nat => sgn_ok (x % 64) (Nat.mod_lt _ (by decide))
  rcases (show l.length - 3 * g = 1 ∨ l.length - 3 * g = 2 ∨ 3 ≤ l.length - 3 * g by omega) with q | q | q
  · have hm : min 3 (l.length - 3 * g) = 1 := by omega
    rw [hm] at s2 s3 ⊢
    rw [if_neg (by decide)] at s2 s3
    have z1 : gD l (3 * g + 1) = 0 := gD_out (by omega)
    have z2 : gD l (3 * g + 2) = 0 := gD_out (by omega)
    rw [z1, z2] at e3
    have hmy : manyF tx p = 1 := by unfold manyF; rw [if_neg (by rw [s3]; exact fun z => z rfl), if_neg (by rw [s2]; exact fun z => z rfl)]
    have hok : okF tx p 2 = true := by simp only [okF, Nat.add_zero, s0, s1, o, Bool.and_self]
    have hsum : sumF tx p 2 = V := by
      simp only [sumF, Nat.add_zero, s0, s1, (f _).1]
      simp only [Nat.mul_zero, Nat.mul_one, Nat.sub_zero, Nat.reduceSub, Nat.reducePow]
      omega
    unfold fourF
    rw [hmy, if_pos ⟨hok, by rw [hsum]; show V % 2 ^ 16 = 0; simp only [Nat.reducePow]; omega⟩, hsum]
    show some [byF V (0 + 0)] = some [gD l (3 * g + (0 + 0))]
    congr 2
    unfold byF
    simp only [Nat.add_zero, Nat.mul_zero, Nat.sub_zero, Nat.reducePow]
    omega
  · have hm : min 3 (l.length - 3 * g) = 2 := by omega
    rw [hm] at s2 s3 ⊢
    rw [if_pos (by decide)] at s2
    rw [if_neg (by decide)] at s3
    have z2 : gD l (3 * g + 2) = 0 := gD_out (by omega)
    rw [z2] at e3
    have hmy : manyF tx p = 2 := by unfold manyF; rw [if_neg (by rw [s3]; exact fun z => z rfl), if_pos (by rw [s2]; exact (f _).2.2.1)]
    have hok : okF tx p 3 = true := by simp only [okF, Nat.add_zero, s0, s1, s2, o, Bool.and_self]
    have hsum : sumF tx p 3 = V := by
      simp only [sumF, Nat.add_zero, s0, s1, s2, (f _).1]
      simp only [Nat.mul_zero, Nat.mul_one, Nat.sub_zero, Nat.reduceSub, Nat.reducePow, Nat.reduceMul]
      omega
    unfold fourF
    rw [hmy, if_pos ⟨hok, by rw [hsum]; show V % 2 ^ 8 = 0; simp only [Nat.reducePow]; omega⟩, hsum]
    show some [byF V (0 + 0), byF V (0 + 1)] = some [gD l (3 * g + (0 + 0)), gD l (3 * g + (0 + 1))]
    have e1 : byF V (0 + 0) = gD l (3 * g + (0 + 0)) := by
      unfold byF
      simp only [Nat.add_zero, Nat.mul_zero, Nat.sub_zero, Nat.reducePow]; omega
    have e2 : byF V (0 + 1) = gD l (3 * g + (0 + 1)) := by
      unfold byF
      simp only [Nat.zero_add, Nat.mul_one, Nat.reduceSub, Nat.reducePow]; omega
    rw [e1, e2]
  · have hm : min 3 (l.length - 3 * g) = 3 := by omega
    rw [hm] at s2 s3 ⊢
    rw [if_pos (by decide)] at s2 s3
    have hmy : manyF tx p = 3 := by unfold manyF; rw [if_pos (by rw [s3]; exact (f _).2.2.1)]
    have hok : okF tx p 4 = true := by simp only [okF, Nat.add_zero, s0, s1, s2, s3, o, Bool.and_self]
    have hsum : sumF tx p 4 = V := by
      simp only [sumF, Nat.add_zero, s0, s1, s2, s3, (f _).1]
      simp only [Nat.mul_zero, Nat.mul_one, Nat.sub_zero, Nat.reduceSub, Nat.reducePow, Nat.reduceMul]
      omega
    unfold fourF
    rw [hmy, if_pos ⟨hok, by rw [hsum]; show V % 2 ^ 0 = 0; simp only [Nat.reducePow]; omega⟩, hsum]
    show some [byF V (0 + 0), byF V (0 + 1), byF V (0 + 2)] = some [gD l (3 * g + (0 + 0)), gD l (3 * g + (0 + 1)), gD l (3 * g + (0 + 2))]
    have e1 : byF V (0 + 0) = gD l (3 * g + (0 + 0)) := by
      unfold byF
      simp only [Nat.add_zero, Nat.mul_zero, Nat.sub_zero, Nat.reducePow]; omega
    have e2 : byF V (0 + 1) = gD l (3 * g + (0 + 1)) := by
      unfold byF
      simp only [Nat.zero_add, Nat.mul_one, Nat.reduceSub, Nat.reducePow]; omega
    have e9 : byF V (0 + 2) = gD l (3 * g + (0 + 2)) := by
      unfold byF
      simp only [Nat.zero_add, Nat.reduceMul, Nat.reduceSub, Nat.reducePow]; omega
    rw [e1, e2, e9]
theorem take_sl (l : List Nat) (a n : Nat) (h : a + n ≤ l.length) : l.take a ++ sl (fun j => gD l (a + j)) 0 n = l.take (a + n) := by
  induction n with
  | zero => exact List.append_nil _
  | succ n ih =>
    have e : sl (fun j => gD l (a + j)) 0 (n + 1) = sl (fun j => gD l (a + j)) 0 n ++ [gD l (a + n)] := by
      unfold sl
      rw [List.range_succ, List.map_append]
      simp
    have hx : l[a + n]? = some (gD l (a + n)) := by
      unfold gD
      rw [List.getD_eq_getElem?_getD, List.getElem?_eq_getElem (by omega)]; rfl
    rw [e, ← List.append_assoc, ih (by omega), ← Nat.add_assoc, List.take_add_one, hx]; rfl
theorem fours_at {tx l : List Nat} {a0 : Nat} (hl : byt l) (h : SgAt tx l a0) : ∀ (n g : Nat), g % 16 + n ≤ 16 → (0 < n → 3 * (g + n - 1) < l.length) → ∃ e, foursF tx n (a0 + 4 * g + g / 16) false (l.take (3 * g)) = some (e, l.take (3 * (g + n))) ∧ (3 * (g + n) ≤ l.length → e = false)
  | 0, g, _, _ => ⟨false, rfl, fun _ => rfl⟩
  | n + 1, g, h1, h2 => by
    have hg : 3 * g < l.length := by have := h2 (Nat.succ_pos _); omega
    show ∃ e, (if false = true then none else match fourF tx (a0 + 4 * g + g / 16) with | none => none | some b => foursF tx n (a0 + 4 * g + g / 16 + 4) (decide (b.length < 3)) (l.take (3 * g) ++ b)) = _ ∧ _
    rw [if_neg (by decide), four_at hl h hg]
    dsimp only
    rw [take_sl l (3 * g) (min 3 (l.length - 3 * g)) (by omega), sl_len]
    by_cases q : 3 ≤ l.length - 3 * g
    · rw [show min 3 (l.length - 3 * g) = 3 by omega]
      cases n with
      | zero => exact ⟨false, by rw [show 3 * g + 3 = 3 * (g + (0 + 1)) by omega]; rfl, fun _ => rfl⟩
      | succ n =>
        obtain ⟨e, i1, i2⟩ := fours_at hl h (n + 1) (g + 1) (by omega) (fun _ => by have := h2 (Nat.succ_pos _); omega)
        refine ⟨e, ?_, fun z => i2 (by omega)⟩
        rw [show a0 + 4 * g + g / 16 + 4 = a0 + 4 * (g + 1) + (g + 1) / 16 by omega, show 3 * g + 3 = 3 * (g + 1) by omega, show g + (n + 1 + 1) = g + 1 + (n + 1) by omega]
        exact i1
    · have hn : n = 0 := by
        by_cases z : n = 0
        · exact z
        · have := h2 (Nat.succ_pos _); omega
      subst hn
      refine ⟨true, ?_, fun z => by omega⟩
      show some (decide (min 3 (l.length - 3 * g) < 3), l.take (3 * g + min 3 (l.length - 3 * g))) = _
      rw [decide_eq_true (by omega), List.take_of_length_le (by omega), List.take_of_length_le (by omega)]
theorem line_at {tx l : List Nat} {a0 : Nat} (h : SgAt tx l a0) {w g : Nat} (hg : 64 * g < n4 l) (hw : w = min 64 (n4 l - 64 * g)) {u : LU} (h0 : u.1 = 0) (hu : u.2.1 = a0 + 65 * g) : lineS tx u = (true, (u.1, a0 + 65 * g + w + 1, a0 + 65 * g, a0 + 65 * g + w)) := by
  have hn4 : n4 l % 4 = 0 := by unfold n4; omega
  have hpos : 0 < w := by omega
  have hs : ∀ j, j < w → a0 + 65 * g + j < tx.length ∧ gD tx (a0 + 65 * g + j) = sgI l (64 * g + j) := by
    intro j hj
    have := h (64 * g + j) (by omega)
    rw [show a0 + (64 * g + j) + (64 * g + j) / 64 = a0 + 65 * g + j by omega] at this
    exact ⟨this.1, this.2.1⟩
  have he : a0 + 65 * g + w < tx.length ∧ gD tx (a0 + 65 * g + w) = 10 := by
    have := (h (64 * g + (w - 1)) (by omega)).2.2 (by omega)
    rw [show a0 + (64 * g + (w - 1)) + (64 * g + (w - 1)) / 64 + 1 = a0 + 65 * g + w by omega] at this
    exact this
  have heol : eolL tx (a0 + 65 * g) = a0 + 65 * g + w := eolL_at w _ he.1 (fun j hj => by rw [(hs j hj).2]; exact (sgI_ne _ _).1) he.2
  unfold lineS
  rw [if_pos h0, hu, if_neg (by omega), heol, stripL_e (Or.inr (by
    rw [show a0 + 65 * g + w - 1 = a0 + 65 * g + (w - 1) by omega, (hs (w - 1) (by omega)).2]; exact (sgI_ne _ _).2))]
/-- all the signs, line by line -/
theorem body_at {tx l : List Nat} {a0 : Nat} (hl : byt l) (h : SgAt tx l a0) (hend : gD tx (a0 + n4 l + (n4 l + 63) / 64) = 61) : ∀ (f g : Nat) (u : LU), n4 l < 64 * g + 64 * f → 64 * g ≤ n4 l + 63 → u.1 = 0 → u.2.1 = a0 + (if 64 * g < n4 l then 65 * g else n4 l + (n4 l + 63) / 64) → ∀ e, (64 * g < n4 l → e = false) → (bodyF tx f e (l.take (48 * g)) (lineS tx u)).2 = l
  | 0, g, u, h1, _, _, _, e, _ => by
    show l.take (48 * g) = l
    exact List.take_of_length_le (by unfold n4 at h1; omega)
  | f + 1, g, u, h1, h2, h3, h4, e, h5 => by
    have hn4 : n4 l % 4 = 0 := by unfold n4; omega
    by_cases q : 64 * g < n4 l
    · rw [if_pos q] at h4
      obtain ⟨w, hw⟩ : ∃ w, w = min 64 (n4 l - 64 * g) := ⟨_, rfl⟩
      rw [line_at h q hw h3 h4, h5 q]
      have hq0 := (h (64 * g) q).2.1
      rw [show a0 + 64 * g + 64 * g / 64 = a0 + 65 * g by omega] at hq0
      have h61 : gD tx (a0 + 65 * g) ≠ 61 := by
        rw [hq0, show 64 * g = 4 * (16 * g) + 0 by omega, sgI_v hl (by unfold n4 at q; omega) (by decide), if_pos (Nat.zero_le _)]
        exact (sgn_facts _ (Nat.mod_lt _ (by decide))).2.2.1
      rw [bodyF]
      dsimp only
      rw [if_pos ⟨rfl, by omega, h61⟩, if_neg (by rintro (z | z); cases z; exact z (by omega)), show a0 + 65 * g + w - (a0 + 65 * g) = w by omega]
      obtain ⟨e', i1, i2⟩ := fours_at hl h (w / 4) (16 * g) (by omega) (fun z => by unfold n4 at *; omega)
      rw [show a0 + 4 * (16 * g) + 16 * g / 16 = a0 + 65 * g by omega, show 3 * (16 * g) = 48 * g by omega] at i1
      rw [i1]
      dsimp only
      have hacc : l.take (3 * (16 * g + w / 4)) = l.take (48 * (g + 1)) := by
        by_cases z : 64 * (g + 1) ≤ n4 l
        · rw [show w = 64 by omega, show 3 * (16 * g + 64 / 4) = 48 * (g + 1) by omega]
        · rw [List.take_of_length_le (by unfold n4 at *; omega), List.take_of_length_le (by unfold n4 at *; omega)]
      rw [hacc]
      refine body_at hl h hend f (g + 1) (u.1, a0 + 65 * g + w + 1, a0 + 65 * g, a0 + 65 * g + w) (by omega) (by omega) h3 ?_ e' (fun z => i2 (by unfold n4 at *; omega))
      show a0 + 65 * g + w + 1 = _
      by_cases z : 64 * (g + 1) < n4 l
      · rw [if_pos z]; omega
      · rw [if_neg z]; omega
    · rw [if_neg q] at h4
      have ht : l.take (48 * g) = l := List.take_of_length_le (by unfold n4 at q; omega)
      rw [ht]
      have hx : ¬ ((lineS tx u).1 = true ∧ (lineS tx u).2.2.2.1 < (lineS tx u).2.2.2.2 ∧ gD tx (lineS tx u).2.2.2.1 ≠ 61) := by
        rintro ⟨z1, _, z3⟩
        unfold lineS at z1 z3
        rw [if_pos h3] at z1 z3
        split at z1
        · cases z1
        · next z => rw [if_neg z] at z3; exact z3 (by show gD tx u.2.1 = 61; rw [h4, ← Nat.add_assoc]; exact hend)
      rw [bodyF, if_neg hx]

/-! the first line, and no heads -/
theorem lineS_t9 {l : List Nat} {p x y : Nat} (h : ¬ l.length ≤ p) : lineS l (0, p, x, y) = (true, (0, eolL l p + 1, p, stripL l p (eolL l p))) := by
  show (if (0 : Int32) = 0 then (if l.length ≤ p then _ else _) else _) = _
  exact (if_pos rfl).trans (if_neg h)
theorem fours_s {tx b acc : List Nat} {m p : Nat} (h : fourF tx p = some b) : foursF tx (m + 1) p false acc = foursF tx m (p + 4) (decide (b.length < 3)) (acc ++ b) := by
  show (if false = true then none else match fourF tx p with | none => none | some b => foursF tx m (p + 4) (decide (b.length < 3)) (acc ++ b)) = _
  rw [if_neg (by decide), h]
theorem bg_facts : ∀ k, k < 3 → (∀ x ∈ bgL k, x ≠ 10) ∧ (bgL k).length ≤ 29 ∧ 20 ≤ (bgL k).length ∧ isBl (gD (bgL k) ((bgL k).length - 1)) = false ∧ gD (bgL k) 0 = 45 := by decide +kernel
theorem bg_inj : ∀ k, k < 3 → ∀ j, j < 3 → bgL k = bgL j → k = j := by decide +kernel
theorem sl_pre {a b : List Nat} : sl (gD (a ++ b)) 0 (a.length - 0) = a := by
  unfold sl
  rw [Nat.sub_zero]
  refine List.ext_getElem? (fun i => ?_)
  rw [List.getElem?_map]
  by_cases q : i < a.length
  · rw [List.getElem?_range q]
    show some (gD (a ++ b) (0 + i)) = _
    rw [Nat.zero_add, gD_l q, List.getElem?_eq_getElem q]
    unfold gD
    rw [List.getD_eq_getElem?_getD, List.getElem?_eq_getElem q]; rfl
  · rw [List.getElem?_eq_none (by rw [List.length_range]; omega), List.getElem?_eq_none (by omega)]; rfl
theorem labF_bg {k : Nat} {tx : List Nat} {a b : Nat} (hk : k < 3) (h : sl (gD tx) a (b - a) = bgL k) : labF tx a b 3 = some k := by
  rcases (show k = 2 ∨ k = 1 ∨ k = 0 by omega) with e | e | e <;> subst e
  · rw [labF, if_pos h]
  · rw [labF, if_neg (fun q => absurd (bg_inj 1 (by decide) 2 (by decide) (h.symm.trans q)) (by decide)), labF, if_pos h]
  · rw [labF, if_neg (fun q => absurd (bg_inj 0 (by decide) 2 (by decide) (h.symm.trans q)) (by decide)), labF, if_neg (fun q => absurd (bg_inj 0 (by decide) 1 (by decide) (h.symm.trans q)) (by decide)), labF, if_pos h]
/-- a text that begins as an armored one -/
theorem begin_at {k : Nat} {C : List Nat} (hk : k < 3) (hC : C ≠ []) : ∃ n, n = (bgL k).length ∧ rowS (bgL k ++ ([10] ++ ([10] ++ C))) = ((signsS (bgL k ++ ([10] ++ ([10] ++ C))) (labL k) (0, n + 1, 0, n)).1.1, (signsS (bgL k ++ ([10] ++ ([10] ++ C))) (labL k) (0, n + 1, 0, n)).2) ∧ headsS (bgL k ++ ([10] ++ ([10] ++ C))) (0, n + 1, 0, n) = (0, n + 2, n + 1, n + 1) := by
  obtain ⟨h1, h2, h3, h4, h5⟩ := bg_facts k hk
  obtain ⟨n, hn⟩ : ∃ n, n = (bgL k).length := ⟨_, rfl⟩
  refine ⟨n, hn, ?_, ?_⟩
  · have hlen : n + 2 ≤ (bgL k ++ ([10] ++ ([10] ++ C))).length := by simp only [List.length_append, List.length_cons, List.length_nil]; omega
    have hg : ∀ j, j < n → gD (bgL k ++ ([10] ++ ([10] ++ C))) j = gD (bgL k) j := fun j hj => gD_l (by omega)
    have h10 : gD (bgL k ++ ([10] ++ ([10] ++ C))) n = 10 := by
      have := gD_r (a := bgL k) (b := [10] ++ ([10] ++ C)) (j := 0)
      rw [Nat.add_zero, ← hn] at this
      exact this
    have heol : eolL (bgL k ++ ([10] ++ ([10] ++ C))) 0 = n := by
      have := eolL_at (l := bgL k ++ ([10] ++ ([10] ++ C))) n 0 (by omega) (fun j hj => by
        rw [Nat.zero_add, hg j hj]
        refine h1 _ ?_
        unfold gD
        rw [List.getD_eq_getElem?_getD, List.getElem?_eq_getElem (by omega)]
        exact List.getElem_mem _) (by rw [Nat.zero_add]; exact h10)
      rw [Nat.zero_add] at this
      exact this
    have hls : lineS (bgL k ++ ([10] ++ ([10] ++ C))) (0, 0, 0, 0) = (true, (0, n + 1, 0, n)) := by
      rw [lineS_t9 (by omega), heol, stripL_e (Or.inr (by rw [hg (n - 1) (by omega), hn]; exact h4))]
    unfold rowS
    rw [if_neg (by rw [hg 0 (by omega), h5]; omega), hls]
    unfold byLabS
    rw [labF_bg hk (show sl (gD (bgL k ++ ([10] ++ ([10] ++ C)))) 0 (n - 0) = bgL k by rw [hn]; exact sl_pre)]
  · have h10 : gD (bgL k ++ ([10] ++ ([10] ++ C))) (n + 1) = 10 := by
      have := gD_r (a := bgL k) (b := [10] ++ ([10] ++ C)) (j := 1)
      rw [← hn] at this
      rw [this]; rfl
    unfold headsS
    have hls : lineS (bgL k ++ ([10] ++ ([10] ++ C))) (0, n + 1, 0, n) = (true, (0, n + 2, n + 1, n + 1)) := by
      rw [lineS_t9 (by simp only [List.length_append, List.length_cons, List.length_nil]; omega), eolL_e (Or.inr h10), stripL_e (Or.inl (Nat.le_refl _))]
    rw [hls]
    exact headsL_e (Or.inr (Nat.le_refl _))
theorem signsS_2 (tx lb : List Nat) (u : LU) : (signsS tx lb u).2 = (bodyF tx (tx.length + 2) false [] (lineS tx (headsS tx u))).2 := by
  unfold signsS
  split
  · split <;> rfl
  · rfl
/-- an armored row, and what stands behind it, tells the row, or is refused -/
theorem arm2 {k : Nat} {P ex : List Nat} (hk : k < 3) (hb : byt P) : (rowS (armL k P ++ ex)).2 = P := by
  obtain ⟨C, hC⟩ : ∃ C, C = [61] ++ [sgnN (crcS P / 262144 % 64)] ++ [sgnN (crcS P / 4096 % 64)] ++ [sgnN (crcS P / 64 % 64)] ++ [sgnN (crcS P / 1 % 64)] ++ [10] ++ enL k ++ [10] ++ ex := ⟨_, rfl⟩
  have e : armL k P ++ ex = bgL k ++ ([10] ++ ([10] ++ (sgS P (n4 P) ++ C))) := by
    rw [hC]; unfold armL n4; simp only [List.append_assoc]
  have hC0 : gD C 0 = 61 ∧ C ≠ [] := by rw [hC]; simp only [List.append_assoc]; exact ⟨rfl, fun q => by cases q⟩
  rw [e]
  obtain ⟨n, hn, h1, h2⟩ := begin_at (k := k) (C := sgS P (n4 P) ++ C) hk (fun q => hC0.2 (List.append_eq_nil_iff.mp q).2)
  rw [h1]
  show (signsS _ _ _).2 = P
  rw [signsS_2, h2]
  have e2 : bgL k ++ ([10] ++ ([10] ++ (sgS P (n4 P) ++ C))) = (bgL k ++ [10] ++ [10]) ++ (sgS P (n4 P) ++ C) := by simp only [List.append_assoc]
  have hA : (bgL k ++ [10] ++ [10]).length = n + 2 := by rw [List.length_append, List.length_append, ← hn]; rfl
  have hsg : SgAt (bgL k ++ ([10] ++ ([10] ++ (sgS P (n4 P) ++ C)))) P (n + 2) := by rw [e2, ← hA]; exact SgAt.mk
  have hSl : (sgS P (n4 P)).length = n4 P + (n4 P + 63) / 64 := by
    by_cases z : 0 < n4 P
    · rw [sgS_end P z]; omega
    · rw [show n4 P = 0 by omega]; rfl
  have hend : gD (bgL k ++ ([10] ++ ([10] ++ (sgS P (n4 P) ++ C)))) (n + 2 + n4 P + (n4 P + 63) / 64) = 61 := by
    rw [e2, show n + 2 + n4 P + (n4 P + 63) / 64 = (bgL k ++ [10] ++ [10]).length + ((sgS P (n4 P)).length + 0) by rw [hA, hSl]; omega, gD_r, gD_r]
    exact hC0.1
  have hfuel : n4 P < 64 * 0 + 64 * ((bgL k ++ ([10] ++ ([10] ++ (sgS P (n4 P) ++ C)))).length + 2) := by
    simp only [List.length_append, hSl]; omega
  have := body_at hb hsg hend ((bgL k ++ ([10] ++ ([10] ++ (sgS P (n4 P) ++ C)))).length + 2) 0 (0, n + 2, n + 1, n + 1) hfuel (by omega) rfl (by
    show n + 2 = _
    split
    · omega
    · next z => rw [show n4 P = 0 by omega]) false (fun _ => rfl)
  exact this
/-- what is told of signs goes on from what was told -/
theorem fours_pre {tx : List Nat} : ∀ {n p : Nat} {e : Bool} {acc : List Nat} {r : Bool × List Nat}, foursF tx n p e acc = some r → ∃ z, r.2 = acc ++ z
  | 0, _, _, acc, r, h => by cases h; exact ⟨[], (List.append_nil _).symm⟩
  | n + 1, p, e, acc, r, h => by
    have h : (if e = true then none else match fourF tx p with | none => none | some b => foursF tx n (p + 4) (decide (b.length < 3)) (acc ++ b)) = some r := h
    split at h
    · cases h
    · cases hf : fourF tx p with
      | none => rw [hf] at h; cases h
      | some b =>
        rw [hf] at h
        obtain ⟨z, hz⟩ := fours_pre h
        exact ⟨b ++ z, by rw [hz, List.append_assoc]⟩
theorem body_pre {tx : List Nat} : ∀ (f : Nat) (e : Bool) (acc : List Nat) (q : Bool × LU), ∃ z, (bodyF tx f e acc q).2 = acc ++ z
  | 0, _, acc, _ => ⟨[], (List.append_nil _).symm⟩
  | f + 1, e, acc, q => by
    rw [bodyF]
    split
    · split
      · exact ⟨[], (List.append_nil _).symm⟩
      · cases hf : foursF tx ((q.2.2.2.2 - q.2.2.2.1) / 4) q.2.2.2.1 false acc with
        | none => exact ⟨[], (List.append_nil _).symm⟩
        | some r =>
          obtain ⟨z, hz⟩ := fours_pre hf
          obtain ⟨y, hy⟩ := body_pre f r.1 r.2 (lineS tx q.2)
          exact ⟨z ++ y, by rw [show _ = _ from hy, hz, List.append_assoc]⟩
    · exact ⟨[], (List.append_nil _).symm⟩
/-- the first byte comes back, however the text goes on -/
theorem arm1 {k : Nat} {P ex : List Nat} (hk : k < 3) (hb : byt P) (hp : P ≠ []) : (rowS ((armL k P).take 4096 ++ ex)).2 = [] ∨ gD (rowS ((armL k P).take 4096 ++ ex)).2 0 = gD P 0 := by
  have hP : 0 < P.length := by cases P with | nil => exact absurd rfl hp | cons a l => exact Nat.succ_pos _
  have hn4 : 4 ≤ n4 P := by unfold n4; omega
  obtain ⟨C, hC⟩ : ∃ C, C = [61] ++ [sgnN (crcS P / 262144 % 64)] ++ [sgnN (crcS P / 4096 % 64)] ++ [sgnN (crcS P / 64 % 64)] ++ [sgnN (crcS P / 1 % 64)] ++ [10] ++ enL k ++ [10] := ⟨_, rfl⟩
  obtain ⟨g1, g2, g3, g4, g5⟩ := bg_facts k hk
  have e0 : armL k P = (bgL k ++ [10] ++ [10]) ++ (sgS P (n4 P) ++ C) := by
    rw [hC]; unfold armL n4; simp only [List.append_assoc]
  have hA : (bgL k ++ [10] ++ [10]).length = (bgL k).length + 2 := by rw [List.length_append, List.length_append]; rfl
  have e : (armL k P).take 4096 ++ ex = bgL k ++ ([10] ++ ([10] ++ ((sgS P (n4 P) ++ C).take (4096 - ((bgL k).length + 2)) ++ ex))) := by
    rw [e0, List.take_append, hA, List.take_of_length_le (by omega)]; simp only [List.append_assoc]
  have hget : ∀ j, j < 4 → gD ((sgS P (n4 P) ++ C).take (4096 - ((bgL k).length + 2)) ++ ex) j = sgI P j ∧ j < ((sgS P (n4 P) ++ C).take (4096 - ((bgL k).length + 2))).length := by
    intro j hj
    have h1 := (sgS_get P (n4 P) (Nat.le_refl _) j (by omega)).1
    rw [show j + j / 64 = j by omega] at h1
    have h2 := (List.getElem?_eq_some_iff.mp h1).1
    have hl : j < ((sgS P (n4 P) ++ C).take (4096 - ((bgL k).length + 2))).length := by rw [List.length_take, List.length_append]; omega
    refine ⟨?_, hl⟩
    rw [gD_l hl]
    refine gD_s ?_
    rw [List.getElem?_take, if_pos (by omega), List.getElem?_append_left h2]; exact h1
  obtain ⟨T, hT⟩ : ∃ T, T = (sgS P (n4 P) ++ C).take (4096 - ((bgL k).length + 2)) ++ ex := ⟨_, rfl⟩
  rw [e]
  rw [← hT] at hget ⊢
  have hTn : T ≠ [] := fun q => by
    have := (hget 0 (by decide)).2
    rw [hT] at q
    have q2 := (List.append_eq_nil_iff.mp q).1
    rw [q2] at this
    exact absurd this (Nat.not_lt_zero _)
  obtain ⟨n, hn, h1, h2⟩ := begin_at (k := k) (C := T) hk hTn
  rw [h1]
  show (signsS _ _ _).2 = [] ∨ gD (signsS _ _ _).2 0 = _
  rw [signsS_2, h2]
  obtain ⟨tx, htx⟩ : ∃ tx, tx = bgL k ++ ([10] ++ ([10] ++ T)) := ⟨_, rfl⟩
  rw [← htx]
  have hgx : ∀ j, j < 4 → gD tx (n + 2 + j) = sgI P j := by
    intro j hj
    rw [← (hget j hj).1, htx, show bgL k ++ ([10] ++ ([10] ++ T)) = (bgL k ++ [10] ++ [10]) ++ T by simp only [List.append_assoc], show n + 2 + j = (bgL k ++ [10] ++ [10]).length + j by rw [hA, hn], gD_r]
  rw [bodyF]
  split
  · next c1 =>
    split
    · exact Or.inl rfl
    · next c2 =>
      have hfr : (lineS tx (0, n + 2, n + 1, n + 1)).2.2.2.1 = n + 2 := by
        have hy := c1.1
        unfold lineS at hy ⊢
        rw [if_pos rfl] at hy ⊢
        split at hy
        · cases hy
        · next z => rw [if_neg z]
      have hw : (lineS tx (0, n + 2, n + 1, n + 1)).2.2.2.1 < (lineS tx (0, n + 2, n + 1, n + 1)).2.2.2.2 := c1.2.1
      have hm : ((lineS tx (0, n + 2, n + 1, n + 1)).2.2.2.2 - (lineS tx (0, n + 2, n + 1, n + 1)).2.2.2.1) % 4 = 0 := Decidable.byContradiction (fun z => c2 (Or.inr z))
      obtain ⟨m, hm2⟩ : ∃ m, ((lineS tx (0, n + 2, n + 1, n + 1)).2.2.2.2 - (lineS tx (0, n + 2, n + 1, n + 1)).2.2.2.1) / 4 = m + 1 := ⟨((lineS tx (0, n + 2, n + 1, n + 1)).2.2.2.2 - (lineS tx (0, n + 2, n + 1, n + 1)).2.2.2.1) / 4 - 1, by omega⟩
      rw [hm2, hfr]
      have hf : fourF tx (n + 2) = some (sl (fun j => gD P (3 * 0 + j)) 0 (min 3 (P.length - 3 * 0))) := by
        have hsg : SgAt ((List.range (n + 2)).map (fun _ => 0) ++ (sgS P (n4 P) ++ [])) P (n + 2) := by
          have := SgAt.mk (A := (List.range (n + 2)).map (fun _ => 0)) (C := []) (l := P)
          rwa [List.length_map, List.length_range] at this
        have h9 := four_at hb hsg (g := 0) (by omega)
        rw [show n + 2 + 4 * 0 + 0 / 16 = n + 2 by omega] at h9
        rw [← h9]
        have hsame : ∀ j, j < 4 → gD tx (n + 2 + j) = gD ((List.range (n + 2)).map (fun _ => 0) ++ (sgS P (n4 P) ++ [])) (n + 2 + j) := by
          intro j hj
          rw [hgx j hj, ← (hsg j (by omega)).2.1]
          congr 1
          omega
        have s0 := hsame 0 (by decide)
        have s1 := hsame 1 (by decide)
        have s2 := hsame 2 (by decide)
        have s3 := hsame 3 (by decide)
        have hmy : manyF tx (n + 2) = manyF ((List.range (n + 2)).map (fun _ => 0) ++ (sgS P (n4 P) ++ [])) (n + 2) := by unfold manyF; rw [s2, s3]
        have hms := hmy
        have h4 : manyF tx (n + 2) = 1 ∨ manyF tx (n + 2) = 2 ∨ manyF tx (n + 2) = 3 := by
          unfold manyF
          split
          · exact Or.inr (Or.inr rfl)
          · split
            · exact Or.inr (Or.inl rfl)
            · exact Or.inl rfl
        have hok : ∀ m, m ≤ 4 → okF tx (n + 2) m = okF ((List.range (n + 2)).map (fun _ => 0) ++ (sgS P (n4 P) ++ [])) (n + 2) m := by
          intro m
          induction m with
          | zero => intro _; rfl
          | succ m ih => intro hm9; rw [okF, okF, ih (by omega), hsame m (by omega)]
        have hsu : ∀ m, m ≤ 4 → sumF tx (n + 2) m = sumF ((List.range (n + 2)).map (fun _ => 0) ++ (sgS P (n4 P) ++ [])) (n + 2) m := by
          intro m
          induction m with
          | zero => intro _; rfl
          | succ m ih => intro hm9; rw [sumF, sumF, ih (by omega), hsame m (by omega)]
        unfold fourF
        rw [← hmy, hok _ (by omega), hsu _ (by omega)]
      rw [fours_s hf]
      cases hr : foursF tx m (n + 2 + 4) (decide ((sl (fun j => gD P (3 * 0 + j)) 0 (min 3 (P.length - 3 * 0))).length < 3)) ([] ++ sl (fun j => gD P (3 * 0 + j)) 0 (min 3 (P.length - 3 * 0))) with
      | none => exact Or.inl rfl
      | some r =>
        right
        dsimp only
        obtain ⟨z, hz⟩ := fours_pre hr
        obtain ⟨y, hy⟩ := body_pre (tx := tx) (tx.length + 1) r.1 r.2 (lineS tx (lineS tx (0, n + 2, n + 1, n + 1)).2)
        rw [show gD _ 0 = gD (r.2 ++ y) 0 from congrArg (fun l => gD l 0) hy, hz]
        obtain ⟨w, hw9⟩ : ∃ w, min 3 (P.length - 3 * 0) = w + 1 := ⟨min 3 (P.length - 3 * 0) - 1, by omega⟩
        rw [hw9, List.nil_append]
        have : sl (fun j => gD P (3 * 0 + j)) 0 (w + 1) = gD P 0 :: sl (fun j => gD P (3 * 0 + j)) 1 w := by
          unfold sl
          rw [List.range_succ_eq_map, List.map_cons, List.map_map]
          congr 1
          refine List.map_congr_left (fun j _ => ?_)
          show gD P (3 * 0 + (0 + (j + 1))) = gD P (3 * 0 + (1 + j))
          congr 1; omega
        rw [this]; rfl
  · exact Or.inl rfl
/-- a sealed text is no row of packets -/
theorem clr_no {X ex : List Nat} : (rowS ((clrH ++ X).take 4096 ++ ex)).1 ≠ 0 := by
  obtain ⟨B, hB⟩ : ∃ B, B = [72, 97, 115, 104, 58, 32, 83, 72, 65, 50, 53, 54] ++ [10] ++ [10] ++ X := ⟨_, rfl⟩
  obtain ⟨A, hA⟩ : ∃ A : List Nat, A = [45, 45, 45, 45, 45, 66, 69, 71, 73, 78, 32, 83, 69, 65, 76, 69, 68, 32, 84, 69, 88, 84, 45, 45, 45, 45, 45] := ⟨_, rfl⟩
  have hAl : A.length = 27 := by rw [hA]; rfl
  have hAf : (∀ x ∈ A, x ≠ 10) ∧ isBl (gD A 26) = false ∧ gD A 0 = 45 ∧ (∀ k, k < 3 → A ≠ bgL k) := by rw [hA]; decide +kernel
  have e : (clrH ++ X).take 4096 ++ ex = A ++ ([10] ++ (B.take 4068 ++ ex)) := by
    have : clrH ++ X = (A ++ [10]) ++ B := by rw [hA, hB]; unfold clrH; simp only [List.append_assoc]
    have hsub : 4096 - (A ++ [10]).length = 4068 := by rw [List.length_append, hAl]; rfl
    rw [this, List.take_append, List.take_of_length_le (by rw [List.length_append, hAl]; decide), hsub, List.append_assoc, List.append_assoc]
  rw [e]
  obtain ⟨T, hT⟩ : ∃ T, T = B.take 4068 ++ ex := ⟨_, rfl⟩
  rw [← hT]
  have hg : ∀ j, j < 27 → gD (A ++ ([10] ++ T)) j = gD A j := fun j hj => gD_l (by omega)
  have h10 : gD (A ++ ([10] ++ T)) 27 = 10 := by
    have := gD_r (a := A) (b := [10] ++ T) (j := 0)
    rw [hAl] at this
    exact this
  have hlen : 28 ≤ (A ++ ([10] ++ T)).length := by rw [List.length_append, List.length_append, hAl]; show 28 ≤ 27 + (1 + _); omega
  have heol : eolL (A ++ ([10] ++ T)) 0 = 27 := by
    have := eolL_at (l := A ++ ([10] ++ T)) 27 0 (by omega) (fun j hj => by
      rw [Nat.zero_add, hg j hj]
      refine hAf.1 _ ?_
      unfold gD
      rw [List.getD_eq_getElem?_getD, List.getElem?_eq_getElem (by omega)]
      exact List.getElem_mem _) h10
    exact this
  have hls : lineS (A ++ ([10] ++ T)) (0, 0, 0, 0) = (true, (0, 28, 0, 27)) := by
    rw [lineS_t9 (by omega), heol, stripL_e (Or.inr (by rw [hg 26 (by omega)]; exact hAf.2.1))]
  unfold rowS
  rw [if_neg (by rw [hg 0 (by omega), hAf.2.2.1]; omega), hls]
  have hsl : sl (gD (A ++ ([10] ++ T))) 0 (27 - 0) = A := by rw [← hAl]; exact sl_pre
  have hlf : labF (A ++ ([10] ++ T)) 0 27 3 = none := by
    rw [labF, if_neg (by rw [hsl]; exact hAf.2.2.2 2 (by decide)), labF, if_neg (by rw [hsl]; exact hAf.2.2.2 1 (by decide)), labF, if_neg (by rw [hsl]; exact hAf.2.2.2 0 (by decide))]; rfl
  unfold byLabS
  rw [hlf]
  show failT 0 (-100000 - nI 0) ≠ 0
  unfold failT
  rw [if_pos rfl]
  exact code_ne 0 (by decide)
theorem fours_len {tx : List Nat} : ∀ {n p : Nat} {e : Bool} {acc : List Nat} {r : Bool × List Nat}, foursF tx n p e acc = some r → r.2.length ≤ acc.length + 3 * n ∧ (byt acc → byt r.2)
  | 0, _, _, acc, r, h => by cases h; exact ⟨Nat.le_refl _, id⟩
  | n + 1, p, e, acc, r, h => by
    have h : (if e = true then none else match fourF tx p with | none => none | some b => foursF tx n (p + 4) (decide (b.length < 3)) (acc ++ b)) = some r := h
    split at h
    · cases h
    · cases hf : fourF tx p with
      | none => rw [hf] at h; cases h
      | some b =>
        rw [hf] at h
        obtain ⟨h1, h2⟩ := fours_len h
        obtain ⟨h3, h4⟩ := fourF_len hf
        have := manyF_le tx p
        rw [List.length_append] at h1
        exact ⟨by omega, fun z => h2 (byt_app z h4)⟩
theorem body_len {tx : List Nat} : ∀ (f : Nat) (e : Bool) (acc : List Nat) (u : LU), (bodyF tx f e acc (lineS tx u)).2.length ≤ acc.length + (tx.length - u.2.1) ∧ (byt acc → byt (bodyF tx f e acc (lineS tx u)).2)
  | 0, _, acc, _ => ⟨Nat.le_add_right _ _, id⟩
  | f + 1, e, acc, u => by
    rw [bodyF]
    split
    · next c =>
      split
      · exact ⟨Nat.le_add_right _ _, id⟩
      · next c2 =>
        have hy := c.1
        have h0 : u.1 = 0 ∧ ¬ tx.length ≤ u.2.1 := by
          unfold lineS at hy
          split at hy
          · next z =>
            split at hy
            · cases hy
            · next z2 => exact ⟨z, z2⟩
          · cases hy
        have hl : lineS tx u = (true, (u.1, eolL tx u.2.1 + 1, u.2.1, stripL tx u.2.1 (eolL tx u.2.1))) := by
          unfold lineS; rw [if_pos h0.1, if_neg h0.2]
        have he := eolL_ge tx (tx.length - u.2.1 + 1) u.2.1 (by omega)
        have hs := stripL_le tx u.2.1 (eolL tx u.2.1)
        cases hf : foursF tx (((lineS tx u).2.2.2.2 - (lineS tx u).2.2.2.1) / 4) (lineS tx u).2.2.2.1 false acc with
        | none => exact ⟨Nat.le_add_right _ _, id⟩
        | some r =>
          obtain ⟨h1, h2⟩ := fours_len hf
          obtain ⟨h3, h4⟩ := body_len f r.1 r.2 (lineS tx u).2
          have e1 : (lineS tx u).2.2.1 = eolL tx u.2.1 + 1 := by rw [hl]
          have e2 : (lineS tx u).2.2.2.1 = u.2.1 := by rw [hl]
          have e3 : (lineS tx u).2.2.2.2 = stripL tx u.2.1 (eolL tx u.2.1) := by rw [hl]
          rw [e1] at h3
          rw [e2, e3] at h1
          exact ⟨by show (bodyF tx f r.1 r.2 (lineS tx (lineS tx u).2)).2.length ≤ _; omega, fun z => h4 (h2 z)⟩
    · exact ⟨Nat.le_add_right _ _, id⟩
theorem rowS_len {tp : List Nat} (hb : byt tp) : (rowS tp).2.length ≤ tp.length ∧ byt (rowS tp).2 := by
  unfold rowS
  split
  · exact ⟨Nat.le_refl _, hb⟩
  · show (byLabS tp (lineS tp (0, 0, 0, 0)).2).2.length ≤ _ ∧ byt (byLabS tp (lineS tp (0, 0, 0, 0)).2).2
    unfold byLabS
    split
    · exact ⟨Nat.zero_le _, fun x hx => by cases hx⟩
    · rw [signsS_2]
      have := body_len (tx := tp) (tp.length + 2) false [] (headsS tp (lineS tp (0, 0, 0, 0)).2)
      refine ⟨?_, this.2 (fun x hx => by cases hx)⟩
      have h1 := this.1
      have h2 : ([] : List Nat).length = 0 := rfl
      omega
