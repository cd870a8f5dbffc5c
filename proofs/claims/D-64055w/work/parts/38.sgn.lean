set_option maxRecDepth 100000
/-! what signs stand for, plainly -/
def vN (x : Nat) : Nat := if 65 ≤ x ∧ x ≤ 90 then x - 65 else if 97 ≤ x ∧ x ≤ 122 then x - 71 else if 48 ≤ x ∧ x ≤ 57 then x + 4 else if x = 43 then 62 else 63
def vOk (x : Nat) : Bool := !decide (valI x = -1)
theorem vOk_t {x : Nat} (h : vOk x = true) : valI x ≠ -1 := by
  unfold vOk at h
  simpa using h
theorem vOk_f {x : Nat} (h : vOk x = false) : valI x = -1 := by
  unfold vOk at h
  simpa using h
theorem valI_vN {x : Nat} (h : valI x ≠ -1) : valI x = nI (vN x) ∧ vN x < 64 := by
  unfold valI vN at *
  split
  · exact ⟨rfl, by omega⟩
  · next h1 =>
    rw [if_neg h1] at h
    split
    · exact ⟨rfl, by omega⟩
    · next h2 =>
      rw [if_neg h2] at h
      split
      · exact ⟨rfl, by omega⟩
      · next h3 =>
        rw [if_neg h3] at h
        split
        · exact ⟨rfl, by omega⟩
        · next h4 =>
          rw [if_neg h4] at h
          split
          · exact ⟨rfl, by omega⟩
          · next h5 => rw [if_neg h5] at h; exact absurd rfl h
def manyF (tx : List Nat) (p : Nat) : Nat := if gD tx (p + 3) ≠ 61 then 3 else if gD tx (p + 2) ≠ 61 then 2 else 1
theorem manyF_le (tx : List Nat) (p : Nat) : 1 ≤ manyF tx p ∧ manyF tx p ≤ 3 := by
  unfold manyF
  split
  · omega
  · split <;> omega
def sumF (tx : List Nat) (p : Nat) : Nat → Nat
  | 0 => 0
  | i + 1 => sumF tx p i + vN (gD tx (p + i)) * 2 ^ (18 - 6 * i)
def okF (tx : List Nat) (p : Nat) : Nat → Bool
  | 0 => true
  | i + 1 => okF tx p i && vOk (gD tx (p + i))
def byF (v j : Nat) : Nat := v / 2 ^ (16 - 8 * j) % 256
def fourF (tx : List Nat) (p : Nat) : Option (List Nat) :=
  if okF tx p (manyF tx p + 1) = true ∧ sumF tx p (manyF tx p + 1) % 2 ^ (24 - 8 * manyF tx p) = 0 then some (sl (byF (sumF tx p (manyF tx p + 1))) 0 (manyF tx p)) else none
theorem sumF_lt {tx : List Nat} {p : Nat} : ∀ i, i ≤ 4 → okF tx p i = true → sumF tx p i < 2 ^ 24 ∧ sumF tx p i % 2 ^ (24 - 6 * i) = 0 := by
  have hv : ∀ x, vOk x = true → vN x < 64 := fun x h => (valI_vN (vOk_t h)).2
  intro i hi ho
  have key : ∀ k, k ≤ 4 → okF tx p k = true → ∀ j, j < k → vN (gD tx (p + j)) < 64 := by
    intro k
    induction k with
    | zero => intro _ _ j hj; omega
    | succ k ih =>
      intro hk h j hj
      rw [okF, Bool.and_eq_true] at h
      by_cases q : j < k
      · exact ih (by omega) h.1 j q
      · rw [show j = k by omega]; exact hv _ h.2
  have h0 := key i hi ho
  rcases i with _ | _ | _ | _ | _ | i
  · exact ⟨by show 0 < _; decide, by show 0 % _ = 0; decide⟩
  · have a0 := h0 0 (by omega)
    simp only [sumF, Nat.add_zero] at *
    omega
  · have a0 := h0 0 (by omega); have a1 := h0 1 (by omega)
    simp only [sumF, Nat.add_zero] at *
    omega
  · have a0 := h0 0 (by omega); have a1 := h0 1 (by omega); have a2 := h0 2 (by omega)
    simp only [sumF, Nat.add_zero] at *
    omega
  · have a0 := h0 0 (by omega); have a1 := h0 1 (by omega); have a2 := h0 2 (by omega); have a3 := h0 3 (by omega)
    simp only [sumF, Nat.add_zero] at *
    omega
  · omega
def foursF (tx : List Nat) : Nat → Nat → Bool → List Nat → Option (Bool × List Nat)
  | 0, _, e, acc => some (e, acc)
  | n + 1, p, e, acc => if e = true then none else match fourF tx p with
    | none => none
    | some b => foursF tx n (p + 4) (decide (b.length < 3)) (acc ++ b)
def bodyF (tx : List Nat) : Nat → Bool → List Nat → Bool × LU → LU × List Nat
  | 0, _, acc, q => (q.2, acc)
  | f + 1, e, acc, q =>
    if q.1 = true ∧ q.2.2.2.1 < q.2.2.2.2 ∧ gD tx q.2.2.2.1 ≠ 61 then
      if e = true ∨ (q.2.2.2.2 - q.2.2.2.1) % 4 ≠ 0 then (failLn q.2 q.2.2.2.1, acc)
      else match foursF tx ((q.2.2.2.2 - q.2.2.2.1) / 4) q.2.2.2.1 false acc with
        | none => (failLn q.2 q.2.2.2.1, acc)
        | some r => bodyF tx f r.1 r.2 (lineS tx q.2)
    else (q.2, acc)
def sum5 (tx : List Nat) (fr : Nat) : Nat → Nat
  | 0 => 0
  | k + 1 => 64 * sum5 tx fr k + vN (gD tx (fr + (k + 1)))
def ok5 (tx : List Nat) (fr : Nat) : Nat → Bool
  | 0 => true
  | k + 1 => ok5 tx fr k && vOk (gD tx (fr + (k + 1)))
def sumOk (tx : List Nat) (fr to : Nat) (acc : List Nat) : Bool := decide (to - fr = 5) && (ok5 tx fr 4 && decide (sum5 tx fr 4 = crcS acc))
theorem sum5_lt {tx : List Nat} {fr : Nat} : ∀ k, ok5 tx fr k = true → sum5 tx fr k < 64 ^ k := by
  intro k
  induction k with
  | zero => intro _; show 0 < _; decide
  | succ k ih =>
    intro h
    rw [ok5, Bool.and_eq_true] at h
    have h1 := ih h.1
    have h2 := (valI_vN (vOk_t h.2)).2
    rw [sum5, Nat.pow_succ]
    omega
def tailF (tx : List Nat) : Nat → LU → LU
  | 0, w => w
  | f + 1, w => if w.1 = 0 ∧ w.2.1 < tx.length then (if (lineS tx w).2.2.2.1 < (lineS tx w).2.2.2.2 then failLn (lineS tx w).2 (lineS tx w).2.2.2.1 else tailF tx f (lineS tx w).2) else w
def endF (tx lb : List Nat) (q : Bool × LU) : LU :=
  if q.1 = true then (if sl (gD tx) q.2.2.2.1 (q.2.2.2.2 - q.2.2.2.1) = [45, 45, 45, 45, 45, 69, 78, 68, 32] ++ lb ++ [45, 45, 45, 45, 45] then tailF tx (tx.length + 2) q.2 else failLn q.2 q.2.2.2.1) else q.2
/-- signs behind their first line: told, next, from, to; the bytes -/
def signsS (tx lb : List Nat) (u : LU) : LU × List Nat :=
  if (bodyF tx (tx.length + 2) false [] (lineS tx (headsS tx u))).1.1 = 0 then
    (if sumOk tx (bodyF tx (tx.length + 2) false [] (lineS tx (headsS tx u))).1.2.2.1 (bodyF tx (tx.length + 2) false [] (lineS tx (headsS tx u))).1.2.2.2 (bodyF tx (tx.length + 2) false [] (lineS tx (headsS tx u))).2 = true
     then (endF tx lb (lineS tx (bodyF tx (tx.length + 2) false [] (lineS tx (headsS tx u))).1), (bodyF tx (tx.length + 2) false [] (lineS tx (headsS tx u))).2)
     else (failLn (bodyF tx (tx.length + 2) false [] (lineS tx (headsS tx u))).1 (bodyF tx (tx.length + 2) false [] (lineS tx (headsS tx u))).1.2.2.1, (bodyF tx (tx.length + 2) false [] (lineS tx (headsS tx u))).2))
  else bodyF tx (tx.length + 2) false [] (lineS tx (headsS tx u))
theorem code_ne (p : Nat) (h : p < 1000000) : (-100000 - nI p : Int32) ≠ 0 := by
  intro e
  have h1 : (-100000 - nI p : Int32).toInt = 0 := by rw [e]; rfl
  rw [Int32.toInt_sub, nI_toInt (by omega)] at h1
  have h2 : (-100000 : Int32).toInt = -100000 := by decide
  rw [h2, Int.bmod_eq_of_le (by omega) (by omega)] at h1
  omega
theorem failT_ne {t x : Int32} (hx : x ≠ 0) : failT t x ≠ 0 := by
  unfold failT
  split
  · exact hx
  · assumption
theorem failT_0 (x : Int32) : failT 0 x = x := if_pos rfl
theorem failT_n {t x : Int32} (h : t ≠ 0) : failT t x = t := if_neg h
theorem lineS_n {l : List Nat} {u : LU} (h : u.1 ≠ 0) : lineS l u = (false, u) := if_neg h
theorem fourF_len {tx : List Nat} {p : Nat} {b : List Nat} (h : fourF tx p = some b) : b.length = manyF tx p ∧ byt b := by
  unfold fourF at h
  split at h
  · cases h
    refine ⟨sl_len _ _ _, sl_byt (fun j => Nat.mod_lt _ (by decide))⟩
  · cases h
theorem and255_ex (x : Int32) : ∃ n, n < 256 ∧ x &&& nI 255 = nI n := by
  refine ⟨(x.toBitVec &&& 255#32).toNat, ?_, ?_⟩
  · rw [BitVec.toNat_and]; exact Nat.lt_of_le_of_lt Nat.and_le_right (by decide)
  · apply Int32.toBitVec_inj.mp
    rw [Int32.toBitVec_and]
    have e1 : (nI 255).toBitVec = 255#32 := rfl
    rw [e1]
    simp [nI]
theorem lineS_f {l : List Nat} {u v : LU} {b : Bool} (h : lineS l u = (b, v)) (hl : l.length ≤ 4096) (hb : b = false) : v.1 ≠ 0 := by
  subst hb
  unfold lineS at h
  split at h
  · next h0 =>
    split at h
    · cases h; exact failT_ne (code_ne _ (by omega))
    · cases h
  · next h0 => cases h; exact h0
theorem lineS_t {l : List Nat} {u v : LU} {b : Bool} (h : lineS l u = (b, v)) (hb : b = true) : v.1 = 0 ∧ u.1 = 0 ∧ v.2.2.1 = u.2.1 ∧ u.2.1 < l.length := by
  subst hb
  unfold lineS at h
  split at h
  · next h0 =>
    split at h
    · cases h
    · next h1 => cases h; exact ⟨h0, h0, rfl, by omega⟩
  · cases h
theorem lineS_le {l : List Nat} {u v : LU} {b : Bool} (h : lineS l u = (b, v)) (hu : u.2.1 ≤ 5000) (hl : l.length ≤ 4096) : v.2.1 ≤ 5000 := by
  unfold lineS at h
  split at h
  · split at h
    · cases h; exact hu
    · next h1 =>
      cases h
      have a1 := eolL_ge l (l.length - u.2.1 + 1) u.2.1 (by omega)
      show eolL l u.2.1 + 1 ≤ 5000
      omega
  · cases h; exact hu
theorem lineS_y {l : List Nat} {u : LU} (h0 : u.1 = 0) (h1 : u.2.1 < l.length) : (lineS l u).1 = true := by
  unfold lineS
  rw [if_pos h0, if_neg (by omega)]
theorem headsL_le {l : List Nat} (hl : l.length ≤ 4096) : ∀ (k : Nat) (q : Bool × LU), q.2.2.1 ≤ 5000 → (headsL k l q).2.1 ≤ 5000 := by
  intro k
  induction k with
  | zero => intro q hq; exact hq
  | succ k ih =>
    intro q hq
    rw [headsL]
    split
    · refine ih _ (lineS_le (b := (lineS l (if hasColon l q.2.2.2.1 q.2.2.2.2 = true then q.2 else failLn q.2 q.2.2.2.1)).1) rfl ?_ hl)
      split
      · exact hq
      · exact hq
    · exact hq
theorem headsS_le (l : List Nat) (u : LU) (hl : l.length ≤ 4096) (hu : u.2.1 ≤ 5000) : (headsS l u).2.1 ≤ 5000 := headsL_le hl _ _ (lineS_le (b := (lineS l u).1) rfl hu hl)
theorem bodyF_e {tx : List Nat} {f : Nat} {e : Bool} {acc : List Nat} {q : Bool × LU} (h : ¬ (q.1 = true ∧ q.2.2.2.1 < q.2.2.2.2 ∧ gD tx q.2.2.2.1 ≠ 61)) : bodyF tx f e acc q = (q.2, acc) := by
  cases f with
  | zero => rfl
  | succ f => rw [bodyF, if_neg h]
theorem bodyF_s {tx : List Nat} {f : Nat} {e : Bool} {acc : List Nat} {b : Bool} {v : LU} {r : Bool × List Nat} (hb : b = true) (h1 : v.2.2.1 < v.2.2.2) (h2 : gD tx v.2.2.1 ≠ 61) (he : e = false) (h4 : (v.2.2.2 - v.2.2.1) % 4 = 0) (hf : foursF tx ((v.2.2.2 - v.2.2.1) / 4) v.2.2.1 false acc = some r) : bodyF tx (f + 1) e acc (b, v) = bodyF tx f r.1 r.2 (lineS tx v) := by
  rw [bodyF, if_pos ⟨hb, h1, h2⟩, if_neg (by show ¬ (e = true ∨ (v.2.2.2 - v.2.2.1) % 4 ≠ 0); rw [he]; intro q; rcases q with q | q; cases q; exact q h4)]
  show (match foursF tx ((v.2.2.2 - v.2.2.1) / 4) v.2.2.1 false acc with | none => _ | some r => _) = _
  rw [hf]
theorem bodyF_x {tx : List Nat} {f : Nat} {e : Bool} {acc : List Nat} {b : Bool} {v : LU} (hb : b = true) (h1 : v.2.2.1 < v.2.2.2) (h2 : gD tx v.2.2.1 ≠ 61) (hf : (e = true ∨ (v.2.2.2 - v.2.2.1) % 4 ≠ 0) ∨ foursF tx ((v.2.2.2 - v.2.2.1) / 4) v.2.2.1 false acc = none) : bodyF tx (f + 1) e acc (b, v) = (failLn v v.2.2.1, acc) := by
  rw [bodyF, if_pos ⟨hb, h1, h2⟩]
  by_cases q : e = true ∨ (v.2.2.2 - v.2.2.1) % 4 ≠ 0
  · rw [if_pos q]
  · rw [if_neg q]
    show (match foursF tx ((v.2.2.2 - v.2.2.1) / 4) v.2.2.1 false acc with | none => _ | some r => _) = _
    rw [hf.resolve_left q]
theorem tailF_n {tx : List Nat} {f : Nat} {w : LU} (h : ¬ (w.1 = 0 ∧ w.2.1 < tx.length)) : tailF tx f w = w := by
  cases f with
  | zero => rfl
  | succ f => rw [tailF, if_neg h]
theorem ok5_mono {tx : List Nat} {fr : Nat} {k : Nat} (h : ok5 tx fr k = false) : ∀ j, ok5 tx fr (k + j) = false := by
  intro j
  induction j with
  | zero => exact h
  | succ j ih => rw [show k + (j + 1) = (k + j) + 1 by omega, ok5, ih, Bool.false_and]
theorem n_shlN {n k : Nat} (hk : k < 32) (h : n * 2 ^ k < 4294967296) : shl (nI n) (nI k) = nI (n * 2 ^ k) := pk_shlN _ k (s_l k hk) h
theorem k9 (a s : Nat) (h : a < 64) (hs : s ≤ 18) : a * 2 ^ s < 4294967296 := by
  have h1 : 2 ^ s ≤ 2 ^ 18 := Nat.pow_le_pow_right (by decide) hs
  have h2 : a * 2 ^ s ≤ 63 * 2 ^ 18 := Nat.mul_le_mul (by omega) h1
  omega
