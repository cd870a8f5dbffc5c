set_option maxRecDepth 100000
/-! powers: what Montgomery's products give -/
theorem dv_low {b : Nat} {g : Nat → Nat} {d : Nat} (hb : 0 < b) (k : Nat) (h : dv b g (d + k) < b ^ d) : dv b g (d + k) = dv b g d := by
  induction k with
  | zero => rfl
  | succ k ih =>
    rw [← Nat.add_assoc, dv] at h ⊢
    have h1 : g (d + k) = 0 := by
      rcases Nat.eq_zero_or_pos (g (d + k)) with q | q
      · exact q
      · exfalso
        have h2 : 1 * b ^ (d + k) ≤ g (d + k) * b ^ (d + k) := Nat.mul_le_mul_right _ q
        have h3 : b ^ d ≤ b ^ (d + k) := Nat.pow_le_pow_right hb (by omega)
        omega
    rw [h1, Nat.zero_mul, Nat.add_zero] at h ⊢
    exact ih h
theorem mod_cancel {r z R m : Nat} (hc : Nat.Coprime R m) (h : (r * R) % m = (z * R) % m) : r % m = z % m := by
  have key : ∀ {a b : Nat}, b ≤ a → (a * R) % m = (b * R) % m → a % m = b % m := by
    intro a b hab h
    have h1 : m ∣ a * R - b * R := Nat.dvd_of_mod_eq_zero (Nat.sub_mod_eq_zero_of_mod_eq h)
    rw [← Nat.sub_mul] at h1
    have h2 : m ∣ a - b := (Nat.Coprime.symm hc).dvd_of_dvd_mul_right h1
    obtain ⟨k, hk⟩ := h2
    rw [show a = b + m * k by omega, Nat.add_mul_mod_self_left]
  rcases Nat.le_total z r with q | q
  · exact key q h
  · exact (key q h.symm).symm
theorem mont_mul {x y r a b R m : Nat} (hc : Nat.Coprime R m) (hx : x % m = (a * R) % m) (hy : y % m = (b * R) % m) (hr : (r * R) % m = (x * y) % m) : r % m = (a * b * R) % m := by
  apply mod_cancel hc
  rw [hr, Nat.mul_mod, hx, hy, ← Nat.mul_mod]
  congr 1
  rw [Nat.mul_assoc (a * b), ← Nat.mul_assoc, ← Nat.mul_assoc, Nat.mul_right_comm a R b]
theorem mont_in {x y r R m : Nat} (hc : Nat.Coprime R m) (hy : y % m = (R * R) % m) (hr : (r * R) % m = (x * y) % m) : r % m = (x * R) % m := by
  apply mod_cancel hc
  rw [hr, Nat.mul_mod, hy, ← Nat.mul_mod, Nat.mul_assoc]
theorem mont_out {x r a R m : Nat} (hc : Nat.Coprime R m) (hx : x % m = (a * R) % m) (hr : (r * R) % m = (x * 1) % m) : r % m = a % m := by
  apply mod_cancel hc
  rw [hr, Nat.mul_one, hx]
theorem cop_pow {m d : Nat} (h : m % 2 = 1) : Nat.Coprime (4294967296 ^ d) m := by
  have h2 : Nat.Coprime 2 m := by
    show Nat.gcd 2 m = 1
    rw [Nat.gcd_rec, h]; rfl
  have h3 : Nat.Coprime (2 ^ 32) m := Nat.Coprime.pow_left 32 h2
  exact Nat.Coprime.pow_left d h3
theorem pow_dvd2 {a b : Nat} (h : a ≤ b) : (2 : Int) ^ a ∣ 2 ^ b := ⟨2 ^ (b - a), by rw [← Int.pow_add]; congr 1; omega⟩
/-! the inverse of an odd digit, by Newton -/
def ee (k : Nat) : Nat := [1, 2, 4, 8, 16, 32, 32].getD k 32
theorem newton {w v k : Nat} (hk : k < 6) (hw : w < 4294967296) (hv : v < 4294967296) (h : ((2 : Int) ^ ee k) ∣ ((w : Int) * v - 1)) :
    ((2 : Int) ^ ee (k + 1)) ∣ ((w : Int) * ((v * (2 + (18446744073709551616 - w * v)) % 4294967296 : Nat) : Int) - 1) := by
  have hwv : w * v ≤ 4294967295 * 4294967295 := mul_le (by omega) (by omega)
  obtain ⟨t, ht⟩ := h
  have hq := Nat.mod_add_div (v * (2 + (18446744073709551616 - w * v))) 4294967296
  generalize hq1 : v * (2 + (18446744073709551616 - w * v)) / 4294967296 = q at hq
  generalize hr1 : v * (2 + (18446744073709551616 - w * v)) % 4294967296 = r at hq ⊢
  have hz : (r : Int) + 4294967296 * q = v * (18446744073709551618 - (w : Int) * v) := by
    have h5 := congrArg (fun z : Nat => (z : Int)) hq
    simp only [Int.natCast_add, Int.natCast_mul] at h5
    rw [show ((4294967296 : Nat) : Int) = 4294967296 from rfl] at h5
    rw [h5]
    congr 1
    have : ((2 + (18446744073709551616 - w * v) : Nat) : Int) = 18446744073709551618 - ((w * v : Nat) : Int) := by omega
    rw [Int.natCast_add] at this
    rw [this, Int.natCast_mul]
  have hr2 : (r : Int) = v * (18446744073709551618 - (w : Int) * v) - 4294967296 * q := by omega
  have key : (w : Int) * r - 1 = -(((w : Int) * v - 1) * ((w : Int) * v - 1)) + 4294967296 * (4294967296 * ((w : Int) * v) - w * q) := by
    rw [hr2]
    generalize (v : Int) = V
    generalize (w : Int) = Wz
    generalize (q : Int) = Qz
    rw [Int.mul_sub, ← Int.mul_assoc Wz V, Int.mul_sub, Int.sub_mul, Int.mul_sub, Int.mul_sub, ← Int.mul_assoc Wz 4294967296, Int.mul_comm Wz 4294967296, Int.mul_assoc 4294967296 Wz]
    generalize Wz * V = a
    generalize Wz * Qz = b
    generalize a * a = z
    omega
  rw [key]
  have hE : ee (k + 1) ≤ 2 * ee k ∧ ee (k + 1) ≤ 32 := by
    rcases (show k = 0 ∨ k = 1 ∨ k = 2 ∨ k = 3 ∨ k = 4 ∨ k = 5 by omega) with rfl | rfl | rfl | rfl | rfl | rfl <;> decide
  refine Int.dvd_add ?_ ?_
  · rw [Int.dvd_neg, ht]
    have e1 : (2 : Int) ^ ee k * t * (2 ^ ee k * t) = 2 ^ (2 * ee k) * (t * t) := by
      rw [show 2 * ee k = ee k + ee k by omega, Int.pow_add, Int.mul_assoc, Int.mul_left_comm t, ← Int.mul_assoc, ← Int.mul_assoc]
    rw [e1]
    exact Int.dvd_trans (pow_dvd2 hE.1) (Int.dvd_mul_right _ _)
  · have : (4294967296 : Int) = 2 ^ 32 := by decide
    have h7 := pow_dvd2 hE.2
    rw [← this] at h7
    exact Int.dvd_trans h7 (Int.dvd_mul_right _ _)
theorem newton_end {w v : Nat} (hw : w < 4294967296) (hv : v < 4294967296) (h : ((2 : Int) ^ ee 6) ∣ ((w : Int) * v - 1)) : ((4294967296 - v) % 4294967296 * w + 1) % 4294967296 = 0 := by
  have h1 : ((2 : Int) ^ ee 6) = 4294967296 := by decide
  rw [h1] at h
  obtain ⟨t, ht⟩ := h
  have hm : (4294967296 - v) % 4294967296 = 4294967296 - v ∨ v = 0 := by omega
  rcases hm with hm | hm
  · rw [hm]
    have h2 : (((4294967296 - v) * w + 1 : Nat) : Int) = 4294967296 * (w - t) := by
      rw [Int.natCast_add, Int.natCast_mul, Int.mul_sub, ← ht]
      have : ((4294967296 - v : Nat) : Int) = 4294967296 - (v : Int) := by omega
      rw [this, Int.sub_mul, Int.mul_comm (w : Int) v]
      omega
    omega
  · subst hm; omega
/-! the numbers' scratch as one value -/
abbrev PU : Type := Int32 × Int64 × (Nat → Nat) × (Nat → Nat) × (Nat → Nat) × (Nat → Nat) × (Nat → Nat)
def pM (M : MS) (u : PU) : MS := sG (sG (sG (sG (sG (sL (sI M 26 u.1) 29 u.2.1) 27 u.2.2.1) 28 u.2.2.2.1) 30 u.2.2.2.2.1) 31 u.2.2.2.2.2.1) 32 u.2.2.2.2.2.2
def pself (M : MS) : PU := (mI M 26, mL M 29, mG M 27, mG M 28, mG M 30, mG M 31, mG M 32)
theorem pM_id (M : MS) : pM M (pself M) = M := by
  unfold pM pself
  refine MS.ext (upN_same _ _ _ rfl) (upN_same _ _ _ rfl) rfl ?_ rfl rfl
  show upN (upN (upN (upN (upN M.2.2.2.1 27 (M.2.2.2.1 27)) 28 (M.2.2.2.1 28)) 30 (M.2.2.2.1 30)) 31 (M.2.2.2.1 31)) 32 (M.2.2.2.1 32) = M.2.2.2.1
  rw [upN_same _ 27 _ rfl, upN_same _ 28 _ rfl, upN_same _ 30 _ rfl, upN_same _ 31 _ rfl, upN_same _ 32 _ rfl]
theorem pM_26 (M : MS) (a : Int32) (b : Int64) (f g i j k : Nat → Nat) (x : Int32) : sI (pM M (a, b, f, g, i, j, k)) 26 x = pM M (x, b, f, g, i, j, k) := MS.ext (upN_upN _ _ _ _) rfl rfl rfl rfl rfl
theorem pM_29 (M : MS) (a : Int32) (b : Int64) (f g i j k : Nat → Nat) (x : Int64) : sL (pM M (a, b, f, g, i, j, k)) 29 x = pM M (a, x, f, g, i, j, k) := MS.ext rfl (upN_upN _ _ _ _) rfl rfl rfl rfl
theorem pM_27 (M : MS) (a : Int32) (b : Int64) (f g i j k x : Nat → Nat) : sG (pM M (a, b, f, g, i, j, k)) 27 x = pM M (a, b, x, g, i, j, k) := by
  refine MS.ext rfl rfl rfl ?_ rfl rfl
  show upN (upN (upN (upN (upN (upN M.2.2.2.1 27 f) 28 g) 30 i) 31 j) 32 k) 27 x = upN (upN (upN (upN (upN M.2.2.2.1 27 x) 28 g) 30 i) 31 j) 32 k
  rw [upN_comm _ _ _ (by decide : (32 : Nat) ≠ 27), upN_comm _ _ _ (by decide : (31 : Nat) ≠ 27), upN_comm _ _ _ (by decide : (30 : Nat) ≠ 27), upN_comm _ _ _ (by decide : (28 : Nat) ≠ 27), upN_upN]
theorem pM_28 (M : MS) (a : Int32) (b : Int64) (f g i j k x : Nat → Nat) : sG (pM M (a, b, f, g, i, j, k)) 28 x = pM M (a, b, f, x, i, j, k) := by
  refine MS.ext rfl rfl rfl ?_ rfl rfl
  show upN (upN (upN (upN (upN (upN M.2.2.2.1 27 f) 28 g) 30 i) 31 j) 32 k) 28 x = upN (upN (upN (upN (upN M.2.2.2.1 27 f) 28 x) 30 i) 31 j) 32 k
  rw [upN_comm _ _ _ (by decide : (32 : Nat) ≠ 28), upN_comm _ _ _ (by decide : (31 : Nat) ≠ 28), upN_comm _ _ _ (by decide : (30 : Nat) ≠ 28), upN_upN]
theorem pM_30 (M : MS) (a : Int32) (b : Int64) (f g i j k x : Nat → Nat) : sG (pM M (a, b, f, g, i, j, k)) 30 x = pM M (a, b, f, g, x, j, k) := by
  refine MS.ext rfl rfl rfl ?_ rfl rfl
  show upN (upN (upN (upN (upN (upN M.2.2.2.1 27 f) 28 g) 30 i) 31 j) 32 k) 30 x = upN (upN (upN (upN (upN M.2.2.2.1 27 f) 28 g) 30 x) 31 j) 32 k
  rw [upN_comm _ _ _ (by decide : (32 : Nat) ≠ 30), upN_comm _ _ _ (by decide : (31 : Nat) ≠ 30), upN_upN]
theorem pM_31 (M : MS) (a : Int32) (b : Int64) (f g i j k x : Nat → Nat) : sG (pM M (a, b, f, g, i, j, k)) 31 x = pM M (a, b, f, g, i, x, k) := by
  refine MS.ext rfl rfl rfl ?_ rfl rfl
  show upN (upN (upN (upN (upN (upN M.2.2.2.1 27 f) 28 g) 30 i) 31 j) 32 k) 31 x = upN (upN (upN (upN (upN M.2.2.2.1 27 f) 28 g) 30 i) 31 x) 32 k
  rw [upN_comm _ _ _ (by decide : (32 : Nat) ≠ 31), upN_upN]
theorem pM_32 (M : MS) (a : Int32) (b : Int64) (f g i j k x : Nat → Nat) : sG (pM M (a, b, f, g, i, j, k)) 32 x = pM M (a, b, f, g, i, j, x) := by
  refine MS.ext rfl rfl rfl ?_ rfl rfl
  show upN (upN (upN (upN (upN (upN M.2.2.2.1 27 f) 28 g) 30 i) 31 j) 32 k) 32 x = upN (upN (upN (upN (upN M.2.2.2.1 27 f) 28 g) 30 i) 31 j) 32 x
  rw [upN_upN]
/-- doubling, one digit -/
theorem dbl_step {S1 S2 : Nat → Nat} {k c1 : Nat} (hv : dv 4294967296 S2 k + c1 * 4294967296 ^ k = 2 * dv 4294967296 S1 k) :
    dv 4294967296 (upN S2 k ((2 * S1 k + c1) % 4294967296)) (k + 1) + (2 * S1 k + c1) / 4294967296 * 4294967296 ^ (k + 1) = 2 * dv 4294967296 S1 (k + 1) := by
  rw [dv, dv, upN_s, dv_congr (f := upN S2 k _) (g := S2) (fun i hi => upN_n (by omega)), Nat.pow_succ]
  have key := Nat.mod_add_div (2 * S1 k + c1) 4294967296
  generalize (4294967296 : Nat) ^ k = P at hv ⊢
  generalize (2 * S1 k + c1) % 4294967296 = r at key ⊢
  generalize (2 * S1 k + c1) / 4294967296 = q at key ⊢
  have k2 := congrArg (fun z => z * P) key
  simp only [Nat.add_mul] at k2
  have e1 : q * (P * 4294967296) = 4294967296 * q * P := by rw [Nat.mul_comm P, ← Nat.mul_assoc, Nat.mul_comm q]
  have e2 : 2 * S1 k * P = 2 * (S1 k * P) := Nat.mul_assoc _ _ _
  rw [e1]
  rw [e2] at k2
  omega
theorem pow2_mod {k m v : Nat} (hm : 0 < m) (h : v = 2 ^ k % m) : (2 * v < m → 2 * v = 2 ^ (k + 1) % m) ∧ (m ≤ 2 * v → 2 * v - m = 2 ^ (k + 1) % m) := by
  have h1 : 2 ^ (k + 1) % m = (2 * v) % m := by rw [Nat.pow_succ, Nat.mul_comm, Nat.mul_mod, ← h, Nat.mul_mod 2 v, show v % m = v by rw [h, Nat.mod_mod]]
  have hv : v < m := by rw [h]; exact Nat.mod_lt _ hm
  refine ⟨fun q => ?_, fun q => ?_⟩
  · rw [h1, Nat.mod_eq_of_lt q]
  · rw [h1, Nat.mod_eq_sub_mod q, Nat.mod_eq_of_lt (by omega)]
theorem R_sq (d : Nat) : 2 ^ (64 * d) = 4294967296 ^ d * 4294967296 ^ d := by
  rw [show (4294967296 : Nat) = 2 ^ 32 from rfl, ← Nat.pow_mul, ← Nat.pow_add]
  congr 1
  omega
theorem len_R {n d : Nat} (h : n ≤ 4 * d) : 256 ^ n ≤ 4294967296 ^ d := by
  rw [show (4294967296 : Nat) = 256 ^ 4 from rfl, ← Nat.pow_mul]
  exact Nat.pow_le_pow_right (by decide) h
theorem num_odd {l : List Nat} (h : 0 < l.length) (ho : gD l (l.length - 1) % 2 = 1) : num l % 2 = 1 := by
  have h1 := num_drop (l := l) (i := 0) h
  have key : ∀ (l k : List Nat), num (l ++ k) = num l * 256 ^ k.length + num k := by
    intro l
    induction l with
    | nil => intro k; simp [num]
    | cons x l ih =>
      intro k
      rw [List.cons_append, num_cons, ih, num_cons, List.length_append, Nat.pow_add, Nat.add_mul, Nat.mul_assoc]
      omega
  have h2 := key (l.take (l.length - 1)) (l.drop (l.length - 1))
  rw [List.take_append_drop] at h2
  rw [show l.length - (0 + 1) = l.length - 1 by omega, show l.length - 1 - 0 = l.length - 1 by omega, Nat.sub_zero, List.drop_of_length_le (Nat.le_refl _)] at h1
  rw [h2, h1, List.length_drop, show l.length - (l.length - 1) = 1 by omega, Nat.pow_one, Nat.pow_zero, Nat.mul_one, show num [] = 0 from rfl]
  generalize gD l (l.length - 1) = z at ho ⊢
  omega
theorem dv_mod2 {g : Nat → Nat} (n : Nat) : dv 4294967296 g (n + 1) % 2 = g 0 % 2 := by
  induction n with
  | zero => simp [dv]
  | succ n ih =>
    rw [dv, Nat.pow_succ]
    have : (g (n + 1) * (4294967296 ^ n * 4294967296)) % 2 = 0 := by
      rw [← Nat.mul_assoc, Nat.mul_mod]; simp
    omega
theorem dv_div {g : Nat → Nat} {n i : Nat} (hg : ∀ j, j < n → g j < 4294967296) (hi : i < n) : dv 4294967296 g n / 4294967296 ^ i % 4294967296 = g i := by
  have h1 := dv_lt (b := 4294967296) (g := g) (n := i) (fun j hj => hg j (by omega))
  have hp : 0 < 4294967296 ^ i := Nat.pow_pos (by decide)
  have key : ∀ k, i + 1 + k ≤ n → ∃ q, dv 4294967296 g (i + 1 + k) = dv 4294967296 g i + (g i + 4294967296 * q) * 4294967296 ^ i := by
    intro k
    induction k with
    | zero => intro _; exact ⟨0, by rw [Nat.add_zero, dv, Nat.mul_zero, Nat.add_zero]⟩
    | succ k ih =>
      intro hk
      obtain ⟨q, hq⟩ := ih (by omega)
      refine ⟨q + g (i + 1 + k) * 4294967296 ^ k, ?_⟩
      rw [← Nat.add_assoc, dv, hq, show i + 1 + k = 1 + k + i by omega, Nat.pow_add, Nat.pow_add, Nat.pow_one, Nat.mul_add 4294967296 q, ← Nat.add_assoc (g i), Nat.add_mul (g i + _), ← Nat.add_assoc]
      congr 1
      rw [← Nat.mul_assoc, ← Nat.mul_assoc, Nat.mul_comm (g _) 4294967296, Nat.mul_assoc 4294967296]
  obtain ⟨q, hq⟩ := key (n - (i + 1)) (by omega)
  rw [show i + 1 + (n - (i + 1)) = n by omega] at hq
  rw [hq, Nat.add_mul_div_right _ _ hp, Nat.div_eq_of_lt h1, Nat.zero_add, Nat.add_mul_mod_self_left, Nat.mod_eq_of_lt (hg i hi)]
theorem dv_byte {g : Nat → Nat} {n i : Nat} (hg : ∀ j, j < n → g j < 4294967296) (hi : i / 4 < n) : g (i / 4) / 2 ^ (8 * (i % 4)) % 256 = dv 4294967296 g n / 2 ^ (8 * i) % 256 := by
  rw [← dv_div hg hi]
  generalize dv 4294967296 g n = v
  have e1 : 2 ^ (8 * i) = 4294967296 ^ (i / 4) * 2 ^ (8 * (i % 4)) := by
    rw [pow_split, show (256 : Nat) = 2 ^ 8 from rfl, ← Nat.pow_mul]
  rw [e1, ← Nat.div_div_eq_div_mul]
  generalize v / 4294967296 ^ (i / 4) = z
  rcases (show i % 4 = 0 ∨ i % 4 = 1 ∨ i % 4 = 2 ∨ i % 4 = 3 by omega) with q | q | q | q <;> rw [q] <;> omega
/-- the exponent's bits, from the top -/
def exB (l : List Nat) (i t : Nat) : Nat := num (l.take i) * 2 ^ t + gD l i / 2 ^ (8 - t)
theorem exB_0 (l : List Nat) (i : Nat) (h : gD l i < 256) : exB l i 0 = num (l.take i) := by
  unfold exB
  rw [Nat.pow_zero, Nat.mul_one, Nat.div_eq_of_lt (by omega), Nat.add_zero]
theorem exB_8 {l : List Nat} {i : Nat} (h : i < l.length) : exB l i 8 = num (l.take (i + 1)) := by
  unfold exB
  rw [List.take_add_one, List.getElem?_eq_getElem h, Option.toList_some, num_snoc, Nat.sub_self, Nat.pow_zero, Nat.div_one, gD, List.getD_eq_getElem?_getD, List.getElem?_eq_getElem h]; rfl
theorem exB_s {l : List Nat} {i t : Nat} (ht : t < 8) : exB l i (t + 1) = 2 * exB l i t + gD l i / 2 ^ (7 - t) % 2 := by
  unfold exB
  rw [show 8 - (t + 1) = 7 - t by omega, show 8 - t = 7 - t + 1 by omega, Nat.pow_succ, Nat.pow_succ, ← Nat.div_div_eq_div_mul, Nat.mul_add, ← Nat.mul_assoc, Nat.mul_comm _ 2]
  omega
theorem n_shrN {n k : Nat} (h : n < 2147483648) (hk : k < 32) : shr (nI n) (nI k) = nI (n / 2 ^ k) := pk_shrN h _ k (s_l k hk)
section LF
variable {p : Program} {l : Launch} {e : Env} {R : Room} {s : State} {m : MethodId} {args : Array Value} {below : List Frame} {meth : Method} {c : Code} {H : Heap} {locs : List Loc} {cells slots : Nat} {Q : State → Prop} {cc : ByteArray} {pc : Nat} {ls : Array Slot} {rest : List Value}
variable {nL : Nat} {own : String} {D : va_G} {dA : Nat → ClassId} {B : Nat} {Z : State → Prop} {d mc ms : Nat} {X F : va_W}
theorem n_iastF {a n i v : Nat} {g : Nat → Nat} (C : Cx p R s m args c cc nL own D dA B Z d mc ms) (h : Wd D B s (X ++ (F ++ [(a, iar dA n g)])) H locs) (hi : i < n) (hn : n < 2147483648) (hdg : decode cc pc = .ok (.iastore, 1))
    (kk : ∀ (H1 : Heap) (locs1 : List Loc), Wd D B s (X ++ (F ++ [(a, iar dA n (upN g i v))])) H1 locs1 → W p l e R s m args below meth c H1 locs1 cells slots Q (F0 m (pc + 1) ls rest)) : W p l e R s m args below meth c H locs cells slots Q (F0 m pc ls (.int (nI v) :: .int (nI i) :: .ref a :: rest)) := by
  rw [← List.append_assoc] at h
  exact n_iastL C h hi hn hdg (fun H1 locs1 h => kk H1 locs1 (by rw [← List.append_assoc]; exact h))
end LF
