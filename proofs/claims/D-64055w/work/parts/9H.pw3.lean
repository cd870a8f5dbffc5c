set_option maxRecDepth 100000
/-! Power.raise, plainly -/
theorem nb_step (l : List Nat) (i : Nat) : num (l.drop (l.length - (i + 1))) = bY l i * 256 ^ i + num (l.drop (l.length - i)) := by
  unfold bY
  split
  · next q => exact num_drop q
  · next q => rw [Nat.zero_mul, Nat.zero_add, show l.length - (i + 1) = l.length - i by omega]
theorem dgF_dv (l : List Nat) : ∀ n, dv 65536 (dgF l) n = num (l.drop (l.length - 2 * n))
  | 0 => by
    show 0 = num (l.drop (l.length - 0))
    rw [Nat.sub_zero, List.drop_length]; rfl
  | n + 1 => by
    show dv 65536 (dgF l) n + dgF l n * 65536 ^ n = _
    rw [dgF_dv l n, show 2 * (n + 1) = 2 * n + 1 + 1 by omega, nb_step, nb_step]
    have e : 256 ^ (2 * n) = 65536 ^ n := by rw [Nat.pow_mul]
    unfold dgF
    rw [Nat.pow_succ, e, Nat.add_mul, Nat.mul_comm (65536 ^ n) 256, ← Nat.mul_assoc (bY l (2 * n + 1)), Nat.mul_comm (bY l (2 * n + 1)) 256]
    generalize 256 * bY l (2 * n + 1) * 65536 ^ n = a
    generalize bY l (2 * n) * 65536 ^ n = b
    omega
theorem dgF_num {l : List Nat} {n : Nat} (h : l.length ≤ 2 * n) : dv 65536 (dgF l) n = num l := by
  rw [dgF_dv, show l.length - 2 * n = 0 by omega, List.drop_zero]
theorem dv_div16 {g : Nat → Nat} {n i : Nat} (hg : ∀ j, j < n → g j < 65536) (hi : i < n) : dv 65536 g n / 65536 ^ i % 65536 = g i := by
  obtain ⟨k, rfl⟩ : ∃ k, n = i + (1 + k) := ⟨n - i - 1, by omega⟩
  rw [dv_off, Nat.add_comm (dv 65536 g i), Nat.mul_add_div (Nat.pow_pos (by decide)), Nat.div_eq_of_lt (dv_lt (fun j hj => hg j (by omega))), Nat.add_zero, dv_off, Nat.pow_one, Nat.add_mul_mod_self_left]
  show (0 + g (i + 0) * 65536 ^ 0) % 65536 = g i
  rw [Nat.zero_add, Nat.pow_zero, Nat.mul_one, Nat.mod_eq_of_lt (hg _ (by omega))]; rfl
theorem dv_byte16 {g : Nat → Nat} {n i : Nat} (hg : ∀ j, j < n → g j < 65536) (hi : i / 2 < n) : g (i / 2) / 2 ^ (8 * (i % 2)) % 256 = dv 65536 g n / 2 ^ (8 * i) % 256 := by
  rw [← dv_div16 hg hi]
  generalize dv 65536 g n = v
  have e1 : 2 ^ (8 * i) = 65536 ^ (i / 2) * 2 ^ (8 * (i % 2)) := by
    rw [show (65536 : Nat) = 2 ^ 16 from rfl, ← Nat.pow_mul, ← Nat.pow_add]; congr 1; omega
  rw [e1, ← Nat.div_div_eq_div_mul]
  generalize v / 65536 ^ (i / 2) = z
  rcases (show i % 2 = 0 ∨ i % 2 = 1 by omega) with q | q <;> rw [q] <;> omega
/-- the modulus shifted up -/
theorem up_mod {sh n : Nat} {g : Nat → Nat} (hg : ∀ j, j < n + 1 → g j < 65536) (hs : sh < 16) (h1 : 1 ≤ g n) (h2 : g n * 2 ^ sh < 65536) : cU sh g (n + 1) = 0 ∧ upD sh g n ≠ 0 ∧ dv 65536 (upD sh g) (n + 1) = dv 65536 g (n + 1) * 2 ^ sh := by
  have h0 : 0 < 2 ^ sh := Nat.two_pow_pos sh
  have hc : cU sh g n < 2 ^ sh := cU_lt n (fun j hj => hg j (by omega))
  have h3 : g n < 2 ^ (16 - sh) := by
    have : g n * 2 ^ sh < 2 ^ (16 - sh) * 2 ^ sh := by rw [pw16 (by omega)]; exact h2
    exact Nat.lt_of_mul_lt_mul_right this
  have h4 : (g n + 1) * 2 ^ sh ≤ 65536 := by
    have : (g n + 1) * 2 ^ sh ≤ 2 ^ (16 - sh) * 2 ^ sh := Nat.mul_le_mul_right _ h3
    rw [pw16 (by omega)] at this; exact this
  rw [Nat.add_mul, Nat.one_mul] at h4
  have h5 : 1 * 2 ^ sh ≤ g n * 2 ^ sh := Nat.mul_le_mul_right _ h1
  have ez : cU sh g (n + 1) = 0 := by
    show (g n * 2 ^ sh + cU sh g n) / 65536 = 0
    exact Nat.div_eq_of_lt (by omega)
  refine ⟨ez, ?_, ?_⟩
  · unfold upD
    rw [Nat.mod_eq_of_lt (by omega)]
    omega
  · have e := up_dval sh g (n + 1)
    rw [ez, Nat.zero_mul, Nat.add_zero, dval_dv, dval_dv] at e
    exact e
