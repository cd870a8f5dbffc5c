set_option maxRecDepth 100000
/-! Power.times, plainly -/
theorem dval_dv (g : Nat → Nat) : ∀ n, dval g n = dv 65536 g n
  | 0 => rfl
  | n + 1 => by show dval g n + _ = dv 65536 g n + _; rw [dval_dv g n]
theorem shr_N {a k : Nat} (hk : k < 32) (h : a < 2147483648) : shr (nI a) (nI k) = nI (a / 2 ^ k) := pk_shrN h _ k (s_mod k hk)
theorem dv_set (b : Nat) (g : Nat → Nat) (n v : Nat) : dv b (upN g n v) (n + 1) = dv b g n + v * b ^ n := by
  show dv b (upN g n v) n + upN g n v n * b ^ n = _
  rw [dv_congr (fun i hi => upN_n (f := g) (v := v) (show i ≠ n by omega)), upN_s]
/-- within a row of the product -/
def TmI (gr gb P P1 : Nat → Nat) (i k ca : Nat) : Prop := ca < 65536 ∧ (∀ j, P1 j < 65536) ∧ (∀ j, i + k ≤ j → P1 j = P j) ∧ dv 65536 P1 (i + k) + ca * 65536 ^ (i + k) = dv 65536 P (i + k) + gr i * 65536 ^ i * dv 65536 gb k
theorem TmI.step {gr gb P P1 : Nat → Nat} {i k ca : Nat} (h : TmI gr gb P P1 i k ca) (h1 : gr i < 65536) (h2 : gb k < 65536) : TmI gr gb P (upN P1 (i + k) ((gr i * gb k + P1 (i + k) + ca) % 65536)) i (k + 1) ((gr i * gb k + P1 (i + k) + ca) / 65536) := by
  obtain ⟨a1, a2, a3, a4⟩ := h
  have hm : gr i * gb k ≤ 65535 * 65535 := Nat.mul_le_mul (by omega) (by omega)
  have hp := a2 (i + k)
  refine ⟨by omega, fun j => ?_, fun j hj => ?_, ?_⟩
  · rw [upN_if]
    split
    · exact Nat.mod_lt _ (by decide)
    · exact a2 j
  · rw [upN_n (by omega)]; exact a3 j (by omega)
  · rw [show i + (k + 1) = i + k + 1 by omega, dv_set]
    have e0 : gr i * gb k + P1 (i + k) + ca = (gr i * gb k + P1 (i + k) + ca) % 65536 + 65536 * ((gr i * gb k + P1 (i + k) + ca) / 65536) := (Nat.mod_add_div _ _).symm
    have e1 : (gr i * gb k + P1 (i + k) + ca) * 65536 ^ (i + k) = ((gr i * gb k + P1 (i + k) + ca) % 65536 + 65536 * ((gr i * gb k + P1 (i + k) + ca) / 65536)) * 65536 ^ (i + k) := by rw [← e0]
    generalize (gr i * gb k + P1 (i + k) + ca) % 65536 = u at e1 ⊢
    generalize (gr i * gb k + P1 (i + k) + ca) / 65536 = v at e1 ⊢
    rw [a3 _ (Nat.le_refl _), Nat.add_mul, Nat.add_mul, Nat.add_mul] at e1
    have e2 : gr i * gb k * 65536 ^ (i + k) = gr i * 65536 ^ i * (gb k * 65536 ^ k) := by rw [Nat.pow_add, Nat.mul_assoc, Nat.mul_assoc, ← Nat.mul_assoc (gb k), Nat.mul_comm (gb k) (65536 ^ i), Nat.mul_assoc]
    show dv 65536 P1 (i + k) + u * 65536 ^ (i + k) + v * 65536 ^ (i + k + 1) = dv 65536 P (i + k) + P (i + k) * 65536 ^ (i + k) + gr i * 65536 ^ i * (dv 65536 gb k + gb k * 65536 ^ k)
    rw [Nat.mul_add, ← e2, Nat.pow_succ, Nat.mul_comm (65536 ^ (i + k)) 65536, ← Nat.mul_assoc v, Nat.mul_comm v 65536]
    generalize 65536 ^ (i + k) = X at a4 e1 ⊢
    omega
/-- between the rows of the product -/
def TmO (gr gb P : Nat → Nat) (dg i : Nat) : Prop := (∀ j, P j < 65536) ∧ (∀ j, i + dg ≤ j → P j = 0) ∧ dv 65536 P (i + dg) = dv 65536 gr i * dv 65536 gb dg
theorem TmO.start (gr gb : Nat → Nat) (dg : Nat) : TmO gr gb (fun _ => 0) dg 0 := ⟨fun _ => (show 0 < 65536 by decide), fun _ _ => rfl, by rw [dv_zero]; show 0 = 0 * _; rw [Nat.zero_mul]⟩
theorem TmO.row {gr gb P : Nat → Nat} {dg i : Nat} (h : TmO gr gb P dg i) : TmI gr gb P P i 0 0 := ⟨by decide, h.1, fun _ _ => rfl, by show _ + 0 * _ = _ + _ * 0; omega⟩
theorem TmI.next {gr gb P P1 : Nat → Nat} {dg i ca : Nat} (h0 : TmO gr gb P dg i) (h : TmI gr gb P P1 i dg ca) : TmO gr gb (upN P1 (i + dg) ca) dg (i + 1) := by
  obtain ⟨a1, a2, a3, a4⟩ := h
  obtain ⟨b1, b2, b3⟩ := h0
  refine ⟨fun j => ?_, fun j hj => ?_, ?_⟩
  · rw [upN_if]
    split
    · exact a1
    · exact a2 j
  · rw [upN_n (by omega), a3 j (by omega)]; exact b2 j (by omega)
  · rw [show i + 1 + dg = i + dg + 1 by omega, dv_set, a4, b3]
    show _ = (dv 65536 gr i + gr i * 65536 ^ i) * _
    rw [Nat.add_mul]
/-- the taking off, digit by digit; k digits are left -/
def TmR (P : Nat → Nat) (X Mv dg k : Nat) : Prop := (∀ j, j < 134 → P j < 65536) ∧ dv 65536 P (k + dg) % Mv = X % Mv ∧ dv 65536 P (k + dg) < Mv * 65536 ^ k ∧ (k ≤ dg → P (k + dg) = 0)
theorem dv_off (b : Nat) (P : Nat → Nat) (a : Nat) : ∀ n, dv b P (a + n) = dv b P a + b ^ a * dv b (fun q => P (a + q)) n
  | 0 => by show dv b P a = dv b P a + _ * 0; omega
  | n + 1 => by
    show dv b P (a + n) + P (a + n) * b ^ (a + n) = dv b P a + b ^ a * (dv b (fun q => P (a + q)) n + P (a + n) * b ^ n)
    rw [dv_off b P a n, Nat.mul_add, Nat.pow_add, ← Nat.mul_assoc (P (a + n)), Nat.mul_comm (P (a + n)) (b ^ a), Nat.mul_assoc, Nat.add_assoc]
theorem TmR.win {P : Nat → Nat} {X Mv dg k : Nat} (h : TmR P X Mv dg (k + 1)) : dv 65536 (fun q => P (k + q)) (dg + 1) < Mv * 65536 := by
  obtain ⟨a1, a2, a3, a4⟩ := h
  rw [show k + 1 + dg = k + (dg + 1) by omega, dv_off, Nat.pow_succ, ← Nat.mul_assoc, Nat.mul_right_comm, Nat.mul_comm (Mv * 65536)] at a3
  have : 65536 ^ k * dv 65536 (fun q => P (k + q)) (dg + 1) < 65536 ^ k * (Mv * 65536) := by omega
  exact Nat.lt_of_mul_lt_mul_left this
theorem TmR.step {P f2 : Nat → Nat} {X Mv dg k : Nat} (h : TmR P X Mv dg (k + 1)) (hM : 0 < Mv) (hM2 : Mv ≤ 65536 ^ dg) (hk : k + dg < 134) (h1 : ∀ j, j < dg + 1 → f2 j < 65536) (h2 : dv 65536 f2 (dg + 1) = dv 65536 (fun q => P (k + q)) (dg + 1) % Mv) : TmR (wnF k (dg + 1) f2 P) X Mv dg k := by
  obtain ⟨a1, a2, a3, a4⟩ := h
  have hlt : dv 65536 f2 (dg + 1) < Mv := by rw [h2]; exact Nat.mod_lt _ hM
  have e0 : dv 65536 f2 (dg + 1) = dv 65536 f2 dg + f2 dg * 65536 ^ dg := rfl
  have hz : f2 dg = 0 := by
    rcases Nat.eq_zero_or_pos (f2 dg) with z | z
    · exact z
    · exfalso
      have : 1 * 65536 ^ dg ≤ f2 dg * 65536 ^ dg := Nat.mul_le_mul_right _ z
      omega
  have e1 : dv 65536 f2 dg = dv 65536 f2 (dg + 1) := by rw [e0, hz, Nat.zero_mul, Nat.add_zero]
  have e2 : dv 65536 (wnF k (dg + 1) f2 P) (k + dg) = dv 65536 P k + 65536 ^ k * dv 65536 f2 (dg + 1) := by
    rw [dv_off, dv_congr (n := k) (f := wnF k (dg + 1) f2 P) (g := P) (fun i hi => by unfold wnF; rw [if_neg (by omega)]), dv_congr (n := dg) (f := fun q => wnF k (dg + 1) f2 P (k + q)) (g := f2) (fun i hi => wnF_in (by omega)), e1]
  have e3 : dv 65536 P (k + 1 + dg) = dv 65536 P k + 65536 ^ k * dv 65536 (fun q => P (k + q)) (dg + 1) := by rw [show k + 1 + dg = k + (dg + 1) by omega, dv_off]
  have hPk : dv 65536 P k < 65536 ^ k := dv_lt (fun i hi => a1 i (by omega))
  refine ⟨fun j hj => ?_, ?_, ?_, fun _ => ?_⟩
  · unfold wnF
    split
    · exact h1 _ (by omega)
    · exact a1 j hj
  · rw [e2, ← a2, e3, h2]
    generalize dv 65536 (fun q => P (k + q)) (dg + 1) = T
    have : 65536 ^ k * T = 65536 ^ k * (T % Mv) + Mv * (65536 ^ k * (T / Mv)) := by
      rw [← Nat.mul_assoc, Nat.mul_comm Mv, Nat.mul_assoc, ← Nat.mul_add, Nat.mod_add_div]
    rw [this, ← Nat.add_assoc, Nat.add_mul_mod_self_left]
  · rw [e2]
    have : 65536 ^ k * (dv 65536 f2 (dg + 1) + 1) ≤ 65536 ^ k * Mv := Nat.mul_le_mul_left _ hlt
    rw [Nat.mul_add, Nat.mul_one] at this
    rw [Nat.mul_comm Mv]
    omega
  · rw [wnF_in (by omega)]; exact hz
/-- shifted back -/
def dnF (sh : Nat) (P : Nat → Nat) (k : Nat) : Nat := P (k + 1) % 2 ^ sh * 2 ^ (16 - sh) + P k / 2 ^ sh
theorem pw16 {sh : Nat} (h : sh ≤ 16) : 2 ^ (16 - sh) * 2 ^ sh = 65536 := by rw [← Nat.pow_add, show 16 - sh + sh = 16 by omega]
theorem dnF_dv {sh : Nat} {P : Nat → Nat} (h : sh ≤ 16) : ∀ n, dv 65536 (dnF sh P) n * 2 ^ sh + P 0 % 2 ^ sh = dv 65536 P n + P n % 2 ^ sh * 65536 ^ n
  | 0 => by show 0 * _ + _ = 0 + _ * 65536 ^ 0; omega
  | n + 1 => by
    have ih := dnF_dv (P := P) h n
    show (dv 65536 (dnF sh P) n + dnF sh P n * 65536 ^ n) * 2 ^ sh + P 0 % 2 ^ sh = dv 65536 P n + P n * 65536 ^ n + P (n + 1) % 2 ^ sh * 65536 ^ (n + 1)
    have e : dnF sh P n * 2 ^ sh + P n % 2 ^ sh = P (n + 1) % 2 ^ sh * 65536 + P n := by
      unfold dnF
      rw [Nat.add_mul, Nat.mul_assoc, pw16 h, Nat.add_assoc, Nat.mul_comm (P n / 2 ^ sh), Nat.div_add_mod]
    have e2 : (dnF sh P n * 2 ^ sh + P n % 2 ^ sh) * 65536 ^ n = (P (n + 1) % 2 ^ sh * 65536 + P n) * 65536 ^ n := by rw [e]
    rw [Nat.add_mul, Nat.add_mul] at e2
    rw [Nat.add_mul, Nat.mul_right_comm (dnF sh P n), Nat.pow_succ, Nat.mul_comm (65536 ^ n) 65536, ← Nat.mul_assoc]
    generalize dnF sh P n * 2 ^ sh * 65536 ^ n = a at e2 ⊢
    generalize P (n + 1) % 2 ^ sh * 65536 * 65536 ^ n = b at e2 ⊢
    omega
theorem dnF_lt {sh : Nat} {P : Nat → Nat} {k : Nat} (h : sh ≤ 16) (hp : P k < 65536) : P k / 2 ^ sh < 2 ^ (16 - sh) ∧ dnF sh P k < 65536 := by
  have h0 : 0 < 2 ^ sh := Nat.two_pow_pos sh
  have h1 : P k / 2 ^ sh < 2 ^ (16 - sh) := by rw [Nat.div_lt_iff_lt_mul h0, pw16 h]; exact hp
  refine ⟨h1, ?_⟩
  unfold dnF
  have h2 : (P (k + 1) % 2 ^ sh + 1) * 2 ^ (16 - sh) ≤ 2 ^ sh * 2 ^ (16 - sh) := Nat.mul_le_mul_right _ (Nat.mod_lt _ h0)
  rw [Nat.mul_comm (2 ^ sh), pw16 h, Nat.add_mul, Nat.one_mul] at h2
  omega
theorem dn_and {sh x : Nat} (h : sh ≤ 16) (hx : x < 65536) : nI (x * 2 ^ (16 - sh)) &&& nI 65535 = nI (x % 2 ^ sh * 2 ^ (16 - sh)) := by
  have h0 : 2 ^ (16 - sh) ≤ 2 ^ 16 := Nat.pow_le_pow_right (by decide) (by omega)
  have h1 : x * 2 ^ (16 - sh) ≤ 65535 * 65536 := Nat.mul_le_mul (by omega) h0
  rw [pk_andN (by omega) 16 (by decide)]
  congr 1
  rw [show (2 : Nat) ^ 16 = 2 ^ sh * 2 ^ (16 - sh) by rw [← Nat.pow_add]; congr 1; omega, Nat.mul_mod_mul_right]
theorem dn_end {sh dg Y : Nat} {P : Nat → Nat} (h : sh ≤ 16) (hz : P dg = 0) (he : dv 65536 P dg = Y * 2 ^ sh) : dv 65536 (dnF sh P) dg = Y := by
  have e := dnF_dv (P := P) h dg
  rw [hz, Nat.zero_mod, Nat.zero_mul, Nat.add_zero, he] at e
  have h0 : 0 < 2 ^ sh := Nat.two_pow_pos sh
  have e2 : (dv 65536 (dnF sh P) dg * 2 ^ sh + P 0 % 2 ^ sh) / 2 ^ sh = dv 65536 (dnF sh P) dg := by
    rw [Nat.mul_comm, Nat.mul_add_div h0, Nat.div_eq_of_lt (Nat.mod_lt _ h0), Nat.add_zero]
  rw [e, Nat.mul_div_cancel _ h0] at e2
  exact e2.symm
