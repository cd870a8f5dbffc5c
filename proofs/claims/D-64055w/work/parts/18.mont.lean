set_option maxRecDepth 100000
theorem mw_memLs {k : Nat} {T : Nat → Nat} (hk : k ∈ mkL) (hl : mlen k = 40) {dA : Nat → ClassId} {h0 : Nat} {ad : Nat → Nat} {M : MS} {F : va_W} : (ad k, lar dA 40 T) ∈ mw dA h0 ad (sG M k T) ++ F := by
  have := mw_memL (dA := dA) (h0 := h0) (ad := ad) (F := F) (M := sG M k T) hk
  rw [hl, sG_self] at this
  exact this
theorem pow_split (i : Nat) : 4294967296 ^ (i / 4) * 2 ^ (8 * (i % 4)) = 256 ^ i := by
  have h1 : (4294967296 : Nat) = 2 ^ 32 := by decide
  have h2 : (256 : Nat) = 2 ^ 8 := by decide
  rw [h1, h2, ← Nat.pow_mul, ← Nat.pow_mul, ← Nat.pow_add]
  congr 1
  omega
theorem dig_step {T : Nat → Nat} {i x : Nat} (hi : i < 160) (hx : x < 256) (hb : ∀ j, j < 40 → i ≤ 4 * j → T j = 0) (hc : T (i / 4) < 2 ^ (8 * (i % 4))) (hl : ∀ j, j < 40 → T j < 4294967296) :
    (∀ j, j < 40 → i + 1 ≤ 4 * j → upN T (i / 4) (T (i / 4) + x * 2 ^ (8 * (i % 4))) j = 0) ∧ (i + 1 < 160 → upN T (i / 4) (T (i / 4) + x * 2 ^ (8 * (i % 4))) ((i + 1) / 4) < 2 ^ (8 * ((i + 1) % 4))) ∧ (∀ j, j < 40 → upN T (i / 4) (T (i / 4) + x * 2 ^ (8 * (i % 4))) j < 4294967296) ∧ dv 4294967296 (upN T (i / 4) (T (i / 4) + x * 2 ^ (8 * (i % 4)))) 40 = dv 4294967296 T 40 + x * 256 ^ i := by
  have hr : i % 4 = 0 ∨ i % 4 = 1 ∨ i % 4 = 2 ∨ i % 4 = 3 := by omega
  have hq : T (i / 4) + x * 2 ^ (8 * (i % 4)) < 2 ^ (8 * (i % 4 + 1)) := by
    rcases hr with q | q | q | q <;> rw [q] at hc ⊢ <;> omega
  have hq2 : (2 : Nat) ^ (8 * (i % 4 + 1)) ≤ 4294967296 := by rcases hr with q | q | q | q <;> rw [q] <;> decide
  refine ⟨fun j hj h => ?_, fun h => ?_, fun j hj => ?_, ?_⟩
  · rw [upN_n (by omega)]; exact hb j hj (by omega)
  · by_cases h4 : (i + 1) / 4 = i / 4
    · rw [h4, upN_s, show (i + 1) % 4 = i % 4 + 1 by omega]; exact hq
    · rw [upN_n h4, hb _ (by omega) (by omega)]; exact Nat.two_pow_pos _
  · by_cases h4 : j = i / 4
    · subst h4; rw [upN_s]; omega
    · rw [upN_n h4]; exact hl j hj
  · have := dv_up (b := 4294967296) (g := T) (j := i / 4) (v := T (i / 4) + x * 2 ^ (8 * (i % 4))) (n := 40) (by omega)
    have e : x * 2 ^ (8 * (i % 4)) * 4294967296 ^ (i / 4) = x * 256 ^ i := by
      rw [Nat.mul_assoc, Nat.mul_comm (2 ^ (8 * (i % 4))), pow_split]
    rw [Nat.add_mul, e] at this
    omega
theorem num_drop {l : List Nat} {i : Nat} (hi : i < l.length) : num (l.drop (l.length - (i + 1))) = gD l (l.length - 1 - i) * 256 ^ i + num (l.drop (l.length - i)) := by
  rw [drop_gD (i := l.length - (i + 1)) (by omega), num_cons, List.length_drop, show l.length - (i + 1) + 1 = l.length - i by omega, show l.length - (l.length - i) = i by omega, show l.length - (i + 1) = l.length - 1 - i by omega]
def md (d : Nat) (g : Nat → Nat) : Nat → Nat := fun i => if i < d then g i else 0
theorem md_lt {d : Nat} {g : Nat → Nat} {i : Nat} (h : i < d) : md d g i = g i := by unfold md; rw [if_pos h]
theorem md_ge {d : Nat} {g : Nat → Nat} {i : Nat} (h : d ≤ i) : md d g i = 0 := by unfold md; rw [if_neg (by omega)]
theorem dv_md (b d : Nat) (g : Nat → Nat) : dv b (md d g) (d + 1) = dv b g d := by
  rw [dv, md_ge (Nat.le_refl d), Nat.zero_mul, Nat.add_zero]
  exact dv_congr fun i hi => md_lt hi
/-- one digit of a subtraction -/
theorem sub_step {S S1 Mo : Nat → Nat} {k c1 : Nat} (hv : dv 4294967296 S1 k + dv 4294967296 Mo k = dv 4294967296 S k + c1 * 4294967296 ^ k) (hc : c1 ≤ 1) (hk : S1 k = S k) (ha : S k < 4294967296) (hm : Mo k < 4294967296) :
    dv 4294967296 (upN S1 k ((S k + 4294967296 - Mo k - c1) % 4294967296)) (k + 1) + dv 4294967296 Mo (k + 1) = dv 4294967296 S (k + 1) + (if S k < Mo k + c1 then 1 else 0) * 4294967296 ^ (k + 1) := by
  rw [dv, dv, dv, upN_s, dv_congr (f := upN S1 k _) (g := S1) (fun i hi => upN_n (by omega)), Nat.pow_succ]
  have key : ((S k + 4294967296 - Mo k - c1) % 4294967296) + Mo k + c1 = S k + (if S k < Mo k + c1 then 1 else 0) * 4294967296 := by
    split <;> omega
  generalize hP : (4294967296 : Nat) ^ k = P at hv ⊢
  generalize ((S k + 4294967296 - Mo k - c1) % 4294967296) = r at key ⊢
  generalize (if S k < Mo k + c1 then 1 else 0 : Nat) = b1 at key ⊢
  have k2 := congrArg (fun z => z * P) key
  simp only [Nat.add_mul] at k2
  rw [Nat.mul_assoc, Nat.mul_comm 4294967296 P] at k2
  omega
/-- a row of a product, one digit -/
theorem row_step {S S1 Y : Nat → Nat} {k x c1 : Nat} (hv : dv 4294967296 S1 k + c1 * 4294967296 ^ k = dv 4294967296 S k + x * dv 4294967296 Y k) (hk : S1 k = S k) :
    dv 4294967296 (upN S1 k (mv (S k) x (Y k) c1 % 4294967296)) (k + 1) + mc4 (S k) x (Y k) c1 * 4294967296 ^ (k + 1) = dv 4294967296 S (k + 1) + x * dv 4294967296 Y (k + 1) := by
  rw [dv, dv, dv, upN_s, dv_congr (f := upN S1 k _) (g := S1) (fun i hi => upN_n (by omega)), Nat.pow_succ]
  have key := mulstep (S k) x (Y k) c1
  generalize hP : (4294967296 : Nat) ^ k = P at hv ⊢
  generalize mv (S k) x (Y k) c1 % 4294967296 = r at key ⊢
  generalize mc4 (S k) x (Y k) c1 = q at key ⊢
  have k2 := congrArg (fun z => z * P) key
  simp only [Nat.add_mul] at k2
  rw [Nat.mul_add]
  have e1 : q * (P * 4294967296) = 4294967296 * q * P := by rw [Nat.mul_comm P, ← Nat.mul_assoc, Nat.mul_comm q]
  have e2 : x * (Y k * P) = x * Y k * P := (Nat.mul_assoc _ _ _).symm
  rw [e1, e2]
  omega
/-- a row that goes down by a digit -/
theorem down_step {U W1 Y : Nat → Nat} {k x c1 : Nat} (hv : 4294967296 * dv 4294967296 W1 (k - 1) + c1 * 4294967296 ^ k = dv 4294967296 U k + x * dv 4294967296 Y k) (hz : k = 0 → mv (U k) x (Y k) c1 % 4294967296 = 0) :
    4294967296 * dv 4294967296 (if k = 0 then W1 else upN W1 (k - 1) (mv (U k) x (Y k) c1 % 4294967296)) (k + 1 - 1) + mc4 (U k) x (Y k) c1 * 4294967296 ^ (k + 1) = dv 4294967296 U (k + 1) + x * dv 4294967296 Y (k + 1) := by
  have key := mulstep (U k) x (Y k) c1
  have e1 : ∀ q P : Nat, q * (P * 4294967296) = 4294967296 * q * P := fun q P => by rw [Nat.mul_comm P, ← Nat.mul_assoc, Nat.mul_comm q]
  have e2 : ∀ P : Nat, x * (Y k * P) = x * Y k * P := fun P => (Nat.mul_assoc _ _ _).symm
  have e3 : 4294967296 * dv 4294967296 (if k = 0 then W1 else upN W1 (k - 1) (mv (U k) x (Y k) c1 % 4294967296)) (k + 1 - 1) = 4294967296 * dv 4294967296 W1 (k - 1) + mv (U k) x (Y k) c1 % 4294967296 * 4294967296 ^ k := by
    by_cases h0 : k = 0
    · rw [if_pos h0, hz h0, h0]; simp [dv]
    · obtain ⟨j, rfl⟩ : ∃ j, k = j + 1 := ⟨k - 1, by omega⟩
      rw [if_neg h0, show j + 1 + 1 - 1 = j + 1 by omega, show j + 1 - 1 = j by omega, dv, upN_s, dv_congr (f := upN W1 j _) (g := W1) (fun i hi => upN_n (by omega)), Nat.mul_add, Nat.pow_succ]
      congr 1
      rw [Nat.mul_comm (4294967296 ^ j), ← Nat.mul_assoc, ← Nat.mul_assoc, Nat.mul_comm 4294967296]
  rw [e3, dv, dv, Nat.pow_succ, Nat.mul_add, e1, e2]
  generalize (4294967296 : Nat) ^ k = P at hv ⊢
  generalize mv (U k) x (Y k) c1 % 4294967296 = r at key ⊢
  generalize mc4 (U k) x (Y k) c1 = q at key ⊢
  have k2 := congrArg (fun z => z * P) key
  simp only [Nat.add_mul] at k2
  omega
theorem dv_top {b : Nat} {g : Nat → Nat} {n v w : Nat} : dv b (upN (upN g n v) (n + 1) w) (n + 2) = dv b g n + v * b ^ n + w * b ^ (n + 1) := by
  rw [dv, dv, upN_s, upN_n (by omega), upN_s, dv_congr (f := upN (upN g n v) (n + 1) w) (g := g) (fun i hi => by rw [upN_n (by omega), upN_n (by omega)])]
/-- the end of a round -/
theorem round_end {W1 : Nat → Nat} {d t c1 u v : Nat} (hd : 1 ≤ d) (hv : 4294967296 * dv 4294967296 W1 (d - 1) + c1 * 4294967296 ^ d = t) :
    4294967296 * dv 4294967296 (upN (upN (upN W1 (d - 1) ((u + c1) % 4294967296)) d (v + (u + c1) / 4294967296)) (d + 1) 0) (d + 1) = t + u * 4294967296 ^ d + v * 4294967296 ^ (d + 1) := by
  obtain ⟨j, rfl⟩ : ∃ j, d = j + 1 := ⟨d - 1, by omega⟩
  rw [dv, dv, show j + 1 - 1 = j by omega]
  generalize hG : upN (upN (upN W1 j ((u + c1) % 4294967296)) (j + 1) (v + (u + c1) / 4294967296)) (j + 1 + 1) 0 = G
  have g1 : G j = (u + c1) % 4294967296 := by rw [← hG, upN_n (by omega), upN_n (by omega), upN_s]
  have g2 : G (j + 1) = v + (u + c1) / 4294967296 := by rw [← hG, upN_n (by omega), upN_s]
  have g3 : dv 4294967296 G j = dv 4294967296 W1 j := dv_congr fun i hi => by rw [← hG, upN_n (by omega), upN_n (by omega), upN_n (by omega)]
  rw [g1, g2, g3]
  rw [show j + 1 - 1 = j by omega] at hv
  have hp : (4294967296 : Nat) ^ (j + 1) = 4294967296 * 4294967296 ^ j := by rw [Nat.pow_succ, Nat.mul_comm]
  have hp2 : (4294967296 : Nat) ^ (j + 1 + 1) = 4294967296 * (4294967296 * 4294967296 ^ j) := by rw [Nat.pow_succ, hp, Nat.mul_comm]
  rw [hp] at hv ⊢
  rw [hp2]
  generalize (4294967296 : Nat) ^ j = P at hv ⊢
  have h1 := Nat.mod_add_div (u + c1) 4294967296
  generalize (u + c1) % 4294967296 = r at h1 ⊢
  generalize (u + c1) / 4294967296 = q at h1 ⊢
  have k2 := congrArg (fun z => z * (4294967296 * P)) h1
  simp only [Nat.add_mul] at k2
  have e1 : 4294967296 * q * (4294967296 * P) = 4294967296 * (q * (4294967296 * P)) := Nat.mul_assoc _ _ _
  have e2 : 4294967296 * (r * P) = r * (4294967296 * P) := by rw [← Nat.mul_assoc, Nat.mul_comm 4294967296 r, Nat.mul_assoc]
  have e3 : v * (4294967296 * (4294967296 * P)) = 4294967296 * (v * (4294967296 * P)) := by rw [← Nat.mul_assoc, Nat.mul_comm v, Nat.mul_assoc]
  rw [Nat.mul_add, Nat.mul_add, Nat.add_mul, Nat.mul_add, e2, e3]
  rw [e1] at k2
  omega
theorem dv_zero (b n : Nat) : dv b (fun _ => 0) n = 0 := by
  induction n with
  | zero => rfl
  | succ n ih => rw [dv, ih, Nat.zero_mul]
theorem mw_mem28 {k : Nat} (hk : k ≠ 28) {dA : Nat → ClassId} {h0 : Nat} {ad : Nat → Nat} {M : MS} {F : va_W} {S T : Nat → Nat} : (ad 28, lar dA 42 S) ∈ mw dA h0 ad (sG (sG M 28 S) k T) ++ F := by
  have h := mw_memL (k := 28) (by decide) (dA := dA) (h0 := h0) (ad := ad) (F := F) (M := sG (sG M 28 S) k T)
  have e : mG (sG (sG M 28 S) k T) 28 = S := by
    show upN (upN M.2.2.2.1 28 S) k T 28 = S
    rw [upN_n (Ne.symm hk), upN_s]
  rw [e] at h
  exact h
