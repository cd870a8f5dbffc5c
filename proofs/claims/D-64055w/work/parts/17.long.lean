set_option maxRecDepth 100000
/-! compares of longs, with the jump behind them -/
section LC
variable {p : Program} {l : Launch} {e : Env} {R : Room} {s : State} {m : MethodId} {args : Array Value} {below : List Frame} {meth : Method} {c : Code} {H : Heap} {locs : List Loc} {cells slots : Nat} {Q : State → Prop} {cc : ByteArray} {pc : Nat} {ls : Array Slot} {rest : List Value}
theorem k_lcmp_le (hexec : p.tables.exec = Jvm.exec) (hb : c.code = cc) {x y : Int64} {off : Int} {tgt : Nat} (hdg : decode cc pc = .ok (.lcmp, 1)) (hdg2 : decode cc (pc + 1) = .ok (.ifCond .le off, 3)) (ht : ((pc + 1 : Nat) : Int) + off = (tgt : Int))
    (kt : x ≤ y → W p l e R s m args below meth c H locs cells slots Q (F0 m tgt ls rest)) (kf : ¬ x ≤ y → W p l e R s m args below meth c H locs cells slots Q (F0 m (pc + 1 + 3) ls rest)) : W p l e R s m args below meth c H locs cells slots Q (F0 m pc ls (.long y :: .long x :: rest)) :=
  W.lcmp hexec hb hdg (lv_if_le hexec hb hdg2 ht (fun h => kt ((lg_cmp_le x y).mp h)) (fun h => kf (fun q => h ((lg_cmp_le x y).mpr q))))
theorem k_lcmp_lt (hexec : p.tables.exec = Jvm.exec) (hb : c.code = cc) {x y : Int64} {off : Int} {tgt : Nat} (hdg : decode cc pc = .ok (.lcmp, 1)) (hdg2 : decode cc (pc + 1) = .ok (.ifCond .lt off, 3)) (ht : ((pc + 1 : Nat) : Int) + off = (tgt : Int))
    (kt : x < y → W p l e R s m args below meth c H locs cells slots Q (F0 m tgt ls rest)) (kf : ¬ x < y → W p l e R s m args below meth c H locs cells slots Q (F0 m (pc + 1 + 3) ls rest)) : W p l e R s m args below meth c H locs cells slots Q (F0 m pc ls (.long y :: .long x :: rest)) :=
  W.lcmp hexec hb hdg (lv_if_lt hexec hb hdg2 ht (fun h => kt ((lg_cmp_lt x y).mp h)) (fun h => kf (fun q => h ((lg_cmp_lt x y).mpr q))))
theorem k_lcmp_ge (hexec : p.tables.exec = Jvm.exec) (hb : c.code = cc) {x y : Int64} {off : Int} {tgt : Nat} (hdg : decode cc pc = .ok (.lcmp, 1)) (hdg2 : decode cc (pc + 1) = .ok (.ifCond .ge off, 3)) (ht : ((pc + 1 : Nat) : Int) + off = (tgt : Int))
    (kt : y ≤ x → W p l e R s m args below meth c H locs cells slots Q (F0 m tgt ls rest)) (kf : ¬ y ≤ x → W p l e R s m args below meth c H locs cells slots Q (F0 m (pc + 1 + 3) ls rest)) : W p l e R s m args below meth c H locs cells slots Q (F0 m pc ls (.long y :: .long x :: rest)) :=
  W.lcmp hexec hb hdg (lv_if_ge hexec hb hdg2 ht (fun h => kt ((lg_cmp_ge x y).mp h)) (fun h => kf (fun q => h ((lg_cmp_ge x y).mpr q))))
theorem k_lcmp_gt (hexec : p.tables.exec = Jvm.exec) (hb : c.code = cc) {x y : Int64} {off : Int} {tgt : Nat} (hdg : decode cc pc = .ok (.lcmp, 1)) (hdg2 : decode cc (pc + 1) = .ok (.ifCond .gt off, 3)) (ht : ((pc + 1 : Nat) : Int) + off = (tgt : Int))
    (kt : y < x → W p l e R s m args below meth c H locs cells slots Q (F0 m tgt ls rest)) (kf : ¬ y < x → W p l e R s m args below meth c H locs cells slots Q (F0 m (pc + 1 + 3) ls rest)) : W p l e R s m args below meth c H locs cells slots Q (F0 m pc ls (.long y :: .long x :: rest)) :=
  W.lcmp hexec hb hdg (lv_if_gt hexec hb hdg2 ht (fun h => kt ((lg_cmp_gt x y).mp h)) (fun h => kf (fun q => h ((lg_cmp_gt x y).mpr q))))
theorem k_lcmp_eq (hexec : p.tables.exec = Jvm.exec) (hb : c.code = cc) {x y : Int64} {off : Int} {tgt : Nat} (hdg : decode cc pc = .ok (.lcmp, 1)) (hdg2 : decode cc (pc + 1) = .ok (.ifCond .eq off, 3)) (ht : ((pc + 1 : Nat) : Int) + off = (tgt : Int))
    (kt : x = y → W p l e R s m args below meth c H locs cells slots Q (F0 m tgt ls rest)) (kf : ¬ x = y → W p l e R s m args below meth c H locs cells slots Q (F0 m (pc + 1 + 3) ls rest)) : W p l e R s m args below meth c H locs cells slots Q (F0 m pc ls (.long y :: .long x :: rest)) :=
  W.lcmp hexec hb hdg (lv_if_eq hexec hb hdg2 ht (fun h => kt ((lg_cmp_eq x y).mp h)) (fun h => kf (fun q => h ((lg_cmp_eq x y).mpr q))))
theorem k_lcmp_ne (hexec : p.tables.exec = Jvm.exec) (hb : c.code = cc) {x y : Int64} {off : Int} {tgt : Nat} (hdg : decode cc pc = .ok (.lcmp, 1)) (hdg2 : decode cc (pc + 1) = .ok (.ifCond .ne off, 3)) (ht : ((pc + 1 : Nat) : Int) + off = (tgt : Int))
    (kt : ¬ x = y → W p l e R s m args below meth c H locs cells slots Q (F0 m tgt ls rest)) (kf : x = y → W p l e R s m args below meth c H locs cells slots Q (F0 m (pc + 1 + 3) ls rest)) : W p l e R s m args below meth c H locs cells slots Q (F0 m pc ls (.long y :: .long x :: rest)) :=
  W.lcmp hexec hb hdg (lv_if_ne hexec hb hdg2 ht (fun h => kt (fun q => h ((lg_cmp_eq x y).mpr q))) (fun h => kf ((lg_cmp_eq x y).mp h)))
theorem n_lcmp_le (hexec : p.tables.exec = Jvm.exec) (hb : c.code = cc) {a b : Nat} (ha : a < 9223372036854775808) (hb2 : b < 9223372036854775808) {off : Int} {tgt : Nat} (hdg : decode cc pc = .ok (.lcmp, 1)) (hdg2 : decode cc (pc + 1) = .ok (.ifCond .le off, 3)) (ht : ((pc + 1 : Nat) : Int) + off = (tgt : Int))
    (kt : a ≤ b → W p l e R s m args below meth c H locs cells slots Q (F0 m tgt ls rest)) (kf : b < a → W p l e R s m args below meth c H locs cells slots Q (F0 m (pc + 1 + 3) ls rest)) : W p l e R s m args below meth c H locs cells slots Q (F0 m pc ls (.long (lN b) :: .long (lN a) :: rest)) :=
  k_lcmp_le hexec hb hdg hdg2 ht (fun h => kt ((pk_lLE ha hb2).mp h)) (fun h => kf (Nat.not_le.mp (fun q => h ((pk_lLE ha hb2).mpr q))))
theorem n_lcmp_lt (hexec : p.tables.exec = Jvm.exec) (hb : c.code = cc) {a b : Nat} (ha : a < 9223372036854775808) (hb2 : b < 9223372036854775808) {off : Int} {tgt : Nat} (hdg : decode cc pc = .ok (.lcmp, 1)) (hdg2 : decode cc (pc + 1) = .ok (.ifCond .lt off, 3)) (ht : ((pc + 1 : Nat) : Int) + off = (tgt : Int))
    (kt : a < b → W p l e R s m args below meth c H locs cells slots Q (F0 m tgt ls rest)) (kf : b ≤ a → W p l e R s m args below meth c H locs cells slots Q (F0 m (pc + 1 + 3) ls rest)) : W p l e R s m args below meth c H locs cells slots Q (F0 m pc ls (.long (lN b) :: .long (lN a) :: rest)) :=
  k_lcmp_lt hexec hb hdg hdg2 ht (fun h => kt ((pk_lLT ha hb2).mp h)) (fun h => kf (Nat.not_lt.mp (fun q => h ((pk_lLT ha hb2).mpr q))))
theorem n_lcmp_ge (hexec : p.tables.exec = Jvm.exec) (hb : c.code = cc) {a b : Nat} (ha : a < 9223372036854775808) (hb2 : b < 9223372036854775808) {off : Int} {tgt : Nat} (hdg : decode cc pc = .ok (.lcmp, 1)) (hdg2 : decode cc (pc + 1) = .ok (.ifCond .ge off, 3)) (ht : ((pc + 1 : Nat) : Int) + off = (tgt : Int))
    (kt : b ≤ a → W p l e R s m args below meth c H locs cells slots Q (F0 m tgt ls rest)) (kf : a < b → W p l e R s m args below meth c H locs cells slots Q (F0 m (pc + 1 + 3) ls rest)) : W p l e R s m args below meth c H locs cells slots Q (F0 m pc ls (.long (lN b) :: .long (lN a) :: rest)) :=
  k_lcmp_ge hexec hb hdg hdg2 ht (fun h => kt ((pk_lLE hb2 ha).mp h)) (fun h => kf (Nat.not_le.mp (fun q => h ((pk_lLE hb2 ha).mpr q))))
theorem n_lcmp_gt (hexec : p.tables.exec = Jvm.exec) (hb : c.code = cc) {a b : Nat} (ha : a < 9223372036854775808) (hb2 : b < 9223372036854775808) {off : Int} {tgt : Nat} (hdg : decode cc pc = .ok (.lcmp, 1)) (hdg2 : decode cc (pc + 1) = .ok (.ifCond .gt off, 3)) (ht : ((pc + 1 : Nat) : Int) + off = (tgt : Int))
    (kt : b < a → W p l e R s m args below meth c H locs cells slots Q (F0 m tgt ls rest)) (kf : a ≤ b → W p l e R s m args below meth c H locs cells slots Q (F0 m (pc + 1 + 3) ls rest)) : W p l e R s m args below meth c H locs cells slots Q (F0 m pc ls (.long (lN b) :: .long (lN a) :: rest)) :=
  k_lcmp_gt hexec hb hdg hdg2 ht (fun h => kt ((pk_lLT hb2 ha).mp h)) (fun h => kf (Nat.not_lt.mp (fun q => h ((pk_lLT hb2 ha).mpr q))))
theorem n_lcmp_eq (hexec : p.tables.exec = Jvm.exec) (hb : c.code = cc) {a b : Nat} (ha : a < 9223372036854775808) (hb2 : b < 9223372036854775808) {off : Int} {tgt : Nat} (hdg : decode cc pc = .ok (.lcmp, 1)) (hdg2 : decode cc (pc + 1) = .ok (.ifCond .eq off, 3)) (ht : ((pc + 1 : Nat) : Int) + off = (tgt : Int))
    (kt : a = b → W p l e R s m args below meth c H locs cells slots Q (F0 m tgt ls rest)) (kf : a ≠ b → W p l e R s m args below meth c H locs cells slots Q (F0 m (pc + 1 + 3) ls rest)) : W p l e R s m args below meth c H locs cells slots Q (F0 m pc ls (.long (lN b) :: .long (lN a) :: rest)) :=
  k_lcmp_eq hexec hb hdg hdg2 ht (fun h => kt ((pk_lEQ ha hb2).mp h)) (fun h => kf (id (fun q => h ((pk_lEQ ha hb2).mpr q))))
theorem n_lcmp_ne (hexec : p.tables.exec = Jvm.exec) (hb : c.code = cc) {a b : Nat} (ha : a < 9223372036854775808) (hb2 : b < 9223372036854775808) {off : Int} {tgt : Nat} (hdg : decode cc pc = .ok (.lcmp, 1)) (hdg2 : decode cc (pc + 1) = .ok (.ifCond .ne off, 3)) (ht : ((pc + 1 : Nat) : Int) + off = (tgt : Int))
    (kt : a ≠ b → W p l e R s m args below meth c H locs cells slots Q (F0 m tgt ls rest)) (kf : a = b → W p l e R s m args below meth c H locs cells slots Q (F0 m (pc + 1 + 3) ls rest)) : W p l e R s m args below meth c H locs cells slots Q (F0 m pc ls (.long (lN b) :: .long (lN a) :: rest)) :=
  k_lcmp_ne hexec hb hdg hdg2 ht (fun h => kt (fun q => h ((pk_lEQ ha hb2).mpr q))) (fun h => kf ((pk_lEQ ha hb2).mp h))
end LC
/-! digits -/
def dv (b : Nat) (g : Nat → Nat) : Nat → Nat
  | 0 => 0
  | n + 1 => dv b g n + g n * b ^ n
theorem dv_congr {b : Nat} {f g : Nat → Nat} {n : Nat} (h : ∀ i, i < n → f i = g i) : dv b f n = dv b g n := by
  induction n with
  | zero => rfl
  | succ n ih => rw [dv, dv, ih (fun i hi => h i (by omega)), h n (by omega)]
theorem dv_lt {b : Nat} {g : Nat → Nat} {n : Nat} (h : ∀ i, i < n → g i < b) : dv b g n < b ^ n := by
  induction n with
  | zero => simp [dv]
  | succ n ih =>
    have h1 := ih (fun i hi => h i (by omega))
    have h2 : g n * b ^ n ≤ (b - 1) * b ^ n := Nat.mul_le_mul_right _ (by have := h n (by omega); omega)
    rw [dv, Nat.pow_succ, Nat.mul_comm (b ^ n) b]
    have h3 : (b - 1) * b ^ n + b ^ n = b * b ^ n := by
      have hb : 0 < b := by have := h n (by omega); omega
      rw [← Nat.succ_mul]; congr 1; omega
    omega
theorem dv_up {b : Nat} {g : Nat → Nat} {j v : Nat} : ∀ {n : Nat}, j < n → dv b (upN g j v) n + g j * b ^ j = dv b g n + v * b ^ j
  | 0, h => absurd h (Nat.not_lt_zero _)
  | n + 1, h => by
    rw [dv, dv]
    by_cases hj : j = n
    · subst hj
      rw [upN_s, dv_congr (f := upN g j v) (g := g) (fun i hi => upN_n (by omega))]
      omega
    · rw [upN_n (by omega)]
      have := dv_up (b := b) (g := g) (j := j) (v := v) (n := n) (by omega)
      omega
theorem dv_ge {b : Nat} {f g : Nat → Nat} {n : Nat} (h : ∀ i, n ≤ i → f i = g i) (k : Nat) : dv b f (n + k) + dv b g n = dv b g (n + k) + dv b f n := by
  induction k with
  | zero => exact Nat.add_comm _ _
  | succ k ih =>
    rw [← Nat.add_assoc, dv, dv, h (n + k) (by omega)]
    omega
theorem dv_cmp {b : Nat} {f g : Nat → Nat} {k n : Nat} (hk : k < n) (hlt : f k < g k) (hi : ∀ i, k < i → i < n → f i = g i) (hf : ∀ i, i < k → f i < b) : dv b f n < dv b g n := by
  obtain ⟨d, rfl⟩ : ∃ d, n = k + 1 + d := ⟨n - (k + 1), by omega⟩
  have h1 := dv_lt (b := b) (g := f) (n := k) hf
  have h0 : dv b f (k + 1) < dv b g (k + 1) := by
    rw [dv, dv]
    have h2 : (f k + 1) * b ^ k ≤ g k * b ^ k := Nat.mul_le_mul_right _ hlt
    rw [Nat.succ_mul] at h2
    omega
  clear hk
  induction d with
  | zero => exact h0
  | succ d ih =>
    rw [← Nat.add_assoc, dv, dv, hi (k + 1 + d) (by omega) (by omega)]
    have := ih (fun i h1 h2 => hi i h1 (by omega))
    omega
theorem dv_pad {b : Nat} {g : Nat → Nat} {n : Nat} (h : ∀ i, n ≤ i → g i = 0) (k : Nat) : dv b g (n + k) = dv b g n := by
  induction k with
  | zero => rfl
  | succ k ih => rw [← Nat.add_assoc, dv, ih, h (n + k) (by omega), Nat.zero_mul, Nat.add_zero]
theorem num_cons (x : Nat) (l : List Nat) : num (x :: l) = x * 256 ^ l.length + num l := by
  have key : ∀ (l : List Nat) (v : Nat), l.foldl (fun v b => v * 256 + b) v = v * 256 ^ l.length + l.foldl (fun v b => v * 256 + b) 0 := by
    intro l
    induction l with
    | nil => intro v; simp
    | cons y l ih =>
      intro v
      rw [List.foldl_cons, List.foldl_cons, ih (v * 256 + y), ih (0 * 256 + y), List.length_cons, Nat.pow_succ, Nat.add_mul, Nat.zero_mul, Nat.zero_add, Nat.mul_assoc, Nat.mul_comm 256]
      omega
  show (x :: l).foldl _ 0 = _
  rw [List.foldl_cons, key l (0 * 256 + x), Nat.zero_mul, Nat.zero_add]; rfl
theorem num_lt {l : List Nat} (h : byt l) : num l < 256 ^ l.length := by
  induction l with
  | nil => decide
  | cons x l ih =>
    have h1 := ih (fun y hy => h y (List.mem_cons_of_mem _ hy))
    have h2 := h x List.mem_cons_self
    rw [num_cons, List.length_cons, Nat.pow_succ, Nat.mul_comm (256 ^ l.length)]
    have : (x + 1) * 256 ^ l.length ≤ 256 * 256 ^ l.length := Nat.mul_le_mul_right _ h2
    rw [Nat.succ_mul] at this
    omega
/-! one less a borrow -/
def mC (k : Nat) : Int64 := lN 0 - lN k
theorem lN_neg {b : Nat} (h : b ≤ 18446744073709551616) (a : Nat) : lN a - lN b = lN (a + (18446744073709551616 - b)) := by
  rw [Int64.sub_eq_add_neg]
  have e : -(lN b) = lN (18446744073709551616 - b) := by
    have h1 : lN (18446744073709551616 - b) + lN b = 0 := by
      rw [lN_add, Nat.sub_add_cancel h]; decide
    have h2 : lN b + lN (18446744073709551616 - b) = 0 := by rw [Int64.add_comm]; exact h1
    calc -(lN b) = -(lN b) + (lN b + lN (18446744073709551616 - b)) := by rw [h2, Int64.add_zero]
      _ = (-(lN b) + lN b) + lN (18446744073709551616 - b) := (Int64.add_assoc _ _ _).symm
      _ = lN (18446744073709551616 - b) := by rw [Int64.add_left_neg, Int64.zero_add]
  rw [e, lN_add]
theorem sub_v {a b k : Nat} (hb : b < 4294967296) (hk : k ≤ 1) : lN a - lN b + mC k = lN (a + (18446744073709551616 - b) + (0 + (18446744073709551616 - k))) := by
  unfold mC
  rw [lN_neg (by omega), lN_neg (by omega), lN_add]
theorem sub_lo {a b k : Nat} (ha : a < 4294967296) (hb : b < 4294967296) (hk : k ≤ 1) : (lN a - lN b + mC k) &&& lN 4294967295 = lN ((a + 4294967296 - b - k) % 4294967296) := by
  rw [sub_v hb hk, wb_mod, l_andN (k := 32) (Nat.mod_lt _ (by decide)) (by decide)]
  congr 1
  omega
theorem l_shrBig {y : Nat} (h1 : 18446744069414584320 ≤ y) (h2 : y < 18446744073709551616) : lshr (lN y) (nI 32) = lN 18446744073709551615 := by
  unfold lshr
  apply Int64.toInt_inj.mp
  have e : (lN y >>> ((nI 32).toInt64 &&& 63)).toInt = (lN y).toInt >>> 32 := BitVec.toInt_sshiftRight ..
  rw [e, lN_ti (by omega), lN_ti (by decide), if_neg (by omega), if_neg (by decide), Int.shiftRight_eq_div_pow]
  omega
theorem sub_hi {a b k : Nat} (ha : a < 4294967296) (hb : b < 4294967296) (hk : k ≤ 1) : lshr (lN a - lN b + mC k) (nI 32) = mC (if a < b + k then 1 else 0) := by
  rw [sub_v hb hk, wb_mod]
  by_cases h : a < b + k
  · rw [if_pos h, l_shrBig (by omega) (by omega)]; decide
  · rw [if_neg h, l_shrN (k := 32) (by omega) (by decide)]
    rw [show (a + (18446744073709551616 - b) + (0 + (18446744073709551616 - k))) % 2 ^ 64 / 2 ^ 32 = 0 by omega]; decide
/-! a product's step, in halves -/
def mlo (x y : Nat) : Nat := x % 65536 * y
def mhi (x y : Nat) : Nat := x / 65536 * y
def mv (s x y k : Nat) : Nat := s + mlo x y % 4294967296 + mhi x y % 65536 * 65536 + k % 4294967296
def mc4 (s x y k : Nat) : Nat := k / 4294967296 + mlo x y / 4294967296 + mhi x y / 65536 + mv s x y k / 4294967296
theorem mlohi (x y : Nat) : mlo x y + mhi x y * 65536 = x * y := by
  unfold mlo mhi
  have h := Nat.mod_add_div x 65536
  calc x % 65536 * y + x / 65536 * y * 65536 = (x % 65536 + 65536 * (x / 65536)) * y := by rw [Nat.add_mul, Nat.mul_right_comm, Nat.mul_comm (x / 65536) 65536]
    _ = x * y := by rw [h]
theorem mulstep (s x y k : Nat) : mv s x y k % 4294967296 + 4294967296 * mc4 s x y k = s + x * y + k := by
  have h := mlohi x y
  have hv : mv s x y k = s + mlo x y % 4294967296 + mhi x y % 65536 * 65536 + k % 4294967296 := rfl
  unfold mc4
  omega
theorem mul_le {x y X Y : Nat} (hx : x ≤ X) (hy : y ≤ Y) : x * y ≤ X * Y := Nat.mul_le_mul hx hy
theorem mc4_lt {s x y k : Nat} (hs : s < 4294967296) (hx : x < 4294967296) (hy : y < 4294967296) (hk : k < 4294967296) : mc4 s x y k < 4294967296 := by
  have h := mulstep s x y k
  have h2 : x * y ≤ 4294967295 * 4294967295 := mul_le (by omega) (by omega)
  omega
theorem mlo_lt {x y : Nat} (hy : y < 4294967296) : mlo x y < 281474976710656 := by
  unfold mlo
  have : x % 65536 * y ≤ 65535 * 4294967295 := mul_le (by omega) (by omega)
  omega
theorem mhi_lt {x y : Nat} (hx : x < 4294967296) (hy : y < 4294967296) : mhi x y < 281474976710656 := by
  unfold mhi
  have : x / 65536 * y ≤ 65535 * 4294967295 := mul_le (by omega) (by omega)
  omega
theorem mv_lt {s x y k : Nat} (hs : s < 4294967296) : mv s x y k < 17179869184 := by unfold mv; omega
/-- the digit that makes the lowest one vanish -/
theorem mont_q {u iv w : Nat} (h : (iv * w + 1) % 4294967296 = 0) : (u + u * iv % 4294967296 * w) % 4294967296 = 0 := by
  have h1 : (u + u * iv % 4294967296 * w) % 4294967296 = (u + u * iv * w) % 4294967296 := by
    rw [Nat.add_mod, Nat.mul_mod (u * iv % 4294967296), Nat.mod_mod, ← Nat.mul_mod, ← Nat.add_mod]
  have h2 : u + u * iv * w = u * (iv * w + 1) := by rw [Nat.mul_add, Nat.mul_one, Nat.mul_assoc, Nat.add_comm]
  rw [h1, h2, Nat.mul_mod, h, Nat.mul_zero, Nat.zero_mod]

