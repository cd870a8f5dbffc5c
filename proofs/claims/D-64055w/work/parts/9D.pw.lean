set_option maxRecDepth 100000
/-! Power: taking off a multiple of the modulus at a digit -/
theorem l_div {a d : Nat} (ha : a < 2 ^ 62) (h0 : 0 < d) (hd : d < 2 ^ 62) : lN a / lN d = lN (a / d) := by
  apply Int64.toInt_inj.mp
  have hq : a / d < 2 ^ 62 := Nat.lt_of_le_of_lt (Nat.div_le_self a d) ha
  rw [Int64.toInt_div, pk_lT (by omega), pk_lT (by omega), pk_lT (by omega), Int.tdiv_eq_ediv_of_nonneg (by omega), ← Int.natCast_ediv]
  generalize a / d = z at hq ⊢
  exact Int.bmod_eq_of_le (by omega) (by omega)
section MM9D
variable {p : Program} {l : Launch} {e : Env} {R : Room} {s : State} {m : MethodId} {args : Array Value} {below : List Frame} {meth : Method} {c : Code} {H : Heap} {locs : List Loc} {cells slots : Nat} {Q : State → Prop} {cc : ByteArray} {pc : Nat} {ls : Array Slot} {rest : List Value}
variable {nL : Nat} {own : String} {D : va_G} {dA : Nat → ClassId} {B : Nat} {Z : State → Prop} {d mc ms : Nat} {ws : va_W}
theorem n_mminl (C : Cx p R s m args c cc nL own D dA B Z d mc ms) (h : Wd D B s ws H locs) {a b idx : Nat} (ha : a < 9223372036854775808) (hb9 : b < 9223372036854775808) (q1 : Cond.methodLink own idx Lib.MathLoose.min_long.x ∈ lw_all) (q2 : Cond.static Lib.MathLoose.min_long.x ∈ lw_all) (q3 : Cond.initialized "java/lang/Math" ∈ lw_all) (q4 : Cond.code Lib.MathLoose.min_long.x Lib.MathLoose.min_long.code 4 (some .long) ∈ lw_all) (hls : ls.size = nL) (hd : 1 ≤ d) (hroom : (rest.map fun v => v.category).sum ≤ 8) (hce : cells ≤ mc) (hsl : slots ≤ ms) (hdg : decode cc pc = .ok (.invokestatic idx, 3))
    (kk : W p l e R s m args below meth c H locs cells slots Q (F0 m (pc + 3) ls (.long (lN (min a b)) :: rest))) : W p l e R s m args below meth c H locs cells slots Q (F0 m pc ls (.long (lN b) :: .long (lN a) :: rest)) := by
  obtain ⟨hx, hb, hml, hown, hts, hK, hN, hz, hZ, hB, hRf, hRl, hRc, hRs⟩ := C
  refine va_mmin_long hx hb (hml.trans hls.symm) hown (hts _ q1) (hts _ q2) (hts _ q3) (hts _ q4) (by rw [hRf]; exact hd) (by rw [hRl]; omega) (by rw [hRc]; exact hce) (by rw [hRs]; exact hsl) hdg ?_
  by_cases q : lN b < lN a
  · rw [if_pos q]; rw [Nat.min_eq_right (Nat.le_of_lt ((pk_lLT hb9 ha).mp q))] at kk; exact kk
  · rw [if_neg q]; rw [Nat.min_eq_left (Nat.not_lt.mp (fun z => q ((pk_lLT hb9 ha).mpr z)))] at kk; exact kk
end MM9D
def bW (f m : Nat → Nat) (q : Nat) : Nat → Nat
  | 0 => 0
  | i + 1 => (q * m i + bW f m q i + 65535 - f i) / 65536
def dW (f m : Nat → Nat) (q i : Nat) : Nat := 65535 - (q * m i + bW f m q i + 65535 - f i) % 65536
theorem dW_lt (f m : Nat → Nat) (q i : Nat) : dW f m q i < 65536 := by unfold dW; omega
theorem bW_lt {f m : Nat → Nat} {q : Nat} (hq : q ≤ 65535) : ∀ i, (∀ j, j < i → m j < 65536) → bW f m q i ≤ 65535
  | 0, _ => Nat.zero_le _
  | i + 1, h => by
    have h1 := bW_lt (f := f) hq i (fun j hj => h j (by omega))
    have h2 : q * m i ≤ 65535 * 65535 := Nat.mul_le_mul hq (by have := h i (by omega); omega)
    show (q * m i + bW f m q i + 65535 - f i) / 65536 ≤ 65535
    omega
theorem dW_step {f m : Nat → Nat} {q i : Nat} (hf : f i < 65536) : dW f m q i + (q * m i + bW f m q i) = f i + 65536 * bW f m q (i + 1) := by
  show 65535 - (q * m i + bW f m q i + 65535 - f i) % 65536 + (q * m i + bW f m q i) = f i + 65536 * ((q * m i + bW f m q i + 65535 - f i) / 65536)
  omega
theorem dW_dv {f m : Nat → Nat} {q : Nat} : ∀ n, (∀ j, j < n → f j < 65536) → dv 65536 (dW f m q) n + q * dv 65536 m n = dv 65536 f n + bW f m q n * 65536 ^ n
  | 0, _ => by show 0 + q * 0 = 0 + 0 * 65536 ^ 0; omega
  | n + 1, h => by
    have ih := dW_dv (f := f) (m := m) (q := q) n (fun j hj => h j (by omega))
    have e := dW_step (f := f) (m := m) (q := q) (i := n) (h n (by omega))
    show dv 65536 (dW f m q) n + dW f m q n * 65536 ^ n + q * (dv 65536 m n + m n * 65536 ^ n) = dv 65536 f n + f n * 65536 ^ n + bW f m q (n + 1) * 65536 ^ (n + 1)
    have e2 : (dW f m q n + (q * m n + bW f m q n)) * 65536 ^ n = (f n + 65536 * bW f m q (n + 1)) * 65536 ^ n := by rw [e]
    rw [Nat.add_mul, Nat.add_mul, Nat.add_mul] at e2
    rw [Nat.mul_add, ← Nat.mul_assoc, Nat.pow_succ, Nat.mul_comm (65536 ^ n) 65536, ← Nat.mul_assoc (bW f m q (n + 1)), Nat.mul_comm (bW f m q (n + 1)) 65536]
    generalize 65536 ^ n = P at ih e2 ⊢
    omega
theorem cA_dv {f g : Nat → Nat} : ∀ n, dv 65536 (sD f g) n + cA f g n * 65536 ^ n = dv 65536 f n + dv 65536 g n
  | 0 => by show 0 + 0 * 65536 ^ 0 = 0 + 0; omega
  | n + 1 => by
    have ih := cA_dv (f := f) (g := g) n
    have e : sD f g n + 65536 * cA f g (n + 1) = f n + g n + cA f g n := by
      show (f n + g n + cA f g n) % 65536 + 65536 * ((f n + g n + cA f g n) / 65536) = _
      exact Nat.mod_add_div _ _
    show dv 65536 (sD f g) n + sD f g n * 65536 ^ n + cA f g (n + 1) * 65536 ^ (n + 1) = dv 65536 f n + f n * 65536 ^ n + (dv 65536 g n + g n * 65536 ^ n)
    have e2 : (sD f g n + 65536 * cA f g (n + 1)) * 65536 ^ n = (f n + g n + cA f g n) * 65536 ^ n := by rw [e]
    rw [Nat.add_mul, Nat.add_mul, Nat.add_mul] at e2
    rw [Nat.pow_succ, Nat.mul_comm (65536 ^ n) 65536, ← Nat.mul_assoc (cA f g (n + 1)), Nat.mul_comm (cA f g (n + 1)) 65536]
    generalize 65536 ^ n = P at ih e2 ⊢
    omega
theorem sD_lt (f g : Nat → Nat) (i : Nat) : sD f g i < 65536 := Nat.mod_lt _ (by decide)
theorem rd_v {a b k : Nat} (hb : b < 4294967296) (hk : k < 4294967296) : lN a - lN b + mC k = lN ((a + (18446744073709551616 - b) + (0 + (18446744073709551616 - k))) % 2 ^ 64) := by
  unfold mC
  rw [lN_neg (by omega), lN_neg (by omega), lN_add, wb_mod]
theorem rd_lo {a b k : Nat} (ha : a < 65536) (hb : b < 4294967296) (hk : k < 65536) : (lN a - lN b + mC k) &&& lN 65535 = lN (65535 - (b + k + 65535 - a) % 65536) := by
  rw [rd_v hb (by omega), l_andN (k := 16) (Nat.mod_lt _ (by decide)) (by decide)]
  congr 1
  omega
theorem l_shrB16 {y k : Nat} (h1 : y + 65536 * k < 18446744073709551616 + 65536) (h2 : 18446744073709551616 ≤ y + 65536 * k) (h3 : 9223372036854775808 ≤ y) (h4 : y < 18446744073709551616) (hk : 1 ≤ k) : lshr (lN y) (nI 16) = mC k := by
  unfold lshr mC
  rw [lN_neg (by omega)]
  apply Int64.toInt_inj.mp
  have e : (lN y >>> ((nI 16).toInt64 &&& 63)).toInt = (lN y).toInt >>> 16 := BitVec.toInt_sshiftRight ..
  rw [e, lN_ti (by omega), lN_ti (by omega), if_neg (by omega), if_neg (by omega), Int.shiftRight_eq_div_pow]
  omega
theorem rd_hi {a b k : Nat} (ha : a < 65536) (hb : b < 4294967296) (hk : k < 65536) : lshr (lN a - lN b + mC k) (nI 16) = mC ((b + k + 65535 - a) / 65536) := by
  rw [rd_v hb (by omega)]
  by_cases h : a < b + k
  · exact l_shrB16 (by omega) (by omega) (by omega) (by omega) (by omega)
  · rw [l_shrN (k := 16) (by omega) (by decide), show (a + (18446744073709551616 - b) + (0 + (18446744073709551616 - k))) % 2 ^ 64 / 2 ^ 16 = 0 by omega, show (b + k + 65535 - a) / 65536 = 0 by omega]; decide
theorem q_ge {f gm : Nat → Nat} {dg : Nat} (hd : 1 ≤ dg) (hf : ∀ j, j ≤ dg → f j < 65536) (ht : gm (dg - 1) ≠ 0) (hT : dv 65536 f (dg + 1) < dv 65536 gm dg * 65536) : dv 65536 f (dg + 1) / dv 65536 gm dg ≤ min 65535 ((65536 * f dg + f (dg - 1)) / gm (dg - 1)) := by
  obtain ⟨n, rfl⟩ : ∃ n, dg = n + 1 := ⟨dg - 1, by omega⟩
  rw [Nat.add_sub_cancel] at ht ⊢
  have h1 : dv 65536 f n < 65536 ^ n := dv_lt (fun i hi => hf i (by omega))
  have eM : dv 65536 gm (n + 1) = dv 65536 gm n + gm n * 65536 ^ n := rfl
  have eT : dv 65536 f (n + 1 + 1) = dv 65536 f n + (65536 * f (n + 1) + f n) * 65536 ^ n := by
    show dv 65536 f n + f n * 65536 ^ n + f (n + 1) * 65536 ^ (n + 1) = _
    rw [Nat.pow_succ, Nat.add_mul, Nat.mul_comm (65536 ^ n) 65536, ← Nat.mul_assoc (f (n + 1)), Nat.mul_comm (f (n + 1)) 65536]
    generalize 65536 ^ n = P
    omega
  refine Nat.le_min.mpr ⟨?_, ?_⟩
  · have := Nat.div_lt_of_lt_mul hT
    omega
  · rw [Nat.le_div_iff_mul_le (by omega)]
    have h2 : dv 65536 f (n + 1 + 1) / dv 65536 gm (n + 1) * dv 65536 gm (n + 1) ≤ dv 65536 f (n + 1 + 1) := Nat.div_mul_le_self _ _
    generalize dv 65536 f (n + 1 + 1) / dv 65536 gm (n + 1) = Qt at h2 ⊢
    rw [eM, eT, Nat.mul_add] at h2
    have h3 : Qt * gm n * 65536 ^ n < (65536 * f (n + 1) + f n + 1) * 65536 ^ n := by
      rw [Nat.add_mul (65536 * f (n + 1) + f n) 1, Nat.one_mul, Nat.mul_assoc Qt]
      generalize 65536 ^ n = P at h1 h2 ⊢
      omega
    have h4 := Nat.lt_of_mul_lt_mul_right h3
    omega
theorem wnF_wnF (a n : Nat) (f f2 g : Nat → Nat) : wnF a n f (wnF a n f2 g) = wnF a n f g := by
  funext j
  unfold wnF
  split <;> rfl
theorem wnF_in {a n : Nat} {f g : Nat → Nat} {i : Nat} (h : i < n) : wnF a n f g (a + i) = f i := by
  unfold wnF; rw [if_pos (by omega), show a + i - a = i by omega]
theorem gmF_dv (gm : Nat → Nat) (dg : Nat) : dv 65536 (gmF gm dg) (dg + 1) = dv 65536 gm dg := dv_md 65536 dg gm
theorem gmF_lt {gm : Nat → Nat} {dg i : Nat} (h : ∀ j, j < 66 → gm j < 65536) (hd : dg ≤ 65) : gmF gm dg i < 65536 := by
  unfold gmF
  split
  · exact h i (by omega)
  · decide
/-- a state of the taking off: digits f2, the multiple q that was taken, the borrow c -/
def RdI (T Mv dg : Nat) (f2 : Nat → Nat) (q c : Nat) : Prop := c ≤ 1 ∧ (∀ j, j < dg + 1 → f2 j < 65536) ∧ dv 65536 f2 (dg + 1) + q * Mv = T + c * 65536 ^ (dg + 1) ∧ T < (q + 1) * Mv
theorem RdI.start {f gm : Nat → Nat} {dg q : Nat} (hd : 1 ≤ dg) (hd2 : dg ≤ 65) (hf : ∀ j, j < dg + 1 → f j < 65536) (hg : ∀ j, j < 66 → gm j < 65536) (hM : 0 < dv 65536 gm dg) (hq : q ≤ 65535) (hq2 : dv 65536 f (dg + 1) / dv 65536 gm dg ≤ q) : RdI (dv 65536 f (dg + 1)) (dv 65536 gm dg) dg (dW f (gmF gm dg) q) q (bW f (gmF gm dg) q (dg + 1)) := by
  have e := dW_dv (f := f) (m := gmF gm dg) (q := q) (dg + 1) hf
  rw [gmF_dv] at e
  have h1 : dv 65536 (dW f (gmF gm dg) q) (dg + 1) < 65536 ^ (dg + 1) := dv_lt (fun i _ => dW_lt _ _ _ _)
  have h2 : dv 65536 gm dg < 65536 ^ dg := dv_lt (fun i hi => hg i (by omega))
  have h3 : q * dv 65536 gm dg ≤ 65536 * 65536 ^ dg := Nat.mul_le_mul (by omega) (Nat.le_of_lt h2)
  have h4 : 65536 ^ (dg + 1) = 65536 * 65536 ^ dg := by rw [Nat.pow_succ, Nat.mul_comm]
  refine ⟨?_, fun j _ => dW_lt _ _ _ _, e, ?_⟩
  · rcases Nat.lt_or_ge (bW f (gmF gm dg) q (dg + 1)) 2 with z | z
    · omega
    · exfalso
      have h5 : 2 * 65536 ^ (dg + 1) ≤ bW f (gmF gm dg) q (dg + 1) * 65536 ^ (dg + 1) := Nat.mul_le_mul_right _ z
      omega
  · have h6 := Nat.lt_mul_div_succ (dv 65536 f (dg + 1)) hM
    have h7 : dv 65536 gm dg * (dv 65536 f (dg + 1) / dv 65536 gm dg + 1) ≤ dv 65536 gm dg * (q + 1) := Nat.mul_le_mul_left _ (by omega)
    rw [Nat.mul_comm (q + 1)]
    omega
theorem RdI.back {T Mv dg q : Nat} {f2 gm : Nat → Nat} (hMv : Mv = dv 65536 gm dg) (hg : ∀ i, gmF gm dg i < 65536) (h : RdI T Mv dg f2 q 1) : 1 ≤ q ∧ RdI T Mv dg (sD f2 (gmF gm dg)) (q - 1) (1 - cA f2 (gmF gm dg) (dg + 1)) := by
  obtain ⟨h1, h2, h3, h4⟩ := h
  have h5 : dv 65536 f2 (dg + 1) < 65536 ^ (dg + 1) := dv_lt h2
  have e := cA_dv (f := f2) (g := gmF gm dg) (dg + 1)
  rw [gmF_dv, ← hMv] at e
  have hs : dv 65536 (sD f2 (gmF gm dg)) (dg + 1) < 65536 ^ (dg + 1) := dv_lt (fun i _ => sD_lt _ _ _)
  have hq : 1 ≤ q := by
    rcases Nat.eq_zero_or_pos q with z | z
    · subst z
      omega
    · exact z
  obtain ⟨r, rfl⟩ : ∃ r, q = r + 1 := ⟨q - 1, by omega⟩
  rw [Nat.add_sub_cancel]
  have e3 : (r + 1) * Mv = r * Mv + Mv := Nat.succ_mul r Mv
  have hc : cA f2 (gmF gm dg) (dg + 1) ≤ 1 := cA_lt _ (fun j hj => h2 j hj) (fun j _ => hg j)
  refine ⟨hq, by omega, fun j _ => sD_lt _ _ _, ?_, by omega⟩
  rcases (show cA f2 (gmF gm dg) (dg + 1) = 0 ∨ cA f2 (gmF gm dg) (dg + 1) = 1 by omega) with z | z
  · rw [z] at e ⊢; omega
  · rw [z] at e ⊢; omega
theorem RdI.fin {T Mv dg q : Nat} {f2 : Nat → Nat} (h : RdI T Mv dg f2 q 0) : dv 65536 f2 (dg + 1) = T % Mv := by
  obtain ⟨h1, h2, h3, h4⟩ := h
  rw [Nat.zero_mul] at h3
  have h3 : dv 65536 f2 (dg + 1) + q * Mv = T := by omega
  have e3 : (q + 1) * Mv = q * Mv + Mv := Nat.succ_mul q Mv
  rw [← h3, Nat.add_mul_mod_self_right, Nat.mod_eq_of_lt (by omega)]
theorem mC_back {k : Nat} (h : k ≤ 1) : mC 1 + lN k = mC (1 - k) := by
  rcases (show k = 0 ∨ k = 1 by omega) with q | q <;> subst q <;> decide
theorem mC_neg {k : Nat} (h : k ≤ 1) : (mC k < lN 0) ↔ k = 1 := by
  rcases (show k = 0 ∨ k = 1 by omega) with q | q <;> subst q <;> decide
theorem RdI.cg {T Mv dg q c1 : Nat} {f2 f3 : Nat → Nat} (e : ∀ j, j < dg + 1 → f3 j = f2 j) (h : RdI T Mv dg f2 q c1) : RdI T Mv dg f3 q c1 := by
  obtain ⟨h1, h2, h3, h4⟩ := h
  exact ⟨h1, fun j hj => by rw [e j hj]; exact h2 j hj, by rw [dv_congr e]; exact h3, h4⟩
