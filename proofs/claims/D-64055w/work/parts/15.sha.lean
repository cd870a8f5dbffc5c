set_option maxRecDepth 100000
/-! the two hashes, plainly -/
abbrev H5 : Type := Int32 × Int32 × Int32 × Int32 × Int32
def f1 (k : Nat) (x y z : Int32) : Int32 := if k < 20 then z ^^^ (x &&& (y ^^^ z)) else if k < 40 then x ^^^ y ^^^ z else if k < 60 then x &&& y ||| z &&& (x ||| y) else x ^^^ y ^^^ z
def k1 (k : Nat) : Int32 := if k < 20 then nI 1518500249 else if k < 40 then nI 1859775393 else if k < 60 then (-1894007588) else (-899497514)
def sW1 (blk : Nat → Int32) (k : Nat) : Int32 := if h : k < 16 then blk k else rotl (sW1 blk (k - 3) ^^^ sW1 blk (k - 8) ^^^ sW1 blk (k - 14) ^^^ sW1 blk (k - 16)) (nI 1)
termination_by k
decreasing_by all_goals omega
theorem sW1_lo {blk : Nat → Int32} {k : Nat} (h : k < 16) : sW1 blk k = blk k := by rw [sW1, dif_pos h]
theorem sW1_hi {blk : Nat → Int32} {k : Nat} (h : 16 ≤ k) : sW1 blk k = rotl (sW1 blk (k - 3) ^^^ sW1 blk (k - 8) ^^^ sW1 blk (k - 14) ^^^ sW1 blk (k - 16)) (nI 1) := by rw [sW1, dif_neg (by omega)]
def st1 (w : Nat → Int32) (k : Nat) (x : H5) : H5 := (rotl x.1 (nI 5) + f1 k x.2.1 x.2.2.1 x.2.2.2.1 + x.2.2.2.2 + k1 k + w k, x.1, rotl x.2.1 (nI 30), x.2.2.1, x.2.2.2.1)
def rd1 (w : Nat → Int32) : Nat → H5 → H5
  | 0, x => x
  | k + 1, x => st1 w k (rd1 w k x)
def add5 (x y : H5) : H5 := (x.1 + y.1, x.2.1 + y.2.1, x.2.2.1 + y.2.2.1, x.2.2.2.1 + y.2.2.2.1, x.2.2.2.2 + y.2.2.2.2)
def blkw (m : List Nat) (i k : Nat) : Int32 := nI (num ((m.drop (64 * i + 4 * k)).take 4))
def in1 : H5 := (nI 1732584193, (-271733879), (-1732584194), nI 271733878, (-1009589776))
def hs1 (m : List Nat) : Nat → H5
  | 0 => in1
  | i + 1 => add5 (hs1 m i) (rd1 (sW1 (blkw m i)) 80 (hs1 m i))
def dg1 (x : H5) : List Nat := be 4 (uI x.1) ++ be 4 (uI x.2.1) ++ be 4 (uI x.2.2.1) ++ be 4 (uI x.2.2.2.1) ++ be 4 (uI x.2.2.2.2)
def padded (l : List Nat) : List Nat := l ++ pad l.length
def sha1 (l : List Nat) : List Nat := dg1 (hs1 (padded l) ((padded l).length / 64))
theorem sl_cut (g : Nat → Nat) {a n t : Nat} (h : a + n ≤ t) : sl g a n = ((sl g 0 t).drop a).take n := by
  apply List.ext_getElem?
  intro i
  by_cases hi : i < n
  · rw [sl_get hi, List.getElem?_take, if_pos hi, List.getElem?_drop, sl_get (by omega), Nat.zero_add]
  · rw [List.getElem?_eq_none_iff.mpr (by rw [sl_len]; omega), List.getElem?_take, if_neg hi]
theorem be_lt {n v x : Nat} (h : x ∈ be n v) : x < 256 := by
  unfold be sl at h
  obtain ⟨j, -, rfl⟩ := List.mem_map.mp h
  exact Nat.mod_lt _ (by decide)
theorem pad_byte {n x : Nat} (h : x ∈ pad n) : x < 256 := by
  unfold pad at h
  rcases List.mem_cons.mp h with rfl | h
  · decide
  · rcases List.mem_append.mp h with h | h
    · rw [List.mem_replicate] at h; omega
    · exact be_lt h
theorem appG_byte {G : Nat → Nat} {n : Nat} {l : List Nat} (hG : ∀ j, G j < 256) (hl : ∀ x ∈ l, x < 256) (j : Nat) : appG G n l j < 256 := by
  unfold appG
  split
  · exact hG j
  · cases hq : l[j - n]? with
    | none => exact hG j
    | some x => exact hl x (List.mem_of_getElem? hq)
theorem pad_64 (n : Nat) : (n + (pad n).length) % 64 = 0 := by
  rw [(pad_len n).1]
  have := padz_eq n
  omega
theorem keep_step {M : MS} {k : Nat} {l y : List Nat} (h : l.length = 4 * k) : sG (sG M 22 (appG (mG M 22) 0 l)) 22 (appG (mG (sG M 22 (appG (mG M 22) 0 l)) 22) (4 * k) y) = sG M 22 (appG (mG M 22) 0 (l ++ y)) := by
  rw [sG_sG, ← appG_app, Nat.zero_add, h]; rfl
theorem blkw_eq {g : Nat → Nat} {m : List Nat} {i k : Nat} (hm : sl g 0 m.length = m) (h : 64 * i + 4 * k + 4 ≤ m.length) : nI (num (sl g (64 * i + 4 * k) 4)) = blkw m i k := by
  unfold blkw
  rw [sl_cut g h, hm]
/-! the second one -/
def K2 (k : Nat) : Int32 := ([1116352408, 1899447441, -1245643825, -373957723, 961987163, 1508970993, -1841331548, -1424204075, -670586216, 310598401, 607225278, 1426881987, 1925078388, -2132889090, -1680079193, -1046744716, -459576895, -272742522, 264347078, 604807628, 770255983, 1249150122, 1555081692, 1996064986, -1740746414, -1473132947, -1341970488, -1084653625, -958395405, -710438585, 113926993, 338241895, 666307205, 773529912, 1294757372, 1396182291, 1695183700, 1986661051, -2117940946, -1838011259, -1564481375, -1474664885, -1035236496, -949202525, -778901479, -694614492, -200395387, 275423344, 430227734, 506948616, 659060556, 883997877, 958139571, 1322822218, 1537002063, 1747873779, 1955562222, 2024104815, -2067236844, -1933114872, -1866530822, -1538233109, -1090935817, -965641998] : List Int32).getD k 0
def g0 (v : Int32) : Int32 := rotl v (nI 25) ^^^ rotl v (nI 14) ^^^ ushr v (nI 3)
def g1 (v : Int32) : Int32 := rotl v (nI 15) ^^^ rotl v (nI 13) ^^^ ushr v (nI 10)
def sW2 (blk : Nat → Int32) (k : Nat) : Int32 := if h : k < 16 then blk k else sW2 blk (k - 16) + sW2 blk (k - 7) + g0 (sW2 blk (k - 15)) + g1 (sW2 blk (k - 2))
termination_by k
decreasing_by all_goals omega
theorem sW2_lo {blk : Nat → Int32} {k : Nat} (h : k < 16) : sW2 blk k = blk k := by rw [sW2, dif_pos h]
theorem sW2_hi {blk : Nat → Int32} {k : Nat} (h : 16 ≤ k) : sW2 blk k = sW2 blk (k - 16) + sW2 blk (k - 7) + g0 (sW2 blk (k - 15)) + g1 (sW2 blk (k - 2)) := by rw [sW2, dif_neg (by omega)]
def one2 (w : Nat → Int32) (k : Nat) (x : Nat → Int32) : Int32 := x 7 + (rotl (x 4) (nI 26) ^^^ rotl (x 4) (nI 21) ^^^ rotl (x 4) (nI 7)) + (x 6 ^^^ (x 4 &&& (x 5 ^^^ x 6))) + K2 k + w k
def new2 (w : Nat → Int32) (k : Nat) (x : Nat → Int32) : Int32 := one2 w k x + (rotl (x 0) (nI 30) ^^^ rotl (x 0) (nI 19) ^^^ rotl (x 0) (nI 10)) + (x 0 &&& x 1 ||| x 2 &&& (x 0 ||| x 1))
def st2 (w : Nat → Int32) (k : Nat) (x : Nat → Int32) : Nat → Int32 := fun i => if i = 0 then new2 w k x else if i = 4 then x 3 + one2 w k x else x (i - 1)
def rd2 (w : Nat → Int32) : Nat → (Nat → Int32) → Nat → Int32
  | 0, x => x
  | k + 1, x => st2 w k (rd2 w k x)
def in2 (k : Nat) : Int32 := ([1779033703, -1150833019, 1013904242, -1521486534, 1359893119, -1694144372, 528734635, 1541459225] : List Int32).getD k 0
def hs2 (m : List Nat) : Nat → Nat → Int32
  | 0 => in2
  | i + 1 => fun k => hs2 m i k + rd2 (sW2 (blkw m i)) 64 (hs2 m i) k
def dg2 (x : Nat → Int32) (n : Nat) : List Nat := (List.range n).flatMap (fun k => be 4 (uI (x k)))
def sha2 (l : List Nat) : List Nat := dg2 (hs2 (padded l) ((padded l).length / 64)) 8
theorem dg2_succ (x : Nat → Int32) (n : Nat) : dg2 x (n + 1) = dg2 x n ++ be 4 (uI (x n)) := by simp [dg2, List.range_succ]
theorem dg2_len (x : Nat → Int32) (n : Nat) : (dg2 x n).length = 4 * n := by
  induction n with
  | zero => rfl
  | succ n ih => rw [dg2_succ, List.length_append, ih, be_len]; omega
theorem dg2_congr {x y : Nat → Int32} {n : Nat} (h : ∀ i, i < n → x i = y i) : dg2 x n = dg2 y n := by
  induction n with
  | zero => rfl
  | succ n ih => rw [dg2_succ, dg2_succ, ih (fun i hi => h i (by omega)), h n (by omega)]
def W3 (M : MS) (a b z : Nat → Int32) : MS := sW (sW (sW M 23 a) 24 b) 25 z
theorem W3_23 (M : MS) (a b z x : Nat → Int32) : sW (W3 M a b z) 23 x = W3 M x b z := by
  refine MS.ext rfl rfl rfl rfl ?_ rfl
  show upN (upN (upN (upN M.2.2.2.2.1 23 a) 24 b) 25 z) 23 x = upN (upN (upN M.2.2.2.2.1 23 x) 24 b) 25 z
  rw [upN_comm _ _ _ (by decide : (25 : Nat) ≠ 23), upN_comm _ _ _ (by decide : (24 : Nat) ≠ 23), upN_upN]
theorem W3_24 (M : MS) (a b z x : Nat → Int32) : sW (W3 M a b z) 24 x = W3 M a x z := by
  refine MS.ext rfl rfl rfl rfl ?_ rfl
  show upN (upN (upN (upN M.2.2.2.2.1 23 a) 24 b) 25 z) 24 x = upN (upN (upN M.2.2.2.2.1 23 a) 24 x) 25 z
  rw [upN_comm _ _ _ (by decide : (25 : Nat) ≠ 24), upN_upN]
theorem W3_25 (M : MS) (a b z x : Nat → Int32) : sW (W3 M a b z) 25 x = W3 M a b x := by
  refine MS.ext rfl rfl rfl rfl ?_ rfl
  show upN (upN (upN (upN M.2.2.2.2.1 23 a) 24 b) 25 z) 25 x = upN (upN (upN M.2.2.2.2.1 23 a) 24 b) 25 x
  rw [upN_upN]
theorem W3_id (M : MS) : W3 M (mW M 23) (mW M 24) (mW M 25) = M := by
  refine MS.ext rfl rfl rfl rfl ?_ rfl
  show upN (upN (upN M.2.2.2.2.1 23 (M.2.2.2.2.1 23)) 24 (M.2.2.2.2.1 24)) 25 (M.2.2.2.2.1 25) = M.2.2.2.2.1
  rw [upN_same _ 23 _ rfl, upN_same _ 24 _ rfl, upN_same _ 25 _ rfl]
/-- the ring turns: what stands where behind a round -/
theorem turn8 {x Nw : Nat → Int32} {w : Nat → Int32} {j : Nat} (hj : j < 64) (h : ∀ i, i < 8 → Nw (((64 - j) % 8 + i) % 8) = x i) (i : Nat) (hi : i < 8) :
    upN (upN Nw (((64 - j) % 8 + 3) % 8) (x 3 + one2 w j x)) (((64 - j) % 8 + 7) % 8) (new2 w j x) (((64 - (j + 1)) % 8 + i) % 8) = st2 w j x i := by
  unfold st2
  by_cases h0 : i = 0
  · subst h0
    rw [if_pos rfl, show ((64 - (j + 1)) % 8 + 0) % 8 = ((64 - j) % 8 + 7) % 8 by omega, upN_s]
  · rw [if_neg h0, upN_n (by omega)]
    by_cases h4 : i = 4
    · subst h4
      rw [if_pos rfl, show ((64 - (j + 1)) % 8 + 4) % 8 = ((64 - j) % 8 + 3) % 8 by omega, upN_s]
    · rw [if_neg h4, upN_n (by omega), ← h (i - 1) (by omega)]
      congr 1
      omega
