set_option maxRecDepth 100000
/-! the hash's scratch as one value -/
abbrev HU : Type := (Nat → Nat) × Int32 × (Nat → Int32) × (Nat → Int32) × (Nat → Int32) × (Nat → Nat)
def hM (M : MS) (u : HU) : MS := sI (sG (sG (W3 M u.2.2.1 u.2.2.2.1 u.2.2.2.2.1) 21 u.1) 22 u.2.2.2.2.2) 20 u.2.1
def hself (M : MS) : HU := (mG M 21, mI M 20, mW M 23, mW M 24, mW M 25, mG M 22)
theorem hM_id (M : MS) : hM M (hself M) = M := by
  unfold hM hself
  refine MS.ext (upN_same _ _ _ rfl) rfl rfl ?_ ?_ rfl
  · show upN (upN M.2.2.2.1 21 (M.2.2.2.1 21)) 22 (M.2.2.2.1 22) = M.2.2.2.1
    rw [upN_same _ 21 _ rfl, upN_same _ 22 _ rfl]
  · show upN (upN (upN M.2.2.2.2.1 23 (M.2.2.2.2.1 23)) 24 (M.2.2.2.2.1 24)) 25 (M.2.2.2.2.1 25) = M.2.2.2.2.1
    rw [upN_same _ 23 _ rfl, upN_same _ 24 _ rfl, upN_same _ 25 _ rfl]
theorem hM_hM (M : MS) (u v : HU) : hM (hM M u) v = hM M v := by
  unfold hM W3
  refine MS.ext (upN_upN _ _ _ _) rfl rfl ?_ ?_ rfl
  · show upN (upN (upN (upN M.2.2.2.1 21 u.1) 22 u.2.2.2.2.2) 21 v.1) 22 v.2.2.2.2.2 = upN (upN M.2.2.2.1 21 v.1) 22 v.2.2.2.2.2
    rw [upN_comm _ _ _ (by decide : (22 : Nat) ≠ 21), upN_upN, upN_upN]
  · show upN (upN (upN (upN (upN (upN M.2.2.2.2.1 23 u.2.2.1) 24 u.2.2.2.1) 25 u.2.2.2.2.1) 23 v.2.2.1) 24 v.2.2.2.1) 25 v.2.2.2.2.1 = upN (upN (upN M.2.2.2.2.1 23 v.2.2.1) 24 v.2.2.2.1) 25 v.2.2.2.2.1
    rw [upN_comm _ _ _ (by decide : (25 : Nat) ≠ 23), upN_comm _ _ _ (by decide : (24 : Nat) ≠ 23), upN_upN, upN_comm _ _ _ (by decide : (25 : Nat) ≠ 24), upN_upN, upN_upN]
theorem hM_apM (M : MS) (n : Nat) (l : List Nat) : apM M 21 20 n l = hM M (appG (mG M 21) n l, nI (n + l.length), mW M 23, mW M 24, mW M 25, mG M 22) := by
  unfold apM hM W3
  refine MS.ext rfl rfl rfl ?_ ?_ rfl
  · show upN M.2.2.2.1 21 _ = upN (upN M.2.2.2.1 21 _) 22 (M.2.2.2.1 22)
    symm
    exact upN_same _ _ _ (upN_n (by decide))
  · show M.2.2.2.2.1 = upN (upN (upN M.2.2.2.2.1 23 (M.2.2.2.2.1 23)) 24 (M.2.2.2.2.1 24)) 25 (M.2.2.2.2.1 25)
    rw [upN_same _ 23 _ rfl, upN_same _ 24 _ rfl, upN_same _ 25 _ rfl]
theorem hM_one (M : MS) (n : Nat) (l D : List Nat) (Wf : Nat → Int32) : sG (sW (apM M 21 20 n l) 23 Wf) 22 (appG (mG M 22) 0 D) = hM M (appG (mG M 21) n l, nI (n + l.length), Wf, mW M 24, mW M 25, appG (mG M 22) 0 D) := by
  unfold apM hM W3
  refine MS.ext rfl rfl rfl rfl ?_ rfl
  show upN M.2.2.2.2.1 23 Wf = upN (upN (upN M.2.2.2.2.1 23 Wf) 24 (M.2.2.2.2.1 24)) 25 (M.2.2.2.2.1 25)
  rw [upN_same (upN M.2.2.2.2.1 23 Wf) 24 _ (upN_n (by decide)), upN_same (upN M.2.2.2.2.1 23 Wf) 25 _ (upN_n (by decide))]
theorem hM_two (M : MS) (n : Nat) (l D : List Nat) (a b z : Nat → Int32) : sG (W3 (apM M 21 20 n l) a b z) 22 (appG (mG M 22) 0 D) = hM M (appG (mG M 21) n l, nI (n + l.length), a, b, z, appG (mG M 22) 0 D) := rfl
theorem hM_sI (M : MS) (v : Int32) : sI M 20 v = hM M (mG M 21, v, mW M 23, mW M 24, mW M 25, mG M 22) := by
  unfold hM W3
  refine MS.ext rfl rfl rfl ?_ ?_ rfl
  · show M.2.2.2.1 = upN (upN M.2.2.2.1 21 (M.2.2.2.1 21)) 22 (M.2.2.2.1 22)
    rw [upN_same _ 21 _ rfl, upN_same _ 22 _ rfl]
  · show M.2.2.2.2.1 = upN (upN (upN M.2.2.2.2.1 23 (M.2.2.2.2.1 23)) 24 (M.2.2.2.2.1 24)) 25 (M.2.2.2.2.1 25)
    rw [upN_same _ 23 _ rfl, upN_same _ 24 _ rfl, upN_same _ 25 _ rfl]
def hash (w : Nat) (l : List Nat) : List Nat := if w = 2 then sha1 l else sha2 l
def hsize (w : Nat) : Nat := if w = 2 then 20 else 32
/-- lists that lie in arrays -/
def gD (l : List Nat) : Nat → Nat := fun j => l.getD j 0
theorem sl_gD (l : List Nat) : sl (gD l) 0 l.length = l := by
  apply List.ext_getElem?
  intro i
  by_cases hi : i < l.length
  · rw [sl_get hi, Nat.zero_add, gD, List.getD_eq_getElem?_getD, List.getElem?_eq_getElem hi]; rfl
  · rw [List.getElem?_eq_none_iff.mpr (by rw [sl_len]; omega), List.getElem?_eq_none_iff.mpr (by omega)]
theorem sl_gDc (l : List Nat) {a n : Nat} (h : a + n ≤ l.length) : sl (gD l) a n = (l.drop a).take n := by rw [sl_cut _ h, sl_gD]
abbrev byt (l : List Nat) : Prop := ∀ x ∈ l, x < 256
theorem byt_gD {l : List Nat} (h : byt l) (j : Nat) : gD l j < 256 := by
  rw [gD, List.getD_eq_getElem?_getD]
  cases hq : l[j]? with
  | none => decide
  | some x => exact h x (List.mem_of_getElem? hq)
def keyMsg (l : List Nat) : List Nat := 153 :: (be 2 l.length ++ l)
def blen (v : Nat) : Nat := if h : v = 0 then 0 else blen (v / 2) + 1
termination_by v
decreasing_by omega
theorem blen_0 : blen 0 = 0 := by rw [blen]; rfl
theorem blen_s {v : Nat} (h : v ≠ 0) : blen v = blen (v / 2) + 1 := by rw [blen, dif_neg h]
def bitsI (x n : Nat) : Int32 := if x = 0 then -1 else nI (8 * n - 8 + blen x)
def lexlt : List Nat → List Nat → Bool
  | a :: l, b :: k => if a = b then lexlt l k else decide (a < b)
  | _, _ => false
def belowL (l k : List Nat) : Bool := if l.length = k.length then lexlt l k else decide (l.length < k.length)
theorem drop_gD {l : List Nat} {i : Nat} (h : i < l.length) : l.drop i = gD l i :: l.drop (i + 1) := by
  rw [List.drop_eq_getElem_cons h, gD, List.getD_eq_getElem?_getD, List.getElem?_eq_getElem h]; rfl
theorem sha1_len (l : List Nat) : (sha1 l).length = 20 := by simp [sha1, dg1, be_len]
theorem sha2_len (l : List Nat) : (sha2 l).length = 32 := dg2_len _ _
theorem sha1_byt (l : List Nat) : byt (sha1 l) := by
  intro x hx
  simp only [sha1, dg1, List.mem_append] at hx
  rcases hx with (((hx | hx) | hx) | hx) | hx <;> exact be_lt hx
theorem sha2_byt (l : List Nat) : byt (sha2 l) := by
  intro x hx
  simp only [sha2, dg2, List.mem_flatMap] at hx
  obtain ⟨k, -, hx⟩ := hx
  exact be_lt hx
theorem hash_len (w : Nat) (l : List Nat) : (hash w l).length = hsize w := by
  unfold hash hsize
  split
  · exact sha1_len l
  · exact sha2_len l
theorem hash_byt (w : Nat) (l : List Nat) : byt (hash w l) := by
  unfold hash
  split
  · exact sha1_byt l
  · exact sha2_byt l
theorem sl_app0 {G : Nat → Nat} {l : List Nat} {n : Nat} (h : n ≤ l.length) : sl (appG G 0 l) 0 n = l.take n := by
  have := sl_appG G 0 l
  rw [Nat.zero_add, sl_0, List.nil_append] at this
  rw [sl_cut _ (show 0 + n ≤ l.length by omega), this, List.drop_zero]
theorem keyMsg_byt {l : List Nat} (h : byt l) : byt (keyMsg l) := by
  intro x hx
  unfold keyMsg at hx
  rcases List.mem_cons.mp hx with rfl | hx
  · decide
  · rcases List.mem_append.mp hx with hx | hx
    · exact be_lt hx
    · exact h x hx
theorem keyMsg_len (l : List Nat) : (keyMsg l).length = l.length + 3 := by simp [keyMsg, be_len]; omega
theorem blen_le8 (v : Nat) (h : v < 256) : blen v ≤ 8 := by
  have key : ∀ n v, v < 2 ^ n → blen v ≤ n := by
    intro n
    induction n with
    | zero => intro v hv; rw [show v = 0 by omega, blen_0]; exact Nat.le_refl _
    | succ n ih =>
      intro v hv
      by_cases h0 : v = 0
      · subst h0; rw [blen_0]; exact Nat.zero_le _
      · rw [blen_s h0]
        have := ih (v / 2) (by rw [Nat.pow_succ] at hv; omega)
        omega
  exact key 8 v h
