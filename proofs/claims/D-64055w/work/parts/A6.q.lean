set_option maxRecDepth 100000
/-! what the class's questions scratch: the hashes, the digest, the power -/
theorem notesR_mono (l : List Nat) (sd : Bool) (x : NS × OU) : x.2.1 ≤ (notesR l sd x).1.2.1 := by
  have h1 := someS_mono l 2 0 x.2
  unfold notesR
  split
  · exact h1
  · exact Nat.le_trans h1 (notesS_mono l sd _ _ (x.1, (someS l 2 0 x.2).2))
theorem sEnd_pos {b : List Nat} (h : 0 < b.length) : 0 < sEnd b := by
  have e1 : (sU1 b).2.1 = 1 := by
    show (oneS b (0, true)).2.1 = 1
    unfold oneS
    rw [if_neg (by show ¬ b.length ≤ 0; omega)]
  have h2 := oneS_mono b (sU1 b).2
  have h3 := oneS_mono b (sU2 b).2
  have h4 := oneS_mono b (sU3 b).2
  have h5 : (sU4 b).2.1 ≤ sEnd b := notesR_mono b true (nt0, (sU4 b).2)
  have h2 : (sU1 b).2.1 ≤ (sU2 b).2.1 := h2
  have h3 : (sU2 b).2.1 ≤ (sU3 b).2.1 := h3
  have h4 : (sU3 b).2.1 ≤ (sU4 b).2.1 := h4
  omega
abbrev HS : Type := Int64 × (Nat → Int32) × (Nat → Int32) × (Nat → Int32) × (Nat → Nat)
abbrev PS : Type := (Nat → Nat) × (Nat → Nat) × (Nat → Nat) × (Nat → Nat) × Int32 × Int32
def h4C (dA : Nat → ClassId) (ho st fi bl wo : Nat) (u : HS) : va_W := [(ho, .inr (2, [.ref st, .ref fi, .ref bl, .long u.1, .ref wo])), (st, war dA 5 u.2.1), (wo, war dA 80 u.2.2.1), (bl, bar dA 64 u.2.2.2.2)]
def h5C (dA : Nat → ClassId) (ho st fi bl wo ei : Nat) (u : HS) : va_W := [(ho, .inr (3, [.ref st, .ref fi, .ref bl, .long u.1, .ref wo, .ref ei])), (st, war dA 8 u.2.1), (wo, war dA 64 u.2.2.1), (ei, war dA 8 u.2.2.2.1), (bl, bar dA 64 u.2.2.2.2)]
def pwC (dA : Nat → ClassId) (po m9 b9 rs pr : Nat) (u : PS) : va_W := [(po, .inr (4, [.ref m9, .ref b9, .ref rs, .ref pr, .int u.2.2.2.2.1, .int u.2.2.2.2.2])), (m9, iar dA 66 u.1), (b9, iar dA 66 u.2.1), (rs, iar dA 66 u.2.2.1), (pr, iar dA 134 u.2.2.2.1)]
def hs4 (msg : List Nat) (gw : Nat → Int32) (y : Nat → Int32) (gb : Nat → Nat) : HS := (lN msg.length, t5 (hs1 msg (msg.length / 64)), gw, y, gb)
def hs5 (msg : List Nat) (gw : Nat → Int32) (y : Nat → Int32) (gb : Nat → Nat) : HS := (lN msg.length, hs2 msg (msg.length / 64), gw, y, gb)
theorem mix_lo {α : Type} {k j : Nat} {f g : Nat → α} (h : j < k) : mixF k f g j = f j := if_pos h
