set_option maxRecDepth 100000
/-! the model's state: tape, document, out, ring -/
def MSt (dA : Nat → ClassId) (F : va_W) (ad : Nat → Nat) (M : MS) (tp dc ou : List Nat) (L : List PK) : Prop :=
  (mI M 1 = nI tp.length ∧ (∀ j, j < tp.length → mG M 2 j = gD tp j) ∧ byt tp ∧ tp.length ≤ 4096) ∧
  (mI M 3 = nI dc.length ∧ (∀ j, j < dc.length → mG M 4 j = gD dc j) ∧ byt dc ∧ dc.length ≤ 4096) ∧
  (mI M 10 = nI ou.length ∧ (∀ j, j < ou.length → mG M 11 j = gD ou j) ∧ byt ou ∧ ou.length ≤ 59000) ∧
  (RingAt dA F M 13 14 15 L ∧ mI M 12 = nI L.length ∧ PKs L) ∧
  (mR M 13 = some (ad 13) ∧ mR M 14 = some (ad 14) ∧ mR M 15 = some (ad 15) ∧ mR M 17 = some (ad 17) ∧ mR M 18 = some (ad 18) ∧ mR M 19 = some (ad 19)) ∧
  MI M ∧ (∀ j, mG M 6 j < 256) ∧ (∃ a b : Nat, mI M 37 = nI a ∧ mI M 38 = nI b)
/-- what joining may change -/
abbrev jI : List Nat := [0, 1, 5, 16, 33, 35, 36, 37, 38, 40, 41, 42, 43, 45, 47]
def Kn (M M' : MS) : Prop := (∀ k, k ∉ kI → k ∉ jI → mI M' k = mI M k) ∧ (∀ k, k ∉ kR → k ∉ [34, 39, 44] → mR M' k = mR M k) ∧ (∀ k, k ∉ kG → k ∉ [6, 17, 46] → mG M' k = mG M k) ∧ (∀ k, k ≠ 18 → k ≠ 19 → mA M' k = mA M k)
theorem Kn.rfl' (M : MS) : Kn M M := ⟨fun _ _ _ => rfl, fun _ _ _ => rfl, fun _ _ _ => rfl, fun _ _ _ => rfl⟩
theorem Kn.trans {M M' M'' : MS} (h1 : Kn M M') (h2 : Kn M' M'') : Kn M M'' := ⟨fun k a b => (h2.1 k a b).trans (h1.1 k a b), fun k a b => (h2.2.1 k a b).trans (h1.2.1 k a b), fun k a b => (h2.2.2.1 k a b).trans (h1.2.2.1 k a b), fun k a b => (h2.2.2.2 k a b).trans (h1.2.2.2 k a b)⟩
theorem Kj.kn {M M' : MS} (h : Kj M M') : Kn M M' := ⟨fun k a b => h.1 k a (fun c => b (by simp only [List.mem_cons, List.not_mem_nil, or_false] at c ⊢; omega)), fun k a b => h.2.2.1 k a (fun e => b (by rw [e]; decide)), fun k a b => h.2.2.2.1 k a (fun e => b (by rw [e]; decide)) (fun e => b (by rw [e]; decide)), h.2.2.2.2⟩
theorem Kn.sI {M M' : MS} (h : Kn M M') {k : Nat} {v : Int32} (hk : k ∈ jI) : Kn M (sI M' k v) := ⟨fun j a b => (upN_n (fun e => b (by rw [e]; exact hk))).trans (h.1 j a b), h.2⟩
theorem Kn.sR {M M' : MS} (h : Kn M M') {k : Nat} {v : Option Nat} (hk : k ∈ [34, 39, 44]) : Kn M (sR M' k v) := ⟨h.1, fun j a b => (upN_n (fun e => b (by rw [e]; exact hk))).trans (h.2.1 j a b), h.2.2⟩
theorem Kn.sG {M M' : MS} (h : Kn M M') {k : Nat} {v : Nat → Nat} (hk : k ∈ [6, 17, 46]) : Kn M (sG M' k v) := ⟨h.1, h.2.1, fun j a b => (upN_n (fun e => b (by rw [e]; exact hk))).trans (h.2.2.1 j a b), h.2.2.2⟩
theorem Kn.sA {M M' : MS} (h : Kn M M') {k : Nat} {v : Nat → Option Nat} (hk : k = 18 ∨ k = 19) : Kn M (sA M' k v) := ⟨h.1, h.2.1, h.2.2.1, fun j a b => (upN_n (by omega)).trans (h.2.2.2 j a b)⟩
theorem vM_kn (M : MS) (a : Int32) (b : Nat → Nat) (c d : Nat → Option Nat) : Kn M (vM M a b c d) := ((((Kn.rfl' M).sI (by decide)).sG (by decide)).sA (Or.inl rfl)).sA (Or.inr rfl)
theorem lM_kn (M : MS) (a b c d : Int32) : Kn M (lM M a b c d) := ((((Kn.rfl' M).sI (by decide)).sI (by decide)).sI (by decide)).sI (by decide)
theorem gM_kn (M : MS) (a b c d : Int32) (g : Nat → Nat) : Kn M (gM M a b c d g) := ((((Kn.rfl' M).sI (by decide)).sI (by decide)).sI (by decide)).sI (by decide) |>.sG (by decide)
/-- copies -/
def mixF {α : Type} (k : Nat) (f g : Nat → α) : Nat → α := fun j => if j < k then f j else g j
theorem mixF_0 {α : Type} (f g : Nat → α) : mixF 0 f g = g := by funext j; unfold mixF; rw [if_neg (by omega)]
theorem mixF_s {α : Type} (k : Nat) (f g : Nat → α) : upN (mixF k f g) k (f k) = mixF (k + 1) f g := by
  funext j
  rw [upN_if]
  unfold mixF
  by_cases h : j = k
  · rw [if_pos h, if_pos (by omega), h]
  · rw [if_neg h]
    by_cases h2 : j < k
    · rw [if_pos h2, if_pos (by omega)]
    · rw [if_neg h2, if_neg (by omega)]
theorem mixF_lt {α : Type} {k j : Nat} (f g : Nat → α) (h : j < k) : mixF k f g j = f j := by unfold mixF; rw [if_pos h]
theorem RingAt.mix {dA : Nat → ClassId} {F : va_W} {M M' : MS} {k b c k' b' c' : Nat} {L : List PK} (h : RingAt dA F M k b c L) {g1 : Nat → Nat} {g2 g3 : Nat → Option Nat} (h1 : mG M' k' = mixF L.length (mG M k) g1) (h2 : mA M' b' = mixF L.length (mA M b) g2) (h3 : mA M' c' = mixF L.length (mA M c) g3) : RingAt dA F M' k' b' c' L := by
  intro j p hj
  have hl : j < L.length := (List.getElem?_eq_some_iff.mp hj).1
  rw [h1, h2, h3, mixF_lt _ _ hl, mixF_lt _ _ hl, mixF_lt _ _ hl]
  exact h j p hj
/-- the arrays change places -/
def adS (ad : Nat → Nat) (k : Nat) : Nat := if k = 13 then ad 17 else if k = 14 then ad 18 else if k = 15 then ad 19 else if k = 17 then ad 13 else if k = 18 then ad 14 else if k = 19 then ad 15 else ad k
def swM (M : MS) : MS := sA (sA (sA (sA (sG (sG M 13 (mG M 17)) 17 (mG M 13)) 14 (mA M 18)) 15 (mA M 19)) 18 (mA M 14)) 19 (mA M 15)
theorem mfv_sw (ad : Nat → Nat) (M : MS) (k : Nat) (hk : k < 74) : mfv (adS ad) (swM M) k = mfv ad M k := by
  have h1 : mkk k = 2 → adS ad k = ad k := by
    intro h
    unfold adS
    have : k ≠ 13 ∧ k ≠ 14 ∧ k ≠ 15 ∧ k ≠ 17 ∧ k ≠ 18 ∧ k ≠ 19 := by
      refine ⟨?_, ?_, ?_, ?_, ?_, ?_⟩ <;> (intro e; subst e; exact absurd h (by decide))
    obtain ⟨a, b, c, d, e, f⟩ := this
    rw [if_neg a, if_neg b, if_neg c, if_neg d, if_neg e, if_neg f]
  unfold mfv
  split
  · rfl
  · rfl
  · next q => rw [h1 q]
  · rfl
theorem perm_sw {α : Type} (A Bl : List α) (x y p q r s : α) : (A ++ ([x, y] ++ (Bl ++ ([p, q] ++ [r, s])))).Perm (A ++ ([y, x] ++ (Bl ++ ([r, s] ++ [p, q])))) :=
  List.Perm.append_left A (List.Perm.append (List.Perm.swap y x []) (List.Perm.append_left Bl List.perm_append_comm))
theorem mw_sw (dA : Nat → ClassId) (h0 : Nat) (ad : Nat → Nat) (M : MS) : (mw dA h0 ad M).Perm (mw dA h0 (adS ad) (swM M)) := by
  have e0 : flv 74 (mfv (adS ad) (swM M)) = flv 74 (mfv ad M) := flv_ext (fun k hk => mfv_sw ad M k hk)
  have e1 : mw dA h0 (adS ad) (swM M) = [(h0, .inr (5, flv 74 (mfv ad M))),
   (ad 2, iar dA 4096 (mG M 2)), (ad 4, iar dA 4096 (mG M 4)), (ad 6, iar dA 4096 (mG M 6)), (ad 7, iar dA 4096 (mG M 7)), (ad 8, iar dA 4097 (mG M 8)), (ad 9, iar dA 8000 (mG M 9)), (ad 11, iar dA 60000 (mG M 11)), (ad 21, iar dA 30000 (mG M 21)), (ad 22, iar dA 32 (mG M 22)), (ad 46, iar dA 5000 (mG M 46)), (ad 17, iar dA 4700 (mG M 17)), (ad 13, iar dA 4700 (mG M 13)),
   (ad 23, war dA 80 (mW M 23)), (ad 24, war dA 8 (mW M 24)), (ad 25, war dA 8 (mW M 25)),
   (ad 27, lar dA 40 (mG M 27)), (ad 28, lar dA 42 (mG M 28)), (ad 30, lar dA 40 (mG M 30)), (ad 31, lar dA 40 (mG M 31)), (ad 32, lar dA 40 (mG M 32)),
   (ad 70, zar dA 3 (mG M 70)),
   (ad 18, aar dA 4700 (mA M 18)), (ad 19, aar dA 4700 (mA M 19)), (ad 14, aar dA 4700 (mA M 14)), (ad 15, aar dA 4700 (mA M 15))] := by
    unfold mw
    rw [e0]
    rfl
  rw [e1]
  exact perm_sw [(h0, .inr (5, flv 74 (mfv ad M))), (ad 2, iar dA 4096 (mG M 2)), (ad 4, iar dA 4096 (mG M 4)), (ad 6, iar dA 4096 (mG M 6)), (ad 7, iar dA 4096 (mG M 7)), (ad 8, iar dA 4097 (mG M 8)), (ad 9, iar dA 8000 (mG M 9)), (ad 11, iar dA 60000 (mG M 11)), (ad 21, iar dA 30000 (mG M 21)), (ad 22, iar dA 32 (mG M 22)), (ad 46, iar dA 5000 (mG M 46))] [(ad 23, war dA 80 (mW M 23)), (ad 24, war dA 8 (mW M 24)), (ad 25, war dA 8 (mW M 25)), (ad 27, lar dA 40 (mG M 27)), (ad 28, lar dA 42 (mG M 28)), (ad 30, lar dA 40 (mG M 30)), (ad 31, lar dA 40 (mG M 31)), (ad 32, lar dA 40 (mG M 32)), (ad 70, zar dA 3 (mG M 70))] (ad 13, iar dA 4700 (mG M 13)) (ad 17, iar dA 4700 (mG M 17)) (ad 14, aar dA 4700 (mA M 14)) (ad 15, aar dA 4700 (mA M 15)) (ad 18, aar dA 4700 (mA M 18)) (ad 19, aar dA 4700 (mA M 19))
/-- the row that a tape holds, and what is told -/
def rowS (tp : List Nat) : Int32 × List Nat := if tp.length = 0 ∨ 128 ≤ gD tp 0 then (0, tp) else ((byLabS tp (lineS tp (0, 0, 0, 0)).2).1.1, (byLabS tp (lineS tp (0, 0, 0, 0)).2).2)
def joinS (tp : List Nat) (L : List PK) : Int32 × List PK :=
  if (rowS tp).1 = 0 then (if (keysR (rowS tp).2 L).1 = 0 then (nI (keysR (rowS tp).2 L).2.2.2.2, (keysR (rowS tp).2 L).2.1) else ((keysR (rowS tp).2 L).1, L)) else ((rowS tp).1, L)
theorem lineS_0 {l : List Nat} {a b : Nat} (h : 0 < l.length) : lineS l (0, 0, a, b) = lineS l (0, 0, 0, 0) := by
  unfold lineS
  rw [if_pos rfl, if_pos rfl, if_neg (by show ¬ l.length ≤ 0; omega), if_neg (by show ¬ l.length ≤ 0; omega)]
