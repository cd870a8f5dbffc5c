set_option maxRecDepth 100000
/-! reading keys, plainly -/
theorem pktN_adv {l : List Nat} (hb : byt l) (kd : Nat) : ∀ (n pos : Nat) (acc : List Nat) (q : List Nat × Nat), l.length - pos < n → byt acc → pktN l kd pos acc = some q → q.2 ≤ l.length ∧ q.1.length + pos + 1 ≤ acc.length + q.2 ∧ byt q.1 := by
  intro n
  induction n with
  | zero => intro pos acc q h; omega
  | succ n ih =>
    intro pos acc q h ha hq
    rw [pktN] at hq
    split at hq
    · split at hq
      · split at hq
        · cases hq
        · split at hq
          · cases hq
          · split at hq
            · next h3 =>
              have h9 := Nat.two_pow_pos (gD l pos - 224)
              have := ih _ _ _ (by omega) (byt_app ha (byt_sliceL hb _ _)) hq
              rw [List.length_append, sliceL_len (by omega)] at this
              exact ⟨this.1, by omega, this.2.2⟩
            · cases hq
      · split at hq
        · split at hq
          · cases hq
            refine ⟨by assumption, ?_, byt_app ha (byt_sliceL hb _ _)⟩
            rw [List.length_append, sliceL_len (by omega)]; omega
          · cases hq
        · split at hq
          · split at hq
            · next h4 =>
              cases hq
              refine ⟨h4.2, ?_, byt_app ha (byt_sliceL hb _ _)⟩
              rw [List.length_append, sliceL_len (by omega)]; omega
            · cases hq
          · split at hq
            · next h4 =>
              cases hq
              refine ⟨h4.2, ?_, byt_app ha (byt_sliceL hb _ _)⟩
              rw [List.length_append, sliceL_len (by omega)]; omega
            · cases hq
    · cases hq
theorem pktS_adv {rw : List Nat} (hb : byt rw) {nx : Nat} {q : Nat × List Nat × Nat} (h : pktS rw nx = some q) : q.2.2 ≤ rw.length ∧ nx + 2 + q.2.1.length ≤ q.2.2 ∧ byt q.2.1 ∧ q.1 < 64 := by
  have hg := byt_gD hb nx
  unfold pktS at h
  split at h
  · split at h
    · cases h
    · split at h
      · split at h
        · cases h
        · split at h
          · next h4 =>
            cases h
            have h5 := h4.2
            have h9 := Nat.two_pow_pos (gD rw nx % 4)
            refine ⟨h5, ?_, byt_sliceL hb _ _, ?_⟩
            · show nx + 2 + (sliceL _ _ _).length ≤ nx + 1 + 2 ^ (gD rw nx % 4) + num (sliceL rw (nx + 1) (2 ^ (gD rw nx % 4)))
              rw [sliceL_len h5]; omega
            · show gD rw nx / 4 % 16 < 64; omega
          · cases h
      · split at h
        · cases h
        · next q hq =>
          cases h
          have := pktN_adv hb _ _ _ _ _ (Nat.lt_succ_self _) (by intro x hx; cases hx) hq
          simp at this
          exact ⟨this.1, by show nx + 2 + q.1.length ≤ q.2; omega, this.2.2, by show gD rw nx - 192 < 64; omega⟩
  · cases h
/-- the ring, the key, what came last, how many keys -/
abbrev RK : Type := List PK × Option Nat × Option Nat × Nat
def secO (bd : List Nat) (b : Bool) : Option (List Nat) := if b = true then some (kSec bd) else none
def keyK (x : RK) : Option Nat × List PK → Option RK
  | (some k, L) => some (L, some k, some k, x.2.2.2 + 1)
  | (none, _) => none
def laK (x : RK) : Option Nat × List PK → Option RK
  | (some k, L) => some (L, x.2.1, some k, x.2.2.2)
  | (none, _) => none
def sealK2 (x : RK) (r : Bool × List PK) : Option RK := if r.1 = true then some (r.2, x.2) else none
def underK (x : RK) (kd : Nat) (bd : List Nat) (k : Nat) : Option RK :=
  if kd = 7 ∨ kd = 14 then (if keyOk bd (decide (kd = 7)) = true then laK x (comeS x.1 (k + 1) (sk (notK 6) x.1 (k + 1)) 14 8 (bd.take (kSize bd)) (secO bd (decide (kd = 7)))) else none)
  else if kd = 13 then laK x (userS x.1 k bd)
  else if kd = 2 then sealK2 x (sealS x.1 (x.2.2.1.getD 0) bd)
  else none
def pkK (x : RK) (kd : Nat) (bd : List Nat) : Option Nat → Option RK
  | none => none
  | some k => underK x kd bd k
def pkS (x : RK) (kd : Nat) (bd : List Nat) : Option RK :=
  if kd = 10 ∨ kd = 12 ∨ kd = 17 ∨ 40 ≤ kd then some x
  else if kd = 5 ∨ kd = 6 then (if keyOk bd (decide (kd = 5)) = true then keyK x (comeS x.1 0 x.1.length 6 16 (bd.take (kSize bd)) (secO bd (decide (kd = 5)))) else none)
  else pkK x kd bd x.2.1
def nextK (x : RK) (nx : Nat) : Option RK → (RK → Int32 × RK) → Int32 × RK
  | none, _ => (-1 - nI nx, x)
  | some y, f => f y
def keysP (f : RK → Nat → Int32 × RK) (x : RK) (nx : Nat) : Option (Nat × List Nat × Nat) → Int32 × RK
  | none => (-1 - nI nx, x)
  | some q => nextK x nx (pkS x q.1 q.2.1) (fun y => f y q.2.2)
def keysS (rw : List Nat) : Nat → RK → Nat → Int32 × RK
  | 0, x, _ => (0, x)
  | f + 1, x, nx => if rw.length ≤ nx then (0, x) else keysP (keysS rw f) x nx (pktS rw nx)
/-- what holds of it at all times -/
def RKok (x : RK) : Prop := PKs x.1 ∧ (∀ k, x.2.1 = some k → k < x.1.length ∧ ∃ j, x.2.2.1 = some j) ∧ (∀ j, x.2.2.1 = some j → j < x.1.length)
theorem PKs_ins {L : List PK} {p : Nat} {x : PK} (h : PKs L) (hx : PKok x) : PKs (insF L p x) := by
  intro y hy
  unfold insF at hy
  rcases List.mem_append.mp hy with hy | hy
  · rcases List.mem_append.mp hy with hy | hy
    · exact h y (List.mem_of_mem_take hy)
    · rw [List.mem_singleton.mp hy]; exact hx
  · exact h y (List.mem_of_mem_drop hy)
theorem PKs_sec {L : List PK} {i : Nat} {sec : Option (List Nat)} (h : PKs L) (hs : ∀ z, sec = some z → byt z ∧ z.length ≤ 4096) : PKs (setSec L i sec) := by
  unfold setSec
  split
  · exact h
  · next x hx =>
    split
    · intro y hy
      rcases List.mem_or_eq_of_mem_set hy with hy | hy
      · exact h y hy
      · rw [hy]
        have := h.at hx
        exact ⟨this.1, this.2.1, this.2.2.1, hs, this.2.2.2.2⟩
    · exact h
theorem comeS_ok {L : List PK} {a b k most : Nat} {own : List Nat} {sec : Option (List Nat)} (h : PKs L) (hb : b ≤ L.length) (hab : a ≤ b) (hk : k = 6 ∨ k = 14) (hgo : keyOk own false = true) (ho : byt own) (hol : own.length ≤ 4096) (hs : ∀ z, sec = some z → byt z ∧ z.length ≤ 4096) : PKs (comeS L a b k most own sec).2 ∧ L.length ≤ (comeS L a b k most own sec).2.length ∧ (comeS L a b k most own sec).2.length ≤ L.length + 1 ∧ (∀ j, (comeS L a b k most own sec).1 = some j → j < (comeS L a b k most own sec).2.length) := by
  unfold comeS
  cases hf : findF (prP k (sha1 (keyMsg own))) L (b - a) a with
  | some i =>
    have h1 := (findF_lt hf).2.1
    refine ⟨PKs_sec h hs, ?_, ?_, ?_⟩
    · show _ ≤ (setSec L i sec).length; rw [setSec_len]; omega
    · show (setSec L i sec).length ≤ _; rw [setSec_len]; omega
    · intro j hj
      cases hj
      show i < (setSec L i sec).length
      rw [setSec_len]; omega
  | none =>
    unfold comeK
    by_cases q : cntF L k (b - a) a = most
    · rw [if_pos q]; exact ⟨h, Nat.le_refl _, Nat.le_succ _, fun j hj => by cases hj⟩
    · rw [if_neg q]
      refine ⟨PKs_ins h ⟨by show k < 100; omega, ho, hol, hs, ⟨fun e => by have e : k = 2 := e; omega, fun _ => hgo, by show k = 2 ∨ k = 6 ∨ k = 13 ∨ k = 14; omega⟩⟩, ?_, ?_, ?_⟩
      · show _ ≤ (insF L b _).length; rw [insF_len hb]; omega
      · show (insF L b _).length ≤ _; rw [insF_len hb]; omega
      · intro j hj; cases hj; show b < (insF L b _).length; rw [insF_len hb]; omega
theorem userS_ok {L : List PK} {q : Nat} {lb : List Nat} (h : PKs L) (hq : q < L.length) (ho : byt lb) (hol : lb.length ≤ 4096) : PKs (userS L q lb).2 ∧ L.length ≤ (userS L q lb).2.length ∧ (userS L q lb).2.length ≤ L.length + 1 ∧ (∀ j, (userS L q lb).1 = some j → j < (userS L q lb).2.length) := by
  have hsl := sk_le (P := usP) (L := L) (q := q + 1) (by omega)
  unfold userS
  cases hf : findF (bdP 13 lb) L (sk usP L (q + 1) - (q + 1)) (q + 1) with
  | some i =>
    have h1 := (findF_lt hf).2.1
    exact ⟨h, Nat.le_refl _, Nat.le_succ _, fun j hj => by cases hj; show i < L.length; omega⟩
  | none =>
    unfold userK
    by_cases z : 200 < lb.length ∨ cntF L 13 (sk usP L (q + 1) - (q + 1)) (q + 1) = 8
    · rw [if_pos z]; exact ⟨h, Nat.le_refl _, Nat.le_succ _, fun j hj => by cases hj⟩
    · rw [if_neg z]
      refine ⟨PKs_ins h ⟨(by decide : (13 : Nat) < 100), ho, hol, (fun z hz => by cases hz), ⟨fun e => absurd (show (13 : Nat) = 2 from e) (by decide), fun e => absurd (show (13 : Nat) = 6 ∨ (13 : Nat) = 14 from e) (by decide), Or.inr (Or.inr (Or.inl rfl))⟩⟩, ?_, ?_, ?_⟩
      · show _ ≤ (insF L _ _).length; rw [insF_len hsl.1]; omega
      · show (insF L _ _).length ≤ _; rw [insF_len hsl.1]; omega
      · intro j hj; cases hj; show sk usP L (q + 1) < (insF L _ _).length; rw [insF_len hsl.1]; omega
theorem sealS_ok {L : List PK} {q : Nat} {lb : List Nat} (h : PKs L) (hq : q < L.length) (ho : byt lb) (hol : lb.length ≤ 4096) : PKs (sealS L q lb).2 ∧ L.length ≤ (sealS L q lb).2.length ∧ (sealS L q lb).2.length ≤ L.length + 1 := by
  have hsl := sk_le (P := isK 2) (L := L) (q := q + 1) (by omega)
  have h0 : PKs L ∧ L.length ≤ L.length ∧ L.length ≤ L.length + 1 := ⟨h, Nat.le_refl _, Nat.le_succ _⟩
  unfold sealS
  split
  · exact h0
  · next z1 =>
    split
    · exact h0
    · next z2 =>
      split
      · exact h0
      · next z3 =>
        cases hf : findF (bdP 2 lb) L (sk (isK 2) L (q + 1) - (q + 1)) (q + 1) with
        | some i => exact h0
        | none =>
          unfold sealK
          by_cases z : sk (isK 2) L (q + 1) - q - 1 = 16
          · rw [if_pos z]; exact h0
          · rw [if_neg z]
            refine ⟨PKs_ins h ⟨(by decide : (2 : Nat) < 100), ho, hol, (fun z hz => by cases hz), ⟨fun _ => ⟨by simpa using z2, by simpa using z3, Nat.pos_of_ne_zero z1⟩, fun e => absurd (show (2 : Nat) = 6 ∨ (2 : Nat) = 14 from e) (by decide), Or.inl rfl⟩⟩, ?_, ?_⟩
            · show _ ≤ (insF L _ _).length; rw [insF_len hsl.1]; omega
            · show (insF L _ _).length ≤ _; rw [insF_len hsl.1]; omega
