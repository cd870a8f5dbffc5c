set_option maxRecDepth 100000
/-! the things of a ring: seals, numbers, users, parts, keys; by membership in a world -/
/-- a list's own data: its address, its count of changes, its array -/
abbrev LD : Type := Nat × Int32 × Option (Nat × Nat × (Nat → Option Nat))
abbrev SL : Type := Nat × List Nat
abbrev NBr : Type := Nat × List Nat × Option (List Nat)
abbrev US : Type := Nat × List Nat × LD × List SL
abbrev PTt : Type := Nat × NBr × LD × List SL
abbrev KY : Type := Nat × NBr × (LD × List SL) × (LD × List US) × (LD × List PTt)
def lW (dA : Nat → ClassId) (e0 : Nat) (x : LD) (n : Nat) : va_W := alC dA e0 x.1 x.2.1 n x.2.2
/-- a list in a world -/
def LIn (dA : Nat → ClassId) (e0 : Nat) (G : va_W) (x : LD) (it : List Nat) : Prop := (∀ z ∈ lW dA e0 x it.length, z ∈ G) ∧ ALis x.2.2 it
theorem LIn.cell {dA : Nat → ClassId} {e0 : Nat} {G : va_W} {x : LD} {it : List Nat} (h : LIn dA e0 G x it) : ∃ ed, (x.1, .inr (16, [.int x.2.1, .ref ed, .int (nI it.length)])) ∈ G := by
  obtain ⟨la, mo, o⟩ := x
  obtain ⟨h1, h2⟩ := h
  cases o with
  | none => exact ⟨e0, h1 _ List.mem_cons_self⟩
  | some o => exact ⟨o.1, h1 _ List.mem_cons_self⟩
theorem LIn.get {dA : Nat → ClassId} {e0 : Nat} {G : va_W} {x : LD} {it : List Nat} (h : LIn dA e0 G x it) {i a : Nat} (hi : it[i]? = some a) : ∃ ed cap g, (x.1, .inr (16, [.int x.2.1, .ref ed, .int (nI it.length)])) ∈ G ∧ (ed, oar dA cap g) ∈ G ∧ it.length ≤ cap ∧ cap < 10000 ∧ g i = some a := by
  obtain ⟨la, mo, o⟩ := x
  obtain ⟨h1, h2⟩ := h
  have hlt : i < it.length := by
    rcases Nat.lt_or_ge i it.length with q | q
    · exact q
    · rw [List.getElem?_eq_none q] at hi; cases hi
  cases o with
  | none =>
    have e0 : it = [] := h2
    rw [e0] at hlt
    exact absurd hlt (Nat.not_lt_zero _)
  | some o =>
    obtain ⟨ed, cap, g⟩ := o
    obtain ⟨a1, a2, a3, a4⟩ := h2
    refine ⟨ed, cap, g, h1 _ List.mem_cons_self, h1 _ (List.mem_cons_of_mem _ List.mem_cons_self), a1, a2, ?_⟩
    have := a4 i hlt
    rw [show g i = some (gD it i) from this]
    unfold gD
    rw [List.getD_eq_getElem?_getD, hi]
    rfl
theorem LIn.len {dA : Nat → ClassId} {e0 : Nat} {G : va_W} {x : LD} {it : List Nat} (h : LIn dA e0 G x it) : it.length < 10000 := by
  obtain ⟨la, mo, o⟩ := x
  obtain ⟨h1, h2⟩ := h
  cases o with
  | none => have e0 : it = [] := h2; rw [e0]; decide
  | some o => exact Nat.lt_of_le_of_lt h2.1 h2.2.1
theorem LIn.sub {dA : Nat → ClassId} {e0 : Nat} {G G' : va_W} {x : LD} {it : List Nat} (h : LIn dA e0 G x it) (hs : ∀ z ∈ lW dA e0 x it.length, z ∈ G') : LIn dA e0 G' x it := ⟨hs, h.2⟩
theorem cA_size (l : Launch) (D : va_G) (dA : Nat → ClassId) (B : Nat) (Z : State → Prop) (hZ : Stab B Z) (ws : va_W) (e0 : Nat) (x : LD) (it : List Nat) (hA : LIn dA e0 ws x it) :
    Ct (S := Unit) l D dA B Z yJ2_size cJ2_size 1 (some .int) 1 0 0 [.ref x.1] (ws) (fun _ => True) (fun _ => some (.int (nI it.length))) (fun _ => ws) := by
  obtain ⟨ed, hed⟩ := hA.cell
  exact cJ_alSize l D dA B Z hZ ws x.1 ed it.length x.2.1 hed
theorem cA_get (l : Launch) (D : va_G) (dA : Nat → ClassId) (B : Nat) (Z : State → Prop) (hZ : Stab B Z) (ws : va_W) (e0 : Nat) (x : LD) (it : List Nat) (i a : Nat) (hA : LIn dA e0 ws x it) (hi : it[i]? = some a) :
    Ct (S := Unit) l D dA B Z yJ2_get cJ2_get 2 (some ((.object "java/lang/Object"))) 3 0 0 [.ref x.1, .int (nI i)] (ws) (fun _ => True) (fun _ => some (.ref a)) (fun _ => ws) := by
  obtain ⟨ed, cap, g, h1, h2, h3, h4, h5⟩ := hA.get hi
  have hlt : i < it.length := by
    rcases Nat.lt_or_ge i it.length with q | q
    · exact q
    · rw [List.getElem?_eq_none q] at hi; cases hi
  exact cJ_alGet l D dA B Z hZ ws x.1 ed it.length cap i a x.2.1 g h1 h2 hlt h3 (by omega) h5
/-- a row of bytes or null -/
def ROb (dA : Nat → ClassId) (G : va_W) (r : Option Nat) (o : Option (List Nat)) : Prop := match o with | none => r = none | some b => ∃ q, r = some q ∧ (q, bal dA b) ∈ G
theorem ROb.sub {dA : Nat → ClassId} {G G' : va_W} {r : Option Nat} {o : Option (List Nat)} (h : ROb dA G r o) (hs : ∀ b q, (q, bal dA b) ∈ G → (q, bal dA b) ∈ G') : ROb dA G' r o := by
  cases o with
  | none => exact h
  | some b => obtain ⟨q, h1, h2⟩ := h; exact ⟨q, h1, hs _ _ h2⟩
def secB (o : Option (List Nat)) : Prop := ∀ z, o = some z → byt z ∧ z.length ≤ 4096
/-- numbers of a key, whole -/
def NumC (na ba an ae ap : Nat) (sa : Option Nat) (kb : List Nat) : Nat × va_E := (na, .inr (13, [.ref ba, .long (lN (kMade kb)), .ref an, .ref ae, .ref ap, va_rf sa]))
def NumIn (dA : Nat → ClassId) (G : va_W) (x : NBr) : Prop := (byt x.2.1 ∧ x.2.1.length ≤ 4096 ∧ keyOk x.2.1 false = true ∧ secB x.2.2) ∧ ∃ (ba an ae ap : Nat) (sa : Option Nat), (x.1, .inr (13, [.ref ba, .long (lN (kMade x.2.1)), .ref an, .ref ae, .ref ap, va_rf sa])) ∈ G ∧ (ba, bal dA x.2.1) ∈ G ∧ (an, bal dA (kN x.2.1)) ∈ G ∧ (ae, bal dA (kE x.2.1)) ∈ G ∧ (ap, bal dA (sha1 (keyMsg x.2.1))) ∈ G ∧ ROb dA G sa x.2.2
theorem NumIn.sub {dA : Nat → ClassId} {G G' : va_W} {x : NBr} (h : NumIn dA G x) (h1 : ∀ b q, (q, bal dA b) ∈ G → (q, bal dA b) ∈ G') (h2 : ∀ a fs, (a, .inr (13, fs)) ∈ G → (a, .inr (13, fs)) ∈ G') : NumIn dA G' x := by
  obtain ⟨h0, ba, an, ae, ap, sa, q0, q1, q2, q3, q4, q5⟩ := h
  exact ⟨h0, ba, an, ae, ap, sa, h2 _ _ q0, h1 _ _ q1, h1 _ _ q2, h1 _ _ q3, h1 _ _ q4, q5.sub h1⟩
/-- a seal that was read, whole; t is its truth -/
def SealIn (dA : Nat → ClassId) (G : va_W) (x : SL) (t : Int32) : Prop := (byt x.2 ∧ x.2.length ≤ 4096 ∧ sealOk x.2 = true ∧ 0 < x.2.length) ∧ ∃ (ba sn : Nat) (r1 r2 r3 : Option Nat) (w1 w2 w3 : Bool), (x.1, .inr (14, [.ref ba, .int (nI (sType x.2)), .int (nI (sHash x.2)), .int (nI (sEnd x.2)), .int (nI (sLeft x.2)), .ref sn, .long (oL (sNote x.2).1), .long (lN (sNote x.2).2.1), .long (lN (sNote x.2).2.2.1), va_rf r1, va_rf r2, .int (oI (sNote x.2).2.2.2.2.2.2.1), .int (oI (sNote x.2).2.2.2.2.2.2.2.1), va_rf r3, .int (bZ (sVain x.2)), .int t, .int (bZ w1), .int (bZ w2), .int (bZ w3)])) ∈ G ∧ (ba, bal dA x.2) ∈ G ∧ (sn, bal dA (sNum x.2)) ∈ G ∧ ROb dA G r1 (sNote x.2).2.2.2.1 ∧ ROb dA G r2 (sNote x.2).2.2.2.2.1 ∧ ROb dA G r3 (sNote x.2).2.2.2.2.2.1
theorem SealIn.sub {dA : Nat → ClassId} {G G' : va_W} {x : SL} {t : Int32} (h : SealIn dA G x t) (h1 : ∀ b q, (q, bal dA b) ∈ G → (q, bal dA b) ∈ G') (h2 : ∀ a fs, (a, .inr (14, fs)) ∈ G → (a, .inr (14, fs)) ∈ G') : SealIn dA G' x t := by
  obtain ⟨h0, ba, sn, r1, r2, r3, w1, w2, w3, q0, q1, q2, q3, q4, q5⟩ := h
  exact ⟨h0, ba, sn, r1, r2, r3, w1, w2, w3, h2 _ _ q0, h1 _ _ q1, h1 _ _ q2, q3.sub h1, q4.sub h1, q5.sub h1⟩
def SealB (dA : Nat → ClassId) (G : va_W) (x : SL) : Prop := ∃ t, SealIn dA G x t
/-- a user's own cell and bytes -/
def UserIn (dA : Nat → ClassId) (G : va_W) (ua : Nat) (ub : List Nat) (la : Nat) : Prop := (byt ub ∧ ub.length ≤ 4096) ∧ ∃ ba, (ua, .inr (7, [.ref la, .ref ba])) ∈ G ∧ (ba, bal dA ub) ∈ G
theorem UserIn.sub {dA : Nat → ClassId} {G G' : va_W} {ua la : Nat} {ub : List Nat} (h : UserIn dA G ua ub la) (h1 : ∀ b q, (q, bal dA b) ∈ G → (q, bal dA b) ∈ G') (h2 : ∀ a fs, (a, .inr (7, fs)) ∈ G → (a, .inr (7, fs)) ∈ G') : UserIn dA G' ua ub la := by
  obtain ⟨h0, ba, q0, q1⟩ := h
  exact ⟨h0, ba, h2 _ _ q0, h1 _ _ q1⟩
theorem find_hit {α : Type} {f : α → Bool} : ∀ {l : List α} {i : Nat} {y : α}, (∀ j x, j < i → l[j]? = some x → f x = false) → l[i]? = some y → f y = true → l.find? f = some y
  | [], i, y, _, h, _ => by rw [List.getElem?_nil] at h; cases h
  | x :: l, 0, y, _, h, hy => by
    have e : x = y := Option.some.inj h
    rw [List.find?_cons_of_pos (by rw [e]; exact hy), e]
  | x :: l, i + 1, y, hj, h, hy => by
    have e : f x = false := hj 0 x (Nat.succ_pos _) rfl
    rw [List.find?_cons_of_neg (by rw [e]; decide)]
    exact find_hit (fun j z h1 h2 => hj (j + 1) z (Nat.succ_lt_succ h1) h2) h hy
theorem find_miss {α : Type} {f : α → Bool} {l : List α} (hj : ∀ j x, j < l.length → l[j]? = some x → f x = false) : l.find? f = none := by
  rw [List.find?_eq_none]
  intro x hx
  obtain ⟨j, h1⟩ := List.getElem?_of_mem hx
  have hlt : j < l.length := by
    rcases Nat.lt_or_ge j l.length with q | q
    · exact q
    · rw [List.getElem?_eq_none q] at h1; cases h1
  rw [hj j x hlt h1]; decide
theorem any_hit {α : Type} {f : α → Bool} {l : List α} {i : Nat} {y : α} (h : l[i]? = some y) (hy : f y = true) : l.any f = true := List.any_eq_true.mpr ⟨y, List.mem_of_getElem? h, hy⟩
theorem any_miss {α : Type} {f : α → Bool} {l : List α} (hj : ∀ j x, j < l.length → l[j]? = some x → f x = false) : l.any f = false := by
  rw [List.any_eq_false]
  intro x hx
  obtain ⟨j, h1⟩ := List.getElem?_of_mem hx
  have hlt : j < l.length := by
    rcases Nat.lt_or_ge j l.length with q | q
    · exact q
    · rw [List.getElem?_eq_none q] at h1; cases h1
  rw [hj j x hlt h1]; decide
theorem at_lt {α : Type} {l : List α} {i : Nat} (h : i < l.length) : ∃ y, l[i]? = some y := ⟨l[i], List.getElem?_eq_getElem h⟩
theorem at_map {α β : Type} {f : α → β} {l : List α} {i : Nat} {y : α} (h : l[i]? = some y) : (l.map f)[i]? = some (f y) := by rw [List.getElem?_map, h]; rfl
theorem at_step {α : Type} {l : List α} {f : α → Bool} {i : Nat} {y : α} (h : ∀ j x, j < i → l[j]? = some x → f x = false) (hy : l[i]? = some y) (hf : f y = false) : ∀ j x, j < i + 1 → l[j]? = some x → f x = false := by
  intro j x h1 h2
  by_cases q : j = i
  · rw [q, hy] at h2; rw [← Option.some.inj h2]; exact hf
  · exact h j x (by omega) h2
theorem sl8 {g k : Nat → Nat} {a i : Nat} (h : ∀ j, j < i → g (a + j) = k j) (hi : 8 ≤ i) : sl g a 8 = sl k 0 8 := by
  unfold sl
  refine List.map_congr_left (fun j hj => ?_)
  have := List.mem_range.mp hj
  rw [h j (by omega), Nat.zero_add]
/-- more room is room -/
theorem Ct.mono {S : Type} {l : Launch} {D : va_G} {dA : Nat → ClassId} {B : Nat} {Z : State → Prop} {y : MethodName} {cc : ByteArray} {maxL : Nat} {ret : Option FieldType} {d mc ms d' mc' ms' : Nat} {av : List Value} {ws : va_W} {post : S → Prop} {rf : S → Option Value} {wf : S → va_W} (h : Ct l D dA B Z y cc maxL ret d mc ms av ws post rf wf) (h1 : d ≤ d') (h2 : mc ≤ mc') (h3 : ms ≤ ms') : Ct l D dA B Z y cc maxL ret d' mc' ms' av ws post rf wf := by
  intro p e ha hcs hk s m args below k1 k2 k3 k4
  obtain ⟨a1, a2, a3, a4, a5, a6, a7, a8⟩ := (Spec.appliesLoose_iff k1).mp k2
  have a7 : s.hasRoom e.platform (rmD d mc ms) = true := by
    have a7 : s.hasRoom e.platform (rmD d' mc' ms') = true := a7
    simp only [State.hasRoom, Bool.and_eq_true, decide_eq_true_eq] at a7 ⊢
    obtain ⟨⟨⟨⟨b0, b1, b2, b3, b4, b5⟩, b6⟩, b7⟩, b8⟩ := a7
    exact ⟨⟨⟨⟨by omega, by omega, by omega, by omega, by omega, b5⟩, by omega⟩, by omega⟩, b8⟩
  obtain ⟨n, o, g1, g2, g3, g4, L, ⟨f1, f2, f3⟩, f4⟩ := h p e ha hcs hk s m args below k1 ((Spec.appliesLoose_iff k1).mpr ⟨a1, a2, a3, a4, a5, a6, a7, a8⟩) k3 k4
  exact ⟨n, o, g1, g2, g3, g4, L, ⟨f1, f2, by
    obtain ⟨c1, c2, c3, c4, c5, c6⟩ := f3
    exact ⟨c1, c2, by omega, c4, by omega, c6⟩⟩, f4⟩
/-- a contract told in other words -/
theorem Ct.map {S S' : Type} {l : Launch} {D : va_G} {dA : Nat → ClassId} {B : Nat} {Z : State → Prop} {y : MethodName} {cc : ByteArray} {maxL : Nat} {ret : Option FieldType} {d mc ms : Nat} {av : List Value} {ws : va_W} {post : S → Prop} {rf : S → Option Value} {wf : S → va_W} {post' : S' → Prop} {rf' : S' → Option Value} {wf' : S' → va_W} (h : Ct l D dA B Z y cc maxL ret d mc ms av ws post rf wf) (hm : ∀ u, post u → ∃ u', post' u' ∧ rf' u' = rf u ∧ wf' u' = wf u) : Ct l D dA B Z y cc maxL ret d mc ms av ws post' rf' wf' := by
  intro p e ha hf hc s m args below h1 h2 h3 h4
  obtain ⟨n, o, g1, g2, g3, ⟨⟨u, k1, k2, k3⟩, k4⟩, g5⟩ := h p e ha hf hc s m args below h1 h2 h3 h4
  obtain ⟨u', q1, q2, q3⟩ := hm u k2
  exact ⟨n, o, g1, g2, g3, ⟨⟨u', by rw [q2]; exact k1, q1, by rw [q3]; exact k3⟩, k4⟩, g5⟩
/-- what returns only, told as what returns or throws -/
theorem CtX.ofCt {S SX : Type} {l : Launch} {D : va_G} {dA : Nat → ClassId} {B : Nat} {Z : State → Prop} {y : MethodName} {cc : ByteArray} {maxL : Nat} {ret : Option FieldType} {d mc ms : Nat} {av : List Value} {ws : va_W} {post : S → Prop} {rf : S → Option Value} {wf : S → va_W} {px : SX → Prop} {ax : SX → Nat} {en : SX → String} {wx : SX → va_W} (h : Ct l D dA B Z y cc maxL ret d mc ms av ws post rf wf) : CtX l D dA B Z y cc maxL ret d mc ms av ws post rf wf px ax en wx := by
  intro p e ha hf hc s m args below h1 h2 h3 h4
  obtain ⟨n, o, g1, g2, g3, g4⟩ := h p e ha hf hc s m args below h1 h2 h3 h4
  exact ⟨n, o, g1, g2, g3, Or.inl g4⟩
theorem CtX.map {S S' SX SX' : Type} {l : Launch} {D : va_G} {dA : Nat → ClassId} {B : Nat} {Z : State → Prop} {y : MethodName} {cc : ByteArray} {maxL : Nat} {ret : Option FieldType} {d mc ms : Nat} {av : List Value} {ws : va_W} {post : S → Prop} {rf : S → Option Value} {wf : S → va_W} {px : SX → Prop} {ax : SX → Nat} {en : SX → String} {wx : SX → va_W} {post' : S' → Prop} {rf' : S' → Option Value} {wf' : S' → va_W} {px' : SX' → Prop} {ax' : SX' → Nat} {en' : SX' → String} {wx' : SX' → va_W} (h : CtX l D dA B Z y cc maxL ret d mc ms av ws post rf wf px ax en wx) (hm : ∀ u, post u → ∃ u', post' u' ∧ rf' u' = rf u ∧ wf' u' = wf u) (hx : ∀ u, px u → ∃ u', px' u' ∧ ax' u' = ax u ∧ en' u' = en u ∧ wx' u' = wx u) : CtX l D dA B Z y cc maxL ret d mc ms av ws post' rf' wf' px' ax' en' wx' := by
  intro p e ha hf hc s m args below h1 h2 h3 h4
  obtain ⟨n, o, g1, g2, g3, g4⟩ := h p e ha hf hc s m args below h1 h2 h3 h4
  refine ⟨n, o, g1, g2, g3, ?_⟩
  rcases g4 with ⟨⟨⟨u, k1, k2, k3⟩, k4⟩, g5⟩ | ⟨q, e1, E, ce, L, ⟨⟨u, k1, k2, k3, k4⟩, k5⟩, g5⟩
  · obtain ⟨u', q1, q2, q3⟩ := hm u k2
    exact Or.inl ⟨⟨⟨u', by rw [q2]; exact k1, q1, by rw [q3]; exact k3⟩, k4⟩, g5⟩
  · obtain ⟨u', q1, q2, q3, q4⟩ := hx u k3
    exact Or.inr ⟨q, e1, E, ce, L, ⟨⟨u', by rw [q3]; exact k1, by rw [q2]; exact k2, q1, by rw [q4]; exact k4⟩, k5⟩, g5⟩
theorem CtX.mono {S SX : Type} {l : Launch} {D : va_G} {dA : Nat → ClassId} {B : Nat} {Z : State → Prop} {y : MethodName} {cc : ByteArray} {maxL : Nat} {ret : Option FieldType} {d mc ms d' mc' ms' : Nat} {av : List Value} {ws : va_W} {post : S → Prop} {rf : S → Option Value} {wf : S → va_W} {px : SX → Prop} {ax : SX → Nat} {en : SX → String} {wx : SX → va_W} (h : CtX l D dA B Z y cc maxL ret d mc ms av ws post rf wf px ax en wx) (h1 : d ≤ d') (h2 : mc ≤ mc') (h3 : ms ≤ ms') : CtX l D dA B Z y cc maxL ret d' mc' ms' av ws post rf wf px ax en wx := by
  intro p e ha hcs hk s m args below k1 k2 k3 k4
  obtain ⟨a1, a2, a3, a4, a5, a6, a7, a8⟩ := (Spec.appliesLoose_iff k1).mp k2
  have a7 : s.hasRoom e.platform (rmD d mc ms) = true := by
    have a7 : s.hasRoom e.platform (rmD d' mc' ms') = true := a7
    simp only [State.hasRoom, Bool.and_eq_true, decide_eq_true_eq] at a7 ⊢
    obtain ⟨⟨⟨⟨b0, b1, b2, b3, b4, b5⟩, b6⟩, b7⟩, b8⟩ := a7
    exact ⟨⟨⟨⟨by omega, by omega, by omega, by omega, by omega, b5⟩, by omega⟩, by omega⟩, b8⟩
  obtain ⟨n, o, g1, g2, g3, g4⟩ := h p e ha hcs hk s m args below k1 ((Spec.appliesLoose_iff k1).mpr ⟨a1, a2, a3, a4, a5, a6, a7, a8⟩) k3 k4
  refine ⟨n, o, g1, g2, g3, ?_⟩
  rcases g4 with ⟨g4, L, ⟨f1, f2, f3⟩, f4⟩ | ⟨q, e1, E, ce, L, w1, w2, w3, w4, w5, f3, f4⟩
  · exact Or.inl ⟨g4, L, ⟨f1, f2, by
      obtain ⟨c1, c2, c3, c4, c5, c6⟩ := f3
      exact ⟨c1, c2, by omega, c4, by omega, c6⟩⟩, f4⟩
  · exact Or.inr ⟨q, e1, E, ce, L, w1, w2, w3, w4, w5, by
      obtain ⟨c1, c2, c3, c4, c5, c6⟩ := f3
      exact ⟨c1, c2, by omega, c4, by omega, c6⟩, f4⟩
/-- a list is copied into a new one -/
theorem cA_addAll (l : Launch) (D : va_G) (dA : Nat → ClassId) (B : Nat) (Z : State → Prop) (hZ : Stab B Z) (F : va_W) (al e0 mi : Nat) (mo : Int32) (x : LD) (it : List Nat) (ci : Nat) (rC9 : vw_C) (hci : vwCl[ci]? = some rC9) (hca : Cond.castable rC9.1 "java/lang/Object" ∈ lw_tbl) (hzs : ZS dA B Z) (hza : ZA B e0 mi Z) (hA : LIn dA e0 F x it) (hne : x.2.2 = none ∨ 0 < it.length) (hsm : it.length < 5000) (hel : ∀ y ∈ it, ∃ fs, (y, .inr (ci, fs)) ∈ F) :
    Ct (S := Option (Nat × Nat × (Nat → Option Nat)) × va_W) l D dA B Z yJ2_addAll cJ2_addAll 6 (some .boolean) 5 2 (2 * it.length + 10) [.ref al, .ref x.1] ([(al, .inr (16, [.int mo, .ref e0, .int (nI 0)]))] ++ F) (fun u => ALis u.1 it ∧ (u.1 = none ∨ 0 < it.length)) (fun _ => some (.int (bZ (decide (0 < it.length))))) (fun u => lW dA e0 (al, mo + nI 1, u.1) it.length ++ (F ++ u.2)) := by
  obtain ⟨la, m2, o⟩ := x
  obtain ⟨h1, h2⟩ := hA
  cases o with
  | none =>
    have e1 : it = [] := h2
    have e2 : it.length = 0 := by rw [e1]; rfl
    have hm : (la, .inr (16, [.int m2, .ref e0, .int (nI 0)])) ∈ F := by rw [← e2]; exact h1 _ List.mem_cons_self
    refine Ct.map (Ct.mono (cJ_addAllZ l D dA B Z hZ F al la e0 mi mo m2 hzs hza hm) (Nat.le_refl _) (by decide) (Nat.zero_le _)) (fun q _ => ⟨(none, [(q, oar dA 0 (fun _ => none))]), ⟨e1, Or.inl rfl⟩, ?_, ?_⟩)
    · rw [e2]; rfl
    · rw [e2]; rfl
  | some o =>
    obtain ⟨ed, cap, g⟩ := o
    obtain ⟨a1, a2, a3, a4⟩ := h2
    dsimp only at a1 a2 a3 a4
    have h0 : 0 < it.length := hne.elim (fun q => by cases q) id
    refine Ct.map (Ct.mono (cJ_addAllW l D dA B Z hZ F al la ed it.length cap e0 mi mo m2 g ci rC9 hci hca hzs hza (h1 _ List.mem_cons_self) (h1 _ (List.mem_cons_of_mem _ List.mem_cons_self)) h0 a1 (by omega) a2 (fun j hj y hy => ?_)) (Nat.le_refl _) (Nat.le_refl _) (by omega)) (fun u _ => ⟨(some (u.1, max 10 it.length, va_cpy (va_cpy g (fun _ => none) 0 0 it.length) (fun _ => none) 0 0 it.length), [(u.2, oar dA it.length (va_cpy g (fun _ => none) 0 0 it.length))]), ⟨⟨by show it.length ≤ max 10 it.length; omega, by show max 10 it.length < 10000; omega, by show 0 < max 10 it.length; omega, fun j hj => ?_⟩, Or.inr h0⟩, ?_, rfl⟩)
    · rw [a4 j hj] at hy
      have e9 : gD it j = y := Option.some.inj hy
      refine hel y ?_
      rw [← e9]
      unfold gD
      rw [List.getD_eq_getElem?_getD, List.getElem?_eq_getElem hj]
      exact List.getElem_mem _
    · show va_cpy (va_cpy g (fun _ => none) 0 0 it.length) (fun _ => none) 0 0 it.length j = some (gD it j)
      rw [cpy_lo hj, cpy_lo hj]
      exact a4 j hj
    · rw [decide_eq_true h0]
def SlOk (dA : Nat → ClassId) (G : va_W) (x : LD) (sls : List SL) : Prop := ALis x.2.2 (sls.map Prod.fst) ∧ (x.2.2 = none ∨ 0 < sls.length) ∧ sls.length ≤ 16 ∧ ∀ y ∈ sls, SealB dA G y
theorem SlOk.lin {dA : Nat → ClassId} {e0 : Nat} {G : va_W} {x : LD} {sls : List SL} (h : SlOk dA G x sls) (hm : ∀ z ∈ lW dA e0 x sls.length, z ∈ G) : LIn dA e0 G x (sls.map Prod.fst) := ⟨by rw [List.length_map]; exact hm, h.1⟩
theorem SealB.cl {dA : Nat → ClassId} {G : va_W} {x : SL} (h : SealB dA G x) : ∃ fs, (x.1, .inr (14, fs)) ∈ G := by
  obtain ⟨t, _, ba, sn, r1, r2, r3, w1, w2, w3, q0, _⟩ := h
  exact ⟨_, q0⟩
theorem SealB.sub {dA : Nat → ClassId} {G G' : va_W} {x : SL} (h : SealB dA G x) (h1 : ∀ z ∈ G, z ∈ G') : SealB dA G' x := by
  obtain ⟨t, h⟩ := h
  exact ⟨t, h.sub (fun b q hq => h1 _ hq) (fun a fs hq => h1 _ hq)⟩
theorem SlOk.sub {dA : Nat → ClassId} {G G' : va_W} {x : LD} {sls : List SL} (h : SlOk dA G x sls) (h1 : ∀ z ∈ G, z ∈ G') : SlOk dA G' x sls := ⟨h.1, h.2.1, h.2.2.1, fun y hy => (h.2.2.2 y hy).sub h1⟩
/-- the seals' cells, for a list of their addresses -/
theorem SlOk.el {dA : Nat → ClassId} {G : va_W} {x : LD} {sls : List SL} (h : SlOk dA G x sls) : ∀ y ∈ sls.map Prod.fst, ∃ fs, (y, .inr (14, fs)) ∈ G := by
  intro y hy
  obtain ⟨z, hz, e⟩ := List.mem_map.mp hy
  rw [← e]
  exact (h.2.2.2 z hz).cl
def usW (dA : Nat → ClassId) (e0 : Nat) (u : US) : va_W := lW dA e0 u.2.2.1 u.2.2.2.length
def ptW (dA : Nat → ClassId) (e0 : Nat) (x : PTt) : va_W := [(x.1, .inr (8, [.ref x.2.2.1.1, .ref x.2.1.1]))] ++ lW dA e0 x.2.2.1 x.2.2.2.length
def kyW0 (dA : Nat → ClassId) (e0 : Nat) (k : KY) : va_W := [(k.1, .inr (6, [.ref k.2.2.1.1.1, .ref k.2.1.1, .ref k.2.2.2.1.1.1, .ref k.2.2.2.2.1.1]))] ++ (lW dA e0 k.2.2.1.1 k.2.2.1.2.length ++ (lW dA e0 k.2.2.2.1.1 k.2.2.2.1.2.length ++ lW dA e0 k.2.2.2.2.1 k.2.2.2.2.2.length))
def kyW (dA : Nat → ClassId) (e0 : Nat) (k : KY) : va_W := kyW0 dA e0 k ++ (k.2.2.2.1.2.flatMap (usW dA e0) ++ k.2.2.2.2.2.flatMap (ptW dA e0))
def UsIn (dA : Nat → ClassId) (G : va_W) (u : US) : Prop := UserIn dA G u.1 u.2.1 u.2.2.1.1 ∧ SlOk dA G u.2.2.1 u.2.2.2
def PtIn (dA : Nat → ClassId) (G : va_W) (x : PTt) : Prop := NumIn dA G x.2.1 ∧ SlOk dA G x.2.2.1 x.2.2.2
def LsOk {α : Type} (x : LD) (ls : List (Nat × α)) (n : Nat) : Prop := ALis x.2.2 (ls.map Prod.fst) ∧ (x.2.2 = none ∨ 0 < ls.length) ∧ ls.length ≤ n
def KyIn (dA : Nat → ClassId) (G : va_W) (k : KY) : Prop := NumIn dA G k.2.1 ∧ SlOk dA G k.2.2.1.1 k.2.2.1.2 ∧ LsOk k.2.2.2.1.1 k.2.2.2.1.2 8 ∧ LsOk k.2.2.2.2.1 k.2.2.2.2.2 8 ∧ (∀ u ∈ k.2.2.2.1.2, UsIn dA G u) ∧ ∀ x ∈ k.2.2.2.2.2, PtIn dA G x
theorem UsIn.sub {dA : Nat → ClassId} {G G' : va_W} {u : US} (h : UsIn dA G u) (h1 : ∀ z ∈ G, z ∈ G') : UsIn dA G' u := ⟨h.1.sub (fun b q hq => h1 _ hq) (fun a fs hq => h1 _ hq), h.2.sub h1⟩
theorem PtIn.sub {dA : Nat → ClassId} {G G' : va_W} {u : PTt} (h : PtIn dA G u) (h1 : ∀ z ∈ G, z ∈ G') : PtIn dA G' u := ⟨h.1.sub (fun b q hq => h1 _ hq) (fun a fs hq => h1 _ hq), h.2.sub h1⟩
theorem KyIn.sub {dA : Nat → ClassId} {G G' : va_W} {k : KY} (h : KyIn dA G k) (h1 : ∀ z ∈ G, z ∈ G') : KyIn dA G' k := ⟨h.1.sub (fun b q hq => h1 _ hq) (fun a fs hq => h1 _ hq), h.2.1.sub h1, h.2.2.1, h.2.2.2.1, fun u hu => (h.2.2.2.2.1 u hu).sub h1, fun u hu => (h.2.2.2.2.2 u hu).sub h1⟩
/-- what a thing is, but for its places -/
def usC (u : US) : List Nat × List SL := (u.2.1, u.2.2.2)
def ptC (x : PTt) : NBr × List SL := (x.2.1, x.2.2.2)
theorem alS_le {x : Option (Nat × Nat × (Nat → Option Nat))} {it : List Nat} (h : ALis x it) : alS x it.length ≤ 2 * it.length + 11 ∧ alK x it.length ≤ 1 := by
  cases x with
  | none => exact ⟨by show 10 ≤ _; omega, by show 1 ≤ 1; omega⟩
  | some x =>
    obtain ⟨ed, cap, g⟩ := x
    obtain ⟨a1, a2, a3, a4⟩ := h
    dsimp only at a1 a2 a3 a4
    unfold alS alK
    dsimp only
    by_cases q : it.length < cap
    · rw [if_pos q, if_pos q]; omega
    · rw [if_neg q, if_neg q]; omega
/-- add, told for a list of things -/
theorem cA_add (l : Launch) (D : va_G) (dA : Nat → ClassId) (B : Nat) (Z : State → Prop) (hZ : Stab B Z) (F : va_W) (e0 mi : Nat) (x : LD) (it : List Nat) (v : Nat) (fs9 : List Value) (ci : Nat) (rC9 : vw_C) (hci : vwCl[ci]? = some rC9) (hca : Cond.castable rC9.1 "java/lang/Object" ∈ lw_tbl) (hzs : ZS dA B Z) (hza : ZA B e0 mi Z) (hv : (v, .inr (ci, fs9)) ∈ F) (hx : ALis x.2.2 it) (hsm : it.length < 5000) (hel : ∀ y ∈ it, ∃ fs, (y, .inr (ci, fs)) ∈ F) :
    Ct (S := Int32 × Option (Nat × Nat × (Nat → Option Nat)) × va_W) l D dA B Z yJ2_add cJ2_add 2 (some .boolean) 7 1 (2 * it.length + 11) [.ref x.1, .ref v] (lW dA e0 x it.length ++ F) (fun u => ALis u.2.1 (it ++ [v]) ∧ u.2.1 ≠ none) (fun _ => some (.int (bZ true))) (fun u => lW dA e0 (x.1, u.1, u.2.1) (it ++ [v]).length ++ (F ++ u.2.2)) := by
  obtain ⟨la, mo, o⟩ := x
  have hb := alS_le hx
  exact Ct.map (Ct.mono (cJ_add l D dA B Z hZ F la e0 mi mo o it v fs9 ci rC9 hci hca hzs hza hv hx hsm hel) (Nat.le_refl _) hb.2 hb.1) (fun u hu => ⟨(mo + nI 1, some (u.1, u.2.1, u.2.2.1), u.2.2.2), ⟨hu, fun q => by cases q⟩, rfl, rfl⟩)
theorem lW_cell (dA : Nat → ClassId) (e0 : Nat) (x : LD) (n : Nat) : ∃ ed, (x.1, .inr (16, [.int x.2.1, .ref ed, .int (nI n)])) ∈ lW dA e0 x n := by
  obtain ⟨la, mo, o⟩ := x
  cases o with
  | none => exact ⟨e0, List.mem_cons_self⟩
  | some o => exact ⟨o.1, List.mem_cons_self⟩
section KY9
variable {dA : Nat → ClassId} {e0 : Nat} {G : va_W} {k : KY}
theorem KyIn.kc (hk : ∀ z ∈ kyW dA e0 k, z ∈ G) : (k.1, .inr (6, [.ref k.2.2.1.1.1, .ref k.2.1.1, .ref k.2.2.2.1.1.1, .ref k.2.2.2.2.1.1])) ∈ G := hk _ (List.mem_append_left _ (List.mem_append_left _ List.mem_cons_self))
theorem KyIn.sw (hk : ∀ z ∈ kyW dA e0 k, z ∈ G) : ∀ z ∈ lW dA e0 k.2.2.1.1 k.2.2.1.2.length, z ∈ G := fun z hz => hk _ (List.mem_append_left _ (List.mem_append_right _ (List.mem_append_left _ hz)))
theorem KyIn.uw (hk : ∀ z ∈ kyW dA e0 k, z ∈ G) : ∀ z ∈ lW dA e0 k.2.2.2.1.1 k.2.2.2.1.2.length, z ∈ G := fun z hz => hk _ (List.mem_append_left _ (List.mem_append_right _ (List.mem_append_right _ (List.mem_append_left _ hz))))
theorem KyIn.pw (hk : ∀ z ∈ kyW dA e0 k, z ∈ G) : ∀ z ∈ lW dA e0 k.2.2.2.2.1 k.2.2.2.2.2.length, z ∈ G := fun z hz => hk _ (List.mem_append_left _ (List.mem_append_right _ (List.mem_append_right _ (List.mem_append_right _ hz))))
theorem KyIn.usw (hk : ∀ z ∈ kyW dA e0 k, z ∈ G) {u : US} (hu : u ∈ k.2.2.2.1.2) : ∀ z ∈ lW dA e0 u.2.2.1 u.2.2.2.length, z ∈ G := fun z hz => hk _ (List.mem_append_right _ (List.mem_append_left _ (List.mem_flatMap.mpr ⟨u, hu, hz⟩)))
theorem KyIn.ptw (hk : ∀ z ∈ kyW dA e0 k, z ∈ G) {u : PTt} (hu : u ∈ k.2.2.2.2.2) : ∀ z ∈ ptW dA e0 u, z ∈ G := fun z hz => hk _ (List.mem_append_right _ (List.mem_append_right _ (List.mem_flatMap.mpr ⟨u, hu, hz⟩)))
theorem KyIn.sl (h : KyIn dA G k) (hk : ∀ z ∈ kyW dA e0 k, z ∈ G) : LIn dA e0 G k.2.2.1.1 (k.2.2.1.2.map Prod.fst) := h.2.1.lin (KyIn.sw hk)
theorem KyIn.ul (h : KyIn dA G k) (hk : ∀ z ∈ kyW dA e0 k, z ∈ G) : LIn dA e0 G k.2.2.2.1.1 (k.2.2.2.1.2.map Prod.fst) := ⟨by rw [List.length_map]; exact KyIn.uw hk, h.2.2.1.1⟩
theorem KyIn.pl (h : KyIn dA G k) (hk : ∀ z ∈ kyW dA e0 k, z ∈ G) : LIn dA e0 G k.2.2.2.2.1 (k.2.2.2.2.2.map Prod.fst) := ⟨by rw [List.length_map]; exact KyIn.pw hk, h.2.2.2.1.1⟩
theorem KyIn.us (h : KyIn dA G k) (hk : ∀ z ∈ kyW dA e0 k, z ∈ G) {u : US} (hu : u ∈ k.2.2.2.1.2) : LIn dA e0 G u.2.2.1 (u.2.2.2.map Prod.fst) := (h.2.2.2.2.1 u hu).2.lin (KyIn.usw hk hu)
theorem KyIn.pt (h : KyIn dA G k) (hk : ∀ z ∈ kyW dA e0 k, z ∈ G) {u : PTt} (hu : u ∈ k.2.2.2.2.2) : LIn dA e0 G u.2.2.1 (u.2.2.2.map Prod.fst) := (h.2.2.2.2.2 u hu).2.lin (fun z hz => KyIn.ptw hk hu z (List.mem_append_right _ hz))
theorem KyIn.ptc (hk : ∀ z ∈ kyW dA e0 k, z ∈ G) {u : PTt} (hu : u ∈ k.2.2.2.2.2) : (u.1, .inr (8, [.ref u.2.2.1.1, .ref u.2.1.1])) ∈ G := KyIn.ptw hk hu _ (List.mem_append_left _ List.mem_cons_self)
end KY9
def sumL {α : Type} (f : α → Nat) (l : List α) : Nat := (l.map f).sum
theorem sumL_step {α : Type} {f : α → Nat} {l : List α} {i : Nat} {y : α} (h : l[i]? = some y) : sumL f (l.take (i + 1)) = sumL f (l.take i) + f y := by
  unfold sumL
  rw [List.take_succ, h, List.map_append, List.sum_append]
  simp
theorem sumL_all {α : Type} {f : α → Nat} {l : List α} {i : Nat} (h : l.length ≤ i) : sumL f (l.take i) = sumL f l := by rw [List.take_of_length_le h]
theorem take_map_step {α β : Type} {f : α → β} {l : List α} {i : Nat} {y : α} (h : l[i]? = some y) : (l.take (i + 1)).map f = (l.take i).map f ++ [f y] := by
  rw [List.take_succ, h, List.map_append]; rfl
