set_option maxRecDepth 100000
/-! questions over the whole scratch of the class -/
theorem Ct.mapP {S S' : Type} {l : Launch} {D : va_G} {dA : Nat → ClassId} {B : Nat} {Z : State → Prop} {y : MethodName} {cc : ByteArray} {maxL : Nat} {ret : Option FieldType} {d mc ms : Nat} {av : List Value} {ws : va_W} {post : S → Prop} {rf : S → Option Value} {wf : S → va_W} {post' : S' → Prop} {rf' : S' → Option Value} {wf' : S' → va_W} (h : Ct l D dA B Z y cc maxL ret d mc ms av ws post rf wf) (hm : ∀ u, post u → ∃ u', post' u' ∧ rf' u' = rf u ∧ (wf u).Perm (wf' u')) : Ct l D dA B Z y cc maxL ret d mc ms av ws post' rf' wf' := by
  intro p e ha hf hc s m args below h1 h2 h3 h4
  obtain ⟨n, o, g1, g2, g3, ⟨⟨u, k1, k2, k3⟩, k4⟩, g5⟩ := h p e ha hf hc s m args below h1 h2 h3 h4
  obtain ⟨u', q1, q2, q3⟩ := hm u k2
  exact ⟨n, o, g1, g2, g3, ⟨⟨u', by rw [q2]; exact k1, q1, k3.permL q3⟩, k4⟩, g5⟩
abbrev QS : Type := HS × HS × (Nat → Nat) × PS
def qW (dA : Nat → ClassId) (A : Nat → Nat) (O : va_W) (q : QS) : va_W := h4C dA (A 0) (A 1) (A 2) (A 3) (A 4) q.1 ++ (h5C dA (A 5) (A 6) (A 7) (A 8) (A 9) (A 10) q.2.1 ++ ([(A 11, bar dA 32 q.2.2.1)] ++ (pwC dA (A 12) (A 13) (A 14) (A 15) (A 16) q.2.2.2 ++ O)))
def QOk (q : QS) : Prop := (∀ j, j < 64 → q.1.2.2.2.2 j < 256) ∧ (∀ j, j < 64 → q.2.1.2.2.2.2 j < 256) ∧ ∀ j, q.2.2.1 j < 256
/-- the ring's own cell -/
def meC (A : Nat → Nat) (sz dc rg : Nat) : Nat × va_E := (A 24, .inr (0, [.ref (A 23), .int (nI sz), .ref dc, .ref (A 17), .ref rg, .ref (A 0), .ref (A 5), .ref (A 11), .ref (A 12), .ref (A 18), .ref (A 19), .ref (A 20), .ref (A 21), .ref (A 22)]))
def QF (dA : Nat → ClassId) (A : Nat → Nat) (sz dc rg : Nat) (G : va_W) : Prop := (A 2, war dA 5 (t5 in1)) ∈ G ∧ (A 7, war dA 8 in2) ∈ G ∧ meC A sz dc rg ∈ G
def ZQ (B f1 f2 : Nat) (Z : State → Prop) : Prop := (∀ U : State, Z U → ∃ t, va_Z "SignetRing$Second" "ADD" "[I" (.ref t) (bA B) U U.heap ∧ va_T .int t 64 (fun j => .int (K2 j)) (bA B) U U.heap) ∧ ZF B f1 f2 Z ∧ ZN Z
theorem TR.qf {dA : Nat → ClassId} {cx : CX} {G G' : va_W} (h : TR dA cx G G') {A : Nat → Nat} {sz dc rg : Nat} (hq : QF dA A sz dc rg G) : QF dA A sz dc rg G' := ⟨h.1 _ _ hq.1 (fun fs z => by cases z), h.1 _ _ hq.2.1 (fun fs z => by cases z), h.ob (by decide) hq.2.2⟩
theorem TR.us {dA : Nat → ClassId} {cx : CX} {G G' : va_W} (h : TR dA cx G G') {ua la : Nat} {ub : List Nat} (hq : UserIn dA G ua ub la) : UserIn dA G' ua ub la := hq.sub (fun _ _ k => h.ba k) (fun _ _ k => h.ob (by decide) k)
theorem cQ_isTrueK (l : Launch) (D : va_G) (dA : Nat → ClassId) (B : Nat) (Z : State → Prop) (hZ : Stab B Z) (G : va_W) (A : Nat → Nat) (O : va_W) (sz dc rg f1 f2 ka a1 a2 a3 : Nat) (q : QS) (cx : CX) (x : SL) (kn : NBr) (hzq : ZQ B f1 f2 Z) (hQF : QF dA A sz dc rg G) (hQ : QOk q) (hS : SealT dA cx G x) (hk : (ka, .inr (6, [.ref a1, .ref kn.1, .ref a2, .ref a3])) ∈ G) (hkn : NumIn dA G kn) (hcx : cx x.1 = (keyMsg kn.2.1, kn.2.1)) :
    Ct (S := QS × va_W) l D dA B Z yX1_isTrue_2 cX1_isTrue_2 8 (some .boolean) 8 2 256 [.ref (A 24), .ref x.1, .ref ka, .ref ka, .ref kn.1] (qW dA A O q ++ G) (fun u => QOk u.1 ∧ TR dA cx G u.2) (fun _ => some (.int (bZ (trueS (keyMsg kn.2.1) x.2 kn.2.1)))) (fun u => qW dA A O u.1 ++ u.2) := by
  obtain ⟨hz1, hz2, hz3⟩ := hzq
  obtain ⟨hf1, hf2, hme⟩ := hQF
  obtain ⟨hq1, hq2, hq3⟩ := hQ
  by_cases hsh : sHash x.2 = 2
  · refine Ct.mapP (Ct.perm (c1_isTrue4K l D dA B Z hZ (h5C dA (A 5) (A 6) (A 7) (A 8) (A 9) (A 10) q.2.1 ++ O) G (A 0) (A 1) (A 2) (A 3) (A 4) (A 24) (A 23) dc (A 17) rg (A 5) (A 11) (A 18) (A 19) (A 20) (A 21) (A 22) sz (A 12) (A 13) (A 14) (A 15) (A 16) f1 f2 ka a1 a2 a3 q.1 q.2.2.1 q.2.2.2 cx x kn hf1 hz2 hz3 hme hS hk hkn hsh hcx hq1 hq3) ?_) (fun u hu => ⟨((u.1, q.2.1, u.2.1, u.2.2.1), u.2.2.2), ⟨⟨hu.2.1, hq2, hu.1⟩, hu.2.2⟩, rfl, ?_⟩)
    · unfold qW; exact (perm_add (fun g f p0 p1 p2 => by (try simp only [p0, p1, p2]) <;> omega))
    · unfold qW; exact (perm_add (fun g f p0 p1 p2 => by (try simp only [p0, p1, p2]) <;> omega))
  · refine Ct.mapP (Ct.perm (c1_isTrue5K l D dA B Z hZ (h4C dA (A 0) (A 1) (A 2) (A 3) (A 4) q.1 ++ O) G (A 5) (A 6) (A 7) (A 8) (A 9) (A 10) (A 24) (A 23) dc (A 17) rg (A 0) (A 11) (A 18) (A 19) (A 20) (A 21) (A 22) sz (A 12) (A 13) (A 14) (A 15) (A 16) f1 f2 ka a1 a2 a3 q.2.1 q.2.2.1 q.2.2.2 cx x kn hz1 hf2 hz2 hz3 hme hS hk hkn hsh hcx hq2 hq3) ?_) (fun u hu => ⟨((q.1, u.1, u.2.1, u.2.2.1), u.2.2.2), ⟨⟨hq1, hu.2.1, hu.1⟩, hu.2.2⟩, rfl, ?_⟩)
    · unfold qW; exact (perm_add (fun g f p0 p1 p2 => by (try simp only [p0, p1, p2]) <;> omega))
    · unfold qW; exact (perm_add (fun g f p0 p1 p2 => by (try simp only [p0, p1, p2]) <;> omega))
theorem cQ_isTrueU (l : Launch) (D : va_G) (dA : Nat → ClassId) (B : Nat) (Z : State → Prop) (hZ : Stab B Z) (G : va_W) (A : Nat → Nat) (O : va_W) (sz dc rg f1 f2 ka a1 a2 a3 : Nat) (q : QS) (cx : CX) (x : SL) (kn : NBr) (oa la : Nat) (ub : List Nat) (hzq : ZQ B f1 f2 Z) (hQF : QF dA A sz dc rg G) (hQ : QOk q) (hS : SealT dA cx G x) (hk : (ka, .inr (6, [.ref a1, .ref kn.1, .ref a2, .ref a3])) ∈ G) (hkn : NumIn dA G kn) (hof : UserIn dA G oa ub la) (hcx : cx x.1 = (keyMsg kn.2.1 ++ ([180] ++ be 4 ub.length ++ ub), kn.2.1)) :
    Ct (S := QS × va_W) l D dA B Z yX1_isTrue_2 cX1_isTrue_2 8 (some .boolean) 8 2 256 [.ref (A 24), .ref x.1, .ref ka, .ref oa, .ref kn.1] (qW dA A O q ++ G) (fun u => QOk u.1 ∧ TR dA cx G u.2) (fun _ => some (.int (bZ (trueS (keyMsg kn.2.1 ++ ([180] ++ be 4 ub.length ++ ub)) x.2 kn.2.1)))) (fun u => qW dA A O u.1 ++ u.2) := by
  obtain ⟨hz1, hz2, hz3⟩ := hzq
  obtain ⟨hf1, hf2, hme⟩ := hQF
  obtain ⟨hq1, hq2, hq3⟩ := hQ
  by_cases hsh : sHash x.2 = 2
  · refine Ct.mapP (Ct.perm (c1_isTrue4U l D dA B Z hZ (h5C dA (A 5) (A 6) (A 7) (A 8) (A 9) (A 10) q.2.1 ++ O) G (A 0) (A 1) (A 2) (A 3) (A 4) (A 24) (A 23) dc (A 17) rg (A 5) (A 11) (A 18) (A 19) (A 20) (A 21) (A 22) sz (A 12) (A 13) (A 14) (A 15) (A 16) f1 f2 ka a1 a2 a3 q.1 q.2.2.1 q.2.2.2 cx x kn oa la ub hf1 hz2 hz3 hme hS hk hkn hof hsh hcx hq1 hq3) ?_) (fun u hu => ⟨((u.1, q.2.1, u.2.1, u.2.2.1), u.2.2.2), ⟨⟨hu.2.1, hq2, hu.1⟩, hu.2.2⟩, rfl, ?_⟩)
    · unfold qW; exact (perm_add (fun g f p0 p1 p2 => by (try simp only [p0, p1, p2]) <;> omega))
    · unfold qW; exact (perm_add (fun g f p0 p1 p2 => by (try simp only [p0, p1, p2]) <;> omega))
  · refine Ct.mapP (Ct.perm (c1_isTrue5U l D dA B Z hZ (h4C dA (A 0) (A 1) (A 2) (A 3) (A 4) q.1 ++ O) G (A 5) (A 6) (A 7) (A 8) (A 9) (A 10) (A 24) (A 23) dc (A 17) rg (A 0) (A 11) (A 18) (A 19) (A 20) (A 21) (A 22) sz (A 12) (A 13) (A 14) (A 15) (A 16) f1 f2 ka a1 a2 a3 q.2.1 q.2.2.1 q.2.2.2 cx x kn oa la ub hz1 hf2 hz2 hz3 hme hS hk hkn hof hsh hcx hq2 hq3) ?_) (fun u hu => ⟨((q.1, u.1, u.2.1, u.2.2.1), u.2.2.2), ⟨⟨hq1, hu.2.1, hu.1⟩, hu.2.2⟩, rfl, ?_⟩)
    · unfold qW; exact (perm_add (fun g f p0 p1 p2 => by (try simp only [p0, p1, p2]) <;> omega))
    · unfold qW; exact (perm_add (fun g f p0 p1 p2 => by (try simp only [p0, p1, p2]) <;> omega))
theorem cQ_isTrueP (l : Launch) (D : va_G) (dA : Nat → ClassId) (B : Nat) (Z : State → Prop) (hZ : Stab B Z) (G : va_W) (A : Nat → Nat) (O : va_W) (sz dc rg f1 f2 ka a1 a2 a3 : Nat) (q : QS) (cx : CX) (x : SL) (kn : NBr) (oa la : Nat) (pn by9 : NBr) (hzq : ZQ B f1 f2 Z) (hQF : QF dA A sz dc rg G) (hQ : QOk q) (hS : SealT dA cx G x) (hk : (ka, .inr (6, [.ref a1, .ref kn.1, .ref a2, .ref a3])) ∈ G) (hkn : NumIn dA G kn) (hof : (oa, .inr (8, [.ref la, .ref pn.1])) ∈ G) (hpn : NumIn dA G pn) (hby9 : NumIn dA G by9) (hcx : cx x.1 = (keyMsg kn.2.1 ++ keyMsg pn.2.1, by9.2.1)) :
    Ct (S := QS × va_W) l D dA B Z yX1_isTrue_2 cX1_isTrue_2 8 (some .boolean) 8 2 256 [.ref (A 24), .ref x.1, .ref ka, .ref oa, .ref by9.1] (qW dA A O q ++ G) (fun u => QOk u.1 ∧ TR dA cx G u.2) (fun _ => some (.int (bZ (trueS (keyMsg kn.2.1 ++ keyMsg pn.2.1) x.2 by9.2.1)))) (fun u => qW dA A O u.1 ++ u.2) := by
  obtain ⟨hz1, hz2, hz3⟩ := hzq
  obtain ⟨hf1, hf2, hme⟩ := hQF
  obtain ⟨hq1, hq2, hq3⟩ := hQ
  by_cases hsh : sHash x.2 = 2
  · refine Ct.mapP (Ct.perm (c1_isTrue4P l D dA B Z hZ (h5C dA (A 5) (A 6) (A 7) (A 8) (A 9) (A 10) q.2.1 ++ O) G (A 0) (A 1) (A 2) (A 3) (A 4) (A 24) (A 23) dc (A 17) rg (A 5) (A 11) (A 18) (A 19) (A 20) (A 21) (A 22) sz (A 12) (A 13) (A 14) (A 15) (A 16) f1 f2 ka a1 a2 a3 q.1 q.2.2.1 q.2.2.2 cx x kn oa la pn by9 hf1 hz2 hz3 hme hS hk hkn hof hpn hby9 hsh hcx hq1 hq3) ?_) (fun u hu => ⟨((u.1, q.2.1, u.2.1, u.2.2.1), u.2.2.2), ⟨⟨hu.2.1, hq2, hu.1⟩, hu.2.2⟩, rfl, ?_⟩)
    · unfold qW; exact (perm_add (fun g f p0 p1 p2 => by (try simp only [p0, p1, p2]) <;> omega))
    · unfold qW; exact (perm_add (fun g f p0 p1 p2 => by (try simp only [p0, p1, p2]) <;> omega))
  · refine Ct.mapP (Ct.perm (c1_isTrue5P l D dA B Z hZ (h4C dA (A 0) (A 1) (A 2) (A 3) (A 4) q.1 ++ O) G (A 5) (A 6) (A 7) (A 8) (A 9) (A 10) (A 24) (A 23) dc (A 17) rg (A 0) (A 11) (A 18) (A 19) (A 20) (A 21) (A 22) sz (A 12) (A 13) (A 14) (A 15) (A 16) f1 f2 ka a1 a2 a3 q.2.1 q.2.2.1 q.2.2.2 cx x kn oa la pn by9 hz1 hf2 hz2 hz3 hme hS hk hkn hof hpn hby9 hsh hcx hq2 hq3) ?_) (fun u hu => ⟨((q.1, u.1, u.2.1, u.2.2.1), u.2.2.2), ⟨⟨hq1, hu.2.1, hu.1⟩, hu.2.2⟩, rfl, ?_⟩)
    · unfold qW; exact (perm_add (fun g f p0 p1 p2 => by (try simp only [p0, p1, p2]) <;> omega))
    · unfold qW; exact (perm_add (fun g f p0 p1 p2 => by (try simp only [p0, p1, p2]) <;> omega))
