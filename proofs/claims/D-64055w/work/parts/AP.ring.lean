set_option maxRecDepth 100000
/-! the ring that is joined aside, as cells, and what is done to it -/
def ringW (dA : Nat → ClassId) (e0 : Nat) (rl : LD) (R : List KY) : va_W := lW dA e0 rl R.length ++ R.flatMap (kyW dA e0)
theorem fm_at {α β : Type} (f : α → List β) : ∀ {l : List α} {i : Nat} {x : α}, l[i]? = some x → (l.flatMap f).Perm (f x ++ (l.eraseIdx i).flatMap f)
  | [], i, x, h => by simp at h
  | a :: l, 0, x, h => by
    have h : some a = some x := h
    cases h
    exact List.Perm.refl _
  | a :: l, i + 1, x, h => by
    have ih := fm_at f (l := l) (i := i) (x := x) h
    show (f a ++ l.flatMap f).Perm (f x ++ (f a ++ (l.eraseIdx i).flatMap f))
    exact (ih.append_left (f a)).trans (perm_add (fun g f p0 p1 p2 => by (try simp only [p0, p1, p2]) <;> omega))
theorem fm_set {α β : Type} (f : α → List β) {l : List α} {i : Nat} (h : i < l.length) (y : α) : ((l.set i y).flatMap f).Perm (f y ++ (l.eraseIdx i).flatMap f) := by
  have h1 : (l.set i y)[i]? = some y := by rw [List.getElem?_set_self h]
  have h2 := fm_at f h1
  have h3 : (l.set i y).eraseIdx i = l.eraseIdx i := by rw [List.eraseIdx_set_eq]
  rw [h3] at h2
  exact h2
def ringE (e : va_E) : Prop := (∃ fs, e = .inr (16, fs)) ∨ (∃ fs, e = .inr (6, fs)) ∨ (∃ fs, e = .inr (8, fs)) ∨ ∃ (dA : Nat → ClassId) (n : Nat) (g : Nat → Option Nat), e = oar dA n g
theorem lW_re {dA : Nat → ClassId} {e0 n : Nat} {x : LD} {z : Nat × va_E} (hz : z ∈ lW dA e0 x n) : ringE z.2 := by
  obtain ⟨la, mo, o⟩ := x
  unfold lW alC at hz
  cases o with
  | none =>
    have hz := List.mem_singleton.mp hz
    rw [hz]; exact Or.inl ⟨_, rfl⟩
  | some o =>
    obtain ⟨ed, cap, g⟩ := o
    rcases List.mem_cons.mp hz with q | q
    · rw [q]; exact Or.inl ⟨_, rfl⟩
    · have q := List.mem_singleton.mp q
      rw [q]; exact Or.inr (Or.inr (Or.inr ⟨_, _, _, rfl⟩))
theorem kyW_re {dA : Nat → ClassId} {e0 : Nat} {k : KY} {z : Nat × va_E} (hz : z ∈ kyW dA e0 k) : ringE z.2 := by
  unfold kyW kyW0 at hz
  rcases List.mem_append.mp hz with q | q
  · rcases List.mem_append.mp q with q | q
    · rw [List.mem_singleton.mp q]; exact Or.inr (Or.inl ⟨_, rfl⟩)
    · rcases List.mem_append.mp q with q | q
      · exact lW_re q
      · rcases List.mem_append.mp q with q | q
        · exact lW_re q
        · exact lW_re q
  · rcases List.mem_append.mp q with q | q
    · obtain ⟨u, _, hu⟩ := List.mem_flatMap.mp q
      exact lW_re hu
    · obtain ⟨u, _, hu⟩ := List.mem_flatMap.mp q
      rcases List.mem_append.mp hu with q | q
      · rw [List.mem_singleton.mp q]; exact Or.inr (Or.inr (Or.inl ⟨_, rfl⟩))
      · exact lW_re q
theorem ringW_re {dA : Nat → ClassId} {e0 : Nat} {rl : LD} {R : List KY} {z : Nat × va_E} (hz : z ∈ ringW dA e0 rl R) : ringE z.2 := by
  unfold ringW at hz
  rcases List.mem_append.mp hz with q | q
  · exact lW_re q
  · obtain ⟨k, _, hk⟩ := List.mem_flatMap.mp q
    exact kyW_re hk
theorem re_bal {dA : Nat → ClassId} {b : List Nat} (h : ringE (bal dA b)) : False := by
  rcases h with ⟨fs, q⟩ | ⟨fs, q⟩ | ⟨fs, q⟩ | ⟨d, n, g, q⟩
  · cases q
  · cases q
  · cases q
  · unfold bal bar oar at q
    injection q with q
    injection q with q1 q2
    injection q2 with q3 q4
    cases q4
theorem re_inr {c : Nat} {fs : List Value} (h : ringE (.inr (c, fs))) : c = 16 ∨ c = 6 ∨ c = 8 := by
  rcases h with ⟨fs, q⟩ | ⟨fs, q⟩ | ⟨fs, q⟩ | ⟨d, n, g, q⟩
  · cases q; exact Or.inl rfl
  · cases q; exact Or.inr (Or.inl rfl)
  · cases q; exact Or.inr (Or.inr rfl)
  · cases q
def offR (O : va_W) : Prop := ∀ z ∈ O, ringE z.2
theorem offR.b {dA : Nat → ClassId} {O F : va_W} (h : offR O) {q : Nat} {b : List Nat} (hq : (q, bal dA b) ∈ O ++ F) : (q, bal dA b) ∈ F := by
  rcases List.mem_append.mp hq with q | q
  · exact (re_bal (h _ q)).elim
  · exact q
theorem offR.i {O F : va_W} (h : offR O) {a c : Nat} {fs : List Value} (hc : c ≠ 16 ∧ c ≠ 6 ∧ c ≠ 8) (hq : (a, .inr (c, fs)) ∈ O ++ F) : (a, .inr (c, fs)) ∈ F := by
  rcases List.mem_append.mp hq with q | q
  · have := re_inr (h _ q)
    omega
  · exact q
theorem NumIn.off {dA : Nat → ClassId} {O F : va_W} {x : NBr} (h : NumIn dA (O ++ F) x) (ho : offR O) : NumIn dA F x := h.sub (fun b q hq => ho.b hq) (fun a fs hq => ho.i (by decide) hq)
theorem NumIn.rt {dA : Nat → ClassId} {O F : va_W} {x : NBr} (h : NumIn dA F x) : NumIn dA (O ++ F) x := h.sub (fun b q hq => List.mem_append_right _ hq) (fun a fs hq => List.mem_append_right _ hq)
theorem NumIn.lf {dA : Nat → ClassId} {O F : va_W} {x : NBr} (h : NumIn dA F x) : NumIn dA (F ++ O) x := h.sub (fun b q hq => List.mem_append_left _ hq) (fun a fs hq => List.mem_append_left _ hq)
theorem kyc_in {dA : Nat → ClassId} {e0 : Nat} {k : KY} : kyc k ∈ kyW dA e0 k := List.mem_append_left _ (List.mem_append_left _ List.mem_cons_self)
theorem ky_ring {dA : Nat → ClassId} {e0 : Nat} {rl : LD} {R : List KY} {k : KY} (hk : k ∈ R) {z : Nat × va_E} (hz : z ∈ kyW dA e0 k) : z ∈ ringW dA e0 rl R := List.mem_append_right _ (List.mem_flatMap.mpr ⟨k, hk, hz⟩)
/-- the ring's own list: it may keep its array when its last key is dropped -/
def LsR {α : Type} (x : LD) (ls : List (Nat × α)) : Prop := ALis x.2.2 (ls.map Prod.fst) ∧ True ∧ ls.length ≤ 16
theorem LsR.snoc {α : Type} {x x' : LD} {ls : List (Nat × α)} {y : Nat × α} (h : LsR x ls) (h1 : ALis x'.2.2 (ls.map Prod.fst ++ [y.1])) (h3 : ls.length < 16) : LsR x' (ls ++ [y]) := by
  refine ⟨by rw [List.map_append]; exact h1, trivial, by rw [List.length_append]; simp; omega⟩
theorem lsr0 {α : Type} (a : Nat) : LsR (α := α) (a, nI 0, none) [] := ⟨rfl, trivial, Nat.zero_le _⟩
theorem rl_lin {dA : Nat → ClassId} {e0 : Nat} {rl : LD} {R : List KY} {G : va_W} (hL : LsR rl R) (hs : ∀ z ∈ ringW dA e0 rl R, z ∈ G) : LIn dA e0 G rl (R.map Prod.fst) := ⟨by rw [List.length_map]; exact fun z hz => hs z (List.mem_append_left _ hz), hL.1⟩
/-- a key's cells but its own -/
def kyR (dA : Nat → ClassId) (e0 : Nat) (k : KY) : va_W := (lW dA e0 k.2.2.1.1 k.2.2.1.2.length ++ (lW dA e0 k.2.2.2.1.1 k.2.2.2.1.2.length ++ lW dA e0 k.2.2.2.2.1 k.2.2.2.2.2.length)) ++ (k.2.2.2.1.2.flatMap (usW dA e0) ++ k.2.2.2.2.2.flatMap (ptW dA e0))
theorem kyW_c (dA : Nat → ClassId) (e0 : Nat) (k : KY) : kyW dA e0 k = [kyc k] ++ kyR dA e0 k := rfl
/-- the ring but one of its keys -/
def ringX (dA : Nat → ClassId) (e0 : Nat) (rl : LD) (R : List KY) (i : Nat) : va_W := (R.eraseIdx i).flatMap (kyW dA e0) ++ lW dA e0 rl R.length
theorem ring_at {dA : Nat → ClassId} {e0 : Nat} {rl : LD} {R : List KY} {i : Nat} {k : KY} (h : R[i]? = some k) : (ringW dA e0 rl R).Perm (kyW dA e0 k ++ ringX dA e0 rl R i) := by
  unfold ringW ringX
  exact ((fm_at (kyW dA e0) h).append_left _).trans (perm_add (fun g f p0 p1 p2 => by (try simp only [p0, p1, p2]) <;> omega))
theorem ring_set {dA : Nat → ClassId} {e0 : Nat} {rl : LD} {R : List KY} {i : Nat} (h : i < R.length) (k : KY) : (ringW dA e0 rl (R.set i k)).Perm (kyW dA e0 k ++ ringX dA e0 rl R i) := by
  unfold ringW ringX
  rw [List.length_set]
  exact ((fm_set (kyW dA e0) h k).append_left _).trans (perm_add (fun g f p0 p1 p2 => by (try simp only [p0, p1, p2]) <;> omega))
theorem ringX_re {dA : Nat → ClassId} {e0 : Nat} {rl : LD} {R : List KY} {i : Nat} : offR (ringX dA e0 rl R i) := by
  intro z hz
  unfold ringX at hz
  rcases List.mem_append.mp hz with q | q
  · obtain ⟨k, _, hk⟩ := List.mem_flatMap.mp q
    exact kyW_re hk
  · exact lW_re q
theorem kyR_re {dA : Nat → ClassId} {e0 : Nat} {k : KY} : offR (kyR dA e0 k) := fun z hz => kyW_re (k := k) (by rw [kyW_c]; exact List.mem_append_right _ hz)
theorem offR.app {O P : va_W} (h : offR O) (k : offR P) : offR (O ++ P) := fun z hz => (List.mem_append.mp hz).elim (h z) (k z)
theorem cR_comesH (l : Launch) (D : va_G) (dA : Nat → ClassId) (B : Nat) (Z : State → Prop) (hZ : Stab B Z) (O F : va_W) (e0 mi : Nat) (rl : LD) (R : List KY) (n : NBr) (pk i0 : Nat) (k : KY) (hL : LsR rl R) (hR : ∀ y ∈ R, NumIn dA F y.2.1) (hn : NumIn dA F n) (hi : R[i0]? = some k) (hno : ∀ j y, j < i0 → R[j]? = some y → kyHas (sha1 (keyMsg n.2.1)) y = false) (hyes : kyHas (sha1 (keyMsg n.2.1)) k = true) :
    Ct (S := NBr × va_W) l D dA B Z yX1_comes cX1_comes 5 (some ((.object "SignetRing$Key"))) 8 2 26 [.ref rl.1, .ref n.1, .ref pk] (ringW dA e0 rl R ++ (O ++ F)) (fun u => u.1.2 = (k.2.1.2.1, withO k.2.1.2.2 n.2.2) ∧ NumIn dA (F ++ u.2) u.1) (fun _ => some (.ref k.1)) (fun u => ringW dA e0 rl (R.set i0 (k.1, u.1, k.2.2)) ++ (O ++ (F ++ u.2))) := by
  have hlt : i0 < R.length := (List.getElem?_eq_some_iff.mp hi).1
  have hpm : (ringW dA e0 rl R ++ (O ++ F)).Perm ([kyc k] ++ (((kyR dA e0 k ++ ringX dA e0 rl R i0) ++ O) ++ F)) := ((ring_at hi).append_right (O ++ F)).trans (by rw [kyW_c]; exact (perm_add (fun g f p0 p1 p2 => by (try simp only [p0, p1, p2]) <;> omega)))
  refine Ct.permW (c1_comesH l D dA B Z hZ ((kyR dA e0 k ++ ringX dA e0 rl R i0) ++ O) F e0 mi rl R n pk i0 k ?_ ?_ hn hi hno hyes) hpm (fun _ u hu => ⟨u, hu, rfl, ?_⟩)
  · exact ⟨fun z hz => List.mem_append_left _ (List.mem_append_left _ (List.mem_append_right _ (List.mem_append_right _ (by rw [List.length_map] at hz; exact hz)))), hL.1⟩
  · exact fun y hy => ⟨hR y hy, hpm.mem_iff.mp (List.mem_append_left _ (ky_ring hy kyc_in))⟩
  · show ([kyc (k.1, u.1, k.2.2)] ++ (((kyR dA e0 k ++ ringX dA e0 rl R i0) ++ O) ++ (F ++ u.2))).Perm _
    exact List.Perm.trans (show List.Perm _ (([kyc (k.1, u.1, k.2.2)] ++ (kyR dA e0 k ++ ringX dA e0 rl R i0)) ++ (O ++ (F ++ u.2))) from (perm_add (fun g f p0 p1 p2 => by (try simp only [p0, p1, p2]) <;> omega))) ((ring_set hlt (k.1, u.1, k.2.2)).symm.append_right _)

def newK (ka : Nat) (n : NBr) (a1 a2 a3 : Nat) : KY := (ka, n, ((a1, nI 0, none), []), ((a2, nI 0, none), []), ((a3, nI 0, none), []))
theorem LsOk.snoc {α : Type} {x x' : LD} {ls : List (Nat × α)} {n : Nat} {y : Nat × α} (h : LsOk x ls n) (h1 : ALis x'.2.2 (ls.map Prod.fst ++ [y.1])) (h3 : ls.length < n) : LsOk x' (ls ++ [y]) n := by
  refine ⟨by rw [List.map_append]; exact h1, Or.inr (by rw [List.length_append]; simp), by rw [List.length_append]; simp; omega⟩
theorem cR_comesN (l : Launch) (D : va_G) (dA : Nat → ClassId) (B : Nat) (Z : State → Prop) (hZ : Stab B Z) (O F : va_W) (e0 mi : Nat) (rl : LD) (R : List KY) (n : NBr) (pk pb sz nx pl kd pm : Nat) (bo : Option Nat) (hzs : ZS dA B Z) (hza : ZA B e0 mi Z) (hL : LsR rl R) (hR : ∀ y ∈ R, NumIn dA F y.2.1) (hn : NumIn dA F n) (hno : ∀ j y, j < R.length → R[j]? = some y → kyHas (sha1 (keyMsg n.2.1)) y = false) (hfull : R.length < 16) :
    Ct (S := KY × LD × va_W) l D dA B Z yX1_comes cX1_comes 5 (some ((.object "SignetRing$Key"))) 8 5 (2 * R.length + 24) [.ref rl.1, .ref n.1, .ref pk] (ringW dA e0 rl R ++ (O ++ F)) (fun u => (∃ ka a1 a2 a3, u.1 = newK ka n a1 a2 a3) ∧ u.2.1.1 = rl.1 ∧ LsR u.2.1 (R ++ [u.1])) (fun u => some (.ref u.1.1)) (fun u => ringW dA e0 u.2.1 (R ++ [u.1]) ++ (O ++ (F ++ u.2.2))) := by
  have hpm : (ringW dA e0 rl R ++ (O ++ F)).Perm (lW dA e0 rl R.length ++ (R.flatMap (kyW dA e0) ++ (O ++ F))) := by unfold ringW; exact (perm_add (fun g f p0 p1 p2 => by (try simp only [p0, p1, p2]) <;> omega))
  refine Ct.permW (c1_comesN l D dA B Z hZ (R.flatMap (kyW dA e0) ++ (O ++ F)) e0 mi rl R n pk pb sz nx pl kd pm bo hzs hza hL.1 ?_ hn.rt.rt hno hfull) hpm (fun _ u hu => ⟨(newK u.1 n u.2.1 u.2.2.1 u.2.2.2.1, (rl.1, u.2.2.2.2.1, u.2.2.2.2.2.1), u.2.2.2.2.2.2), ⟨⟨_, _, _, _, rfl⟩, rfl, ?_⟩, rfl, ?_⟩)
  · exact fun y hy => ⟨(hR y hy).rt.rt, List.mem_append_left _ (List.mem_flatMap.mpr ⟨y, hy, kyc_in⟩)⟩
  · exact hL.snoc hu.1 hfull
  · unfold ringW
    rw [List.length_append, List.flatMap_append]
    show List.Perm _ ((lW dA e0 (rl.1, u.2.2.2.2.1, u.2.2.2.2.2.1) (R.length + 1) ++ (R.flatMap (kyW dA e0) ++ [(u.1, .inr (6, [.ref u.2.1, .ref n.1, .ref u.2.2.1, .ref u.2.2.2.1])), (u.2.1, .inr (16, [.int (nI 0), .ref e0, .int (nI 0)])), (u.2.2.1, .inr (16, [.int (nI 0), .ref e0, .int (nI 0)])), (u.2.2.2.1, .inr (16, [.int (nI 0), .ref e0, .int (nI 0)]))])) ++ (O ++ (F ++ u.2.2.2.2.2.2)))
    exact (perm_add (fun g f p0 p1 p2 => by (try simp only [p0, p1, p2]) <;> omega))
theorem cR_comesX (l : Launch) (D : va_G) (dA : Nat → ClassId) (B : Nat) (Z : State → Prop) (hZ : Stab B Z) (O F : va_W) (e0 mi : Nat) (rl : LD) (R : List KY) (n : NBr) (pk pb sz nx pl kd pm : Nat) (bo : Option Nat) (hlt : l.stackTraces = false) (hzx : ZX B Z) (hL : LsR rl R) (hR : ∀ y ∈ R, NumIn dA F y.2.1) (hn : NumIn dA F n) (hno : ∀ j y, j < R.length → R[j]? = some y → kyHas (sha1 (keyMsg n.2.1)) y = false) (hpk : (pk, .inr (11, [.ref pb, .int (nI sz), .int (nI nx), .int (nI pl), .int (nI kd), va_rf bo, .ref pm])) ∈ O ++ F) (hfull : R.length = 16) :
    CtX (S := Unit) (SX := Nat × va_W) l D dA B Z yX1_comes cX1_comes 5 (some ((.object "SignetRing$Key"))) 8 1 7 [.ref rl.1, .ref n.1, .ref pk] (ringW dA e0 rl R ++ (O ++ F)) (fun _ => False) (fun _ => some .null) (fun _ => ringW dA e0 rl R ++ F) (fun u => FaultIn u.2 u.1 (-1 - nI pl)) (fun u => u.1) (fun _ => "SignetRing$Fault") (fun u => ringW dA e0 rl R ++ (O ++ (F ++ u.2))) := by
  refine CtX.permW (c1_comesX l D dA B Z hZ (ringW dA e0 rl R ++ (O ++ F)) e0 mi rl R n pk pb sz nx pl kd pm bo hlt hzx (rl_lin hL (fun z hz => List.mem_append_left _ hz)) ?_ hn.rt.rt hno (List.mem_append_right _ hpk) hfull) (List.Perm.refl _) (fun _ u hu => hu.elim) (fun _ u _ => ⟨(u.1, [(u.1, .inr (10, fts u.2 (-1 - nI pl)))]), ⟨u.2, List.mem_cons_self⟩, rfl, rfl, (perm_add (fun g f p0 p1 p2 => by (try simp only [p0, p1, p2]) <;> omega))⟩)
  exact fun y hy => ⟨(hR y hy).rt.rt, List.mem_append_left _ (ky_ring hy kyc_in)⟩
