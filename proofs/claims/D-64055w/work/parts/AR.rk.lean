set_option maxRecDepth 100000
/-! keys read into a nested ring, plainly -/
abbrev NCt : Type := List Nat × Option (List Nat)
abbrev UCt : Type := List Nat × List (List Nat)
abbrev PCt : Type := NCt × List (List Nat)
abbrev KCt : Type := NCt × List (List Nat) × List UCt × List PCt
def kcU (u : US) : UCt := (u.2.1, u.2.2.2.map Prod.snd)
def kcP (x : PTt) : PCt := (x.2.1.2, x.2.2.2.map Prod.snd)
def kcK (k : KY) : KCt := (k.2.1.2, k.2.2.1.2.map Prod.snd, k.2.2.2.1.2.map kcU, k.2.2.2.2.2.map kcP)
abbrev RNt : Type := List KCt × Option (Nat × Nat × Nat) × Nat
def prK (lb : List Nat) (k : KCt) : Bool := decide (sha1 (keyMsg k.1.1) = lb)
def prP2 (lb : List Nat) (x : PCt) : Bool := decide (sha1 (keyMsg x.1.1) = lb)
def isU (b : List Nat) (u : UCt) : Bool := decide (u.1 = b)
def wthK (n : NCt) (k : KCt) : KCt := ((k.1.1, withO k.1.2 n.2), k.2)
def wthP (n : NCt) (x : PCt) : PCt := ((x.1.1, withO x.1.2 n.2), x.2)
def cmN (R : List KCt) (n : NCt) : Option (Nat × List KCt) := match R.findIdx? (prK (sha1 (keyMsg n.1))) with
  | some i => some (i, R.modify i (wthK n))
  | none => if R.length = 16 then none else some (R.length, R ++ [(n, [], [], [])])
def usN (us : List UCt) (b : List Nat) : Option (Nat × List UCt) := match us.findIdx? (isU b) with
  | some j => some (j, us)
  | none => if 200 < b.length ∨ us.length = 8 then none else some (us.length, us ++ [(b, [])])
def ptN (ps : List PCt) (n : NCt) : Option (Nat × List PCt) := match ps.findIdx? (prP2 (sha1 (keyMsg n.1))) with
  | some j => some (j, ps.modify j (wthP n))
  | none => if ps.length = 8 then none else some (ps.length, ps ++ [(n, [])])
def numN (bd : List Nat) (sc : Bool) : NCt := (bd.take (kSize bd), secO bd sc)
def latQ (k : KCt) (kd j : Nat) : List (List Nat) := if kd = 0 then k.2.1 else if kd = 1 then (k.2.2.1[j]?.map Prod.snd).getD [] else (k.2.2.2[j]?.map Prod.snd).getD []
def addN (k : KCt) (kd j : Nat) (b : List Nat) : KCt := if kd = 0 then (k.1, k.2.1 ++ [b], k.2.2) else if kd = 1 then (k.1, k.2.1, k.2.2.1.modify j (fun u => (u.1, u.2 ++ [b])), k.2.2.2) else (k.1, k.2.1, k.2.2.1, k.2.2.2.modify j (fun u => (u.1, u.2 ++ [b])))
def keyN2 (x : RNt) : Option (Nat × List KCt) → Option RNt
  | some r => some (r.2, some (r.1, 0, 0), x.2.2 + 1)
  | none => none
def partN2 (x : RNt) (i : Nat) (k : KCt) : Option (Nat × List PCt) → Option RNt
  | some r => some (x.1.set i (k.1, k.2.1, k.2.2.1, r.2), some (i, 2, r.1), x.2.2)
  | none => none
def userN2 (x : RNt) (i : Nat) (k : KCt) : Option (Nat × List UCt) → Option RNt
  | some r => some (x.1.set i (k.1, k.2.1, r.2, k.2.2.2), some (i, 1, r.1), x.2.2)
  | none => none
def sealN2 (x : RNt) (i kd j : Nat) (k : KCt) (bd : List Nat) : Option RNt :=
  if bd.length = 0 then none else if oursL bd = false then some x else if sealOk bd = false then none
  else if (latQ k kd j).any (fun y => decide (y = bd)) = true then some x
  else if (latQ k kd j).length = 16 then none
  else some (x.1.set i (addN k kd j bd), x.2)
def undN (x : RNt) (kd : Nat) (bd : List Nat) (c : Nat × Nat × Nat) (k : KCt) : Option RNt :=
  if kd = 7 ∨ kd = 14 then (if keyOk bd (decide (kd = 7)) = true then partN2 x c.1 k (ptN k.2.2.2 (numN bd (decide (kd = 7)))) else none)
  else if kd = 13 then userN2 x c.1 k (usN k.2.2.1 bd)
  else if kd = 2 then sealN2 x c.1 c.2.1 c.2.2 k bd
  else none
def curN (x : RNt) (kd : Nat) (bd : List Nat) : Option (Nat × Nat × Nat) → Option RNt
  | none => none
  | some c => match x.1[c.1]? with
    | none => none
    | some k => undN x kd bd c k
def pkN (x : RNt) (kd : Nat) (bd : List Nat) : Option RNt :=
  if kd = 10 ∨ kd = 12 ∨ kd = 17 ∨ 40 ≤ kd then some x
  else if kd = 5 ∨ kd = 6 then (if keyOk bd (decide (kd = 5)) = true then keyN2 x (cmN x.1 (numN bd (decide (kd = 5)))) else none)
  else curN x kd bd x.2.1
def nextN (nx : Nat) (x : RNt) : Option RNt → (RNt → Int32 × RNt) → Int32 × RNt
  | none, _ => (-1 - nI nx, x)
  | some y, f => f y
def keysP2 (f : RNt → Nat → Int32 × RNt) (x : RNt) (nx : Nat) : Option (Nat × List Nat × Nat) → Int32 × RNt
  | none => (-1 - nI nx, x)
  | some q => nextN nx x (pkN x q.1 q.2.1) (fun y => f y q.2.2)
def keysN (rw : List Nat) : Nat → RNt → Nat → Int32 × RNt
  | 0, x, _ => (0, x)
  | f + 1, x, nx => if rw.length ≤ nx then (0, x) else keysP2 (keysN rw f) x nx (pktS rw nx)
theorem fix_hit {α : Type} {f : α → Bool} {l : List α} {i : Nat} {y : α} (hj : ∀ j x, j < i → l[j]? = some x → f x = false) (hi : l[i]? = some y) (hy : f y = true) : l.findIdx? f = some i := by
  obtain ⟨h1, h2⟩ := List.getElem?_eq_some_iff.mp hi
  refine List.findIdx?_eq_some_iff_getElem.mpr ⟨h1, by rw [h2]; exact hy, fun j hji => ?_⟩
  rw [hj j l[j] hji (List.getElem?_eq_getElem (by omega))]
  decide
theorem fix_miss {α : Type} {f : α → Bool} {l : List α} (hj : ∀ j x, j < l.length → l[j]? = some x → f x = false) : l.findIdx? f = none := by
  refine List.findIdx?_eq_none_iff.mpr (fun x hx => ?_)
  obtain ⟨j, h1, h2⟩ := List.getElem_of_mem hx
  exact hj j x h1 (by rw [List.getElem?_eq_getElem h1, h2])
theorem fix_map {α β : Type} {f : β → Bool} {g : α → β} {l : List α} : (l.map g).findIdx? f = l.findIdx? (fun x => f (g x)) := List.findIdx?_map
theorem mod_map {α β : Type} {g : α → β} {f : β → β} {l : List α} {i : Nat} {x y : α} (h : l[i]? = some x) (e : g y = f (g x)) : (l.map g).modify i f = (l.set i y).map g := by
  refine List.ext_getElem? (fun j => ?_)
  rw [List.getElem?_modify, List.getElem?_map, List.getElem?_map, List.getElem?_set]
  by_cases q : i = j
  · subst q
    rw [if_pos rfl, if_pos (List.getElem?_eq_some_iff.mp h).1, h]
    show some (if i = i then f (g x) else g x) = some (g y)
    rw [if_pos rfl, e]
  · rw [if_neg q]
    cases l[j]? with
    | none => rfl
    | some z =>
      show some (if i = j then f (g z) else g z) = some (g z)
      rw [if_neg q]
theorem set_map {α β : Type} {g : α → β} {l : List α} {i : Nat} {y : α} {z : β} (e : g y = z) : (l.map g).set i z = (l.set i y).map g := by
  rw [List.map_set, e]
theorem set_same {α : Type} {l : List α} {i : Nat} {x : α} (h : l[i]? = some x) : l.set i x = l := by
  refine List.ext_getElem? (fun j => ?_)
  rw [List.getElem?_set]
  by_cases q : i = j
  · subst q
    rw [if_pos rfl, if_pos (List.getElem?_eq_some_iff.mp h).1, h]
  · rw [if_neg q]
/-! each way of a packet -/
section WAYS
variable {R : List KY} {cu : Option (Nat × Nat × Nat)} {m kd : Nat} {bd : List Nat}
theorem pkN_pass {x : RNt} (h : kd = 10 ∨ kd = 12 ∨ kd = 17 ∨ 40 ≤ kd) : pkN x kd bd = some x := by unfold pkN; rw [if_pos h]
theorem pkN_key {x : RNt} (h : kd = 5 ∨ kd = 6) : pkN x kd bd = if keyOk bd (decide (kd = 5)) = true then keyN2 x (cmN x.1 (numN bd (decide (kd = 5)))) else none := by
  unfold pkN; rw [if_neg (by omega), if_pos h]
theorem pkN_no {x : RNt} (h : ¬ (kd = 10 ∨ kd = 12 ∨ kd = 17 ∨ 40 ≤ kd)) (h2 : ¬ (kd = 5 ∨ kd = 6)) (hc : x.2.1 = none) : pkN x kd bd = none := by
  unfold pkN; rw [if_neg h, if_neg h2, hc]; rfl
theorem pkN_un {i a j : Nat} {k : KY} (h : ¬ (kd = 10 ∨ kd = 12 ∨ kd = 17 ∨ 40 ≤ kd)) (h2 : ¬ (kd = 5 ∨ kd = 6)) (hi : R[i]? = some k) : pkN (R.map kcK, some (i, a, j), m) kd bd = undN (R.map kcK, some (i, a, j), m) kd bd (i, a, j) (kcK k) := by
  unfold pkN; rw [if_neg h, if_neg h2]
  show (match (R.map kcK)[i]? with | none => none | some k => undN _ kd bd (i, a, j) k) = _
  rw [List.getElem?_map, hi]; rfl
theorem cm_hit {n : NBr} {n' : NBr} {i : Nat} {k : KY} (hi : R[i]? = some k) (hno : ∀ j y, j < i → R[j]? = some y → kyHas (sha1 (keyMsg n.2.1)) y = false) (hyes : kyHas (sha1 (keyMsg n.2.1)) k = true) (hn : n'.2 = (k.2.1.2.1, withO k.2.1.2.2 n.2.2)) : cmN (R.map kcK) n.2 = some (i, (R.set i (k.1, n', k.2.2)).map kcK) := by
  unfold cmN
  rw [fix_map, fix_hit (f := fun x => prK (sha1 (keyMsg n.2.1)) (kcK x)) hno hi hyes]
  show some (i, (R.map kcK).modify i (wthK n.2)) = _
  rw [mod_map hi (y := (k.1, n', k.2.2))]
  unfold kcK wthK
  dsimp only
  rw [hn]
theorem cm_nw {n : NBr} {k' : KY} (hno : ∀ j y, j < R.length → R[j]? = some y → kyHas (sha1 (keyMsg n.2.1)) y = false) (hl : R.length < 16) (hk : ∃ ka a1 a2 a3, k' = newK ka n a1 a2 a3) : cmN (R.map kcK) n.2 = some (R.length, (R ++ [k']).map kcK) := by
  unfold cmN
  rw [fix_map, fix_miss (f := fun x => prK (sha1 (keyMsg n.2.1)) (kcK x)) hno]
  obtain ⟨ka, a1, a2, a3, e⟩ := hk
  show (if (R.map kcK).length = 16 then none else some ((R.map kcK).length, R.map kcK ++ [(n.2, [], [], [])])) = _
  rw [List.length_map, if_neg (by omega), List.map_append, e]
  rfl
theorem cm_full {n : NBr} (hno : ∀ j y, j < R.length → R[j]? = some y → kyHas (sha1 (keyMsg n.2.1)) y = false) (hl : R.length = 16) : cmN (R.map kcK) n.2 = none := by
  unfold cmN
  rw [fix_map, fix_miss (f := fun x => prK (sha1 (keyMsg n.2.1)) (kcK x)) hno]
  show (if (R.map kcK).length = 16 then none else some ((R.map kcK).length, R.map kcK ++ [(n.2, [], [], [])])) = _
  rw [List.length_map, if_pos hl]
theorem us_hit {us : List US} {j : Nat} {u : US} (hj : us[j]? = some u) (hno : ∀ j9 y, j9 < j → us[j9]? = some y → decide (y.2.1 = bd) = false) (hu : u.2.1 = bd) : usN (us.map kcU) bd = some (j, us.map kcU) := by
  unfold usN
  rw [fix_map, fix_hit (f := fun x => isU bd (kcU x)) hno hj (decide_eq_true hu)]
theorem us_new {us : List US} {u : US} (hf : us.find? (fun u : US => decide (u.2.1 = bd)) = none) (hb : bd.length ≤ 200) (hl : us.length < 8) (hu : ∃ ua a4, u = (ua, bd, (a4, nI 0, none), [])) : usN (us.map kcU) bd = some (us.length, (us ++ [u]).map kcU) := by
  unfold usN
  rw [fix_map, fix_miss (f := fun x => isU bd (kcU x)) (fun j x _ hx => by
    have := List.find?_eq_none.mp hf x (List.mem_of_getElem? hx)
    exact Bool.eq_false_iff.mpr this)]
  obtain ⟨ua, a4, e⟩ := hu
  show (if 200 < bd.length ∨ (us.map kcU).length = 8 then none else some ((us.map kcU).length, us.map kcU ++ [(bd, [])])) = _
  rw [List.length_map, if_neg (by omega), List.map_append, e]
  rfl
theorem us_full {us : List US} (hf : us.find? (fun u : US => decide (u.2.1 = bd)) = none) (hb : 200 < bd.length ∨ us.length = 8) : usN (us.map kcU) bd = none := by
  unfold usN
  rw [fix_map, fix_miss (f := fun x => isU bd (kcU x)) (fun j x _ hx => by
    have := List.find?_eq_none.mp hf x (List.mem_of_getElem? hx)
    exact Bool.eq_false_iff.mpr this)]
  show (if 200 < bd.length ∨ (us.map kcU).length = 8 then none else some ((us.map kcU).length, us.map kcU ++ [(bd, [])])) = _
  rw [List.length_map, if_pos hb]
theorem pt_hit {ps : List PTt} {n n' : NBr} {j : Nat} {y : PTt} (hj : ps[j]? = some y) (hno : ∀ j9 x, j9 < j → ps[j9]? = some x → ptHas (sha1 (keyMsg n.2.1)) x = false) (hy : ptHas (sha1 (keyMsg n.2.1)) y = true) (hn : n'.2 = (y.2.1.2.1, withO y.2.1.2.2 n.2.2)) : ptN (ps.map kcP) n.2 = some (j, (ps.set j (y.1, n', y.2.2)).map kcP) := by
  unfold ptN
  rw [fix_map, fix_hit (f := fun x => prP2 (sha1 (keyMsg n.2.1)) (kcP x)) hno hj hy]
  show some (j, (ps.map kcP).modify j (wthP n.2)) = _
  rw [mod_map hj (y := (y.1, n', y.2.2))]
  unfold kcP wthP
  dsimp only
  rw [hn]
theorem pt_miss {ps : List PTt} {n : NBr} (hf : ps.find? (ptHas (sha1 (keyMsg n.2.1))) = none) : ptN (ps.map kcP) n.2 = if ps.length = 8 then none else some (ps.length, ps.map kcP ++ [(n.2, [])]) := by
  unfold ptN
  rw [fix_map, fix_miss (f := fun x => prP2 (sha1 (keyMsg n.2.1)) (kcP x)) (fun j x _ hx => by
    have := List.find?_eq_none.mp hf x (List.mem_of_getElem? hx)
    exact Bool.eq_false_iff.mpr this)]
  show (if (ps.map kcP).length = 8 then none else some ((ps.map kcP).length, ps.map kcP ++ [(n.2, [])])) = _
  rw [List.length_map]
end WAYS
/-- the first that is, or none -/
theorem find_ix {α : Type} {f : α → Bool} : ∀ (l : List α), l.find? f = none ∨ ∃ (j : Nat) (y : α), l[j]? = some y ∧ f y = true ∧ (∀ (j9 : Nat) (x : α), j9 < j → l[j9]? = some x → f x = false) ∧ l.find? f = some y
  | [] => Or.inl rfl
  | a :: l => by
    cases h : f a with
    | true => exact Or.inr ⟨0, a, rfl, h, fun j9 x hj => absurd hj (Nat.not_lt_zero _), by rw [List.find?_cons, h]⟩
    | false =>
      rcases find_ix (f := f) l with q | ⟨j, y, h1, h2, h3, h4⟩
      · exact Or.inl (by rw [List.find?_cons, h]; exact q)
      · refine Or.inr ⟨j + 1, y, h1, h2, fun j9 x hj hx => ?_, by rw [List.find?_cons, h]; exact h4⟩
        cases j9 with
        | zero => have hx : some a = some x := hx; cases hx; exact h
        | succ j9 => exact h3 j9 x (by omega) hx
