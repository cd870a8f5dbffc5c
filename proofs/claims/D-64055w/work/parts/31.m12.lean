set_option maxRecDepth 100000
def qM (M : MS) (x54 : Int32) (x55 : Int32) (x67 : Int32) (x68 : Int32) (x69 : Int32) (x61 : Int64) (x62 : Int64) (x63 : Int64) (x64 : Option Nat) (x65 : Option Nat) (x66 : Option Nat) (x70 : Nat → Nat) : MS := sG (sR (sR (sR (sL (sL (sL (sI (sI (sI (sI (sI M 54 x54) 55 x55) 67 x67) 68 x68) 69 x69) 61 x61) 62 x62) 63 x63) 64 x64) 65 x65) 66 x66) 70 x70
theorem qM_id (M : MS) : qM M (mI M 54) (mI M 55) (mI M 67) (mI M 68) (mI M 69) (mL M 61) (mL M 62) (mL M 63) (mR M 64) (mR M 65) (mR M 66) (mG M 70) = M := MS.ext (by
    show upN (upN (upN (upN (upN M.1 54 (M.1 54)) 55 (M.1 55)) 67 (M.1 67)) 68 (M.1 68)) 69 (M.1 69) = M.1
    rw [upN_same M.1 54 _ rfl, upN_same M.1 55 _ rfl, upN_same M.1 67 _ rfl, upN_same M.1 68 _ rfl, upN_same M.1 69 _ rfl]) (by
    show upN (upN (upN M.2.1 61 (M.2.1 61)) 62 (M.2.1 62)) 63 (M.2.1 63) = M.2.1
    rw [upN_same M.2.1 61 _ rfl, upN_same M.2.1 62 _ rfl, upN_same M.2.1 63 _ rfl]) (by
    show upN (upN (upN M.2.2.1 64 (M.2.2.1 64)) 65 (M.2.2.1 65)) 66 (M.2.2.1 66) = M.2.2.1
    rw [upN_same M.2.2.1 64 _ rfl, upN_same M.2.2.1 65 _ rfl, upN_same M.2.2.1 66 _ rfl]) (by
    show upN M.2.2.2.1 70 (M.2.2.2.1 70) = M.2.2.2.1
    rw [upN_same M.2.2.2.1 70 _ rfl]) rfl rfl
theorem qM_54 (M : MS) (x54 : Int32) (x55 : Int32) (x67 : Int32) (x68 : Int32) (x69 : Int32) (x61 : Int64) (x62 : Int64) (x63 : Int64) (x64 : Option Nat) (x65 : Option Nat) (x66 : Option Nat) (x70 : Nat → Nat) (y : Int32) : sI (qM M x54 x55 x67 x68 x69 x61 x62 x63 x64 x65 x66 x70) 54 y = qM M y x55 x67 x68 x69 x61 x62 x63 x64 x65 x66 x70 := MS.ext (by
    show upN (upN (upN (upN (upN (upN M.1 54 x54) 55 x55) 67 x67) 68 x68) 69 x69) 54 y = upN (upN (upN (upN (upN M.1 54 y) 55 x55) 67 x67) 68 x68) 69 x69
    rw [upN_comm _ _ _ (by decide : (69 : Nat) ≠ 54), upN_comm _ _ _ (by decide : (68 : Nat) ≠ 54), upN_comm _ _ _ (by decide : (67 : Nat) ≠ 54), upN_comm _ _ _ (by decide : (55 : Nat) ≠ 54), upN_upN]) rfl rfl rfl rfl rfl
theorem qM_55 (M : MS) (x54 : Int32) (x55 : Int32) (x67 : Int32) (x68 : Int32) (x69 : Int32) (x61 : Int64) (x62 : Int64) (x63 : Int64) (x64 : Option Nat) (x65 : Option Nat) (x66 : Option Nat) (x70 : Nat → Nat) (y : Int32) : sI (qM M x54 x55 x67 x68 x69 x61 x62 x63 x64 x65 x66 x70) 55 y = qM M x54 y x67 x68 x69 x61 x62 x63 x64 x65 x66 x70 := MS.ext (by
    show upN (upN (upN (upN (upN (upN M.1 54 x54) 55 x55) 67 x67) 68 x68) 69 x69) 55 y = upN (upN (upN (upN (upN M.1 54 x54) 55 y) 67 x67) 68 x68) 69 x69
    rw [upN_comm _ _ _ (by decide : (69 : Nat) ≠ 55), upN_comm _ _ _ (by decide : (68 : Nat) ≠ 55), upN_comm _ _ _ (by decide : (67 : Nat) ≠ 55), upN_upN]) rfl rfl rfl rfl rfl
theorem qM_67 (M : MS) (x54 : Int32) (x55 : Int32) (x67 : Int32) (x68 : Int32) (x69 : Int32) (x61 : Int64) (x62 : Int64) (x63 : Int64) (x64 : Option Nat) (x65 : Option Nat) (x66 : Option Nat) (x70 : Nat → Nat) (y : Int32) : sI (qM M x54 x55 x67 x68 x69 x61 x62 x63 x64 x65 x66 x70) 67 y = qM M x54 x55 y x68 x69 x61 x62 x63 x64 x65 x66 x70 := MS.ext (by
    show upN (upN (upN (upN (upN (upN M.1 54 x54) 55 x55) 67 x67) 68 x68) 69 x69) 67 y = upN (upN (upN (upN (upN M.1 54 x54) 55 x55) 67 y) 68 x68) 69 x69
    rw [upN_comm _ _ _ (by decide : (69 : Nat) ≠ 67), upN_comm _ _ _ (by decide : (68 : Nat) ≠ 67), upN_upN]) rfl rfl rfl rfl rfl
theorem qM_68 (M : MS) (x54 : Int32) (x55 : Int32) (x67 : Int32) (x68 : Int32) (x69 : Int32) (x61 : Int64) (x62 : Int64) (x63 : Int64) (x64 : Option Nat) (x65 : Option Nat) (x66 : Option Nat) (x70 : Nat → Nat) (y : Int32) : sI (qM M x54 x55 x67 x68 x69 x61 x62 x63 x64 x65 x66 x70) 68 y = qM M x54 x55 x67 y x69 x61 x62 x63 x64 x65 x66 x70 := MS.ext (by
    show upN (upN (upN (upN (upN (upN M.1 54 x54) 55 x55) 67 x67) 68 x68) 69 x69) 68 y = upN (upN (upN (upN (upN M.1 54 x54) 55 x55) 67 x67) 68 y) 69 x69
    rw [upN_comm _ _ _ (by decide : (69 : Nat) ≠ 68), upN_upN]) rfl rfl rfl rfl rfl
theorem qM_69 (M : MS) (x54 : Int32) (x55 : Int32) (x67 : Int32) (x68 : Int32) (x69 : Int32) (x61 : Int64) (x62 : Int64) (x63 : Int64) (x64 : Option Nat) (x65 : Option Nat) (x66 : Option Nat) (x70 : Nat → Nat) (y : Int32) : sI (qM M x54 x55 x67 x68 x69 x61 x62 x63 x64 x65 x66 x70) 69 y = qM M x54 x55 x67 x68 y x61 x62 x63 x64 x65 x66 x70 := MS.ext (by
    show upN (upN (upN (upN (upN (upN M.1 54 x54) 55 x55) 67 x67) 68 x68) 69 x69) 69 y = upN (upN (upN (upN (upN M.1 54 x54) 55 x55) 67 x67) 68 x68) 69 y
    rw [upN_upN]) rfl rfl rfl rfl rfl
theorem qM_61 (M : MS) (x54 : Int32) (x55 : Int32) (x67 : Int32) (x68 : Int32) (x69 : Int32) (x61 : Int64) (x62 : Int64) (x63 : Int64) (x64 : Option Nat) (x65 : Option Nat) (x66 : Option Nat) (x70 : Nat → Nat) (y : Int64) : sL (qM M x54 x55 x67 x68 x69 x61 x62 x63 x64 x65 x66 x70) 61 y = qM M x54 x55 x67 x68 x69 y x62 x63 x64 x65 x66 x70 := MS.ext rfl (by
    show upN (upN (upN (upN M.2.1 61 x61) 62 x62) 63 x63) 61 y = upN (upN (upN M.2.1 61 y) 62 x62) 63 x63
    rw [upN_comm _ _ _ (by decide : (63 : Nat) ≠ 61), upN_comm _ _ _ (by decide : (62 : Nat) ≠ 61), upN_upN]) rfl rfl rfl rfl
theorem qM_62 (M : MS) (x54 : Int32) (x55 : Int32) (x67 : Int32) (x68 : Int32) (x69 : Int32) (x61 : Int64) (x62 : Int64) (x63 : Int64) (x64 : Option Nat) (x65 : Option Nat) (x66 : Option Nat) (x70 : Nat → Nat) (y : Int64) : sL (qM M x54 x55 x67 x68 x69 x61 x62 x63 x64 x65 x66 x70) 62 y = qM M x54 x55 x67 x68 x69 x61 y x63 x64 x65 x66 x70 := MS.ext rfl (by
    show upN (upN (upN (upN M.2.1 61 x61) 62 x62) 63 x63) 62 y = upN (upN (upN M.2.1 61 x61) 62 y) 63 x63
    rw [upN_comm _ _ _ (by decide : (63 : Nat) ≠ 62), upN_upN]) rfl rfl rfl rfl
theorem qM_63 (M : MS) (x54 : Int32) (x55 : Int32) (x67 : Int32) (x68 : Int32) (x69 : Int32) (x61 : Int64) (x62 : Int64) (x63 : Int64) (x64 : Option Nat) (x65 : Option Nat) (x66 : Option Nat) (x70 : Nat → Nat) (y : Int64) : sL (qM M x54 x55 x67 x68 x69 x61 x62 x63 x64 x65 x66 x70) 63 y = qM M x54 x55 x67 x68 x69 x61 x62 y x64 x65 x66 x70 := MS.ext rfl (by
    show upN (upN (upN (upN M.2.1 61 x61) 62 x62) 63 x63) 63 y = upN (upN (upN M.2.1 61 x61) 62 x62) 63 y
    rw [upN_upN]) rfl rfl rfl rfl
theorem qM_64 (M : MS) (x54 : Int32) (x55 : Int32) (x67 : Int32) (x68 : Int32) (x69 : Int32) (x61 : Int64) (x62 : Int64) (x63 : Int64) (x64 : Option Nat) (x65 : Option Nat) (x66 : Option Nat) (x70 : Nat → Nat) (y : Option Nat) : sR (qM M x54 x55 x67 x68 x69 x61 x62 x63 x64 x65 x66 x70) 64 y = qM M x54 x55 x67 x68 x69 x61 x62 x63 y x65 x66 x70 := MS.ext rfl rfl (by
    show upN (upN (upN (upN M.2.2.1 64 x64) 65 x65) 66 x66) 64 y = upN (upN (upN M.2.2.1 64 y) 65 x65) 66 x66
    rw [upN_comm _ _ _ (by decide : (66 : Nat) ≠ 64), upN_comm _ _ _ (by decide : (65 : Nat) ≠ 64), upN_upN]) rfl rfl rfl
theorem qM_65 (M : MS) (x54 : Int32) (x55 : Int32) (x67 : Int32) (x68 : Int32) (x69 : Int32) (x61 : Int64) (x62 : Int64) (x63 : Int64) (x64 : Option Nat) (x65 : Option Nat) (x66 : Option Nat) (x70 : Nat → Nat) (y : Option Nat) : sR (qM M x54 x55 x67 x68 x69 x61 x62 x63 x64 x65 x66 x70) 65 y = qM M x54 x55 x67 x68 x69 x61 x62 x63 x64 y x66 x70 := MS.ext rfl rfl (by
    show upN (upN (upN (upN M.2.2.1 64 x64) 65 x65) 66 x66) 65 y = upN (upN (upN M.2.2.1 64 x64) 65 y) 66 x66
    rw [upN_comm _ _ _ (by decide : (66 : Nat) ≠ 65), upN_upN]) rfl rfl rfl
theorem qM_66 (M : MS) (x54 : Int32) (x55 : Int32) (x67 : Int32) (x68 : Int32) (x69 : Int32) (x61 : Int64) (x62 : Int64) (x63 : Int64) (x64 : Option Nat) (x65 : Option Nat) (x66 : Option Nat) (x70 : Nat → Nat) (y : Option Nat) : sR (qM M x54 x55 x67 x68 x69 x61 x62 x63 x64 x65 x66 x70) 66 y = qM M x54 x55 x67 x68 x69 x61 x62 x63 x64 x65 y x70 := MS.ext rfl rfl (by
    show upN (upN (upN (upN M.2.2.1 64 x64) 65 x65) 66 x66) 66 y = upN (upN (upN M.2.2.1 64 x64) 65 x65) 66 y
    rw [upN_upN]) rfl rfl rfl
theorem qM_70 (M : MS) (x54 : Int32) (x55 : Int32) (x67 : Int32) (x68 : Int32) (x69 : Int32) (x61 : Int64) (x62 : Int64) (x63 : Int64) (x64 : Option Nat) (x65 : Option Nat) (x66 : Option Nat) (x70 : Nat → Nat) (y : Nat → Nat) : sG (qM M x54 x55 x67 x68 x69 x61 x62 x63 x64 x65 x66 x70) 70 y = qM M x54 x55 x67 x68 x69 x61 x62 x63 x64 x65 x66 y := MS.ext rfl rfl rfl (by
    show upN (upN M.2.2.2.1 70 x70) 70 y = upN M.2.2.2.1 70 y
    rw [upN_upN]) rfl rfl
theorem qM_re (M : MS) (x54 : Int32) (x55 : Int32) (x67 : Int32) (x68 : Int32) (x69 : Int32) (x61 : Int64) (x62 : Int64) (x63 : Int64) (x64 : Option Nat) (x65 : Option Nat) (x66 : Option Nat) (x70 : Nat → Nat) (y54 : Int32) (y55 : Int32) (y67 : Int32) (y68 : Int32) (y69 : Int32) (y61 : Int64) (y62 : Int64) (y63 : Int64) (y64 : Option Nat) (y65 : Option Nat) (y66 : Option Nat) (y70 : Nat → Nat) : qM (qM M x54 x55 x67 x68 x69 x61 x62 x63 x64 x65 x66 x70) y54 y55 y67 y68 y69 y61 y62 y63 y64 y65 y66 y70 = qM M y54 y55 y67 y68 y69 y61 y62 y63 y64 y65 y66 y70 := by
  show sG (sR (sR (sR (sL (sL (sL (sI (sI (sI (sI (sI (qM M x54 x55 x67 x68 x69 x61 x62 x63 x64 x65 x66 x70) 54 y54) 55 y55) 67 y67) 68 y68) 69 y69) 61 y61) 62 y62) 63 y63) 64 y64) 65 y65) 66 y66) 70 y70 = _
  rw [qM_54, qM_55, qM_67, qM_68, qM_69, qM_61, qM_62, qM_63, qM_64, qM_65, qM_66, qM_70]
theorem oM_qM (M : MS) (x54 : Int32) (x55 : Int32) (x67 : Int32) (x68 : Int32) (x69 : Int32) (x61 : Int64) (x62 : Int64) (x63 : Int64) (x64 : Option Nat) (x65 : Option Nat) (x66 : Option Nat) (x70 : Nat → Nat) (y54 : Int32) (y55 : Int32) : oM (qM M x54 x55 x67 x68 x69 x61 x62 x63 x64 x65 x66 x70) y54 y55 = qM M y54 y55 x67 x68 x69 x61 x62 x63 x64 x65 x66 x70 := by
  show sI (sI (qM M x54 x55 x67 x68 x69 x61 x62 x63 x64 x65 x66 x70) 54 y54) 55 y55 = _
  rw [qM_54, qM_55]
theorem nM_qM (M : MS) (x54 : Int32) (x55 : Int32) (x67 : Int32) (x68 : Int32) (x69 : Int32) (x61 : Int64) (x62 : Int64) (x63 : Int64) (x64 : Option Nat) (x65 : Option Nat) (x66 : Option Nat) (x70 : Nat → Nat) (y67 : Int32) (y68 : Int32) (y69 : Int32) (y61 : Int64) (y62 : Int64) (y63 : Int64) (y64 : Option Nat) (y65 : Option Nat) (y66 : Option Nat) (y70 : Nat → Nat) : nM (qM M x54 x55 x67 x68 x69 x61 x62 x63 x64 x65 x66 x70) y67 y68 y69 y61 y62 y63 y64 y65 y66 y70 = qM M x54 x55 y67 y68 y69 y61 y62 y63 y64 y65 y66 y70 := by
  show sG (sR (sR (sR (sL (sL (sL (sI (sI (sI (qM M x54 x55 x67 x68 x69 x61 x62 x63 x64 x65 x66 x70) 67 y67) 68 y68) 69 y69) 61 y61) 62 y62) 63 y63) 64 y64) 65 y65) 66 y66) 70 y70 = _
  rw [qM_67, qM_68, qM_69, qM_61, qM_62, qM_63, qM_64, qM_65, qM_66, qM_70]
def qWm (M : MS) (nt : NS) (r : Option Nat × Option Nat × Option Nat) (u : OU) : MS := qM M (nI u.1) (bZ u.2) (oI nt.2.2.2.2.2.2.1) (oI nt.2.2.2.2.2.2.2.1) (bZ nt.2.2.2.2.2.2.2.2.1) (oL nt.1) (lN nt.2.1) (lN nt.2.2.1) r.1 r.2.1 r.2.2 (fun j => (nt.2.2.2.2.2.2.2.2.2 j).toNat)

theorem nWm_q (M : MS) (nt nt' : NS) (r r' : Option Nat × Option Nat × Option Nat) (u : OU) : nWm (qWm M nt r u) nt' r' = qWm M nt' r' u := by unfold nWm qWm; rw [nM_qM]
theorem oM_q (M : MS) (nt : NS) (r : Option Nat × Option Nat × Option Nat) (u u' : OU) : oM (qWm M nt r u) (nI u'.1) (bZ u'.2) = qWm M nt r u' := by unfold qWm; rw [oM_qM]
/-- a note's length -/
def manyS (l : List Nat) (u : OU) : Nat × OU :=
  if (oneS l u).1 < 192 then oneS l u
  else if (oneS l u).1 < 224 then (((oneS l u).1 - 192) * 256 + (oneS l (oneS l u).2).1 + 192, (oneS l (oneS l u).2).2)
  else if (oneS l u).1 = 255 then someS l 4 0 (oneS l u).2
  else (0, (oneS l u).2)
def notesS (l : List Nat) (sd : Bool) (en : Nat) : Nat → NS × OU → (NS × OU) × Bool
  | 0, x => (x, x.2.2)
  | f + 1, x =>
    if en ≤ x.2.1 then (x, x.2.2)
    else if (manyS l x.2).1 = 0 ∨ en - (manyS l x.2).2.1 < (manyS l x.2).1 then ((x.1, (manyS l x.2).2), false)
    else
      let nb := oneS l (manyS l x.2).2
      let y := noteS x.1 (nb.1 % 128) (decide (127 < nb.1)) sd (sliceL l nb.2.1 ((manyS l x.2).1 - 1))
      let u2 : OU := (nb.2.1 + ((manyS l x.2).1 - 1), nb.2.2)
      if y.2 = true then notesS l sd en f (y.1, u2) else ((y.1, u2), false)
def notesR (l : List Nat) (sd : Bool) (x : NS × OU) : (NS × OU) × Bool :=
  if (someS l 2 0 x.2).2.2 = false ∨ l.length < (someS l 2 0 x.2).2.1 + (someS l 2 0 x.2).1 then ((x.1, (someS l 2 0 x.2).2), false)
  else notesS l sd ((someS l 2 0 x.2).2.1 + (someS l 2 0 x.2).1) (l.length + 1) (x.1, (someS l 2 0 x.2).2)
theorem manyS_ok {l : List Nat} (hb : byt l) (u : OU) (h : u.1 ≤ l.length) : (manyS l u).1 < 4294967296 ∧ (manyS l u).2.1 ≤ l.length ∧ u.1 ≤ (manyS l u).2.1 := by
  have h1 := oneS_lt hb u
  have h2 := oneS_le h
  have h3 := oneS_lt hb (oneS l u).2
  have h4 := oneS_le h2.1
  have h5 := someS_ok hb 4 0 0 (oneS l u).2 h2.1 (by decide)
  unfold manyS
  split
  · exact ⟨by omega, h2.1, h2.2⟩
  · split
    · exact ⟨by show _ + _ + _ < _; omega, h4.1, Nat.le_trans h2.2 h4.2⟩
    · split
      · exact ⟨Nat.lt_of_lt_of_le h5.1 (by decide), h5.2.1, Nat.le_trans h2.2 h5.2.2⟩
      · exact ⟨by show 0 < _; omega, h2⟩
theorem manyS_st {l : List Nat} (hb : byt l) (u : OU) (h : u.1 < l.length) : u.1 < (manyS l u).2.1 := by
  have e1 : (oneS l u).2.1 = u.1 + 1 := by unfold oneS; rw [if_neg (by omega)]
  have h2 := oneS_le (l := l) (u := u) (by omega)
  have h4 := oneS_le h2.1
  have h5 := someS_ok hb 4 0 0 (oneS l u).2 h2.1 (by decide)
  unfold manyS
  split
  · omega
  · split
    · show _ < (oneS l (oneS l u).2).2.1; omega
    · split
      · omega
      · show _ < (oneS l u).2.1; omega
theorem notesS_le {l : List Nat} (hb : byt l) (sd : Bool) {en : Nat} (he : en ≤ l.length) : ∀ (f : Nat) (x : NS × OU), x.2.1 ≤ l.length → (notesS l sd en f x).1.2.1 ≤ l.length := by
  intro f
  induction f with
  | zero => intro x hx; exact hx
  | succ f ih =>
    intro x hx
    have h1 := manyS_ok hb x.2 hx
    rw [notesS]
    split
    · exact hx
    · split
      · exact h1.2.1
      · next q1 q2 =>
        have h2 : (manyS l x.2).2.1 < l.length := by omega
        have e2 : (oneS l (manyS l x.2).2).2.1 = (manyS l x.2).2.1 + 1 := by unfold oneS; rw [if_neg (by omega)]
        have h3 : (oneS l (manyS l x.2).2).2.1 + ((manyS l x.2).1 - 1) ≤ l.length := by omega
        show (if _ then _ else _ : (NS × OU) × Bool).1.2.1 ≤ _
        split
        · exact ih _ h3
        · exact h3
theorem notesR_le {l : List Nat} (hb : byt l) (sd : Bool) (x : NS × OU) (hx : x.2.1 ≤ l.length) : (notesR l sd x).1.2.1 ≤ l.length := by
  have h1 := someS_ok hb 2 0 0 x.2 hx (by decide)
  unfold notesR
  split
  · exact h1.2.1
  · exact notesS_le hb sd (by omega) _ _ h1.2.1
theorem oneS_mono (l : List Nat) (u : OU) : u.1 ≤ (oneS l u).2.1 := by unfold oneS; split <;> simp
theorem someS_mono (l : List Nat) : ∀ (n v : Nat) (u : OU), u.1 ≤ (someS l n v u).2.1 := by
  intro n
  induction n with
  | zero => intro v u; exact Nat.le_refl _
  | succ n ih => intro v u; exact Nat.le_trans (oneS_mono l u) (ih _ _)
theorem notesS_mono (l : List Nat) (sd : Bool) (en : Nat) : ∀ (f : Nat) (x : NS × OU), x.2.1 ≤ (notesS l sd en f x).1.2.1 := by
  intro f
  induction f with
  | zero => intro x; exact Nat.le_refl _
  | succ f ih =>
    intro x
    have hm : x.2.1 ≤ (manyS l x.2).2.1 := by
      have h1 := oneS_mono l x.2
      have h2 := oneS_mono l (oneS l x.2).2
      have h3 := someS_mono l 4 0 (oneS l x.2).2
      unfold manyS
      split
      · exact h1
      · split
        · exact Nat.le_trans h1 h2
        · split
          · exact Nat.le_trans h1 h3
          · exact h1
    have h4 := oneS_mono l (manyS l x.2).2
    rw [notesS]
    split
    · exact Nat.le_refl _
    · split
      · exact hm
      · show _ ≤ (if _ then _ else _ : (NS × OU) × Bool).1.2.1
        split
        · refine Nat.le_trans ?_ (ih _)
          show x.2.1 ≤ (oneS l (manyS l x.2).2).2.1 + _
          omega
        · show x.2.1 ≤ (oneS l (manyS l x.2).2).2.1 + _
          omega
theorem notesS_ge {l : List Nat} {sd : Bool} {en f : Nat} {x : NS × OU} (h1 : ¬ en ≤ x.2.1) (h2 : ¬ ((manyS l x.2).1 = 0 ∨ en - (manyS l x.2).2.1 < (manyS l x.2).1)) : (oneS l (manyS l x.2).2).2.1 + ((manyS l x.2).1 - 1) ≤ (notesS l sd en (f + 1) x).1.2.1 := by
  rw [notesS, if_neg h1, if_neg h2]
  show _ ≤ (if _ then _ else _ : (NS × OU) × Bool).1.2.1
  split
  · refine Nat.le_trans ?_ (notesS_mono l sd en f _)
    exact Nat.le_refl _
  · exact Nat.le_refl _


theorem neg_lt {a b k : Nat} (h : a < b) (hb : b < 1000000) (hk : k < 9223372036854775808) : (nI a - nI b).toInt64 < lN k := by
  have e1 : (nI a - nI b).toInt = (a : Int) - b := by
    rw [Int32.toInt_sub, nI_toInt (by omega), nI_toInt (by omega)]
    exact Int.bmod_eq_of_le (by omega) (by omega)
  rw [Int64.lt_iff_toInt_lt, Int32.toInt_toInt64, e1, show (lN k).toInt = (k : Int) from lg_ofNat_toInt hk]
  omega

set_option maxHeartbeats 400000 in
set_option maxRecDepth 100000 in
theorem c7_readNotes (l : Launch) (D : va_G) (dA : Nat → ClassId) (B : Nat) (Z : State → Prop) (hZ : Stab B Z) (h0 : Nat) (ad : Nat → Nat) (M : MS) (F : va_W) (oa : Nat) (lb : List Nat) (x0 : NS × OU) (r0 : Option Nat × Option Nat × Option Nat) (sd : Bool) (hof : mR M 53 = some oa) (hoF : (oa, ial dA lb) ∈ F) (hob : byt lb) (hol : lb.length ≤ 5000) (hR0 : RN dA F x0.1 r0) (hu0 : x0.2.1 ≤ lb.length) :
    Ct (S := (Option Nat × Option Nat × Option Nat) × va_W) l D dA B Z yX7_readNotes cX7_readNotes 9 (some .boolean) 3 (((notesR lb sd x0).1.2.1 - x0.2.1) / 2) (2 * (lb.length - x0.2.1)) [.ref h0, .int (bZ sd)] (mw dA h0 ad (qWm M x0.1 r0 x0.2) ++ F) (fun u => RN dA (F ++ u.2) (notesR lb sd x0).1.1 u.1) (fun _ => some (.int (bZ (notesR lb sd x0).2))) (fun u => mw dA h0 ad (qWm M (notesR lb sd x0).1.1 u.1 (notesR lb sd x0).1.2) ++ (F ++ u.2)) := by
  refine Ct.mk2 (by decide) (Nat.le_of_ble_eq_true rfl) hZ ?_
  intro p e R s m args below meth c ls Q C hr hlocks hin hQ hl h
  have C0 := C
  obtain ⟨hx, hb, hml, hown, hts, -⟩ := C0
  have hl : lv_has ls 9 [(0, .ref h0), (1, .int (bZ sd))] := hl
  refine lv_aload_n hx hb dX7_readNotes_0 rfl (lv_at hl 0 rfl) ?_
  refine lv_iconst (v := nI 2) hx hb dX7_readNotes_1 (by decide) ?_
  have h : Wd D B s (mw dA h0 ad (oM (qWm M x0.1 r0 x0.2) (nI x0.2.1) (bZ x0.2.2)) ++ F) s.heap [] := by rw [oM_q]; exact h
  refine call_V (As := [.int (nI 2)]) (rest := []) (n := 1) C h (c7_some l D dA B Z hZ h0 ad (qWm M x0.1 r0 x0.2) F oa lb x0.2 2 hof hoF hob hol (hu0) (by decide)) (lw_V q2225 q2227 qs62 q138 q2228) (by decide +kernel) (ci := 5) rfl rfl mw_mem0 (by decide) (by decide) rfl hl rfl (Nat.le_of_ble_eq_true rfl) dX7_readNotes_2 (by omega) (fun _ H locs _ h => ?_)
  rw [oM_q] at h
  have h : Wd D B s (mw dA h0 ad (qWm M x0.1 r0 (someS lb 2 0 x0.2).2) ++ F) H locs := h
  show W p l e R s m args below meth c H locs (0 + 0) (0 + 0) Q (F0 m 5 ls [.long (lN ((someS lb 2 0 x0.2).1))])
  have hs := someS_ok hob 2 0 0 x0.2 hu0 (by decide)
  obtain ⟨bi, v, hbv⟩ : ∃ bi v, someS lb 2 0 x0.2 = (bi, v) := ⟨_, _, rfl⟩
  rw [hbv] at hs h ⊢
  obtain ⟨hs1, hs2, hs3⟩ := hs
  have hs1 : bi < 65536 := hs1
  have hs2 : v.1 ≤ lb.length := hs2
  have hs3 : x0.2.1 ≤ v.1 := hs3
  show W p l e R s m args below meth c H locs (0 + 0) (0 + 0) Q (F0 m 5 ls [.long (lN bi)])
  have h : Wd D B s (mw dA h0 ad (qWm M x0.1 r0 v) ++ F) H locs := h
  refine lv_l2i (v := nI bi) hx hb dX7_readNotes_5 (lN_i _) ?_
  refine lv_istore_n (lv' := [(2, .int (nI bi)), (0, .ref h0), (1, .int (bZ sd))]) hx hb dX7_readNotes_6 rfl hl (by decide) rfl (fun ls hl => ?_)
  refine lv_aload_n hx hb dX7_readNotes_7 rfl (lv_at hl 1 rfl) ?_
  refine m_gi C h 54 (by decide) rfl rfl q1924 (v := nI v.1) rfl dX7_readNotes_8 ?_
  refine lv_iload_n hx hb dX7_readNotes_11 rfl (lv_at hl 0 rfl) ?_
  refine lv_iadd hx hb dX7_readNotes_12 (n_top (y := nI (v.1 + bi)) (nI_add v.1 bi) ?_)
  refine lv_istore_n (lv' := [(3, .int (nI (v.1 + bi))), (2, .int (nI bi)), (0, .ref h0), (1, .int (bZ sd))]) hx hb dX7_readNotes_13 rfl hl (by decide) rfl (fun ls hl => ?_)
  have jf : (v.2 = false ∨ lb.length < v.1 + bi) → ∀ (H : Heap) (locs : List Loc), Wd D B s (mw dA h0 ad (qWm M x0.1 r0 v) ++ F) H locs → ∀ (ls : Array Slot), lv_has ls 9 [(3, .int (nI (v.1 + bi))), (2, .int (nI bi)), (0, .ref h0), (1, .int (bZ sd))] → W p l e R s m args below meth c H locs (0 + 0) (0 + 0) Q (F0 m 30 ls []) := by
    intro  hjf H locs h ls hl
    refine lv_iconst (v := nI 0) hx hb dX7_readNotes_30 (by decide) ?_
    subst hQ
    have hfin : notesR lb sd x0 = ((x0.1, v), false) := by unfold notesR; rw [hbv]; exact if_pos hjf
    have h : Wd D B s (mw dA h0 ad (qWm M x0.1 r0 v) ++ (F ++ [])) H locs := by rw [List.append_nil]; exact h
    refine n_top (y := bZ false) rfl ?_
    exact ret_z C hr hlocks h (r0, []) (by rw [hfin]; exact hR0.up) (by rw [hfin]) (by rw [hfin]) (by omega) (by omega) dX7_readNotes_31
  refine lv_aload_n hx hb dX7_readNotes_14 rfl (lv_at hl 2 rfl) ?_
  refine m_gi C h 55 (by decide) rfl rfl q1925 (v := bZ v.2) rfl dX7_readNotes_15 ?_
  refine z_if_eq (tgt := 30) hx hb dX7_readNotes_18 (by decide) (fun c18 => ?_) (fun c18 => ?_)
  · exact jf  (by first | exact Or.inl c18 | exact Or.inr c27) _ _ h _ (lv_sub hl [0, 1, 2, 3] rfl)
  · refine lv_iload_n hx hb dX7_readNotes_21 rfl (lv_at hl 0 rfl) ?_
    refine lv_aload_n hx hb dX7_readNotes_22 rfl (lv_at hl 2 rfl) ?_
    refine m_gr C h 53 (by decide) rfl rfl q1923 (v := some oa) hof dX7_readNotes_23 ?_
    refine n_alen C h (List.mem_append_right _ hoF) dX7_readNotes_26 ?_
    refine n_icmp_le (tgt := 32) hx hb (by omega) (by omega) dX7_readNotes_27 (by decide) (fun c27 => ?_) (fun c27 => ?_)
    · have hvr : v.2 = true := c18
      have hve : v.1 + bi ≤ lb.length := c27
      have h : Wd D B s (mw dA h0 ad (qWm M x0.1 r0 v) ++ (F ++ [])) H locs := by rw [List.append_nil]; exact h
      have hNR : notesR lb sd x0 = notesS lb sd (v.1 + bi) (lb.length + 1) (x0.1, v) := by
        unfold notesR; rw [hbv]; exact if_neg (by show ¬ (v.2 = false ∨ lb.length < v.1 + bi); intro q; rcases q with q | q; exact absurd (q.symm.trans hvr) (by decide); omega)
      have loop : ∀ (nn : Nat) (f cc cs : Nat) (x : NS × OU) (r : Option Nat × Option Nat × Option Nat) (E : va_W), (notesS lb sd (v.1 + bi) (lb.length + 1) (x0.1, v) = notesS lb sd (v.1 + bi) f x) → (v.1 + bi - x.2.1 < f) → (x.2.1 ≤ lb.length) → (RN dA (F ++ E) x.1 r) → (2 * cc + (lb.length - x.2.1) ≤ lb.length - x0.2.1) → (cs + 2 * (lb.length - x.2.1) ≤ 2 * (lb.length - x0.2.1)) → f < nn → ∀ (H : Heap) (locs : List Loc), Wd D B s (mw dA h0 ad (qWm M x.1 r x.2) ++ (F ++ E)) H locs → ∀ (ls : Array Slot), lv_has ls 9 [(0, .ref h0), (1, .int (bZ sd)), (3, .int (nI (v.1 + bi)))] → W p l e R s m args below meth c H locs cc cs Q (F0 m 32 ls []) := by
        intro nn
        induction nn with
        | zero => intro f cc cs  x  r  E  hT hf hxl hRx hcc hcs hme; exact absurd hme (Nat.not_lt_zero _)
        | succ nn ih =>
          intro f cc cs  x  r  E  hT hf hxl hRx hcc hcs hme H locs h ls hl
          have hmo := manyS_ok hob x.2 hxl
          have hge0 : x.2.1 ≤ (notesR lb sd x0).1.2.1 := by rw [hNR, hT]; exact notesS_mono _ _ _ _ _
          refine lv_aload_n hx hb dX7_readNotes_32 rfl (lv_at hl 0 rfl) ?_
          refine m_gi C h 54 (by decide) rfl rfl q1924 (v := nI x.2.1) rfl dX7_readNotes_33 ?_
          refine lv_iload_n hx hb dX7_readNotes_36 rfl (lv_at hl 2 rfl) ?_
          refine n_icmp_ge (tgt := 203) hx hb (by omega) (by omega) dX7_readNotes_37 (by decide) (fun c37 => ?_) (fun c37 => ?_)
          · refine lv_aload_n hx hb dX7_readNotes_203 rfl (lv_at hl 0 rfl) ?_
            refine m_gi C h 55 (by decide) rfl rfl q1925 (v := bZ x.2.2) rfl dX7_readNotes_204 ?_
            subst hQ
            have hNR : notesR lb sd x0 = notesS lb sd (v.1 + bi) (lb.length + 1) (x0.1, v) := by
              unfold notesR; rw [hbv]; exact if_neg (by show ¬ (v.2 = false ∨ lb.length < v.1 + bi); intro q; rcases q with q | q; exact absurd (q.symm.trans hvr) (by decide); omega)
            have hfin : notesR lb sd x0 = (x, x.2.2) := by
              rw [hNR, hT]
              cases f with
              | zero => rfl
              | succ f => rw [notesS, if_pos c37]
            exact ret_z C hr hlocks h (r, E) (by rw [hfin]; exact hRx) (by rw [hfin]) (by rw [hfin]) (by omega) (by omega) dX7_readNotes_207
          · obtain ⟨f, rfl⟩ : ∃ k, f = k + 1 := ⟨f - 1, by omega⟩
            have hms := manyS_st hob x.2 (by omega)
            have h1b := oneS_lt hob x.2
            have h1l := oneS_le hxl
            have h2b := oneS_lt hob (oneS lb x.2).2
            refine lv_aload_n hx hb dX7_readNotes_40 rfl (lv_at hl 0 rfl) ?_
            have h : Wd D B s (mw dA h0 ad (oM (qWm M x.1 r x.2) (nI x.2.1) (bZ x.2.2)) ++ (F ++ E)) H locs := by rw [oM_q]; exact h
            refine call_V (As := []) (rest := []) (n := 0) C h (c7_one l D dA B Z hZ h0 ad (qWm M x.1 r x.2) (F ++ E) oa lb x.2 hof (List.mem_append_left _ hoF) hob hol (hxl)) (lw_V q2221 q2223 qs61 q138 q2224) (by decide +kernel) (ci := 5) rfl rfl mw_mem0 (by decide) (by decide) rfl hl rfl (Nat.le_of_ble_eq_true rfl) dX7_readNotes_41 (by omega) (fun _ H locs _ h => ?_)
            rw [oM_q] at h
            have h : Wd D B s (mw dA h0 ad (qWm M x.1 r (oneS lb x.2).2) ++ (F ++ E)) H locs := h
            show W p l e R s m args below meth c H locs (cc + 0) (cs + 0) Q (F0 m 44 ls [.int (nI ((oneS lb x.2).1))])
            refine lv_istore (lv' := [(4, .int (nI ((oneS lb x.2).1))), (0, .ref h0), (1, .int (bZ sd)), (3, .int (nI (v.1 + bi)))]) hx hb dX7_readNotes_44 hl (by decide) rfl (fun ls hl => ?_)
            have jm : ∀ (mm : Nat) (um : OU), (manyS lb x.2 = (mm, um)) → ∀ (H : Heap) (locs : List Loc), Wd D B s (mw dA h0 ad (qWm M x.1 r um) ++ (F ++ E)) H locs → ∀ (ls : Array Slot), lv_has ls 9 [(4, .int (nI ((oneS lb x.2).1))), (0, .ref h0), (1, .int (bZ sd)), (3, .int (nI (v.1 + bi)))] → W p l e R s m args below meth c H locs (cc + 0) (cs + 0) Q (F0 m 108 ls [.long (lN mm)]) := by
              intro mm  um  hmm H locs h ls hl
              rw [hmm] at hmo hms
              obtain ⟨hm1, hm2, hm3⟩ := hmo
              have hm1 : mm < 4294967296 := hm1
              have hm2 : um.1 ≤ lb.length := hm2
              have hms : x.2.1 < um.1 := hms
              refine lv_lstore (lv' := [(5, .long (lN mm)), (4, .int (nI ((oneS lb x.2).1))), (0, .ref h0), (1, .int (bZ sd)), (3, .int (nI (v.1 + bi)))]) hx hb dX7_readNotes_108 hl (by decide) rfl (fun ls hl => ?_)
              have jz : (mm = 0 ∨ v.1 + bi - um.1 < mm) → ∀ (H : Heap) (locs : List Loc), Wd D B s (mw dA h0 ad (qWm M x.1 r um) ++ (F ++ E)) H locs → ∀ (ls : Array Slot), lv_has ls 9 [(5, .long (lN mm)), (4, .int (nI ((oneS lb x.2).1))), (0, .ref h0), (1, .int (bZ sd)), (3, .int (nI (v.1 + bi)))] → W p l e R s m args below meth c H locs (cc + 0) (cs + 0) Q (F0 m 130 ls []) := by
                intro  hjz H locs h ls hl
                refine lv_iconst (v := nI 0) hx hb dX7_readNotes_130 (by decide) ?_
                subst hQ
                have hNR : notesR lb sd x0 = notesS lb sd (v.1 + bi) (lb.length + 1) (x0.1, v) := by
                  unfold notesR; rw [hbv]; exact if_neg (by show ¬ (v.2 = false ∨ lb.length < v.1 + bi); intro q; rcases q with q | q; exact absurd (q.symm.trans hvr) (by decide); omega)
                have hfin : notesR lb sd x0 = ((x.1, um), false) := by rw [hNR, hT, notesS, if_neg (by omega), hmm, if_pos hjz]
                refine n_top (y := bZ false) rfl ?_
                exact ret_z C hr hlocks h (r, E) (by rw [hfin]; exact hRx) (by rw [hfin]) (by rw [hfin]) (by omega) (by omega) dX7_readNotes_131
              refine lv_lload hx hb dX7_readNotes_110 (lv_at hl 0 rfl) ?_
              refine lv_lconst (v := lN 0) hx hb dX7_readNotes_112 (by decide) ?_
              refine n_lcmp_eq (tgt := 130) hx hb (by omega) (by omega) dX7_readNotes_113 dX7_readNotes_114 (by decide) (fun c113 => ?_) (fun c113 => ?_)
              · exact jz  (by omega) _ _ h _ (lv_sub hl [0, 1, 2, 3, 4] rfl)
              · refine lv_lload hx hb dX7_readNotes_117 (lv_at hl 0 rfl) ?_
                refine lv_iload_n hx hb dX7_readNotes_119 rfl (lv_at hl 4 rfl) ?_
                refine lv_aload_n hx hb dX7_readNotes_120 rfl (lv_at hl 2 rfl) ?_
                refine m_gi C h 54 (by decide) rfl rfl q1924 (v := nI um.1) rfl dX7_readNotes_121 ?_
                by_cases hle : um.1 ≤ v.1 + bi
                · refine lv_isub hx hb dX7_readNotes_124 (n_top (y := nI (v.1 + bi - um.1)) (pk_sub hle) ?_)
                  refine lv_i2l (v := lN (v.1 + bi - um.1)) hx hb dX7_readNotes_125 (nI_l (by omega)) ?_
                  refine n_lcmp_le (tgt := 132) hx hb (by omega) (by omega) dX7_readNotes_126 dX7_readNotes_127 (by decide) (fun c126 => ?_) (fun c126 => ?_)
                  · have e2 : oneS lb um = (gD lb um.1, (um.1 + 1, um.2)) := by unfold oneS; rw [if_neg (by omega)]
                    have h9 := byt_gD hob um.1
                    have hge : um.1 + 1 + (mm - 1) ≤ (notesR lb sd x0).1.2.1 := by
                      rw [hNR, hT]
                      have q9 := notesS_ge (l := lb) (sd := sd) (en := v.1 + bi) (f := f) (x := x) (by omega) (by rw [hmm]; show ¬ (mm = 0 ∨ v.1 + bi - um.1 < mm); omega)
                      rw [hmm] at q9
                      have q8 : (oneS lb um).2.1 + (mm - 1) ≤ (notesS lb sd (v.1 + bi) (f + 1) x).1.2.1 := q9
                      rw [e2] at q8
                      exact q8
                    refine lv_aload_n hx hb dX7_readNotes_132 rfl (lv_at hl 2 rfl) ?_
                    have h : Wd D B s (mw dA h0 ad (oM (qWm M x.1 r um) (nI um.1) (bZ um.2)) ++ (F ++ E)) H locs := by rw [oM_q]; exact h
                    refine call_V (As := []) (rest := []) (n := 0) C h (c7_one l D dA B Z hZ h0 ad (qWm M x.1 r um) (F ++ E) oa lb um hof (List.mem_append_left _ hoF) hob hol (hm2)) (lw_V q2221 q2223 qs61 q138 q2224) (by decide +kernel) (ci := 5) rfl rfl mw_mem0 (by decide) (by decide) rfl hl rfl (Nat.le_of_ble_eq_true rfl) dX7_readNotes_133 (by omega) (fun _ H locs _ h => ?_)
                    rw [oM_q] at h
                    have h : Wd D B s (mw dA h0 ad (qWm M x.1 r (oneS lb um).2) ++ (F ++ E)) H locs := h
                    show W p l e R s m args below meth c H locs (cc + 0 + 0) (cs + 0 + 0) Q (F0 m 136 ls [.int (nI ((oneS lb um).1))])
                    rw [e2] at h ⊢
                    show W p l e R s m args below meth c H locs (cc + 0 + 0) (cs + 0 + 0) Q (F0 m 136 ls [.int (nI (gD lb um.1))])
                    have h : Wd D B s (mw dA h0 ad (qWm M x.1 r (um.1 + 1, um.2)) ++ (F ++ E)) H locs := h
                    refine lv_istore (lv' := [(7, .int (nI (gD lb um.1))), (5, .long (lN mm)), (4, .int (nI ((oneS lb x.2).1))), (0, .ref h0), (1, .int (bZ sd)), (3, .int (nI (v.1 + bi)))]) hx hb dX7_readNotes_136 hl (by decide) rfl (fun ls hl => ?_)
                    refine lv_aload_n hx hb dX7_readNotes_138 rfl (lv_at hl 3 rfl) ?_
                    refine m_gr C h 53 (by decide) rfl rfl q1923 (v := some oa) hof dX7_readNotes_139 ?_
                    refine lv_aload_n hx hb dX7_readNotes_142 rfl (lv_at hl 3 rfl) ?_
                    refine m_gi C h 54 (by decide) rfl rfl q1924 (v := nI (um.1 + 1)) rfl dX7_readNotes_143 ?_
                    refine lv_lload hx hb dX7_readNotes_146 (lv_at hl 1 rfl) ?_
                    refine lv_l2i (v := nI mm) hx hb dX7_readNotes_148 (lN_i _) ?_
                    refine lv_iconst (v := nI 1) hx hb dX7_readNotes_149 (by decide) ?_
                    refine lv_isub hx hb dX7_readNotes_150 (n_top (y := nI (mm - 1)) (pk_sub (by omega)) ?_)
                    refine call_S (As := [.ref oa, .int (nI (um.1 + 1)), .int (nI (mm - 1))]) (rest := []) (n := 3) C h (c7_part l D dA B Z hZ _ oa lb.length (gD lb) (um.1 + 1) (mm - 1) (List.mem_append_right _ (List.mem_append_left _ hoF)) (by omega) (by omega)) (lw_S q2208 q2209 q138 q2210) (by decide +kernel) (by decide) (by decide) rfl hl rfl (Nat.le_of_ble_eq_true rfl) dX7_readNotes_151 (by omega) (fun q9 H locs _ h => ?_)
                    rw [List.append_assoc, List.append_assoc, ← sliceL_sl (by omega)] at h
                    obtain ⟨sy, hsy⟩ : ∃ z, z = sliceL lb (um.1 + 1) (mm - 1) := ⟨_, rfl⟩
                    rw [← hsy] at h
                    have hsl : sy.length = mm - 1 := by rw [hsy, sliceL_len (by omega)]
                    have hsb : byt sy := by rw [hsy]; exact fun z hz => hob z (List.mem_of_mem_drop (List.mem_of_mem_take hz))
                    refine lv_astore (lv' := [(8, .ref q9), (7, .int (nI (gD lb um.1))), (5, .long (lN mm)), (4, .int (nI ((oneS lb x.2).1))), (0, .ref h0), (1, .int (bZ sd)), (3, .int (nI (v.1 + bi)))]) hx hb dX7_readNotes_154 hl (by decide) rfl (fun ls hl => ?_)
                    refine lv_aload_n hx hb dX7_readNotes_156 rfl (lv_at hl 4 rfl) ?_
                    refine lv_aload_n hx hb dX7_readNotes_157 rfl (lv_at hl 4 rfl) ?_
                    refine m_gi C h 54 (by decide) rfl rfl q1924 (v := nI (um.1 + 1)) rfl dX7_readNotes_158 ?_
                    refine lv_lload hx hb dX7_readNotes_161 (lv_at hl 2 rfl) ?_
                    refine lv_l2i (v := nI mm) hx hb dX7_readNotes_163 (lN_i _) ?_
                    refine lv_iadd hx hb dX7_readNotes_164 (n_top (y := nI (um.1 + 1 + mm)) (nI_add (um.1 + 1) mm) ?_)
                    refine lv_iconst (v := nI 1) hx hb dX7_readNotes_165 (by decide) ?_
                    refine lv_isub hx hb dX7_readNotes_166 ?_
                    refine n_top (y := nI (um.1 + 1 + (mm - 1))) (by rw [pk_sub (by omega)]; congr 1; omega) ?_
                    refine m_pi C h 54 (v := nI (um.1 + 1 + (mm - 1))) (by decide) rfl rfl rfl q1924 rfl rfl dX7_readNotes_167 (fun H locs h => ?_)
                    have h : Wd D B s (mw dA h0 ad (qWm M x.1 r (um.1 + 1 + (mm - 1), um.2)) ++ (F ++ (E ++ [(q9, ial dA sy)]))) H locs := by
                      have e9 := qM_54
                      unfold qWm at h ⊢
                      rw [qM_54] at h
                      exact h
                    refine lv_aload_n hx hb dX7_readNotes_170 rfl (lv_at hl 4 rfl) ?_
                    refine lv_iload hx hb dX7_readNotes_171 (lv_at hl 1 rfl) ?_
                    refine lv_sipush (v := nI 128) hx hb dX7_readNotes_173 (by decide) ?_
                    refine lv_irem hx hb dX7_readNotes_176 (by decide) (n_top (y := nI ((gD lb um.1) % 128)) (pk_rem (by omega) (by omega) (by omega)) ?_)
                    have jg : ∀ (H : Heap) (locs : List Loc), Wd D B s (mw dA h0 ad (qWm M x.1 r (um.1 + 1 + (mm - 1), um.2)) ++ (F ++ (E ++ [(q9, ial dA sy)]))) H locs → ∀ (ls : Array Slot), lv_has ls 9 [(8, .ref q9), (7, .int (nI (gD lb um.1))), (5, .long (lN mm)), (4, .int (nI ((oneS lb x.2).1))), (0, .ref h0), (1, .int (bZ sd)), (3, .int (nI (v.1 + bi)))] → W p l e R s m args below meth c H locs (cc + 0 + 0 + 1) (cs + 0 + 0 + (mm - 1)) Q (F0 m 189 ls [.int (bZ (decide (127 < gD lb um.1))), .int (nI ((gD lb um.1) % 128)), .ref h0]) := by
                      intro   H locs h ls hl
                      refine lv_iload_n hx hb dX7_readNotes_189 rfl (lv_at hl 5 rfl) ?_
                      refine lv_aload hx hb dX7_readNotes_190 (lv_at hl 0 rfl) ?_
                      have h : Wd D B s (mw dA h0 ad (nWm (qWm M x.1 r (um.1 + 1 + (mm - 1), um.2)) x.1 r) ++ (F ++ (E ++ [(q9, ial dA sy)]))) H locs := by rw [nWm_q]; exact h
                      refine call_V (As := [.int (nI ((gD lb um.1) % 128)), .int (bZ (decide (127 < gD lb um.1))), .int (bZ sd), .ref q9]) (rest := []) (n := 4) C h (c7_readNote l D dA B Z hZ h0 ad (qWm M x.1 r (um.1 + 1 + (mm - 1), um.2)) (F ++ (E ++ [(q9, ial dA sy)])) x.1 r (gD lb um.1 % 128) (decide (127 < gD lb um.1)) sd q9 sy (by rw [← List.append_assoc]; exact hRx.up) (by omega) (List.mem_append_right _ (List.mem_append_right _ List.mem_cons_self)) hsb (by omega)) (lw_V q2353 q2355 qs85 q138 q2356) (by decide +kernel) (ci := 5) rfl rfl mw_mem0 (by decide) (by decide) rfl hl rfl (Nat.le_of_ble_eq_true rfl) dX7_readNotes_192 (by omega) (fun u9 H locs hu h => ?_)
                      obtain ⟨r2, E2⟩ := u9
                      rw [nWm_q] at h
                      obtain ⟨u2, hu2⟩ : ∃ z : OU, z = (um.1 + 1 + (mm - 1), um.2) := ⟨_, rfl⟩
                      have hu21 : u2.1 = um.1 + 1 + (mm - 1) := by rw [hu2]
                      rw [← hu2] at h
                      obtain ⟨yy, hyy⟩ : ∃ z, z = noteS x.1 (gD lb um.1 % 128) (decide (127 < gD lb um.1)) sd sy := ⟨_, rfl⟩
                      rw [← hyy] at h hu ⊢
                      have hstep : notesS lb sd (v.1 + bi) (f + 1) x = if yy.2 = true then notesS lb sd (v.1 + bi) f (yy.1, u2) else ((yy.1, u2), false) := by
                        rw [notesS, if_neg (by omega), hmm, if_neg (by show ¬ (mm = 0 ∨ v.1 + bi - um.1 < mm); omega)]
                        show (if (noteS x.1 ((oneS lb um).1 % 128) (decide (127 < (oneS lb um).1)) sd (sliceL lb (oneS lb um).2.1 (mm - 1))).2 = true then _ else _ : (NS × OU) × Bool) = _
                        rw [e2, hyy, hu2, hsy]
                      have hu : RN dA (F ++ (E ++ [(q9, ial dA sy)]) ++ E2) yy.1 r2 := hu
                      rw [List.append_assoc] at h hu
                      have h : Wd D B s (mw dA h0 ad (qWm M yy.1 r2 u2) ++ (F ++ (E ++ [(q9, ial dA sy)] ++ E2))) H locs := h
                      show W p l e R s m args below meth c H locs (cc + 0 + 0 + 1 + (sy.length / 21)) (cs + 0 + 0 + (mm - 1) + sy.length) Q (F0 m 195 ls [.int (bZ yy.2)])
                      refine z_if_ne (tgt := 200) hx hb dX7_readNotes_195 (by decide) (fun c195 => ?_) (fun c195 => ?_)
                      · have hnx : notesS lb sd (v.1 + bi) (lb.length + 1) (x0.1, v) = notesS lb sd (v.1 + bi) f (yy.1, u2) := by rw [hT, hstep, if_pos c195]
                        refine lv_goto (tgt := 32) hx hb dX7_readNotes_200 (by decide) ?_
                        exact ih f _ _ (yy.1, u2) r2 (E ++ [(q9, ial dA sy)] ++ E2) hnx (by show v.1 + bi - u2.1 < f; omega) (by show u2.1 ≤ _; omega) hu (by show 2 * _ + (lb.length - u2.1) ≤ _; omega) (by show _ + 2 * (lb.length - u2.1) ≤ _; omega) (by omega) _ _ h _ (lv_sub hl [4, 5, 6] rfl)
                      · refine lv_iconst (v := nI 0) hx hb dX7_readNotes_198 (by decide) ?_
                        subst hQ
                        have hNR : notesR lb sd x0 = notesS lb sd (v.1 + bi) (lb.length + 1) (x0.1, v) := by
                          unfold notesR; rw [hbv]; exact if_neg (by show ¬ (v.2 = false ∨ lb.length < v.1 + bi); intro q; rcases q with q | q; exact absurd (q.symm.trans hvr) (by decide); omega)
                        have hfin : notesR lb sd x0 = ((yy.1, u2), false) := by rw [hNR, hT, hstep, if_neg (by rw [c195]; decide)]
                        refine n_top (y := bZ false) rfl ?_
                        exact ret_z C hr hlocks h (r2, E ++ [(q9, ial dA sy)] ++ E2) (by rw [hfin]; exact hu) (by rw [hfin]) (by rw [hfin]) (by omega) (by omega) dX7_readNotes_199
                    refine lv_iload hx hb dX7_readNotes_177 (lv_at hl 1 rfl) ?_
                    refine lv_bipush (v := nI 127) hx hb dX7_readNotes_179 (by decide) ?_
                    refine n_icmp_le (tgt := 188) hx hb (by omega) (by omega) dX7_readNotes_181 (by decide) (fun c181 => ?_) (fun c181 => ?_)
                    · refine lv_iconst (v := nI 0) hx hb dX7_readNotes_188 (by decide) ?_
                      refine n_top (y := bZ (decide (127 < gD lb um.1))) (by first | (rw [decide_eq_true (by omega)]; rfl) | (rw [decide_eq_false (by omega)]; rfl)) ?_
                      exact jg   _ _ h _ (lv_sub hl [0, 1, 2, 3, 4, 5, 6] rfl)
                    · refine lv_iconst (v := nI 1) hx hb dX7_readNotes_184 (by decide) ?_
                      refine lv_goto (tgt := 189) hx hb dX7_readNotes_185 (by decide) ?_
                      refine n_top (y := bZ (decide (127 < gD lb um.1))) (by first | (rw [decide_eq_true (by omega)]; rfl) | (rw [decide_eq_false (by omega)]; rfl)) ?_
                      exact jg   _ _ h _ (lv_sub hl [0, 1, 2, 3, 4, 5, 6] rfl)
                  · exact jz  (by omega) _ _ h _ (lv_sub hl [0, 1, 2, 3, 4] rfl)
                · refine lv_isub hx hb dX7_readNotes_124 ?_
                  refine lv_i2l (v := (nI (v.1 + bi) - nI um.1).toInt64) hx hb dX7_readNotes_125 rfl ?_
                  have hneg : (nI (v.1 + bi) - nI um.1).toInt64 < lN mm := neg_lt (by omega) (by omega) (by omega)
                  refine k_lcmp_le (tgt := 132) hx hb dX7_readNotes_126 dX7_readNotes_127 (by decide) (fun q => absurd q (Int64.not_le.mpr hneg)) (fun _ => ?_)
                  exact jz  (by omega) _ _ h _ (lv_sub hl [0, 1, 2, 3, 4] rfl)
            refine lv_iload hx hb dX7_readNotes_46 (lv_at hl 0 rfl) ?_
            refine lv_sipush (v := nI 192) hx hb dX7_readNotes_48 (by decide) ?_
            refine n_icmp_ge (tgt := 60) hx hb (by omega) (by omega) dX7_readNotes_51 (by decide) (fun c51 => ?_) (fun c51 => ?_)
            · refine lv_iload hx hb dX7_readNotes_60 (lv_at hl 0 rfl) ?_
              refine lv_sipush (v := nI 224) hx hb dX7_readNotes_62 (by decide) ?_
              refine n_icmp_ge (tgt := 91) hx hb (by omega) (by omega) dX7_readNotes_65 (by decide) (fun c65 => ?_) (fun c65 => ?_)
              · refine lv_iload hx hb dX7_readNotes_91 (lv_at hl 0 rfl) ?_
                refine lv_sipush (v := nI 255) hx hb dX7_readNotes_93 (by decide) ?_
                refine n_icmp_ne (tgt := 107) hx hb (by omega) (by omega) dX7_readNotes_96 (by decide) (fun c96 => ?_) (fun c96 => ?_)
                · refine lv_lconst (v := lN 0) hx hb dX7_readNotes_107 (by decide) ?_
                  exact jm 0 ((oneS lb x.2).2) (by unfold manyS; first | (rw [if_pos (by omega)]; done) | (rw [if_neg (by omega), if_pos (by omega)]; done) | (rw [if_neg (by omega), if_neg (by omega), if_pos (by omega)]; done) | (rw [if_neg (by omega), if_neg (by omega), if_neg (by omega)]; done)) _ _ h _ (lv_sub hl [0, 1, 2, 3] rfl)
                · refine lv_aload_n hx hb dX7_readNotes_99 rfl (lv_at hl 1 rfl) ?_
                  refine lv_iconst (v := nI 4) hx hb dX7_readNotes_100 (by decide) ?_
                  have h : Wd D B s (mw dA h0 ad (oM (qWm M x.1 r (oneS lb x.2).2) (nI (oneS lb x.2).2.1) (bZ (oneS lb x.2).2.2)) ++ (F ++ E)) H locs := by rw [oM_q]; exact h
                  refine call_V (As := [.int (nI 4)]) (rest := []) (n := 1) C h (c7_some l D dA B Z hZ h0 ad (qWm M x.1 r (oneS lb x.2).2) (F ++ E) oa lb (oneS lb x.2).2 4 hof (List.mem_append_left _ hoF) hob hol (h1l.1) (by decide)) (lw_V q2225 q2227 qs62 q138 q2228) (by decide +kernel) (ci := 5) rfl rfl mw_mem0 (by decide) (by decide) rfl hl rfl (Nat.le_of_ble_eq_true rfl) dX7_readNotes_101 (by omega) (fun _ H locs _ h => ?_)
                  rw [oM_q] at h
                  have h : Wd D B s (mw dA h0 ad (qWm M x.1 r (someS lb 4 0 (oneS lb x.2).2).2) ++ (F ++ E)) H locs := h
                  show W p l e R s m args below meth c H locs (cc + 0 + 0) (cs + 0 + 0) Q (F0 m 104 ls [.long (lN ((someS lb 4 0 (oneS lb x.2).2).1))])
                  refine lv_goto (tgt := 108) hx hb dX7_readNotes_104 (by decide) ?_
                  exact jm ((someS lb 4 0 (oneS lb x.2).2).1) ((someS lb 4 0 (oneS lb x.2).2).2) (by unfold manyS; first | (rw [if_pos (by omega)]; done) | (rw [if_neg (by omega), if_pos (by omega)]; done) | (rw [if_neg (by omega), if_neg (by omega), if_pos (by omega)]; done) | (rw [if_neg (by omega), if_neg (by omega), if_neg (by omega)]; done)) _ _ h _ (lv_sub hl [0, 1, 2, 3] rfl)
              · refine lv_iload hx hb dX7_readNotes_68 (lv_at hl 0 rfl) ?_
                refine lv_sipush (v := nI 192) hx hb dX7_readNotes_70 (by decide) ?_
                refine lv_isub hx hb dX7_readNotes_73 (n_top (y := nI (((oneS lb x.2).1) - 192)) (pk_sub (by omega)) ?_)
                refine lv_sipush (v := nI 256) hx hb dX7_readNotes_74 (by decide) ?_
                refine lv_imul hx hb dX7_readNotes_77 (n_top (y := nI ((((oneS lb x.2).1) - 192) * 256)) (pk_mul (((oneS lb x.2).1) - 192) 256) ?_)
                refine lv_aload_n hx hb dX7_readNotes_78 rfl (lv_at hl 1 rfl) ?_
                have h : Wd D B s (mw dA h0 ad (oM (qWm M x.1 r (oneS lb x.2).2) (nI (oneS lb x.2).2.1) (bZ (oneS lb x.2).2.2)) ++ (F ++ E)) H locs := by rw [oM_q]; exact h
                refine call_V (As := []) (rest := [.int (nI ((((oneS lb x.2).1) - 192) * 256))]) (n := 0) C h (c7_one l D dA B Z hZ h0 ad (qWm M x.1 r (oneS lb x.2).2) (F ++ E) oa lb (oneS lb x.2).2 hof (List.mem_append_left _ hoF) hob hol (h1l.1)) (lw_V q2221 q2223 qs61 q138 q2224) (by decide +kernel) (ci := 5) rfl rfl mw_mem0 (by decide) (by decide) rfl hl rfl (Nat.le_of_ble_eq_true rfl) dX7_readNotes_79 (by omega) (fun _ H locs _ h => ?_)
                rw [oM_q] at h
                have h : Wd D B s (mw dA h0 ad (qWm M x.1 r (oneS lb (oneS lb x.2).2).2) ++ (F ++ E)) H locs := h
                show W p l e R s m args below meth c H locs (cc + 0 + 0) (cs + 0 + 0) Q (F0 m 82 ls [.int (nI ((oneS lb (oneS lb x.2).2).1)), .int (nI ((((oneS lb x.2).1) - 192) * 256))])
                refine lv_iadd hx hb dX7_readNotes_82 (n_top (y := nI (((((oneS lb x.2).1) - 192) * 256) + ((oneS lb (oneS lb x.2).2).1))) (nI_add ((((oneS lb x.2).1) - 192) * 256) ((oneS lb (oneS lb x.2).2).1)) ?_)
                refine lv_sipush (v := nI 192) hx hb dX7_readNotes_83 (by decide) ?_
                refine lv_iadd hx hb dX7_readNotes_86 (n_top (y := nI ((((((oneS lb x.2).1) - 192) * 256) + ((oneS lb (oneS lb x.2).2).1)) + 192)) (nI_add (((((oneS lb x.2).1) - 192) * 256) + ((oneS lb (oneS lb x.2).2).1)) 192) ?_)
                refine lv_i2l (v := lN ((((((oneS lb x.2).1) - 192) * 256) + ((oneS lb (oneS lb x.2).2).1)) + 192)) hx hb dX7_readNotes_87 (nI_l (by omega)) ?_
                refine lv_goto (tgt := 108) hx hb dX7_readNotes_88 (by decide) ?_
                exact jm ((((((oneS lb x.2).1) - 192) * 256) + ((oneS lb (oneS lb x.2).2).1)) + 192) ((oneS lb (oneS lb x.2).2).2) (by unfold manyS; first | (rw [if_pos (by omega)]; done) | (rw [if_neg (by omega), if_pos (by omega)]; done) | (rw [if_neg (by omega), if_neg (by omega), if_pos (by omega)]; done) | (rw [if_neg (by omega), if_neg (by omega), if_neg (by omega)]; done)) _ _ h _ (lv_sub hl [0, 1, 2, 3] rfl)
            · refine lv_iload hx hb dX7_readNotes_54 (lv_at hl 0 rfl) ?_
              refine lv_i2l (v := lN ((oneS lb x.2).1)) hx hb dX7_readNotes_56 (nI_l (by omega)) ?_
              refine lv_goto (tgt := 108) hx hb dX7_readNotes_57 (by decide) ?_
              exact jm ((oneS lb x.2).1) ((oneS lb x.2).2) (by unfold manyS; first | (rw [if_pos (by omega)]; done) | (rw [if_neg (by omega), if_pos (by omega)]; done) | (rw [if_neg (by omega), if_neg (by omega), if_pos (by omega)]; done) | (rw [if_neg (by omega), if_neg (by omega), if_neg (by omega)]; done)) _ _ h _ (lv_sub hl [0, 1, 2, 3] rfl)
      exact loop _ (lb.length + 1) _ _ (x0.1, v) r0 [] rfl (by show v.1 + bi - v.1 < _; omega) hs2 (by rw [List.append_nil]; exact hR0) (by show 2 * _ + (lb.length - v.1) ≤ _; omega) (by show _ + 2 * (lb.length - v.1) ≤ _; omega) (Nat.lt_succ_self _) _ _ h _ (lv_sub hl [2, 3, 0] rfl)
    · exact jf  (by first | exact Or.inl c18 | exact Or.inr c27) _ _ h _ (lv_sub hl [0, 1, 2, 3] rfl)
