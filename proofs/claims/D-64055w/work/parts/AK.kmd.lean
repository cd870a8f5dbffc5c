set_option maxRecDepth 100000
theorem someS_4 (l : List Nat) (u : OU) : someS l 4 0 u = ((((0 * 256 + (oneS l u).1) * 256 + (oneS l (oneS l u).2).1) * 256 + (oneS l (oneS l (oneS l u).2).2).1) * 256 + (oneS l (oneS l (oneS l (oneS l u).2).2).2).1, (oneS l (oneS l (oneS l (oneS l u).2).2).2).2) := by
  rw [someS, someS, someS, someS, someS]
theorem oneS_ok1 {l : List Nat} {u : OU} (hu : (oneS l u).2.2 = true) : u.2 = true ∧ oneS l u = (gD l u.1, (u.1 + 1, u.2)) := by
  unfold oneS at hu ⊢
  split at hu
  · cases hu
  · next q => rw [if_neg q]; exact ⟨hu, rfl⟩
theorem num_4 (a b c d : Nat) : num [a, b, c, d] = (((0 * 256 + a) * 256 + b) * 256 + c) * 256 + d := by
  have e : [a, b, c, d] = ((([] ++ [a]) ++ [b]) ++ [c]) ++ [d] := rfl
  rw [e, num_snoc, num_snoc, num_snoc, num_snoc]
  have e0 : num [] = 0 := rfl
  rw [e0]
theorem sl_4 (g : Nat → Nat) : sl g 1 4 = [g 1, g 2, g 3, g 4] := rfl
theorem someS_num {l : List Nat} {u : OU} (hu : u.1 = 1) (h : (someS l 4 0 u).2.2 = true) : (someS l 4 0 u).1 = num (sl (gD l) 1 4) := by
  rw [someS_4] at h ⊢
  have h4 := oneS_ok1 h
  have h3 := oneS_ok1 h4.1
  have h2 := oneS_ok1 h3.1
  have h1 := oneS_ok1 h2.1
  rw [sl_4, num_4]
  dsimp only
  rw [h4.2, h3.2, h2.2, h1.2]
  dsimp only
  rw [hu]
theorem kMade_kmd {l : List Nat} {hs : Bool} (h : keyOk l hs = true) (hb : byt l) : kMade l = kmd l := by
  have hr : (kU5 l).2.2 = true := by
    unfold keyOk at h
    rw [Bool.and_eq_true, Bool.and_eq_true] at h
    have := h.1.1
    unfold kHead at this
    simp only [Bool.and_eq_true] at this
    exact this.1.1.1.1
  have l1 : (kU1 l).2.1 ≤ l.length := (oneS_le (Nat.zero_le _)).1
  have l2 : (kU2 l).2.1 ≤ l.length := (someS_ok hb 4 0 0 _ l1 (by decide)).2.1
  have l3 : (kU3 l).2.1 ≤ l.length := (oneS_le l2).1
  have n4 := numS_ok hb _ l3
  have t5 := numS_tk (u := (kU4 l).2) (Nat.le_refl l.length) (numS_ok hb (kU4 l).2 n4.1).1 hr
  have t4 := numS_tk (u := (kU3 l).2) (Nat.le_refl l.length) n4.1 t5.2
  have t3 := oneS_tk (u := (kU2 l).2) (Nat.le_refl l.length) l3 t4.2
  have t2 := someS_tk (Nat.le_refl l.length) 4 0 (kU1 l).2 l2 t3.2
  have h1 : oneS l (0, true) = (gD l 0, (0 + 1, true)) := (oneS_ok1 (u := (0, true)) t2.2).2
  have e1 : (kU1 l).2.1 = 1 := by
    show (oneS l (0, true)).2.1 = 1
    rw [h1]
  exact someS_num e1 t3.2
