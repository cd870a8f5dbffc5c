set_option maxRecDepth 100000
/-! the public front of a key's body tells the same numbers -/
theorem k_take {l : List Nat} {hs : Bool} (h : keyOk l hs = true) (hb : byt l) : kSize l ≤ l.length ∧ kU2 (l.take (kSize l)) = kU2 l ∧ kU4 (l.take (kSize l)) = kU4 l ∧ kU5 (l.take (kSize l)) = kU5 l := by
  have l1 : (kU1 l).2.1 ≤ l.length := (oneS_le (Nat.zero_le _)).1
  have l2 : (kU2 l).2.1 ≤ l.length := (someS_ok hb 4 0 0 _ l1 (by decide)).2.1
  have l3 : (kU3 l).2.1 ≤ l.length := (oneS_le l2).1
  have n4 := numS_ok hb _ l3
  have hm : kSize l ≤ l.length := (numS_ok hb (kU4 l).2 n4.1).1
  unfold keyOk at h
  rw [Bool.and_eq_true, Bool.and_eq_true] at h
  have hr : (kU5 l).2.2 = true := by
    have := h.1.1
    unfold kHead at this
    simp only [Bool.and_eq_true] at this
    exact this.1.1.1.1
  have m4 : (kU4 l).2.1 ≤ kSize l := numS_mono l (kU4 l).2
  have m3 : (kU3 l).2.1 ≤ (kU4 l).2.1 := numS_mono l (kU3 l).2
  have m2 : (kU2 l).2.1 ≤ (kU3 l).2.1 := oneS_mono l (kU2 l).2
  have m1 : (kU1 l).2.1 ≤ (kU2 l).2.1 := someS_mono l 4 0 (kU1 l).2
  have t5 := numS_tk (u := (kU4 l).2) hm (Nat.le_refl _) hr
  have t4 := numS_tk (u := (kU3 l).2) hm m4 t5.2
  have t3 := oneS_tk (u := (kU2 l).2) hm (Nat.le_trans m3 m4) t4.2
  have t2 := someS_tk hm 4 0 (kU1 l).2 (Nat.le_trans m2 (Nat.le_trans m3 m4)) t3.2
  have t1 := oneS_tk (u := (0, true)) hm (Nat.le_trans m1 (Nat.le_trans m2 (Nat.le_trans m3 m4))) t2.2
  have e1 : kU1 (l.take (kSize l)) = kU1 l := t1.1
  have e2 : kU2 (l.take (kSize l)) = kU2 l := by
    show someS (l.take (kSize l)) 4 0 (kU1 (l.take (kSize l))).2 = _
    rw [e1]; exact t2.1
  have e3 : kU3 (l.take (kSize l)) = kU3 l := by
    show oneS (l.take (kSize l)) (kU2 (l.take (kSize l))).2 = _
    rw [e2]; exact t3.1
  have e4 : kU4 (l.take (kSize l)) = kU4 l := by
    show numS (l.take (kSize l)) (kU3 (l.take (kSize l))).2 = _
    rw [e3]; exact t4.1
  have e5 : kU5 (l.take (kSize l)) = kU5 l := by
    show numS (l.take (kSize l)) (kU4 (l.take (kSize l))).2 = _
    rw [e4]; exact t5.1
  exact ⟨hm, e2, e4, e5⟩
