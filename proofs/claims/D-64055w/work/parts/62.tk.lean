/-! times; the kinds of what places name -/
theorem isTm_t {v : Int64} (h : isTm v = true) : ∃ t, t < 4294967296 ∧ v = lN t := by
  unfold isTm at h
  rw [Bool.and_eq_true] at h
  have h1 : ¬ v < lN 0 := by
    intro z; rw [decide_eq_true z] at h; exact absurd h.1 (by decide)
  have h2 : ¬ lN 4294967295 < v := by
    intro z; rw [decide_eq_true z] at h; exact absurd h.2 (by decide)
  obtain ⟨k, hk, rfl⟩ := pk_lOf (x := v) h1
  refine ⟨k, ?_, rfl⟩
  have h3 : ¬ 4294967295 < k := fun z => h2 ((pk_lLT (by omega) hk).mpr z)
  omega
theorem isTm_n {t : Nat} (h : t < 4294967296) : isTm (lN t) = true := by
  unfold isTm
  rw [decide_eq_false (fun z => absurd ((pk_lLT (by omega) (by omega)).mp z) (by omega)), decide_eq_false (fun z => absurd ((pk_lLT (by omega) (by omega)).mp z) (by omega))]
  rfl
theorem nthX_k {kd : Nat} {L : List PK} {x : Int32} : ∀ {n a c i : Nat}, (nI c - 1 ≠ x ∨ x < 0) → nthX kd L x n a c = some i → L[i]?.map (·.1) = some kd := by
  intro n
  induction n with
  | zero => intro a c i _ h; cases h
  | succ n ih =>
    intro a c i h0 h
    rw [nthX] at h
    generalize hw9 : (if (L[a]?.map (·.1)) = some kd then 1 else 0) = w9 at h
    split at h
    · next q =>
      cases h
      by_cases z : L[a]?.map (·.1) = some kd
      · exact z
      · rw [if_neg z] at hw9; rw [← hw9, Nat.add_zero] at q
        rcases h0 with h0 | h0
        · exact absurd q.1 h0
        · exact absurd h0 q.2
    · next q =>
      refine ih ?_ h
      by_cases z : x < 0
      · exact Or.inr z
      · exact Or.inl (fun y => q ⟨y, z⟩)
theorem m1_lt0 {x : Int32} : nI 0 - 1 ≠ x ∨ x < 0 := by
  by_cases z : nI 0 - 1 = x
  · exact Or.inr (by rw [← z]; decide)
  · exact Or.inl z
theorem placeS_k {L : List PK} {x : Int32} {q : Nat} (h : placeS L x = some q) : ∃ y, L[q]? = some y ∧ y.1 = 6 := by
  have h1 := nthX_k m1_lt0 h
  cases z : L[q]? with
  | none => rw [z] at h1; cases h1
  | some y => rw [z] at h1; exact ⟨y, rfl, Option.some.inj h1⟩
theorem partS_k {L : List PK} {q i : Nat} {x : Int32} {kx : PK} (hk : L[q]? = some kx) (h6 : kx.1 = 6) (h : partS L q x = some i) : ∃ y, L[i]? = some y ∧ (y.1 = 6 ∨ y.1 = 14) := by
  unfold partS at h
  split at h
  · cases h; exact ⟨kx, hk, Or.inl h6⟩
  · have h1 := nthX_k m1_lt0 h
    cases z : L[i]? with
    | none => rw [z] at h1; cases h1
    | some y => rw [z] at h1; exact ⟨y, rfl, Or.inr (Option.some.inj h1)⟩
