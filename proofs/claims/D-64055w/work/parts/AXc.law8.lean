set_option maxRecDepth 100000
/-! labels of what a ring holds -/
abbrev LB : Type := Nat × List Nat × (Nat × List Nat) × List Nat
def prF (b : List Nat) : List Nat := sha1 (keyMsg b)
def lbS (pr : List Nat) (tl : Nat × List Nat) (ls : List (List Nat)) : List LB := ls.map (fun b => (2, pr, tl, b))
def lbU (pr : List Nat) (u : UCt) : List LB := (13, pr, (0, []), u.1) :: lbS pr (1, u.1) u.2
def lbP (pr : List Nat) (p : PCt) : List LB := (14, pr, (0, []), p.1.1) :: lbS pr (2, prF p.1.1) p.2
def lbT (pr : List Nat) (k : KCt) : List LB := lbS pr (0, []) k.2.1 ++ (k.2.2.1.flatMap (lbU pr) ++ k.2.2.2.flatMap (lbP pr))
def lbK (k : KCt) : List LB := (6, [], (0, []), k.1.1) :: lbT (prF k.1.1) k
def lbR (R : List KCt) : List LB := R.flatMap lbK
def wt1 (l : LB) : Nat := l.2.2.2.length + 2
def wt (U : List LB) : Nat := (U.map wt1).sum
theorem wt_app (U V : List LB) : wt (U ++ V) = wt U + wt V := by unfold wt; rw [List.map_append, List.sum_append]
theorem wt_cons (l : LB) (U : List LB) : wt (l :: U) = wt1 l + wt U := by unfold wt; rw [List.map_cons, List.sum_cons]
theorem wt_perm {U V : List LB} (h : U.Perm V) : wt U = wt V := by unfold wt; exact (h.map wt1).sum_nat
theorem wt_le : ∀ {A U : List LB}, A.Nodup → (∀ l ∈ A, l ∈ U) → wt A ≤ wt U
  | [], _, _, _ => Nat.zero_le _
  | a :: A, U, hn, hs => by
    have ha := hs a List.mem_cons_self
    rw [wt_perm (List.perm_cons_erase ha), wt_cons, wt_cons]
    obtain ⟨h1, h2⟩ := List.nodup_cons.mp hn
    have := wt_le h2 (U := U.erase a) (fun l hl => (List.mem_erase_of_ne (fun e => h1 (by rw [← e]; exact hl))).mpr (hs l (List.mem_cons_of_mem _ hl)))
    omega
theorem lbR_mid (R1 : List KCt) (k : KCt) (R2 : List KCt) : lbR (R1 ++ k :: R2) = lbR R1 ++ (lbK k ++ lbR R2) := by
  unfold lbR; rw [List.flatMap_append, List.flatMap_cons]
theorem lbR_sub {R1 R2 : List KCt} {k k' : KCt} {P : LB → Prop} (h : ∀ l ∈ lbK k', l ∈ lbK k ∨ P l) : ∀ l ∈ lbR (R1 ++ k' :: R2), l ∈ lbR (R1 ++ k :: R2) ∨ P l := by
  intro l hl
  rw [lbR_mid] at hl ⊢
  rcases List.mem_append.mp hl with q | q
  · exact Or.inl (List.mem_append_left _ q)
  · rcases List.mem_append.mp q with q | q
    · exact (h l q).imp (fun z => List.mem_append_right _ (List.mem_append_left _ z)) id
    · exact Or.inl (List.mem_append_right _ (List.mem_append_right _ q))
def tlOf (k : KCt) (kd j : Nat) : Nat × List Nat := if kd = 0 then (0, []) else if kd = 1 then (1, (k.2.2.1[j]?.map Prod.fst).getD []) else (2, (k.2.2.2[j]?.map (fun p => prF p.1.1)).getD [])
theorem tlOf_p {k : KCt} {j : Nat} {p : PCt} (h : k.2.2.2[j]? = some p) : tlOf k 2 j = (2, prF p.1.1) := by
  unfold tlOf
  rw [if_neg (by decide), if_neg (by decide), h]
  rfl
/-- where a reading stands: the print of its key, its thing -/
def CurL (x : RNt) (pr : List Nat) (tl : Nat × List Nat) : Prop := ∃ R1 k R2 kd j, x.1 = R1 ++ k :: R2 ∧ x.2.1 = some (R1.length, kd, j) ∧ prF k.1.1 = pr ∧ tOk k kd j ∧ tlOf k kd j = tl
def NewL (x x' : RNt) (n : LB) : Prop := ∀ l ∈ lbR x'.1, l ∈ lbR x.1 ∨ l = n
theorem prK_pr {b : List Nat} {k : KCt} (h : prK (sha1 (keyMsg b)) k = true) : prF k.1.1 = prF b := of_decide_eq_true h
theorem prP_pr {b : List Nat} {p : PCt} (h : prP2 (sha1 (keyMsg b)) p = true) : prF p.1.1 = prF b := of_decide_eq_true h
theorem fx_hit {α : Type} {f : α → Bool} {l : List α} {i : Nat} (h : l.findIdx? f = some i) : ∃ l1 x l2, l = l1 ++ x :: l2 ∧ l1.length = i ∧ f x = true := by
  obtain ⟨h1, h2, _⟩ := List.findIdx?_eq_some_iff_getElem.mp h
  obtain ⟨l1, l2, e1, e2⟩ := split_at (List.getElem?_eq_getElem h1)
  exact ⟨l1, _, l2, e1, e2, h2⟩
theorem lbK_with (n : NCt) (k : KCt) : lbK (wthK n k) = lbK k := rfl
theorem lab_key {x x' : RNt} {n : NCt} (hp : keyN2 x (cmN x.1 n) = some x') : NewL x x' (6, [], (0, []), n.1) ∧ CurL x' (prF n.1) (0, []) := by
  obtain ⟨R, cu, m⟩ := x
  unfold cmN at hp
  dsimp only at hp
  cases hf : R.findIdx? (prK (sha1 (keyMsg n.1))) with
  | some i =>
    rw [hf] at hp
    obtain ⟨R1, k, R2, e1, e2, e3⟩ := fx_hit hf
    subst e1 e2
    dsimp only at hp
    rw [mod_mid] at hp
    cases hp
    exact ⟨lbR_sub (fun l hl => Or.inl hl), R1, wthK n k, R2, 0, 0, rfl, rfl, prK_pr e3, Or.inl rfl, rfl⟩
  | none =>
    rw [hf] at hp
    dsimp only at hp
    by_cases c : R.length = 16
    · rw [if_pos c] at hp; cases hp
    · rw [if_neg c] at hp
      cases hp
      refine ⟨fun l hl => ?_, R, (n, [], [], []), [], 0, 0, rfl, rfl, rfl, Or.inl rfl, rfl⟩
      have hl : l ∈ lbR (R ++ [(n, [], [], [])]) := hl
      rw [lbR_mid] at hl
      rcases List.mem_append.mp hl with q | q
      · exact Or.inl q
      · rcases List.mem_append.mp q with q | q
        · exact Or.inr (List.mem_singleton.mp q)
        · cases q
theorem lbT_in {pr : List Nat} {k : KCt} {l : LB} : l ∈ lbT pr k ↔ (l ∈ lbS pr (0, []) k.2.1 ∨ l ∈ k.2.2.1.flatMap (lbU pr) ∨ l ∈ k.2.2.2.flatMap (lbP pr)) := by
  unfold lbT; rw [List.mem_append, List.mem_append]
theorem lab_part {x x' : RNt} {R1 R2 : List KCt} {k : KCt} {n : NCt} (hR : x.1 = R1 ++ k :: R2) (hp : partN2 x R1.length k (ptN k.2.2.2 n) = some x') : NewL x x' (14, prF k.1.1, (0, []), n.1) ∧ CurL x' (prF k.1.1) (2, prF n.1) := by
  have hset : ∀ k', x.1.set R1.length k' = R1 ++ k' :: R2 := fun k' => by rw [hR]; exact set_mid R1 k k' R2
  unfold ptN at hp
  cases hf : k.2.2.2.findIdx? (prP2 (sha1 (keyMsg n.1))) with
  | some i =>
    rw [hf] at hp
    obtain ⟨p1, z, p2, e1, e2, e3⟩ := fx_hit hf
    subst e2
    dsimp only at hp
    rw [e1, mod_mid] at hp
    cases hp
    refine ⟨?_, R1, (k.1, k.2.1, k.2.2.1, p1 ++ wthP n z :: p2), R2, 2, p1.length, hset _, rfl, rfl, Or.inr (Or.inr ⟨rfl, by show p1.length < (p1 ++ wthP n z :: p2).length; rw [List.length_append, List.length_cons]; omega⟩), ?_⟩
    · intro l hl
      have hl : l ∈ lbR (x.1.set R1.length (k.1, k.2.1, k.2.2.1, p1 ++ wthP n z :: p2)) := hl
      rw [hset] at hl
      rw [hR]
      have e : lbK (k.1, k.2.1, k.2.2.1, p1 ++ wthP n z :: p2) = lbK k := by
        obtain ⟨k0, ks, ku, kp⟩ := k
        have e1 : kp = p1 ++ z :: p2 := e1
        subst e1
        unfold lbK lbT
        simp only [List.flatMap_append, List.flatMap_cons]
        rfl
      exact (lbR_sub (P := fun _ => False) (fun l hl => Or.inl (by rw [← e]; exact hl)) l hl).elim Or.inl False.elim
    · show (2, ((p1 ++ wthP n z :: p2)[p1.length]?.map (fun p => prF p.1.1)).getD []) = _
      rw [at_mid]
      show (2, prF z.1.1) = _
      rw [prP_pr e3]
  | none =>
    rw [hf] at hp
    dsimp only at hp
    by_cases c : k.2.2.2.length = 8
    · rw [if_pos c] at hp; cases hp
    · rw [if_neg c] at hp
      cases hp
      refine ⟨?_, R1, (k.1, k.2.1, k.2.2.1, k.2.2.2 ++ [(n, [])]), R2, 2, k.2.2.2.length, hset _, rfl, rfl, Or.inr (Or.inr ⟨rfl, by show k.2.2.2.length < (k.2.2.2 ++ [(n, [])]).length; rw [one_len]; omega⟩), ?_⟩
      · intro l hl
        have hl : l ∈ lbR (x.1.set R1.length (k.1, k.2.1, k.2.2.1, k.2.2.2 ++ [(n, [])])) := hl
        rw [hset] at hl
        rw [hR]
        refine lbR_sub (P := fun l => l = (14, prF k.1.1, (0, []), n.1)) (fun l hl => ?_) l hl
        rcases List.mem_cons.mp hl with q | q
        · exact Or.inl (by rw [q]; exact List.mem_cons_self)
        · rcases lbT_in.mp q with q | q | q
          · exact Or.inl (List.mem_cons_of_mem _ (lbT_in.mpr (Or.inl q)))
          · exact Or.inl (List.mem_cons_of_mem _ (lbT_in.mpr (Or.inr (Or.inl q))))
          · have q : l ∈ (k.2.2.2 ++ [(n, [])]).flatMap (lbP (prF k.1.1)) := q
            rw [List.flatMap_append] at q
            rcases List.mem_append.mp q with q | q
            · exact Or.inl (List.mem_cons_of_mem _ (lbT_in.mpr (Or.inr (Or.inr q))))
            · exact Or.inr (List.mem_singleton.mp q)
      · exact tlOf_p (p := ((n, []) : PCt)) (at_mid _ _ _)
theorem lab_user {x x' : RNt} {R1 R2 : List KCt} {k : KCt} {bd : List Nat} (hR : x.1 = R1 ++ k :: R2) (hp : userN2 x R1.length k (usN k.2.2.1 bd) = some x') : NewL x x' (13, prF k.1.1, (0, []), bd) ∧ CurL x' (prF k.1.1) (1, bd) := by
  have hset : ∀ k', x.1.set R1.length k' = R1 ++ k' :: R2 := fun k' => by rw [hR]; exact set_mid R1 k k' R2
  unfold usN at hp
  cases hf : k.2.2.1.findIdx? (isU bd) with
  | some i =>
    rw [hf] at hp
    obtain ⟨p1, z, p2, e1, e2, e3⟩ := fx_hit hf
    subst e2
    cases hp
    refine ⟨?_, R1, k, R2, 1, p1.length, hset _, rfl, rfl, Or.inr (Or.inl ⟨rfl, by rw [e1, List.length_append, List.length_cons]; omega⟩), ?_⟩
    · intro l hl
      have hl : l ∈ lbR (x.1.set R1.length k) := hl
      rw [hset, ← hR] at hl
      exact Or.inl hl
    · show (1, (k.2.2.1[p1.length]?.map Prod.fst).getD []) = _
      rw [e1, at_mid]
      show (1, z.1) = _
      rw [show z.1 = bd from of_decide_eq_true e3]
  | none =>
    rw [hf] at hp
    dsimp only at hp
    by_cases c : 200 < bd.length ∨ k.2.2.1.length = 8
    · rw [if_pos c] at hp; cases hp
    · rw [if_neg c] at hp
      cases hp
      refine ⟨?_, R1, (k.1, k.2.1, k.2.2.1 ++ [(bd, [])], k.2.2.2), R2, 1, k.2.2.1.length, hset _, rfl, rfl, Or.inr (Or.inl ⟨rfl, by show k.2.2.1.length < (k.2.2.1 ++ [(bd, [])]).length; rw [one_len]; omega⟩), ?_⟩
      · intro l hl
        have hl : l ∈ lbR (x.1.set R1.length (k.1, k.2.1, k.2.2.1 ++ [(bd, [])], k.2.2.2)) := hl
        rw [hset] at hl
        rw [hR]
        refine lbR_sub (P := fun l => l = (13, prF k.1.1, (0, []), bd)) (fun l hl => ?_) l hl
        rcases List.mem_cons.mp hl with q | q
        · exact Or.inl (by rw [q]; exact List.mem_cons_self)
        · rcases lbT_in.mp q with q | q | q
          · exact Or.inl (List.mem_cons_of_mem _ (lbT_in.mpr (Or.inl q)))
          · have q : l ∈ (k.2.2.1 ++ [(bd, [])]).flatMap (lbU (prF k.1.1)) := q
            rw [List.flatMap_append] at q
            rcases List.mem_append.mp q with q | q
            · exact Or.inl (List.mem_cons_of_mem _ (lbT_in.mpr (Or.inr (Or.inl q))))
            · exact Or.inr (List.mem_singleton.mp q)
          · exact Or.inl (List.mem_cons_of_mem _ (lbT_in.mpr (Or.inr (Or.inr q))))
      · show (1, ((k.2.2.1 ++ [(bd, [])])[k.2.2.1.length]?.map Prod.fst).getD []) = _
        rw [at_mid]; rfl
theorem lbS_app (pr : List Nat) (tl : Nat × List Nat) (ls : List (List Nat)) (b : List Nat) : lbS pr tl (ls ++ [b]) = lbS pr tl ls ++ [(2, pr, tl, b)] := List.map_append ..
theorem add_lab {k : KCt} {kd j : Nat} {b : List Nat} (ht : tOk k kd j) : (∀ l ∈ lbK (addN k kd j b), l ∈ lbK k ∨ l = (2, prF k.1.1, tlOf k kd j, b)) ∧ prF (addN k kd j b).1.1 = prF k.1.1 ∧ tOk (addN k kd j b) kd j ∧ tlOf (addN k kd j b) kd j = tlOf k kd j := by
  obtain ⟨k0, ks, ku, kp⟩ := k
  rcases ht with e | ⟨e, hj⟩ | ⟨e, hj⟩
  · subst e
    have ha : addN (k0, ks, ku, kp) 0 j b = (k0, ks ++ [b], ku, kp) := rfl
    rw [ha]
    refine ⟨fun l hl => ?_, rfl, Or.inl rfl, rfl⟩
    rcases List.mem_cons.mp hl with q | q
    · exact Or.inl (by rw [q]; exact List.mem_cons_self)
    · rcases lbT_in.mp q with q | q | q
      · have q : l ∈ lbS (prF k0.1) (0, []) (ks ++ [b]) := q
        rw [lbS_app] at q
        rcases List.mem_append.mp q with q | q
        · exact Or.inl (List.mem_cons_of_mem _ (lbT_in.mpr (Or.inl q)))
        · exact Or.inr (List.mem_singleton.mp q)
      · exact Or.inl (List.mem_cons_of_mem _ (lbT_in.mpr (Or.inr (Or.inl q))))
      · exact Or.inl (List.mem_cons_of_mem _ (lbT_in.mpr (Or.inr (Or.inr q))))
  · subst e
    have hj : j < ku.length := hj
    obtain ⟨u, hu⟩ : ∃ u, ku[j]? = some u := ⟨_, List.getElem?_eq_getElem hj⟩
    obtain ⟨u1, u2, e1, e2⟩ := split_at hu
    subst e1 e2
    have ha : addN (k0, ks, u1 ++ u :: u2, kp) 1 u1.length b = (k0, ks, u1 ++ (u.1, u.2 ++ [b]) :: u2, kp) := by
      unfold addN
      rw [if_neg (by decide), if_pos rfl]
      show (k0, ks, (u1 ++ u :: u2).modify u1.length (fun u => (u.1, u.2 ++ [b])), kp) = _
      rw [mod_mid]
    have ht1 : tlOf (k0, ks, u1 ++ u :: u2, kp) 1 u1.length = (1, u.1) := by
      show (1, ((u1 ++ u :: u2)[u1.length]?.map Prod.fst).getD []) = _
      rw [at_mid]; rfl
    have ht2 : tlOf (k0, ks, u1 ++ (u.1, u.2 ++ [b]) :: u2, kp) 1 u1.length = (1, u.1) := by
      show (1, ((u1 ++ (u.1, u.2 ++ [b]) :: u2)[u1.length]?.map Prod.fst).getD []) = _
      rw [at_mid]; rfl
    rw [ha, ht1, ht2]
    refine ⟨fun l hl => ?_, rfl, Or.inr (Or.inl ⟨rfl, by show u1.length < (u1 ++ (u.1, u.2 ++ [b]) :: u2).length; rw [List.length_append, List.length_cons]; omega⟩), rfl⟩
    rcases List.mem_cons.mp hl with q | q
    · exact Or.inl (by rw [q]; exact List.mem_cons_self)
    · rcases lbT_in.mp q with q | q | q
      · exact Or.inl (List.mem_cons_of_mem _ (lbT_in.mpr (Or.inl q)))
      · have q : l ∈ (u1 ++ (u.1, u.2 ++ [b]) :: u2).flatMap (lbU (prF k0.1)) := q
        have e9 : ∀ w : UCt, (u1 ++ w :: u2).flatMap (lbU (prF k0.1)) = u1.flatMap (lbU (prF k0.1)) ++ (lbU (prF k0.1) w ++ u2.flatMap (lbU (prF k0.1))) := fun w => by rw [List.flatMap_append, List.flatMap_cons]
        have hin : ∀ l, l ∈ u1.flatMap (lbU (prF k0.1)) ∨ l ∈ lbU (prF k0.1) u ∨ l ∈ u2.flatMap (lbU (prF k0.1)) → l ∈ lbK (k0, ks, u1 ++ u :: u2, kp) := fun l h => List.mem_cons_of_mem _ (lbT_in.mpr (Or.inr (Or.inl (by
          show l ∈ (u1 ++ u :: u2).flatMap (lbU (prF k0.1))
          rw [e9, List.mem_append, List.mem_append]; exact h))))
        rw [e9, List.mem_append, List.mem_append] at q
        rcases q with q | q | q
        · exact Or.inl (hin l (Or.inl q))
        · have q : l ∈ (13, prF k0.1, ((0, []) : Nat × List Nat), u.1) :: lbS (prF k0.1) (1, u.1) (u.2 ++ [b]) := q
          rw [lbS_app] at q
          rcases List.mem_cons.mp q with q | q
          · exact Or.inl (hin l (Or.inr (Or.inl (by rw [q]; exact List.mem_cons_self))))
          · rcases List.mem_append.mp q with q | q
            · exact Or.inl (hin l (Or.inr (Or.inl (List.mem_cons_of_mem _ q))))
            · exact Or.inr (List.mem_singleton.mp q)
        · exact Or.inl (hin l (Or.inr (Or.inr q)))
      · exact Or.inl (List.mem_cons_of_mem _ (lbT_in.mpr (Or.inr (Or.inr q))))
  · subst e
    have hj : j < kp.length := hj
    obtain ⟨u, hu⟩ : ∃ u, kp[j]? = some u := ⟨_, List.getElem?_eq_getElem hj⟩
    obtain ⟨u1, u2, e1, e2⟩ := split_at hu
    subst e1 e2
    have ha : addN (k0, ks, ku, u1 ++ u :: u2) 2 u1.length b = (k0, ks, ku, u1 ++ (u.1, u.2 ++ [b]) :: u2) := by
      unfold addN
      rw [if_neg (by decide), if_neg (by decide)]
      show (k0, ks, ku, (u1 ++ u :: u2).modify u1.length (fun u => (u.1, u.2 ++ [b]))) = _
      rw [mod_mid]
    have ht1 : tlOf (k0, ks, ku, u1 ++ u :: u2) 2 u1.length = (2, prF u.1.1) := by
      show (2, ((u1 ++ u :: u2)[u1.length]?.map (fun p => prF p.1.1)).getD []) = _
      rw [at_mid]; rfl
    have ht2 : tlOf (k0, ks, ku, u1 ++ (u.1, u.2 ++ [b]) :: u2) 2 u1.length = (2, prF u.1.1) := by
      show (2, ((u1 ++ (u.1, u.2 ++ [b]) :: u2)[u1.length]?.map (fun p => prF p.1.1)).getD []) = _
      rw [at_mid]; rfl
    rw [ha, ht1, ht2]
    refine ⟨fun l hl => ?_, rfl, Or.inr (Or.inr ⟨rfl, by show u1.length < (u1 ++ (u.1, u.2 ++ [b]) :: u2).length; rw [List.length_append, List.length_cons]; omega⟩), rfl⟩
    rcases List.mem_cons.mp hl with q | q
    · exact Or.inl (by rw [q]; exact List.mem_cons_self)
    · rcases lbT_in.mp q with q | q | q
      · exact Or.inl (List.mem_cons_of_mem _ (lbT_in.mpr (Or.inl q)))
      · exact Or.inl (List.mem_cons_of_mem _ (lbT_in.mpr (Or.inr (Or.inl q))))
      · have q : l ∈ (u1 ++ (u.1, u.2 ++ [b]) :: u2).flatMap (lbP (prF k0.1)) := q
        have e9 : ∀ w : PCt, (u1 ++ w :: u2).flatMap (lbP (prF k0.1)) = u1.flatMap (lbP (prF k0.1)) ++ (lbP (prF k0.1) w ++ u2.flatMap (lbP (prF k0.1))) := fun w => by rw [List.flatMap_append, List.flatMap_cons]
        have hin : ∀ l, l ∈ u1.flatMap (lbP (prF k0.1)) ∨ l ∈ lbP (prF k0.1) u ∨ l ∈ u2.flatMap (lbP (prF k0.1)) → l ∈ lbK (k0, ks, ku, u1 ++ u :: u2) := fun l h => List.mem_cons_of_mem _ (lbT_in.mpr (Or.inr (Or.inr (by
          show l ∈ (u1 ++ u :: u2).flatMap (lbP (prF k0.1))
          rw [e9, List.mem_append, List.mem_append]; exact h))))
        rw [e9, List.mem_append, List.mem_append] at q
        rcases q with q | q | q
        · exact Or.inl (hin l (Or.inl q))
        · have q : l ∈ (14, prF k0.1, ((0, []) : Nat × List Nat), u.1.1) :: lbS (prF k0.1) (2, prF u.1.1) (u.2 ++ [b]) := q
          rw [lbS_app] at q
          rcases List.mem_cons.mp q with q | q
          · exact Or.inl (hin l (Or.inr (Or.inl (by rw [q]; exact List.mem_cons_self))))
          · rcases List.mem_append.mp q with q | q
            · exact Or.inl (hin l (Or.inr (Or.inl (List.mem_cons_of_mem _ q))))
            · exact Or.inr (List.mem_singleton.mp q)
        · exact Or.inl (hin l (Or.inr (Or.inr q)))
theorem lab_seal {x x' : RNt} {R1 R2 : List KCt} {k : KCt} {kd j : Nat} {bd : List Nat} (hR : x.1 = R1 ++ k :: R2) (hc : x.2.1 = some (R1.length, kd, j)) (ht : tOk k kd j) (hp : sealN2 x R1.length kd j k bd = some x') : NewL x x' (2, prF k.1.1, tlOf k kd j, bd) ∧ CurL x' (prF k.1.1) (tlOf k kd j) := by
  have hset : ∀ k', x.1.set R1.length k' = R1 ++ k' :: R2 := fun k' => by rw [hR]; exact set_mid R1 k k' R2
  have hsame : NewL x x (2, prF k.1.1, tlOf k kd j, bd) ∧ CurL x (prF k.1.1) (tlOf k kd j) := ⟨fun l hl => Or.inl hl, R1, k, R2, kd, j, hR, hc, rfl, ht, rfl⟩
  unfold sealN2 at hp
  split at hp
  · cases hp
  · split at hp
    · cases hp; exact hsame
    · split at hp
      · cases hp
      · split at hp
        · cases hp; exact hsame
        · split at hp
          · cases hp
          · cases hp
            obtain ⟨a1, a2, a3, a4⟩ := add_lab (b := bd) ht
            refine ⟨fun l hl => ?_, R1, addN k kd j bd, R2, kd, j, hset _, hc, a2, a3, a4⟩
            have hl : l ∈ lbR (x.1.set R1.length (addN k kd j bd)) := hl
            rw [hset] at hl
            rw [hR]
            exact lbR_sub a1 l hl
theorem keyOk_size {l : List Nat} (h : keyOk l false = true) : kSize l = l.length := by
  unfold keyOk at h
  rw [Bool.and_eq_true, if_neg (by decide)] at h
  have h2 := h.2
  rw [Bool.and_eq_true] at h2
  exact of_decide_eq_true h2.2
theorem slice_mid (A B C : List Nat) : sliceL (A ++ (B ++ C)) A.length B.length = B := by
  unfold sliceL
  rw [List.drop_left, List.take_left]
theorem gD_mid (A C : List Nat) (x : Nat) : gD (A ++ (x :: C)) A.length = x := by
  unfold gD
  rw [List.getD_eq_getElem?_getD, List.getElem?_append_right (Nat.le_refl _), Nat.sub_self]; rfl
theorem pktS_B {pre post : List Nat} {kd : Nat} {bd : List Nat} (hk : kd < 60) (hl : bd.length < 8384) : pktS (pre ++ (pktB kd bd ++ post)) pre.length = some (kd, bd, pre.length + (pktB kd bd).length) := by
  have h0 : gD (pre ++ (pktB kd bd ++ post)) pre.length = 192 + kd := gD_mid pre _ _
  have hlen : pre.length < (pre ++ (pktB kd bd ++ post)).length := by
    have := pktB_len kd bd
    simp only [List.length_append]; omega
  unfold pktS
  rw [if_pos hlen, h0, if_neg (by omega), if_neg (by omega), Nat.add_sub_cancel_left]
  have hN : pktN (pre ++ (pktB kd bd ++ post)) kd (pre.length + 1) [] = some (bd, pre.length + (pktB kd bd).length) := by
    by_cases q : bd.length < 192
    · have e : pktB kd bd = [192 + kd] ++ [bd.length] ++ bd := by unfold pktB lenB; rw [if_pos q]
      have e2 : pre ++ (pktB kd bd ++ post) = (pre ++ [192 + kd]) ++ (bd.length :: (bd ++ post)) := by rw [e]; simp only [List.append_assoc]; rfl
      have e3 : pre ++ (pktB kd bd ++ post) = (pre ++ [192 + kd] ++ [bd.length]) ++ (bd ++ post) := by rw [e]; simp only [List.append_assoc]
      have l1 : (pre ++ [192 + kd]).length = pre.length + 1 := by rw [List.length_append]; rfl
      have l2 : (pre ++ [192 + kd] ++ [bd.length]).length = pre.length + 1 + 1 := by rw [List.length_append, l1]; rfl
      have h1 : gD (pre ++ (pktB kd bd ++ post)) (pre.length + 1) = bd.length := by rw [e2, ← l1]; exact gD_mid _ _ _
      have hs : sliceL (pre ++ (pktB kd bd ++ post)) (pre.length + 1 + 1) bd.length = bd := by rw [e3, ← l2]; exact slice_mid _ _ _
      have hl9 : (pre ++ (pktB kd bd ++ post)).length = pre.length + 2 + bd.length + post.length := by rw [e3, List.length_append, l2, List.length_append]; omega
      rw [pktN, dif_pos (by omega), h1, dif_neg (by omega), if_pos q, if_pos (by omega), hs, List.nil_append]
      congr 2
      rw [e]; simp only [List.length_append, List.length_cons, List.length_nil]; omega
    · have e : pktB kd bd = [192 + kd] ++ [(bd.length - 192) / 256 + 192, (bd.length - 192) % 256] ++ bd := by unfold pktB lenB; rw [if_neg q]
      have e2 : pre ++ (pktB kd bd ++ post) = (pre ++ [192 + kd]) ++ (((bd.length - 192) / 256 + 192) :: ((bd.length - 192) % 256 :: (bd ++ post))) := by rw [e]; simp only [List.append_assoc]; rfl
      have e4 : pre ++ (pktB kd bd ++ post) = (pre ++ [192 + kd] ++ [(bd.length - 192) / 256 + 192]) ++ ((bd.length - 192) % 256 :: (bd ++ post)) := by rw [e]; simp only [List.append_assoc]; rfl
      have e3 : pre ++ (pktB kd bd ++ post) = (pre ++ [192 + kd] ++ [(bd.length - 192) / 256 + 192, (bd.length - 192) % 256]) ++ (bd ++ post) := by rw [e]; simp only [List.append_assoc]
      have l1 : (pre ++ [192 + kd]).length = pre.length + 1 := by rw [List.length_append]; rfl
      have l3 : (pre ++ [192 + kd] ++ [(bd.length - 192) / 256 + 192]).length = pre.length + 1 + 1 := by rw [List.length_append, l1]; rfl
      have l2 : (pre ++ [192 + kd] ++ [(bd.length - 192) / 256 + 192, (bd.length - 192) % 256]).length = pre.length + 1 + 2 := by rw [List.length_append, l1]; rfl
      have h1 : gD (pre ++ (pktB kd bd ++ post)) (pre.length + 1) = (bd.length - 192) / 256 + 192 := by rw [e2, ← l1]; exact gD_mid _ _ _
      have h2 : gD (pre ++ (pktB kd bd ++ post)) (pre.length + 1 + 1) = (bd.length - 192) % 256 := by rw [e4, ← l3]; exact gD_mid _ _ _
      have hs : sliceL (pre ++ (pktB kd bd ++ post)) (pre.length + 1 + 2) bd.length = bd := by rw [e3, ← l2]; exact slice_mid _ _ _
      have hl9 : (pre ++ (pktB kd bd ++ post)).length = pre.length + 3 + bd.length + post.length := by rw [e3, List.length_append, l2, List.length_append]; omega
      have hn : ((bd.length - 192) / 256 + 192 - 192) * 256 + (bd.length - 192) % 256 + 192 = bd.length := by omega
      rw [pktN, dif_pos (by omega), h1, dif_neg (by omega), if_neg (by omega), if_pos (by omega), h2, hn, if_pos (by omega), hs, List.nil_append]
      congr 2
      rw [e]; simp only [List.length_append, List.length_cons, List.length_nil]; omega
  rw [hN]
/-! what a reading can bring -/
def CurV (x : RNt) : Prop := x.2.1 = none ∨ ∃ pr tl, CurL x pr tl
theorem take_le9 (l : List Nat) (n : Nat) : (l.take n).length ≤ l.length := by rw [List.length_take]; omega
theorem cur_un {x : RNt} {pr : List Nat} {tl : Nat × List Nat} (h : CurL x pr tl) : ∃ R1 k R2 kd j, x.1 = R1 ++ k :: R2 ∧ x.2.1 = some (R1.length, kd, j) ∧ prF k.1.1 = pr ∧ tOk k kd j ∧ tlOf k kd j = tl ∧ ∀ kd9 bd, curN x kd9 bd x.2.1 = undN x kd9 bd (R1.length, kd, j) k := by
  obtain ⟨R1, k, R2, kd, j, e1, e2, e3, e4, e5⟩ := h
  refine ⟨R1, k, R2, kd, j, e1, e2, e3, e4, e5, fun kd9 bd => ?_⟩
  rw [e2]
  show (match x.1[R1.length]? with | none => none | some k => undN x kd9 bd (R1.length, kd, j) k) = _
  rw [e1, at_mid]
theorem pk_key {x x' : RNt} {kd : Nat} {bd : List Nat} (h : kd = 5 ∨ kd = 6) (hp : pkN x kd bd = some x') : NewL x x' (6, [], (0, []), bd.take (kSize bd)) ∧ CurL x' (prF (bd.take (kSize bd))) (0, []) ∧ keyOk bd (decide (kd = 5)) = true := by
  unfold pkN at hp
  rw [if_neg (by omega), if_pos h] at hp
  by_cases c : keyOk bd (decide (kd = 5)) = true
  · rw [if_pos c] at hp
    have := lab_key hp
    exact ⟨this.1, this.2, c⟩
  · rw [if_neg c] at hp; cases hp
theorem pk_part {x x' : RNt} {pr : List Nat} {tl : Nat × List Nat} {kd : Nat} {bd : List Nat} (hc : CurL x pr tl) (h : kd = 7 ∨ kd = 14) (hp : pkN x kd bd = some x') : NewL x x' (14, pr, (0, []), bd.take (kSize bd)) ∧ CurL x' pr (2, prF (bd.take (kSize bd))) ∧ keyOk bd (decide (kd = 7)) = true := by
  obtain ⟨R1, k, R2, a, j, e1, e2, e3, e4, e5, e6⟩ := cur_un hc
  unfold pkN at hp
  rw [if_neg (by omega), if_neg (by omega), e6] at hp
  unfold undN at hp
  rw [if_pos h] at hp
  by_cases c : keyOk bd (decide (kd = 7)) = true
  · rw [if_pos c] at hp
    have := lab_part e1 hp
    rw [e3] at this
    exact ⟨this.1, this.2, c⟩
  · rw [if_neg c] at hp; cases hp
theorem pk_user {x x' : RNt} {pr : List Nat} {tl : Nat × List Nat} {bd : List Nat} (hc : CurL x pr tl) (hp : pkN x 13 bd = some x') : NewL x x' (13, pr, (0, []), bd) ∧ CurL x' pr (1, bd) := by
  obtain ⟨R1, k, R2, a, j, e1, e2, e3, e4, e5, e6⟩ := cur_un hc
  unfold pkN at hp
  rw [if_neg (by omega), if_neg (by omega), e6] at hp
  unfold undN at hp
  rw [if_neg (by omega), if_pos rfl] at hp
  have := lab_user e1 hp
  rw [e3] at this
  exact this
theorem pk_seal {x x' : RNt} {pr : List Nat} {tl : Nat × List Nat} {bd : List Nat} (hc : CurL x pr tl) (hp : pkN x 2 bd = some x') : NewL x x' (2, pr, tl, bd) ∧ CurL x' pr tl := by
  obtain ⟨R1, k, R2, a, j, e1, e2, e3, e4, e5, e6⟩ := cur_un hc
  unfold pkN at hp
  rw [if_neg (by omega), if_neg (by omega), e6] at hp
  unfold undN at hp
  rw [if_neg (by omega), if_neg (by omega), if_pos rfl] at hp
  have := lab_seal e1 e2 e4 hp
  rw [e3, e5] at this
  exact this
theorem pk_any {x x' : RNt} {kd : Nat} {bd : List Nat} (hv : CurV x) (hp : pkN x kd bd = some x') : CurV x' ∧ ∃ n : LB, NewL x x' n ∧ wt1 n ≤ bd.length + 2 := by
  by_cases c1 : kd = 10 ∨ kd = 12 ∨ kd = 17 ∨ 40 ≤ kd
  · unfold pkN at hp
    rw [if_pos c1] at hp
    cases hp
    exact ⟨hv, (6, [], (0, []), []), fun l hl => Or.inl hl, by show 0 + 2 ≤ _; omega⟩
  by_cases c2 : kd = 5 ∨ kd = 6
  · obtain ⟨h1, h2, _⟩ := pk_key c2 hp
    exact ⟨Or.inr ⟨_, _, h2⟩, _, h1, by have := take_le9 bd (kSize bd); show (bd.take (kSize bd)).length + 2 ≤ _; omega⟩
  rcases hv with hv | ⟨pr, tl, hc⟩
  · unfold pkN at hp
    rw [if_neg c1, if_neg c2, hv] at hp
    cases hp
  by_cases c3 : kd = 7 ∨ kd = 14
  · obtain ⟨h1, h2, _⟩ := pk_part hc c3 hp
    exact ⟨Or.inr ⟨_, _, h2⟩, _, h1, by have := take_le9 bd (kSize bd); show (bd.take (kSize bd)).length + 2 ≤ _; omega⟩
  by_cases c4 : kd = 13
  · subst c4
    obtain ⟨h1, h2⟩ := pk_user hc hp
    exact ⟨Or.inr ⟨_, _, h2⟩, _, h1, Nat.le_refl _⟩
  by_cases c5 : kd = 2
  · subst c5
    obtain ⟨h1, h2⟩ := pk_seal hc hp
    exact ⟨Or.inr ⟨_, _, h2⟩, _, h1, Nat.le_refl _⟩
  · obtain ⟨R1, k, R2, a, j, e1, e2, e3, e4, e5, e6⟩ := cur_un hc
    unfold pkN at hp
    rw [if_neg c1, if_neg c2, e6] at hp
    unfold undN at hp
    rw [if_neg c3, if_neg c4, if_neg c5] at hp
    cases hp
/-- all that a reading brings weighs no more than what was read -/
theorem keys_gen {rw9 : List Nat} (hb : byt rw9) : ∀ (f : Nat) (x : RNt) (nx : Nat), CurV x → nx ≤ rw9.length → ∃ V : List LB, (∀ l ∈ lbR (keysN rw9 f x nx).2.1, l ∈ lbR x.1 ∨ l ∈ V) ∧ wt V + nx ≤ rw9.length
  | 0, x, nx, _, hn => ⟨[], fun l hl => Or.inl hl, by show 0 + nx ≤ _; omega⟩
  | f + 1, x, nx, hv, hn => by
    rw [keysN]
    by_cases c : rw9.length ≤ nx
    · rw [if_pos c]; exact ⟨[], fun l hl => Or.inl hl, by show 0 + nx ≤ _; omega⟩
    · rw [if_neg c]
      cases hq : pktS rw9 nx with
      | none => exact ⟨[], fun l hl => Or.inl hl, by show 0 + nx ≤ _; omega⟩
      | some q =>
        obtain ⟨a1, a2, _⟩ := pktS_adv hb hq
        show ∃ V : List LB, (∀ l ∈ lbR (nextN nx x (pkN x q.1 q.2.1) (fun y => keysN rw9 f y q.2.2)).2.1, l ∈ lbR x.1 ∨ l ∈ V) ∧ wt V + nx ≤ rw9.length
        cases hp : pkN x q.1 q.2.1 with
        | none => exact ⟨[], fun l hl => Or.inl hl, by show 0 + nx ≤ _; omega⟩
        | some x' =>
          obtain ⟨h1, n, h2, h3⟩ := pk_any hv hp
          obtain ⟨V, g1, g2⟩ := keys_gen hb f x' q.2.2 h1 a1
          refine ⟨n :: V, fun l hl => ?_, by rw [wt_cons]; omega⟩
          rcases g1 l hl with w | w
          · exact (h2 l w).imp id (fun z => by rw [z]; exact List.mem_cons_self)
          · exact Or.inr (List.mem_cons_of_mem _ w)
/-! reading what was exported -/
def runP : List (Nat × List Nat) → RNt → Option RNt
  | [], x => some x
  | p :: ps, x => match pkN x p.1 p.2 with
    | none => none
    | some y => runP ps y
theorem runP_app : ∀ (ps qs : List (Nat × List Nat)) (x : RNt), runP (ps ++ qs) x = match runP ps x with | none => none | some y => runP qs y
  | [], _, _ => rfl
  | p :: ps, qs, x => by
    show (match pkN x p.1 p.2 with | none => none | some y => runP (ps ++ qs) y) = match (match pkN x p.1 p.2 with | none => none | some y => runP ps y) with | none => none | some y => runP qs y
    cases pkN x p.1 p.2 with
    | none => rfl
    | some y => exact runP_app ps qs y
theorem runP_app_s {ps qs : List (Nat × List Nat)} {x z : RNt} (h : runP (ps ++ qs) x = some z) : ∃ y, runP ps x = some y ∧ runP qs y = some z := by
  rw [runP_app] at h
  cases hy : runP ps x with
  | none => rw [hy] at h; cases h
  | some y => rw [hy] at h; exact ⟨y, rfl, h⟩
theorem runP_cons_s {p : Nat × List Nat} {ps : List (Nat × List Nat)} {x z : RNt} (h : runP (p :: ps) x = some z) : ∃ y, pkN x p.1 p.2 = some y ∧ runP ps y = some z := by
  have h : (match pkN x p.1 p.2 with | none => none | some y => runP ps y) = some z := h
  cases hy : pkN x p.1 p.2 with
  | none => rw [hy] at h; cases h
  | some y => rw [hy] at h; exact ⟨y, rfl, h⟩
/-- the labels of R lie in W -/
def SubL (R : List KCt) (W : List LB) : Prop := ∀ l ∈ lbR R, l ∈ W
theorem NewL.sub {x x' : RNt} {n : LB} {W : List LB} (h : NewL x x' n) (hs : SubL x.1 W) (hn : n ∈ W) : SubL x'.1 W := fun l hl => (h l hl).elim (hs l) (fun e => by rw [e]; exact hn)
theorem run_seals {pr : List Nat} {tl : Nat × List Nat} {W : List LB} : ∀ {ls : List (List Nat)} {x z : RNt}, (∀ l ∈ lbS pr tl ls, l ∈ W) → CurL x pr tl → SubL x.1 W → runP (ls.map (fun b => (2, b))) x = some z → CurL z pr tl ∧ SubL z.1 W
  | [], x, z, _, hc, hs, h => by cases h; exact ⟨hc, hs⟩
  | b :: ls, x, z, hW, hc, hs, h => by
    obtain ⟨y, h1, h2⟩ := runP_cons_s h
    obtain ⟨a1, a2⟩ := pk_seal hc h1
    exact run_seals (fun l hl => hW l (List.mem_cons_of_mem _ hl)) a2 (a1.sub hs (hW _ List.mem_cons_self)) h2
def ppU (u : UCt) : List (Nat × List Nat) := (13, u.1) :: u.2.map (fun b => (2, b))
def ppP (p : PCt) : List (Nat × List Nat) := (14, p.1.1) :: p.2.map (fun b => (2, b))
def ppK (k : KCt) : List (Nat × List Nat) := (6, k.1.1) :: (k.2.1.map (fun b => (2, b)) ++ (k.2.2.1.flatMap ppU ++ k.2.2.2.flatMap ppP))
theorem run_users {pr : List Nat} {W : List LB} : ∀ {us : List UCt} {tl : Nat × List Nat} {x z : RNt}, (∀ l ∈ us.flatMap (lbU pr), l ∈ W) → CurL x pr tl → SubL x.1 W → runP (us.flatMap ppU) x = some z → (∃ tl', CurL z pr tl') ∧ SubL z.1 W
  | [], tl, x, z, _, hc, hs, h => by cases h; exact ⟨⟨tl, hc⟩, hs⟩
  | u :: us, tl, x, z, hW, hc, hs, h => by
    rw [List.flatMap_cons] at h hW
    obtain ⟨y, h1, h2⟩ := runP_app_s h
    obtain ⟨y1, g1, g2⟩ := runP_cons_s h1
    obtain ⟨a1, a2⟩ := pk_user hc g1
    obtain ⟨b1, b2⟩ := run_seals (fun l hl => hW l (List.mem_append_left _ (List.mem_cons_of_mem _ hl))) a2 (a1.sub hs (hW _ (List.mem_append_left _ List.mem_cons_self))) g2
    exact run_users (fun l hl => hW l (List.mem_append_right _ hl)) b1 b2 h2
theorem run_parts {pr : List Nat} {W : List LB} : ∀ {us : List PCt} {tl : Nat × List Nat} {x z : RNt}, (∀ l ∈ us.flatMap (lbP pr), l ∈ W) → CurL x pr tl → SubL x.1 W → runP (us.flatMap ppP) x = some z → (∃ tl', CurL z pr tl') ∧ SubL z.1 W
  | [], tl, x, z, _, hc, hs, h => by cases h; exact ⟨⟨tl, hc⟩, hs⟩
  | u :: us, tl, x, z, hW, hc, hs, h => by
    rw [List.flatMap_cons] at h hW
    obtain ⟨y, h1, h2⟩ := runP_app_s h
    obtain ⟨y1, g1, g2⟩ := runP_cons_s h1
    obtain ⟨a1, a2, a3⟩ := pk_part hc (Or.inr rfl) g1
    have e : u.1.1.take (kSize u.1.1) = u.1.1 := by rw [keyOk_size a3, List.take_length]
    rw [show (u.1.1.take (kSize u.1.1)) = u.1.1 from e] at a1 a2
    obtain ⟨b1, b2⟩ := run_seals (fun l hl => hW l (List.mem_append_left _ (List.mem_cons_of_mem _ hl))) a2 (a1.sub hs (hW _ (List.mem_append_left _ List.mem_cons_self))) g2
    exact run_parts (fun l hl => hW l (List.mem_append_right _ hl)) b1 b2 h2
theorem run_key {k : KCt} {W : List LB} {x z : RNt} (hW : ∀ l ∈ lbK k, l ∈ W) (hs : SubL x.1 W) (h : runP (ppK k) x = some z) : CurV z ∧ SubL z.1 W := by
  obtain ⟨y, h1, h2⟩ := runP_cons_s h
  obtain ⟨a1, a2, a3⟩ := pk_key (Or.inr rfl) h1
  have e : k.1.1.take (kSize k.1.1) = k.1.1 := by rw [keyOk_size a3, List.take_length]
  rw [show (k.1.1.take (kSize k.1.1)) = k.1.1 from e] at a1 a2
  have hs1 := a1.sub hs (hW _ List.mem_cons_self)
  obtain ⟨y2, g1, g2⟩ := runP_app_s h2
  obtain ⟨b1, b2⟩ := run_seals (fun l hl => hW l (List.mem_cons_of_mem _ (lbT_in.mpr (Or.inl hl)))) a2 hs1 g1
  obtain ⟨y3, g3, g4⟩ := runP_app_s g2
  obtain ⟨⟨tl, c1⟩, c2⟩ := run_users (fun l hl => hW l (List.mem_cons_of_mem _ (lbT_in.mpr (Or.inr (Or.inl hl))))) b1 b2 g3
  obtain ⟨⟨tl2, d1⟩, d2⟩ := run_parts (fun l hl => hW l (List.mem_cons_of_mem _ (lbT_in.mpr (Or.inr (Or.inr hl))))) c1 c2 g4
  exact ⟨Or.inr ⟨_, _, d1⟩, d2⟩
def encP (ps : List (Nat × List Nat)) : List Nat := ps.flatMap (fun p => pktB p.1 p.2)
theorem keys_run {post : List Nat} : ∀ (ps : List (Nat × List Nat)) (pre : List Nat) (f : Nat) (x : RNt), (∀ p ∈ ps, p.1 < 60 ∧ p.2.length < 8384) → (∃ nx y, nx ≤ (pre ++ (encP ps ++ post)).length ∧ keysN (pre ++ (encP ps ++ post)) (f + ps.length) x pre.length = (-1 - nI nx, y)) ∨ ∃ y, runP ps x = some y ∧ keysN (pre ++ (encP ps ++ post)) (f + ps.length) x pre.length = keysN (pre ++ (encP ps ++ post)) f y (pre.length + (encP ps).length)
  | [], pre, f, x, _ => Or.inr ⟨x, rfl, rfl⟩
  | p :: ps, pre, f, x, h => by
    obtain ⟨h1, h2⟩ := h p List.mem_cons_self
    have hl := pktB_len p.1 p.2
    have e : pre ++ (encP (p :: ps) ++ post) = pre ++ (pktB p.1 p.2 ++ (encP ps ++ post)) := by
      show pre ++ ((pktB p.1 p.2 ++ encP ps) ++ post) = _
      rw [List.append_assoc]
    have e2 : pre ++ (pktB p.1 p.2 ++ (encP ps ++ post)) = (pre ++ pktB p.1 p.2) ++ (encP ps ++ post) := by rw [List.append_assoc]
    have hlen : pre.length < (pre ++ (pktB p.1 p.2 ++ (encP ps ++ post))).length := by simp only [List.length_append]; omega
    rw [e]
    show (∃ nx y, nx ≤ _ ∧ keysN (pre ++ (pktB p.1 p.2 ++ (encP ps ++ post))) (f + ps.length + 1) x pre.length = _) ∨ ∃ y, runP (p :: ps) x = some y ∧ keysN (pre ++ (pktB p.1 p.2 ++ (encP ps ++ post))) (f + ps.length + 1) x pre.length = _
    rw [keysN, if_neg (by omega), pktS_B h1 h2]
    show (∃ nx y, nx ≤ _ ∧ nextN pre.length x (pkN x p.1 p.2) (fun y => keysN (pre ++ (pktB p.1 p.2 ++ (encP ps ++ post))) (f + ps.length) y (pre.length + (pktB p.1 p.2).length)) = _) ∨ ∃ y, runP (p :: ps) x = some y ∧ nextN pre.length x (pkN x p.1 p.2) (fun y => keysN (pre ++ (pktB p.1 p.2 ++ (encP ps ++ post))) (f + ps.length) y (pre.length + (pktB p.1 p.2).length)) = _
    cases hp : pkN x p.1 p.2 with
    | none => exact Or.inl ⟨pre.length, x, by omega, rfl⟩
    | some y =>
      have ih := keys_run (post := post) ps (pre ++ pktB p.1 p.2) f y (fun q hq => h q (List.mem_cons_of_mem _ hq))
      have el : (pre ++ pktB p.1 p.2).length = pre.length + (pktB p.1 p.2).length := List.length_append ..
      rw [← e2, el] at ih
      rcases ih with ⟨nx, w, i0, i1⟩ | ⟨w, i1, i2⟩
      · exact Or.inl ⟨nx, w, i0, i1⟩
      · refine Or.inr ⟨w, ?_, ?_⟩
        · show (match pkN x p.1 p.2 with | none => none | some y => runP ps y) = _
          rw [hp]; exact i1
        · show keysN _ _ y _ = _
          rw [i2]
          congr 1
          show pre.length + (pktB p.1 p.2).length + (encP ps).length = pre.length + (pktB p.1 p.2 ++ encP ps).length
          rw [List.length_append]; omega
