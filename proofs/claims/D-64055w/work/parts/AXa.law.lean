set_option maxRecDepth 100000
/-! the nested ring, flat -/
def fS (ls : List (List Nat)) : List PK := ls.map (fun b => (2, b, none))
def fU (u : UCt) : List PK := (13, u.1, none) :: fS u.2
def fP (p : PCt) : List PK := (14, p.1.1, p.1.2) :: fS p.2
/-- what stands behind a key -/
def fT (k : KCt) : List PK := fS k.2.1 ++ (k.2.2.1.flatMap fU ++ k.2.2.2.flatMap fP)
def fK (k : KCt) : List PK := (6, k.1.1, k.1.2) :: fT k
def fR (R : List KCt) : List PK := R.flatMap fK
theorem fS_k {ls : List (List Nat)} : ∀ x ∈ fS ls, x.1 = 2 := by
  intro x hx
  obtain ⟨b, _, e⟩ := List.mem_map.mp hx
  rw [← e]
theorem fS_len (ls : List (List Nat)) : (fS ls).length = ls.length := List.length_map ..
theorem fU_k {us : List UCt} : ∀ x ∈ us.flatMap fU, x.1 = 13 ∨ x.1 = 2 := by
  intro x hx
  obtain ⟨u, _, h⟩ := List.mem_flatMap.mp hx
  rcases List.mem_cons.mp h with e | h
  · rw [e]; exact Or.inl rfl
  · exact Or.inr (fS_k x h)
theorem fP_k {ps : List PCt} : ∀ x ∈ ps.flatMap fP, x.1 = 14 ∨ x.1 = 2 := by
  intro x hx
  obtain ⟨u, _, h⟩ := List.mem_flatMap.mp hx
  rcases List.mem_cons.mp h with e | h
  · rw [e]; exact Or.inl rfl
  · exact Or.inr (fS_k x h)
theorem fT_k {k : KCt} : ∀ x ∈ fT k, ¬ x.1 = 6 := by
  intro x hx
  rcases List.mem_append.mp hx with h | h
  · rw [fS_k x h]; decide
  · rcases List.mem_append.mp h with h | h
    · rcases fU_k x h with e | e <;> rw [e] <;> decide
    · rcases fP_k x h with e | e <;> rw [e] <;> decide
theorem split_at {α : Type} {l : List α} {i : Nat} {x : α} (h : l[i]? = some x) : ∃ l1 l2, l = l1 ++ x :: l2 ∧ l1.length = i := by
  obtain ⟨h1, h2⟩ := List.getElem?_eq_some_iff.mp h
  refine ⟨l.take i, l.drop (i + 1), ?_, by rw [List.length_take]; omega⟩
  rw [← h2, ← List.drop_eq_getElem_cons h1, List.take_append_drop]
theorem at_mid {α : Type} (l1 : List α) (x : α) (l2 : List α) : (l1 ++ x :: l2)[l1.length]? = some x := by
  rw [List.getElem?_append_right (Nat.le_refl _), Nat.sub_self]; rfl
theorem set_mid {α : Type} (l1 : List α) (x y : α) (l2 : List α) : (l1 ++ x :: l2).set l1.length y = l1 ++ y :: l2 := by
  induction l1 with
  | nil => rfl
  | cons a l ih => exact congrArg (a :: ·) ih
theorem mod_mid {α : Type} (f : α → α) (l1 : List α) (x : α) (l2 : List α) : (l1 ++ x :: l2).modify l1.length f = l1 ++ f x :: l2 := by
  refine List.ext_getElem? (fun j => ?_)
  rw [← set_mid l1 x (f x) l2, List.getElem?_modify, List.getElem?_set]
  by_cases q : l1.length = j
  · subst q
    rw [if_pos rfl, if_pos (by rw [List.length_append, List.length_cons]; omega), at_mid]
    show some (if l1.length = l1.length then f x else x) = some (f x)
    rw [if_pos rfl]
  · rw [if_neg q]
    cases (l1 ++ x :: l2)[j]? with
    | none => rfl
    | some z => show some (if l1.length = j then f z else z) = some z; rw [if_neg q]
theorem tw_all {P : PK → Bool} {S B : List PK} (hS : ∀ x ∈ S, P x = true) (hB : ∀ x, B.head? = some x → P x = false) : (S ++ B).takeWhile P = S := by
  induction S with
  | nil =>
    cases B with
    | nil => rfl
    | cons b B => show (b :: B).takeWhile P = []; rw [List.takeWhile_cons, hB b rfl]; rfl
  | cons a S ih =>
    show (a :: (S ++ B)).takeWhile P = _
    rw [List.takeWhile_cons, hS a List.mem_cons_self, if_pos rfl, ih (fun x hx => hS x (List.mem_cons_of_mem _ hx))]
theorem sk_at {P : PK → Bool} {A S B : List PK} {n : Nat} (hn : n = A.length) (hS : ∀ x ∈ S, P x = true) (hB : ∀ x, B.head? = some x → P x = false) : sk P (A ++ (S ++ B)) n = n + S.length := by
  unfold sk
  rw [hn, List.drop_left, tw_all hS hB]
theorem findF_at {P : PK → Bool} : ∀ (S A B : List PK), findF P (A ++ (S ++ B)) S.length A.length = (S.findIdx? P).map (fun i => A.length + i)
  | [], A, B => rfl
  | x :: S, A, B => by
    have e : (A ++ (x :: S ++ B))[A.length]? = some x := at_mid A x (S ++ B)
    show (if ((A ++ (x :: S ++ B))[A.length]?.map P) = some true then some A.length else findF P (A ++ (x :: S ++ B)) S.length (A.length + 1)) = _
    rw [e, List.findIdx?_cons, Option.map_some]
    by_cases q : P x = true
    · rw [if_pos (congrArg some q), if_pos q]; rfl
    · rw [if_neg (fun z => q (Option.some.inj z)), if_neg q]
      have ih := findF_at (P := P) S (A ++ [x]) B
      rw [List.length_append, List.append_assoc] at ih
      refine Eq.trans ih ?_
      rw [Option.map_map]
      congr 1
      funext i
      show A.length + 1 + i = A.length + (i + 1)
      omega
theorem cntF_at {k : Nat} (S A B : List PK) : cntF (A ++ (S ++ B)) k S.length A.length = S.countP (isK k) := by
  rw [cntF_eq, List.drop_left, List.take_left]; rfl
theorem insF_at (A B : List PK) (x : PK) : insF (A ++ B) A.length x = A ++ x :: B := by
  unfold insF
  rw [List.take_left, List.drop_left, List.append_assoc]; rfl
theorem setSec_at (A B : List PK) (x : PK) (sec : Option (List Nat)) : setSec (A ++ x :: B) A.length sec = A ++ (x.1, x.2.1, withO x.2.2 sec) :: B := by
  unfold setSec
  rw [at_mid]
  obtain ⟨x1, x2, x3⟩ := x
  cases x3 with
  | none => exact set_mid A _ _ B
  | some b => rfl
theorem cnt0 {k : Nat} {S : List PK} (h : ∀ x ∈ S, ¬ x.1 = k) : S.countP (isK k) = 0 := by
  rw [List.countP_eq_zero]
  intro x hx q
  exact h x hx (of_decide_eq_true q)
theorem fx0 {P : PK → Bool} {S : List PK} (h : ∀ x ∈ S, P x = false) : S.findIdx? P = none := List.findIdx?_eq_none_iff.mpr h
theorem fx_fm {α : Type} {f : α → List PK} {P : PK → Bool} {Q : α → Bool} (h : ∀ k, (f k).findIdx? P = if Q k = true then some 0 else none) : ∀ R : List α, (R.flatMap f).findIdx? P = (R.findIdx? Q).map (fun i => ((R.take i).flatMap f).length)
  | [] => rfl
  | k :: R => by
    rw [List.flatMap_cons, List.findIdx?_append, h k, List.findIdx?_cons]
    by_cases q : Q k = true
    · rw [if_pos q, if_pos q]; rfl
    · rw [if_neg q, if_neg q, fx_fm h R]
      show ((R.findIdx? Q).map _).map _ = _
      rw [Option.map_map, Option.map_map]
      congr 1
      funext i
      show ((R.take i).flatMap f).length + (f k).length = (((k :: R).take (i + 1)).flatMap f).length
      rw [List.take_succ_cons, List.flatMap_cons, List.length_append]; omega
theorem prP_no {k : Nat} {pr : List Nat} {x : PK} (h : ¬ x.1 = k) : prP k pr x = false := by
  unfold prP isK; rw [decide_eq_false h]; rfl
theorem bdP_no {k : Nat} {pr : List Nat} {x : PK} (h : ¬ x.1 = k) : bdP k pr x = false := by
  unfold bdP isK; rw [decide_eq_false h]; rfl
theorem fK_fx (pr : List Nat) (k : KCt) : (fK k).findIdx? (prP 6 pr) = if prK pr k = true then some 0 else none := by
  unfold fK
  rw [List.findIdx?_cons, fx0 (fun x hx => prP_no (fT_k x hx))]
  rfl
theorem fU_fx (lb : List Nat) (u : UCt) : (fU u).findIdx? (bdP 13 lb) = if isU lb u = true then some 0 else none := by
  unfold fU
  rw [List.findIdx?_cons, fx0 (fun x hx => bdP_no (by rw [fS_k x hx]; decide))]
  rfl
theorem fP_fx (pr : List Nat) (p : PCt) : (fP p).findIdx? (prP 14 pr) = if prP2 pr p = true then some 0 else none := by
  unfold fP
  rw [List.findIdx?_cons, fx0 (fun x hx => prP_no (by rw [fS_k x hx]; decide))]
  rfl
theorem cnt_fm {α : Type} {f : α → List PK} {k : Nat} (h : ∀ a, (f a).countP (isK k) = 1) : ∀ R : List α, (R.flatMap f).countP (isK k) = R.length
  | [] => rfl
  | a :: R => by rw [List.flatMap_cons, List.countP_append, h a, cnt_fm h R, List.length_cons]; omega
theorem cnt_cons1 {k : Nat} {x : PK} {S : List PK} (hx : x.1 = k) (h : ∀ y ∈ S, ¬ y.1 = k) : (x :: S).countP (isK k) = 1 := by
  rw [List.countP_cons, cnt0 h, if_pos (show isK k x = true from decide_eq_true hx)]
theorem fK_c (k : KCt) : (fK k).countP (isK 6) = 1 := cnt_cons1 rfl fT_k
theorem fU_c (u : UCt) : (fU u).countP (isK 13) = 1 := cnt_cons1 rfl (fun x hx => by rw [fS_k x hx]; decide)
theorem fP_c (p : PCt) : (fP p).countP (isK 14) = 1 := cnt_cons1 rfl (fun x hx => by rw [fS_k x hx]; decide)
theorem fR_app (R1 R2 : List KCt) : fR (R1 ++ R2) = fR R1 ++ fR R2 := List.flatMap_append
theorem fR_mid (R1 : List KCt) (k : KCt) (R2 : List KCt) : fR (R1 ++ k :: R2) = fR R1 ++ fK k ++ fR R2 := by
  rw [fR_app, List.append_assoc]; rfl
theorem fR_head {R : List KCt} : ∀ x, (fR R).head? = some x → x.1 = 6 := by
  intro x hx
  cases R with
  | nil => cases hx
  | cons k R => cases hx; rfl
theorem fUP_head {us : List UCt} {ps : List PCt} {R : List KCt} : ∀ x, ((us.flatMap fU ++ ps.flatMap fP) ++ fR R).head? = some x → ¬ x.1 = 2 := by
  intro x hx
  cases us with
  | cons u us => cases hx; exact (by decide : ¬ (13 : Nat) = 2)
  | nil =>
    cases ps with
    | cons u us => cases hx; exact (by decide : ¬ (14 : Nat) = 2)
    | nil => rw [fR_head x hx]; decide
theorem fPR_head {ps : List PCt} {R : List KCt} : ∀ x, (ps.flatMap fP ++ fR R).head? = some x → x.1 = 14 ∨ x.1 = 6 := by
  intro x hx
  cases ps with
  | cons u us => cases hx; exact Or.inl rfl
  | nil => exact Or.inr (fR_head x hx)
/-! reading keys: nested and flat go together -/
def tpos (k : KCt) (kd j : Nat) : Nat := if kd = 0 then 0 else if kd = 1 then 1 + k.2.1.length + ((k.2.2.1.take j).flatMap fU).length else 1 + k.2.1.length + (k.2.2.1.flatMap fU).length + ((k.2.2.2.take j).flatMap fP).length
def tOk (k : KCt) (kd j : Nat) : Prop := kd = 0 ∨ (kd = 1 ∧ j < k.2.2.1.length) ∨ (kd = 2 ∧ j < k.2.2.2.length)
def CurS (R : List KCt) (c : Option (Nat × Nat × Nat)) (key la : Option Nat) : Prop := match c with
  | none => key = none
  | some c => ∃ R1 k R2, R = R1 ++ k :: R2 ∧ R1.length = c.1 ∧ key = some (fR R1).length ∧ la = some ((fR R1).length + tpos k c.2.1 c.2.2) ∧ tOk k c.2.1 c.2.2
def Sim (x : RNt) (y : RK) : Prop := y.1 = fR x.1 ∧ y.2.2.2 = x.2.2 ∧ CurS x.1 x.2.1 y.2.1 y.2.2.1
def StepS (a : Option RNt) (b : Option RK) : Prop := (a = none ∧ b = none) ∨ ∃ x y, a = some x ∧ b = some y ∧ Sim x y
theorem fx_lt {α : Type} {f : α → Bool} {l : List α} {i : Nat} (h : l.findIdx? f = some i) : ∃ l1 x l2, l = l1 ++ x :: l2 ∧ l1.length = i := by
  obtain ⟨h1, _⟩ := List.findIdx?_eq_some_iff_getElem.mp h
  obtain ⟨l1, l2, e1, e2⟩ := split_at (List.getElem?_eq_getElem h1)
  exact ⟨l1, _, l2, e1, e2⟩
theorem fR_fx (pr : List Nat) (R : List KCt) : findF (prP 6 pr) (fR R) ((fR R).length - 0) 0 = (R.findIdx? (prK pr)).map (fun i => (fR (R.take i)).length) := by
  have h := findF_at (P := prP 6 pr) (fR R) [] []
  rw [List.nil_append, List.append_nil] at h
  refine Eq.trans h ?_
  rw [show (fR R).findIdx? (prP 6 pr) = _ from fx_fm (fK_fx pr) R, Option.map_map]
  congr 1
  funext i
  exact Nat.zero_add _
theorem fR_cnt (R : List KCt) : cntF (fR R) 6 ((fR R).length - 0) 0 = R.length := by
  have h := cntF_at (k := 6) (fR R) [] []
  rw [List.nil_append, List.append_nil] at h
  exact h.trans (cnt_fm fK_c R)
theorem take_mid {α : Type} (l1 : List α) (l2 : List α) : (l1 ++ l2).take l1.length = l1 := List.take_left ..
theorem sim_key {x : RNt} {y : RK} (h : Sim x y) (n : NCt) : StepS (keyN2 x (cmN x.1 n)) (keyK y (comeS y.1 0 y.1.length 6 16 n.1 n.2)) := by
  obtain ⟨R, cu, m⟩ := x
  obtain ⟨L, key, la, m'⟩ := y
  obtain ⟨h1, h2, h3⟩ := h
  have h1 : L = fR R := h1
  have h2 : m' = m := h2
  subst h1 h2
  unfold comeS
  dsimp only
  rw [fR_fx]
  unfold cmN
  cases hf : R.findIdx? (prK (sha1 (keyMsg n.1))) with
  | some i =>
    obtain ⟨R1, k, R2, e1, e2⟩ := fx_lt hf
    subst e1 e2
    dsimp only
    rw [Option.map_some, take_mid, mod_mid]
    refine Or.inr ⟨_, _, rfl, rfl, ?_, rfl, R1, wthK n k, R2, rfl, rfl, rfl, rfl, Or.inl rfl⟩
    show setSec (fR (R1 ++ k :: R2)) (fR R1).length n.2 = fR (R1 ++ wthK n k :: R2)
    rw [fR_mid, fR_mid, List.append_assoc, List.append_assoc]
    exact setSec_at (fR R1) (fT k ++ fR R2) (6, k.1.1, k.1.2) n.2
  | none =>
    dsimp only
    rw [Option.map_none]
    show StepS _ (keyK _ (if cntF (fR R) 6 ((fR R).length - 0) 0 = 16 then (none, fR R) else (some (fR R).length, insF (fR R) (fR R).length (6, n.1, n.2))))
    rw [fR_cnt]
    by_cases q : R.length = 16
    · rw [if_pos q, if_pos q]; exact Or.inl ⟨rfl, rfl⟩
    · rw [if_neg q, if_neg q]
      refine Or.inr ⟨_, _, rfl, rfl, ?_, rfl, R, (n, [], [], []), [], rfl, rfl, rfl, rfl, Or.inl rfl⟩
      show insF (fR R) (fR R).length (6, n.1, n.2) = fR (R ++ [(n, [], [], [])])
      have e := insF_at (fR R) [] (6, n.1, n.2)
      rw [List.append_nil] at e
      rw [e, fR_app]; rfl
/-! under a key -/
theorem fT_fxP (pr : List Nat) (k : KCt) : (fT k).findIdx? (prP 14 pr) = (k.2.2.2.findIdx? (prP2 pr)).map (fun j => ((k.2.2.2.take j).flatMap fP).length + (k.2.2.1.flatMap fU).length + k.2.1.length) := by
  unfold fT
  rw [List.findIdx?_append, List.findIdx?_append, fx0 (fun x hx => prP_no (by rw [fS_k x hx]; decide)), fx0 (S := k.2.2.1.flatMap fU) (fun x hx => prP_no (by rcases fU_k x hx with e | e <;> rw [e] <;> decide)), fx_fm (fP_fx pr), Option.none_or, Option.none_or, Option.map_map, Option.map_map, fS_len]
  rfl
theorem fT_cP (k : KCt) : (fT k).countP (isK 14) = k.2.2.2.length := by
  unfold fT
  rw [List.countP_append, List.countP_append, cnt0 (fun x hx => by rw [fS_k x hx]; decide), cnt0 (S := k.2.2.1.flatMap fU) (fun x hx => by rcases fU_k x hx with e | e <;> rw [e] <;> decide), cnt_fm fP_c]
  omega
theorem fR_ctx (R1 : List KCt) (k : KCt) (R2 : List KCt) : fR (R1 ++ k :: R2) = (fR R1 ++ [(6, k.1.1, k.1.2)]) ++ (fT k ++ fR R2) := by
  rw [fR_mid, List.append_assoc, List.append_assoc]; rfl
theorem one_len {α : Type} (A : List α) (x : α) : (A ++ [x]).length = A.length + 1 := by rw [List.length_append]; rfl
theorem sk_key (R1 : List KCt) (k : KCt) (R2 : List KCt) : sk (notK 6) (fR (R1 ++ k :: R2)) ((fR R1).length + 1) = (fR R1).length + 1 + (fT k).length := by
  rw [fR_ctx]
  exact sk_at (one_len _ _).symm (fun x hx => by unfold notK; rw [decide_eq_false (fT_k x hx)]; rfl) (fun x hx => by unfold notK; rw [decide_eq_true (fR_head x hx)]; rfl)
theorem sim_part {x : RNt} {y : RK} {i : Nat} {k : KCt} {R1 R2 : List KCt} (h : Sim x y) (hR : x.1 = R1 ++ k :: R2) (hi : R1.length = i) (hy : y.2.1 = some (fR R1).length) (n : NCt) : StepS (partN2 x i k (ptN k.2.2.2 n)) (laK y (comeS y.1 ((fR R1).length + 1) (sk (notK 6) y.1 ((fR R1).length + 1)) 14 8 n.1 n.2)) := by
  obtain ⟨R, cu, m⟩ := x
  obtain ⟨L, key, la, m'⟩ := y
  obtain ⟨h1, h2, h3⟩ := h
  have h1 : L = fR R := h1
  have h2 : m' = m := h2
  have hR : R = R1 ++ k :: R2 := hR
  have hy : key = some (fR R1).length := hy
  subst hi
  subst h1 h2 hR hy
  unfold comeS
  dsimp only
  rw [sk_key, show (fR R1).length + 1 + (fT k).length - ((fR R1).length + 1) = (fT k).length by omega]
  have hff : findF (prP 14 (sha1 (keyMsg n.1))) (fR (R1 ++ k :: R2)) (fT k).length ((fR R1).length + 1) = ((fT k).findIdx? (prP 14 (sha1 (keyMsg n.1)))).map (fun i => (fR R1).length + 1 + i) := by
    have := findF_at (P := prP 14 (sha1 (keyMsg n.1))) (fT k) (fR R1 ++ [(6, k.1.1, k.1.2)]) (fR R2)
    rw [← fR_ctx, one_len] at this
    exact this
  rw [hff, fT_fxP]
  have hset : ∀ k', (R1 ++ k :: R2).set R1.length k' = R1 ++ k' :: R2 := fun k' => set_mid R1 k k' R2
  unfold ptN
  cases hf : k.2.2.2.findIdx? (prP2 (sha1 (keyMsg n.1))) with
  | some i =>
    obtain ⟨p1, z, p2, e1, e2⟩ := fx_lt hf
    subst e2
    obtain ⟨k0, ks, ku, kp⟩ := k
    have e1 : kp = p1 ++ z :: p2 := e1
    subst e1
    dsimp only
    rw [Option.map_some, Option.map_some, take_mid, mod_mid]
    refine Or.inr ⟨_, _, rfl, rfl, ?_, rfl, R1, (k0, ks, ku, p1 ++ wthP n z :: p2), R2, hset _, rfl, rfl, ?_, Or.inr (Or.inr ⟨rfl, by show p1.length < (p1 ++ wthP n z :: p2).length; rw [List.length_append, List.length_cons]; omega⟩)⟩
    · show setSec (fR (R1 ++ (k0, ks, ku, p1 ++ z :: p2) :: R2)) ((fR R1).length + 1 + ((p1.flatMap fP).length + (ku.flatMap fU).length + ks.length)) n.2 = fR ((R1 ++ (k0, ks, ku, p1 ++ z :: p2) :: R2).set R1.length (k0, ks, ku, p1 ++ wthP n z :: p2))
      rw [hset, fR_ctx, fR_ctx]
      have ea : ∀ w : PCt, (fR R1 ++ [(6, k0.1, k0.2)]) ++ (fT (k0, ks, ku, p1 ++ w :: p2) ++ fR R2) = ((fR R1 ++ [(6, k0.1, k0.2)]) ++ (fS ks ++ (ku.flatMap fU ++ p1.flatMap fP))) ++ (14, w.1.1, w.1.2) :: (fS w.2 ++ p2.flatMap fP ++ fR R2) := by
        intro w
        unfold fT
        simp only [List.flatMap_append, List.flatMap_cons, List.append_assoc, List.cons_append, List.nil_append]
        rfl
      rw [ea, ea]
      have hl : (fR R1).length + 1 + ((p1.flatMap fP).length + (ku.flatMap fU).length + ks.length) = ((fR R1 ++ [(6, k0.1, k0.2)]) ++ (fS ks ++ (ku.flatMap fU ++ p1.flatMap fP))).length := by
        simp only [List.length_append, fS_len, List.length_cons, List.length_nil]; omega
      rw [hl]
      exact setSec_at _ _ _ _
    · show some ((fR R1).length + 1 + ((p1.flatMap fP).length + (ku.flatMap fU).length + ks.length)) = some ((fR R1).length + (1 + ks.length + (ku.flatMap fU).length + (((p1 ++ wthP n z :: p2).take p1.length).flatMap fP).length))
      rw [take_mid]
      congr 1
      omega
  | none =>
    dsimp only
    rw [Option.map_none, Option.map_none]
    show StepS _ (laK _ (if cntF (fR (R1 ++ k :: R2)) 14 ((fR R1).length + 1 + (fT k).length - ((fR R1).length + 1)) ((fR R1).length + 1) = 8 then (none, fR (R1 ++ k :: R2)) else (some ((fR R1).length + 1 + (fT k).length), insF (fR (R1 ++ k :: R2)) ((fR R1).length + 1 + (fT k).length) (14, n.1, n.2))))
    have hc : cntF (fR (R1 ++ k :: R2)) 14 ((fR R1).length + 1 + (fT k).length - ((fR R1).length + 1)) ((fR R1).length + 1) = k.2.2.2.length := by
      rw [show (fR R1).length + 1 + (fT k).length - ((fR R1).length + 1) = (fT k).length by omega]
      have := cntF_at (k := 14) (fT k) (fR R1 ++ [(6, k.1.1, k.1.2)]) (fR R2)
      rw [← fR_ctx, one_len] at this
      exact this.trans (fT_cP k)
    rw [hc]
    by_cases q : k.2.2.2.length = 8
    · rw [if_pos q, if_pos q]; exact Or.inl ⟨rfl, rfl⟩
    · rw [if_neg q, if_neg q]
      refine Or.inr ⟨_, _, rfl, rfl, ?_, rfl, R1, (k.1, k.2.1, k.2.2.1, k.2.2.2 ++ [(n, [])]), R2, hset _, rfl, rfl, ?_, Or.inr (Or.inr ⟨rfl, by show k.2.2.2.length < (k.2.2.2 ++ [(n, [])]).length; rw [one_len]; omega⟩)⟩
      · show insF (fR (R1 ++ k :: R2)) ((fR R1).length + 1 + (fT k).length) (14, n.1, n.2) = fR ((R1 ++ k :: R2).set R1.length (k.1, k.2.1, k.2.2.1, k.2.2.2 ++ [(n, [])]))
        rw [hset, fR_ctx, fR_ctx]
        have e := insF_at ((fR R1 ++ [(6, k.1.1, k.1.2)]) ++ fT k) (fR R2) (14, n.1, n.2)
        rw [List.length_append, one_len, List.append_assoc] at e
        rw [e]
        unfold fT
        simp only [List.flatMap_append, List.flatMap_cons, List.flatMap_nil, List.append_assoc, List.cons_append, List.nil_append, List.append_nil]
        rfl
      · show some ((fR R1).length + 1 + (fT k).length) = some ((fR R1).length + (1 + k.2.1.length + (k.2.2.1.flatMap fU).length + (((k.2.2.2 ++ [(n, [])]).take k.2.2.2.length).flatMap fP).length))
        rw [take_mid]
        unfold fT
        simp only [List.length_append, fS_len]
        congr 1
        omega
/-! users, seals, all packets, all keys -/
theorem fSU_fx (lb : List Nat) (k : KCt) : (fS k.2.1 ++ k.2.2.1.flatMap fU).findIdx? (bdP 13 lb) = (k.2.2.1.findIdx? (isU lb)).map (fun j => ((k.2.2.1.take j).flatMap fU).length + k.2.1.length) := by
  rw [List.findIdx?_append, fx0 (fun x hx => bdP_no (by rw [fS_k x hx]; decide)), fx_fm (fU_fx lb), Option.none_or, Option.map_map, fS_len]
  rfl
theorem fSU_c (k : KCt) : (fS k.2.1 ++ k.2.2.1.flatMap fU).countP (isK 13) = k.2.2.1.length := by
  rw [List.countP_append, cnt0 (fun x hx => by rw [fS_k x hx]; decide), cnt_fm fU_c, Nat.zero_add]
theorem fR_ctU (R1 : List KCt) (k : KCt) (R2 : List KCt) : fR (R1 ++ k :: R2) = (fR R1 ++ [(6, k.1.1, k.1.2)]) ++ ((fS k.2.1 ++ k.2.2.1.flatMap fU) ++ (k.2.2.2.flatMap fP ++ fR R2)) := by
  rw [fR_ctx]; unfold fT; simp only [List.append_assoc]
theorem usP_t {x : PK} (h : x.1 = 13 ∨ x.1 = 2) : usP x = true := by
  unfold usP notK
  rcases h with e | e <;> rw [e] <;> rfl
theorem usP_f {x : PK} (h : x.1 = 14 ∨ x.1 = 6) : usP x = false := by
  unfold usP notK
  rcases h with e | e <;> rw [e] <;> rfl
theorem sk_us (R1 : List KCt) (k : KCt) (R2 : List KCt) : sk usP (fR (R1 ++ k :: R2)) ((fR R1).length + 1) = (fR R1).length + 1 + (fS k.2.1 ++ k.2.2.1.flatMap fU).length := by
  rw [fR_ctU]
  exact sk_at (one_len _ _).symm (fun x hx => usP_t ((List.mem_append.mp hx).elim (fun h => Or.inr (fS_k x h)) (fun h => fU_k x h))) (fun x hx => usP_f (fPR_head x hx))
theorem sim_user {x : RNt} {y : RK} {i : Nat} {k : KCt} {R1 R2 : List KCt} (h : Sim x y) (hR : x.1 = R1 ++ k :: R2) (hi : R1.length = i) (hy : y.2.1 = some (fR R1).length) (lb : List Nat) : StepS (userN2 x i k (usN k.2.2.1 lb)) (laK y (userS y.1 (fR R1).length lb)) := by
  obtain ⟨R, cu, m⟩ := x
  obtain ⟨L, key, la, m'⟩ := y
  obtain ⟨h1, h2, h3⟩ := h
  have h1 : L = fR R := h1
  have h2 : m' = m := h2
  have hR : R = R1 ++ k :: R2 := hR
  have hy : key = some (fR R1).length := hy
  subst hi
  subst h1 h2 hR hy
  have hset : ∀ k', (R1 ++ k :: R2).set R1.length k' = R1 ++ k' :: R2 := fun k' => set_mid R1 k k' R2
  unfold userS
  dsimp only
  rw [sk_us, show ∀ n : Nat, (fR R1).length + 1 + n - ((fR R1).length + 1) = n from fun n => by omega]
  have hff : findF (bdP 13 lb) (fR (R1 ++ k :: R2)) (fS k.2.1 ++ k.2.2.1.flatMap fU).length ((fR R1).length + 1) = ((fS k.2.1 ++ k.2.2.1.flatMap fU).findIdx? (bdP 13 lb)).map (fun i => (fR R1).length + 1 + i) := by
    have := findF_at (P := bdP 13 lb) (fS k.2.1 ++ k.2.2.1.flatMap fU) (fR R1 ++ [(6, k.1.1, k.1.2)]) (k.2.2.2.flatMap fP ++ fR R2)
    rw [← fR_ctU, one_len] at this
    exact this
  rw [hff, fSU_fx]
  unfold usN
  cases hf : k.2.2.1.findIdx? (isU lb) with
  | some i =>
    obtain ⟨p1, z, p2, e1, e2⟩ := fx_lt hf
    subst e2
    dsimp only
    rw [Option.map_some, Option.map_some]
    refine Or.inr ⟨_, _, rfl, rfl, ?_, rfl, R1, k, R2, hset _, rfl, rfl, ?_, Or.inr (Or.inl ⟨rfl, by show p1.length < k.2.2.1.length; rw [e1, List.length_append, List.length_cons]; omega⟩)⟩
    · show fR (R1 ++ k :: R2) = fR ((R1 ++ k :: R2).set R1.length (k.1, k.2.1, k.2.2.1, k.2.2.2))
      rw [hset]
    · show some ((fR R1).length + 1 + (((k.2.2.1.take p1.length).flatMap fU).length + k.2.1.length)) = some ((fR R1).length + (1 + k.2.1.length + ((k.2.2.1.take p1.length).flatMap fU).length))
      congr 1
      omega
  | none =>
    dsimp only
    rw [Option.map_none, Option.map_none]
    show StepS _ (laK _ (if 200 < lb.length ∨ cntF (fR (R1 ++ k :: R2)) 13 ((fR R1).length + 1 + (fS k.2.1 ++ k.2.2.1.flatMap fU).length - ((fR R1).length + 1)) ((fR R1).length + 1) = 8 then (none, fR (R1 ++ k :: R2)) else (some ((fR R1).length + 1 + (fS k.2.1 ++ k.2.2.1.flatMap fU).length), insF (fR (R1 ++ k :: R2)) ((fR R1).length + 1 + (fS k.2.1 ++ k.2.2.1.flatMap fU).length) (13, lb, none))))
    have hc : cntF (fR (R1 ++ k :: R2)) 13 ((fR R1).length + 1 + (fS k.2.1 ++ k.2.2.1.flatMap fU).length - ((fR R1).length + 1)) ((fR R1).length + 1) = k.2.2.1.length := by
      rw [show ∀ n : Nat, (fR R1).length + 1 + n - ((fR R1).length + 1) = n from fun n => by omega]
      have := cntF_at (k := 13) (fS k.2.1 ++ k.2.2.1.flatMap fU) (fR R1 ++ [(6, k.1.1, k.1.2)]) (k.2.2.2.flatMap fP ++ fR R2)
      rw [← fR_ctU, one_len] at this
      exact this.trans (fSU_c k)
    rw [hc]
    by_cases q : 200 < lb.length ∨ k.2.2.1.length = 8
    · rw [if_pos q, if_pos q]; exact Or.inl ⟨rfl, rfl⟩
    · rw [if_neg q, if_neg q]
      refine Or.inr ⟨_, _, rfl, rfl, ?_, rfl, R1, (k.1, k.2.1, k.2.2.1 ++ [(lb, [])], k.2.2.2), R2, hset _, rfl, rfl, ?_, Or.inr (Or.inl ⟨rfl, by show k.2.2.1.length < (k.2.2.1 ++ [(lb, [])]).length; rw [one_len]; omega⟩)⟩
      · show insF (fR (R1 ++ k :: R2)) ((fR R1).length + 1 + (fS k.2.1 ++ k.2.2.1.flatMap fU).length) (13, lb, none) = fR ((R1 ++ k :: R2).set R1.length (k.1, k.2.1, k.2.2.1 ++ [(lb, [])], k.2.2.2))
        rw [hset, fR_ctU, fR_ctU]
        have e := insF_at ((fR R1 ++ [(6, k.1.1, k.1.2)]) ++ (fS k.2.1 ++ k.2.2.1.flatMap fU)) (k.2.2.2.flatMap fP ++ fR R2) (13, lb, none)
        rw [List.length_append, one_len, List.append_assoc] at e
        rw [e]
        simp only [List.flatMap_append, List.flatMap_cons, List.flatMap_nil, List.append_assoc, List.cons_append, List.nil_append, List.append_nil]
        rfl
      · show some ((fR R1).length + 1 + (fS k.2.1 ++ k.2.2.1.flatMap fU).length) = some ((fR R1).length + (1 + k.2.1.length + (((k.2.2.1 ++ [(lb, [])]).take k.2.2.1.length).flatMap fU).length))
        rw [take_mid]
        simp only [List.length_append, fS_len]
        congr 1
        omega
/-- the seals of a thing, in their place -/
theorem seals_at {R1 R2 : List KCt} {k : KCt} {kd j : Nat} (h : tOk k kd j) : ∃ A B : List PK, fR (R1 ++ k :: R2) = A ++ (fS (latQ k kd j) ++ B) ∧ A.length = (fR R1).length + tpos k kd j + 1 ∧ (∀ x, B.head? = some x → ¬ x.1 = 2) ∧ ∀ b, fR (R1 ++ addN k kd j b :: R2) = (A ++ fS (latQ k kd j)) ++ (2, b, none) :: B := by
  obtain ⟨n, ks, ku, kp⟩ := k
  have hd6 : ∀ (us : List UCt) (ps : List PCt), ∀ x, (us.flatMap fU ++ (ps.flatMap fP ++ fR R2)).head? = some x → ¬ x.1 = 2 := by
    intro us ps x hx
    rw [← List.append_assoc] at hx
    exact fUP_head x hx
  have hfs : ∀ (l : List (List Nat)) (b : List Nat), fS (l ++ [b]) = fS l ++ [(2, b, none)] := fun l b => List.map_append ..
  rcases h with e | ⟨e, hj⟩ | ⟨e, hj⟩
  · subst e
    refine ⟨fR R1 ++ [(6, n.1, n.2)], ku.flatMap fU ++ (kp.flatMap fP ++ fR R2), ?_, one_len _ _, hd6 ku kp, fun b => ?_⟩
    · rw [fR_ctx]; unfold fT latQ; simp only [if_pos, List.append_assoc]
    · rw [fR_ctx]; unfold fT latQ addN; simp only [if_pos, List.append_assoc, hfs]; rfl
  · subst e
    have hj : j < ku.length := hj
    obtain ⟨u, hu⟩ : ∃ u, ku[j]? = some u := ⟨_, List.getElem?_eq_getElem hj⟩
    obtain ⟨u1, u2, e1, e2⟩ := split_at hu
    subst e1 e2
    have hq : latQ (n, ks, u1 ++ u :: u2, kp) 1 u1.length = u.2 := by
      unfold latQ
      rw [if_neg (by decide), if_pos rfl]
      show (((u1 ++ u :: u2)[u1.length]?).map Prod.snd).getD [] = u.2
      rw [at_mid]; rfl
    have hp : tpos (n, ks, u1 ++ u :: u2, kp) 1 u1.length = 1 + ks.length + (u1.flatMap fU).length := by
      unfold tpos
      rw [if_neg (by decide), if_pos rfl]
      show 1 + ks.length + (((u1 ++ u :: u2).take u1.length).flatMap fU).length = _
      rw [take_mid]
    rw [hq, hp]
    refine ⟨(fR R1 ++ [(6, n.1, n.2)]) ++ (fS ks ++ (u1.flatMap fU ++ [(13, u.1, none)])), u2.flatMap fU ++ (kp.flatMap fP ++ fR R2), ?_, ?_, hd6 u2 kp, fun b => ?_⟩
    · rw [fR_ctx]; unfold fT; simp only [List.flatMap_append, List.flatMap_cons, List.append_assoc, List.cons_append, List.nil_append]; rfl
    · simp only [List.length_append, fS_len, List.length_cons, List.length_nil]; omega
    · have ha : addN (n, ks, u1 ++ u :: u2, kp) 1 u1.length b = (n, ks, u1 ++ (u.1, u.2 ++ [b]) :: u2, kp) := by
        unfold addN
        rw [if_neg (by decide), if_pos rfl]
        show (n, ks, (u1 ++ u :: u2).modify u1.length (fun u => (u.1, u.2 ++ [b])), kp) = _
        rw [mod_mid]
      rw [ha, fR_ctx]; unfold fT
      have hf : fU (u.1, u.2 ++ [b]) = (13, u.1, none) :: (fS u.2 ++ [(2, b, none)]) := by
        show (13, u.1, none) :: fS (u.2 ++ [b]) = _
        rw [hfs]
      simp only [List.flatMap_append, List.flatMap_cons, List.append_assoc, List.cons_append, List.nil_append, hf]
  · subst e
    have hj : j < kp.length := hj
    obtain ⟨u, hu⟩ : ∃ u, kp[j]? = some u := ⟨_, List.getElem?_eq_getElem hj⟩
    obtain ⟨u1, u2, e1, e2⟩ := split_at hu
    subst e1 e2
    have hq : latQ (n, ks, ku, u1 ++ u :: u2) 2 u1.length = u.2 := by
      unfold latQ
      rw [if_neg (by decide), if_neg (by decide)]
      show (((u1 ++ u :: u2)[u1.length]?).map Prod.snd).getD [] = u.2
      rw [at_mid]; rfl
    have hp : tpos (n, ks, ku, u1 ++ u :: u2) 2 u1.length = 1 + ks.length + (ku.flatMap fU).length + (u1.flatMap fP).length := by
      unfold tpos
      rw [if_neg (by decide), if_neg (by decide)]
      show 1 + ks.length + (ku.flatMap fU).length + (((u1 ++ u :: u2).take u1.length).flatMap fP).length = _
      rw [take_mid]
    rw [hq, hp]
    refine ⟨(fR R1 ++ [(6, n.1, n.2)]) ++ (fS ks ++ (ku.flatMap fU ++ (u1.flatMap fP ++ [(14, u.1.1, u.1.2)]))), u2.flatMap fP ++ fR R2, ?_, ?_, fun x hx q => ?_, fun b => ?_⟩
    · rw [fR_ctx]; unfold fT; simp only [List.flatMap_append, List.flatMap_cons, List.append_assoc, List.cons_append, List.nil_append]; rfl
    · simp only [List.length_append, fS_len, List.length_cons, List.length_nil]; omega
    · rcases fPR_head x hx with e | e <;> rw [e] at q <;> cases q
    · have ha : addN (n, ks, ku, u1 ++ u :: u2) 2 u1.length b = (n, ks, ku, u1 ++ (u.1, u.2 ++ [b]) :: u2) := by
        unfold addN
        rw [if_neg (by decide), if_neg (by decide)]
        show (n, ks, ku, (u1 ++ u :: u2).modify u1.length (fun u => (u.1, u.2 ++ [b]))) = _
        rw [mod_mid]
      rw [ha, fR_ctx]; unfold fT
      have hf : fP (u.1, u.2 ++ [b]) = (14, u.1.1, u.1.2) :: (fS u.2 ++ [(2, b, none)]) := by
        show (14, u.1.1, u.1.2) :: fS (u.2 ++ [b]) = _
        rw [hfs]
      simp only [List.flatMap_append, List.flatMap_cons, List.append_assoc, List.cons_append, List.nil_append, hf]
theorem fS_fx (lb : List Nat) (ls : List (List Nat)) : ((fS ls).findIdx? (bdP 2 lb)).isSome = ls.any (fun y => decide (y = lb)) := by
  unfold fS
  rw [List.findIdx?_map, List.findIdx?_isSome]
  rfl
theorem take_mod {α : Type} (l : List α) (j : Nat) (f : α → α) : (l.modify j f).take j = l.take j := by
  refine List.ext_getElem? (fun n => ?_)
  rw [List.getElem?_take, List.getElem?_take]
  by_cases q : n < j
  · rw [if_pos q, if_pos q, List.getElem?_modify]
    cases l[n]? with
    | none => rfl
    | some z => show some (if j = n then f z else z) = some z; rw [if_neg (by omega)]
  · rw [if_neg q, if_neg q]
theorem sim_seal {x : RNt} {y : RK} {i kd j : Nat} {k : KCt} {R1 R2 : List KCt} (h : Sim x y) (hR : x.1 = R1 ++ k :: R2) (hi : R1.length = i) (hc : x.2.1 = some (i, kd, j)) (hy : y.2.1 = some (fR R1).length) (hla : y.2.2.1 = some ((fR R1).length + tpos k kd j)) (ht : tOk k kd j) (bd : List Nat) : StepS (sealN2 x i kd j k bd) (sealK2 y (sealS y.1 (y.2.2.1.getD 0) bd)) := by
  have h0 := h
  obtain ⟨R, cu, m⟩ := x
  obtain ⟨L, key, la, m'⟩ := y
  obtain ⟨h1, h2, h3⟩ := h
  have h1 : L = fR R := h1
  have h2 : m' = m := h2
  have hR : R = R1 ++ k :: R2 := hR
  have hy : key = some (fR R1).length := hy
  have hla : la = some ((fR R1).length + tpos k kd j) := hla
  have hc : cu = some (i, kd, j) := hc
  subst hi
  subst h1 h2 hR hy hla hc
  have hset : ∀ k', (R1 ++ k :: R2).set R1.length k' = R1 ++ k' :: R2 := fun k' => set_mid R1 k k' R2
  obtain ⟨A, B, q1, q2, q3, q4⟩ := seals_at (R1 := R1) (R2 := R2) ht
  show StepS _ (sealK2 _ (sealS (fR (R1 ++ k :: R2)) ((fR R1).length + tpos k kd j) bd))
  unfold sealN2 sealS
  by_cases z1 : bd.length = 0
  · rw [if_pos z1, if_pos z1]; exact Or.inl ⟨rfl, rfl⟩
  rw [if_neg z1, if_neg z1]
  by_cases z2 : oursL bd = false
  · rw [if_pos z2, if_pos z2]
    exact Or.inr ⟨_, _, rfl, rfl, h0⟩
  rw [if_neg z2, if_neg z2]
  by_cases z3 : sealOk bd = false
  · rw [if_pos z3, if_pos z3]; exact Or.inl ⟨rfl, rfl⟩
  rw [if_neg z3, if_neg z3]
  have hsk : sk (isK 2) (fR (R1 ++ k :: R2)) ((fR R1).length + tpos k kd j + 1) = (fR R1).length + tpos k kd j + 1 + (latQ k kd j).length := by
    rw [q1, ← fS_len (latQ k kd j)]
    exact sk_at q2.symm (fun x hx => decide_eq_true (fS_k x hx)) (fun x hx => decide_eq_false (q3 x hx))
  have hff : findF (bdP 2 bd) (fR (R1 ++ k :: R2)) (latQ k kd j).length ((fR R1).length + tpos k kd j + 1) = ((fS (latQ k kd j)).findIdx? (bdP 2 bd)).map (fun i => A.length + i) := by
    have := findF_at (P := bdP 2 bd) (fS (latQ k kd j)) A B
    rw [← q1, fS_len, q2] at this
    rw [this, q2]
  rw [hsk, show ∀ n : Nat, (fR R1).length + tpos k kd j + 1 + n - ((fR R1).length + tpos k kd j + 1) = n from fun n => by omega, hff]
  have hany := fS_fx bd (latQ k kd j)
  cases hf : (fS (latQ k kd j)).findIdx? (bdP 2 bd) with
  | some w =>
    rw [hf] at hany
    rw [← hany, Option.map_some]
    dsimp only [Option.isSome]
    rw [if_pos rfl]
    exact Or.inr ⟨_, _, rfl, rfl, h0⟩
  | none =>
    rw [hf] at hany
    rw [← hany, Option.map_none]
    dsimp only [Option.isSome]
    rw [if_neg (by decide)]
    unfold sealK
    dsimp only
    rw [show (fR R1).length + tpos k kd j + 1 + (latQ k kd j).length - ((fR R1).length + tpos k kd j) - 1 = (latQ k kd j).length by omega]
    by_cases z4 : (latQ k kd j).length = 16
    · rw [if_pos z4, if_pos z4]; exact Or.inl ⟨rfl, rfl⟩
    · rw [if_neg z4, if_neg z4]
      have hins : insF (fR (R1 ++ k :: R2)) ((fR R1).length + tpos k kd j + 1 + (latQ k kd j).length) (2, bd, none) = fR (R1 ++ addN k kd j bd :: R2) := by
        rw [q4 bd, q1, ← List.append_assoc]
        have e := insF_at (A ++ fS (latQ k kd j)) B (2, bd, none)
        rw [List.length_append, fS_len, q2] at e
        exact e
      refine Or.inr ⟨_, _, rfl, rfl, ?_, rfl, R1, addN k kd j bd, R2, hset _, rfl, rfl, ?_, ?_⟩
      · show insF _ _ _ = fR ((R1 ++ k :: R2).set R1.length (addN k kd j bd))
        rw [hset]; exact hins
      · show some ((fR R1).length + tpos k kd j) = some ((fR R1).length + tpos (addN k kd j bd) kd j)
        rcases ht with e | ⟨e, hj⟩ | ⟨e, hj⟩
        · subst e; rfl
        · subst e
          unfold tpos addN
          rw [if_neg (by decide), if_pos rfl, if_neg (by decide), if_pos rfl, if_neg (by decide), if_pos rfl, take_mod]
        · subst e
          unfold tpos addN
          rw [if_neg (by decide), if_neg (by decide), if_neg (by decide), if_neg (by decide), if_neg (by decide), if_neg (by decide), take_mod]
      · rcases ht with e | ⟨e, hj⟩ | ⟨e, hj⟩
        · exact Or.inl e
        · subst e
          refine Or.inr (Or.inl ⟨rfl, ?_⟩)
          unfold addN
          rw [if_neg (by decide), if_pos rfl]
          show j < (k.2.2.1.modify j _).length
          rw [List.length_modify]; exact hj
        · subst e
          refine Or.inr (Or.inr ⟨rfl, ?_⟩)
          unfold addN
          rw [if_neg (by decide), if_neg (by decide)]
          show j < (k.2.2.2.modify j _).length
          rw [List.length_modify]; exact hj
theorem sim_pk {x : RNt} {y : RK} (h : Sim x y) (kd : Nat) (bd : List Nat) : StepS (pkN x kd bd) (pkS y kd bd) := by
  unfold pkN pkS
  by_cases c1 : kd = 10 ∨ kd = 12 ∨ kd = 17 ∨ 40 ≤ kd
  · rw [if_pos c1, if_pos c1]; exact Or.inr ⟨x, y, rfl, rfl, h⟩
  rw [if_neg c1, if_neg c1]
  by_cases c2 : kd = 5 ∨ kd = 6
  · rw [if_pos c2, if_pos c2]
    by_cases c3 : keyOk bd (decide (kd = 5)) = true
    · rw [if_pos c3, if_pos c3]; exact sim_key h (numN bd (decide (kd = 5)))
    · rw [if_neg c3, if_neg c3]; exact Or.inl ⟨rfl, rfl⟩
  rw [if_neg c2, if_neg c2]
  have h3 := h.2.2
  cases hc : x.2.1 with
  | none =>
    rw [hc] at h3
    have h3 : y.2.1 = none := h3
    rw [h3]; exact Or.inl ⟨rfl, rfl⟩
  | some c =>
    rw [hc] at h3
    obtain ⟨R1, k, R2, e1, e2, e3, e4, e5⟩ := h3
    obtain ⟨i, a, j⟩ := c
    have e2 : R1.length = i := e2
    have hk : x.1[i]? = some k := by rw [e1, ← e2]; exact at_mid _ _ _
    have hcN : curN x kd bd (some (i, a, j)) = undN x kd bd (i, a, j) k := by
      show (match x.1[i]? with | none => none | some k => undN x kd bd (i, a, j) k) = _
      rw [hk]
    rw [hcN, e3]
    show StepS _ (underK y kd bd (fR R1).length)
    unfold undN underK
    by_cases c3 : kd = 7 ∨ kd = 14
    · rw [if_pos c3, if_pos c3]
      by_cases c4 : keyOk bd (decide (kd = 7)) = true
      · rw [if_pos c4, if_pos c4]; exact sim_part h e1 e2 e3 (numN bd (decide (kd = 7)))
      · rw [if_neg c4, if_neg c4]; exact Or.inl ⟨rfl, rfl⟩
    rw [if_neg c3, if_neg c3]
    by_cases c5 : kd = 13
    · rw [if_pos c5, if_pos c5]; exact sim_user h e1 e2 e3 bd
    rw [if_neg c5, if_neg c5]
    by_cases c6 : kd = 2
    · rw [if_pos c6, if_pos c6]; exact sim_seal h e1 e2 hc e3 e4 e5 bd
    · rw [if_neg c6, if_neg c6]; exact Or.inl ⟨rfl, rfl⟩
theorem sim_keys (rw9 : List Nat) : ∀ (f : Nat) (x : RNt) (y : RK) (nx : Nat), Sim x y → (keysN rw9 f x nx).1 = (keysS rw9 f y nx).1 ∧ Sim (keysN rw9 f x nx).2 (keysS rw9 f y nx).2
  | 0, x, y, nx, h => ⟨rfl, h⟩
  | f + 1, x, y, nx, h => by
    rw [keysN, keysS]
    by_cases c : rw9.length ≤ nx
    · rw [if_pos c, if_pos c]; exact ⟨rfl, h⟩
    · rw [if_neg c, if_neg c]
      cases pktS rw9 nx with
      | none => exact ⟨rfl, h⟩
      | some q =>
        show (nextN nx x (pkN x q.1 q.2.1) (fun y => keysN rw9 f y q.2.2)).1 = (nextK y nx (pkS y q.1 q.2.1) (fun y => keysS rw9 f y q.2.2)).1 ∧ Sim (nextN nx x (pkN x q.1 q.2.1) (fun y => keysN rw9 f y q.2.2)).2 (nextK y nx (pkS y q.1 q.2.1) (fun y => keysS rw9 f y q.2.2)).2
        rcases sim_pk h q.1 q.2.1 with ⟨e1, e2⟩ | ⟨x', y', e1, e2, h'⟩
        · rw [e1, e2]; exact ⟨rfl, h⟩
        · rw [e1, e2]; exact sim_keys rw9 f x' y' q.2.2 h'
theorem sim0 (R : List KCt) : Sim (R, none, 0) (fR R, none, none, 0) := ⟨rfl, rfl, rfl⟩
/-! how many things a nested ring holds, at all times -/
def SzN (R : List KCt) : Prop := R.length ≤ 16 ∧ ∀ k ∈ R, k.2.2.1.length ≤ 8 ∧ k.2.2.2.length ≤ 8 ∧ k.2.1.length ≤ 16 ∧ (∀ u ∈ k.2.2.1, u.2.length ≤ 16) ∧ ∀ p ∈ k.2.2.2, p.2.length ≤ 16
def PkOf (y : RK) : Prop := ∃ x : RNt, Sim x y ∧ x.1.length ≤ 16 ∧ ∀ k ∈ x.1, k.2.2.2.length ≤ 8
theorem mid_mem {α : Type} {l1 l2 : List α} {x y z : α} (h : z ∈ l1 ++ y :: l2) : z = y ∨ z ∈ l1 ++ x :: l2 := by
  rcases List.mem_append.mp h with q | q
  · exact Or.inr (List.mem_append_left _ q)
  · rcases List.mem_cons.mp q with q | q
    · exact Or.inl q
    · exact Or.inr (List.mem_append_right _ (List.mem_cons_of_mem _ q))
theorem pkN_sz {x x' : RNt} {y : RK} {kd : Nat} {bd : List Nat} (h : Sim x y) (h1 : x.1.length ≤ 16) (h2 : ∀ k ∈ x.1, k.2.2.2.length ≤ 8) (hp : pkN x kd bd = some x') : x'.1.length ≤ 16 ∧ ∀ k ∈ x'.1, k.2.2.2.length ≤ 8 := by
  unfold pkN at hp
  by_cases c1 : kd = 10 ∨ kd = 12 ∨ kd = 17 ∨ 40 ≤ kd
  · rw [if_pos c1] at hp; cases hp; exact ⟨h1, h2⟩
  rw [if_neg c1] at hp
  by_cases c2 : kd = 5 ∨ kd = 6
  · rw [if_pos c2] at hp
    by_cases c3 : keyOk bd (decide (kd = 5)) = true
    · rw [if_pos c3] at hp
      unfold cmN at hp
      cases hf : x.1.findIdx? (prK (sha1 (keyMsg (numN bd (decide (kd = 5))).1))) with
      | some i =>
        rw [hf] at hp
        cases hp
        obtain ⟨R1, k, R2, e1, e2⟩ := fx_lt hf
        show (x.1.modify i _).length ≤ 16 ∧ ∀ k ∈ x.1.modify i _, k.2.2.2.length ≤ 8
        rw [List.length_modify, e1, ← e2, mod_mid]
        refine ⟨by rw [← e1]; exact h1, fun k' hk' => ?_⟩
        rcases mid_mem (x := k) hk' with q | q
        · rw [q]; exact h2 k (by rw [e1]; exact List.mem_append_right _ List.mem_cons_self)
        · exact h2 k' (by rw [e1]; exact q)
      | none =>
        rw [hf] at hp
        by_cases c4 : x.1.length = 16
        · dsimp only at hp; rw [if_pos c4] at hp; cases hp
        · dsimp only at hp
          rw [if_neg c4] at hp; cases hp
          refine ⟨by show (x.1 ++ [_]).length ≤ 16; rw [one_len]; omega, fun k hk => ?_⟩
          rcases List.mem_append.mp hk with q | q
          · exact h2 k q
          · rw [List.mem_singleton.mp q]; exact Nat.zero_le _
    · rw [if_neg c3] at hp; cases hp
  rw [if_neg c2] at hp
  have h3 := h.2.2
  cases hc : x.2.1 with
  | none => rw [hc] at hp; cases hp
  | some c =>
    rw [hc] at hp h3
    obtain ⟨R1, k, R2, e1, e2, -⟩ := h3
    obtain ⟨i, a, j⟩ := c
    have e2 : R1.length = i := e2
    have hk : x.1[i]? = some k := by rw [e1, ← e2]; exact at_mid _ _ _
    have hcN : curN x kd bd (some (i, a, j)) = undN x kd bd (i, a, j) k := by
      show (match x.1[i]? with | none => none | some k => undN x kd bd (i, a, j) k) = _
      rw [hk]
    rw [hcN] at hp
    have hset : ∀ k', x.1.set i k' = R1 ++ k' :: R2 := fun k' => by rw [e1, ← e2]; exact set_mid R1 k k' R2
    have hgo : ∀ k' : KCt, k'.2.2.2.length ≤ 8 → (x.1.set i k').length ≤ 16 ∧ ∀ z ∈ x.1.set i k', z.2.2.2.length ≤ 8 := by
      intro k' h8
      refine ⟨by rw [List.length_set]; exact h1, fun z hz => ?_⟩
      rw [hset] at hz
      rcases mid_mem (x := k) hz with q | q
      · rw [q]; exact h8
      · exact h2 z (by rw [e1]; exact q)
    have hk8 : k.2.2.2.length ≤ 8 := h2 k (by rw [e1]; exact List.mem_append_right _ List.mem_cons_self)
    unfold undN at hp
    by_cases c3 : kd = 7 ∨ kd = 14
    · rw [if_pos c3] at hp
      by_cases c4 : keyOk bd (decide (kd = 7)) = true
      · rw [if_pos c4] at hp
        unfold ptN at hp
        cases hf : k.2.2.2.findIdx? (prP2 (sha1 (keyMsg (numN bd (decide (kd = 7))).1))) with
        | some w =>
          rw [hf] at hp; cases hp
          exact hgo _ (by show (k.2.2.2.modify w _).length ≤ 8; rw [List.length_modify]; exact hk8)
        | none =>
          rw [hf] at hp
          dsimp only at hp
          by_cases c5 : k.2.2.2.length = 8
          · rw [if_pos c5] at hp; cases hp
          · rw [if_neg c5] at hp; cases hp
            exact hgo _ (by show (k.2.2.2 ++ [_]).length ≤ 8; rw [one_len]; omega)
      · rw [if_neg c4] at hp; cases hp
    rw [if_neg c3] at hp
    by_cases c5 : kd = 13
    · rw [if_pos c5] at hp
      cases hu : usN k.2.2.1 bd with
      | none => rw [hu] at hp; cases hp
      | some r => rw [hu] at hp; cases hp; exact hgo _ hk8
    rw [if_neg c5] at hp
    by_cases c6 : kd = 2
    · rw [if_pos c6] at hp
      unfold sealN2 at hp
      split at hp
      · cases hp
      · split at hp
        · cases hp; exact ⟨h1, h2⟩
        · split at hp
          · cases hp
          · split at hp
            · cases hp; exact ⟨h1, h2⟩
            · split at hp
              · cases hp
              · cases hp
                refine hgo _ ?_
                unfold addN
                split
                · exact hk8
                · split
                  · exact hk8
                  · show (k.2.2.2.modify j _).length ≤ 8; rw [List.length_modify]; exact hk8
    · rw [if_neg c6] at hp; cases hp
theorem PkOf.step {y y' : RK} {kd : Nat} {bd : List Nat} (h : PkOf y) (hp : pkS y kd bd = some y') : PkOf y' := by
  obtain ⟨x, hs, h1, h2⟩ := h
  rcases sim_pk hs kd bd with ⟨_, e2⟩ | ⟨x2, y2, e1, e2, h'⟩
  · rw [e2] at hp; cases hp
  · rw [e2] at hp; cases hp
    exact ⟨x2, h', pkN_sz hs h1 h2 e1⟩
theorem PkOf.cnt {y : RK} (h : PkOf y) : cntF y.1 6 y.1.length 0 ≤ 16 ∧ ∀ k, y.2.1 = some k → cntF y.1 14 (sk (notK 6) y.1 (k + 1) - (k + 1)) (k + 1) ≤ 8 := by
  obtain ⟨x, ⟨e1, -, e3⟩, h1, h2⟩ := h
  refine ⟨?_, fun q hq => ?_⟩
  · rw [e1]
    have := fR_cnt x.1
    rw [Nat.sub_zero] at this
    rw [this]; exact h1
  · cases hc : x.2.1 with
    | none => rw [hc] at e3; rw [show y.2.1 = none from e3] at hq; cases hq
    | some c =>
      rw [hc] at e3
      obtain ⟨R1, k, R2, q1, q2, q3, -⟩ := e3
      rw [q3] at hq
      cases hq
      rw [e1, q1, sk_key, show (fR R1).length + 1 + (fT k).length - ((fR R1).length + 1) = (fT k).length by omega]
      have := cntF_at (k := 14) (fT k) (fR R1 ++ [(6, k.1.1, k.1.2)]) (fR R2)
      rw [← fR_ctx, one_len] at this
      rw [this, fT_cP]
      exact h2 k (by rw [q1]; exact List.mem_append_right _ List.mem_cons_self)
theorem PkOf0 {R : List KCt} (h1 : R.length ≤ 16) (h2 : ∀ k ∈ R, k.2.2.2.length ≤ 8) : PkOf (fR R, none, none, 0) := ⟨(R, none, 0), sim0 R, h1, h2⟩

