set_option maxRecDepth 100000
/-! questions: nested and flat -/
def RL (L : List PK) (o : LO) (o' : Option SL) : Prop := match o, o' with
  | none, none => True
  | some z, some s => L[z.1]? = some (2, s.2, none) ∧ z.2 = mdN s.2
  | _, _ => False
theorem RL.nn {L : List PK} : RL L none none := trivial
theorem RL.md {L : List PK} {o : LO} {o' : Option SL} (h : RL L o o') : latM o = mdO o' := by
  cases o with
  | none =>
    cases o' with
    | none => rfl
    | some s => exact h.elim
  | some z =>
    cases o' with
    | none => exact h.elim
    | some s => exact h.2
theorem RL.none_iff {L : List PK} {o : LO} {o' : Option SL} (h : RL L o o') : o = none ↔ o' = none := by
  cases o with
  | none =>
    cases o' with
    | none => exact ⟨fun _ => rfl, fun _ => rfl⟩
    | some s => exact h.elim
  | some z =>
    cases o' with
    | none => exact h.elim
    | some s => exact ⟨(fun q => by cases q), (fun q => by cases q)⟩
theorem cnt_eq {kx tx : PK} {b : List Nat} {t : Nat} (h : kMade kx.2.1 = kmd kx.2.1) : countS kx tx b t = cntC (atMsg kx tx) kx.2.1 b t := by
  unfold countS mayS cntC
  rw [h]
  simp only [Bool.and_assoc]
/-- a thing at i, and its seals behind it -/
def SlAt (L : List PK) (i : Nat) (sls : List SL) : Prop := nsF L i = sls.length ∧ (∀ n y, sls[n]? = some y → L[i + 1 + n]? = some (2, y.2, none)) ∧ ∀ y ∈ sls, sType y.2 = gD y.2 1
theorem SlAt.mk {L A B : List PK} {i : Nat} {sls : List SL} (h : L = A ++ (fS (sls.map Prod.snd) ++ B)) (hA : A.length = i + 1) (hB : ∀ x, B.head? = some x → ¬ x.1 = 2) (hT : ∀ y ∈ sls, sType y.2 = gD y.2 1) : SlAt L i sls := by
  refine ⟨?_, fun n y hy => ?_, hT⟩
  · unfold nsF
    rw [h, sk_at (P := isK 2) hA.symm (fun x hx => decide_eq_true (fS_k x hx)) (fun x hx => decide_eq_false (hB x hx)), fS_len, List.length_map]
    omega
  · have hn : n < sls.length := (List.getElem?_eq_some_iff.mp hy).1
    rw [h, ← hA, List.getElem?_append_right (by omega), List.getElem?_append_left (by rw [fS_len, List.length_map]; omega)]
    unfold fS
    rw [List.getElem?_map, List.getElem?_map, show A.length + n - A.length = n by omega, hy]; rfl
theorem lat_at {L : List PK} {i : Nat} {sls : List SL} (h : SlAt L i sls) {kx tx : PK} (hk : kMade kx.2.1 = kmd kx.2.1) (lo hi t : Nat) : RL L (latS L kx tx lo hi t i (nsF L i)) (latC (atMsg kx tx) kx.2.1 lo hi t sls) := by
  obtain ⟨h1, h2, h3⟩ := h
  have key : ∀ n, n ≤ sls.length → RL L (latS L kx tx lo hi t i n) ((sls.take n).foldl (latF (atMsg kx tx) kx.2.1 lo hi t) none) := by
    intro n
    induction n with
    | zero => intro _; exact RL.nn
    | succ n ih =>
      intro hn
      have i0 := ih (by omega)
      obtain ⟨y, hy⟩ : ∃ y, sls[n]? = some y := ⟨_, List.getElem?_eq_getElem hn⟩
      have hg := h2 n y hy
      have hs := h3 y (List.mem_of_getElem? hy)
      rw [List.take_add_one, hy, List.foldl_append, latS]
      show RL L (latN L kx tx lo hi t (i + 1 + n) _) (latF _ _ _ _ _ ((sls.take n).foldl _ none) y)
      unfold latN latF
      rw [hg]
      dsimp only
      rw [hs, cnt_eq hk, i0.md]
      by_cases c1 : (lo ≤ gD y.2 1 ∧ gD y.2 1 ≤ hi) ∧ cntC (atMsg kx tx) kx.2.1 y.2 t = true
      · rw [if_pos c1]
        by_cases c2 : mdO ((sls.take n).foldl (latF (atMsg kx tx) kx.2.1 lo hi t) none) ≤ mdN y.2
        · rw [if_pos c2, if_pos ⟨c1.1, c1.2, c2⟩]; exact ⟨hg, rfl⟩
        · rw [if_neg c2, if_neg (fun q => c2 q.2.2)]; exact i0
      · rw [if_neg c1, if_neg (fun q => c1 ⟨q.1, q.2.1⟩)]; exact i0
  have := key sls.length (Nat.le_refl _)
  rw [List.take_length] at this
  rw [h1]; exact this
theorem any_take {α : Type} {f : α → Bool} {l : List α} {n : Nat} {y : α} (h : l[n]? = some y) : (l.take (n + 1)).any f = ((l.take n).any f || f y) := by
  rw [List.take_add_one, h, List.any_append]
  show (_ || (f y || false)) = _
  rw [Bool.or_false]
theorem rev_at {L : List PK} {i : Nat} {sls : List SL} (h : SlAt L i sls) {kx tx : PK} (hk : kMade kx.2.1 = kmd kx.2.1) (ty t : Nat) : revS L kx tx ty t i (nsF L i) = sls.any (rvdC (atMsg kx tx) kx.2.1 ty t) := by
  obtain ⟨h1, h2, h3⟩ := h
  have key : ∀ n, n ≤ sls.length → revS L kx tx ty t i n = (sls.take n).any (rvdC (atMsg kx tx) kx.2.1 ty t) := by
    intro n
    induction n with
    | zero => intro _; rfl
    | succ n ih =>
      intro hn
      have i0 := ih (by omega)
      obtain ⟨y, hy⟩ : ∃ y, sls[n]? = some y := ⟨_, List.getElem?_eq_getElem hn⟩
      have hg := h2 n y hy
      have hs := h3 y (List.mem_of_getElem? hy)
      rw [any_take hy, revS, i0]
      unfold revN rvdC rvkC
      rw [hg]
      dsimp only
      rw [hs, cnt_eq hk]
      by_cases c1 : gD y.2 1 = ty
      · cases c2 : sVain y.2 with
        | true => rw [if_neg (fun q => by cases q.2)]; simp
        | false => rw [if_pos ⟨c1, rfl⟩, decide_eq_true c1]; simp
      · rw [if_neg (fun q => c1 q.1), decide_eq_false c1]; simp
  have := key sls.length (Nat.le_refl _)
  rw [List.take_length] at this
  rw [h1]; exact this
theorem drp_at {L : List PK} {i : Nat} {sls : List SL} (h : SlAt L i sls) {kx tx : PK} (hk : kMade kx.2.1 = kmd kx.2.1) (my t : Nat) : drpS L kx tx my t i (nsF L i) = sls.any (drpC (atMsg kx tx) kx.2.1 my t) := by
  obtain ⟨h1, h2, h3⟩ := h
  have key : ∀ n, n ≤ sls.length → drpS L kx tx my t i n = (sls.take n).any (drpC (atMsg kx tx) kx.2.1 my t) := by
    intro n
    induction n with
    | zero => intro _; rfl
    | succ n ih =>
      intro hn
      have i0 := ih (by omega)
      obtain ⟨y, hy⟩ : ∃ y, sls[n]? = some y := ⟨_, List.getElem?_eq_getElem hn⟩
      have hg := h2 n y hy
      have hs := h3 y (List.mem_of_getElem? hy)
      rw [any_take hy, drpS, i0]
      unfold drpN drpC
      rw [hg]
      dsimp only
      rw [hs, cnt_eq hk]
      by_cases c1 : gD y.2 1 = 48 <;> by_cases c2 : my ≤ mdN y.2 <;> cases cntC (atMsg kx tx) kx.2.1 y.2 t <;> simp [c1, c2]
  have := key sls.length (Nat.le_refl _)
  rw [List.take_length] at this
  rw [h1]; exact this
/-- what the law asks of a key -/
def KyQ (k : KY) : Prop := kMade k.2.1.2.1 = kmd k.2.1.2.1 ∧ (∀ y ∈ k.2.2.1.2, sType y.2 = gD y.2 1) ∧ (∀ u ∈ k.2.2.2.1.2, ∀ y ∈ u.2.2.2, sType y.2 = gD y.2 1) ∧ ∀ x ∈ k.2.2.2.2.2, kMade x.2.1.2.1 = kmd x.2.1.2.1 ∧ ∀ y ∈ x.2.2.2, sType y.2 = gD y.2 1
def kxP (k : KY) : PK := (6, k.2.1.2.1, k.2.1.2.2)
def usP9 (u : US) : PK := (13, u.2.1, none)
def ptP9 (x : PTt) : PK := (14, x.2.1.2.1, x.2.1.2.2)
theorem at_key (R1 : List KCt) (k : KCt) (R2 : List KCt) : (fR (R1 ++ k :: R2))[(fR R1).length]? = some (6, k.1.1, k.1.2) := by
  rw [fR_ctx, List.append_assoc]; exact at_mid _ _ _
theorem at_user {R1 R2 : List KCt} {k : KCt} {j : Nat} {u : UCt} (h : k.2.2.1[j]? = some u) : (fR (R1 ++ k :: R2))[(fR R1).length + tpos k 1 j]? = some (13, u.1, none) := by
  obtain ⟨n, ks, ku, kp⟩ := k
  obtain ⟨u1, u2, e1, e2⟩ := split_at h
  have e1 : ku = u1 ++ u :: u2 := e1
  subst e1 e2
  have hp : tpos (n, ks, u1 ++ u :: u2, kp) 1 u1.length = 1 + ks.length + (u1.flatMap fU).length := by
    unfold tpos
    rw [if_neg (by decide), if_pos rfl]
    show 1 + ks.length + (((u1 ++ u :: u2).take u1.length).flatMap fU).length = _
    rw [take_mid]
  rw [hp]
  have e : fR (R1 ++ (n, ks, u1 ++ u :: u2, kp) :: R2) = (((fR R1 ++ [(6, n.1, n.2)]) ++ fS ks) ++ u1.flatMap fU) ++ (13, u.1, none) :: (fS u.2 ++ (u2.flatMap fU ++ (kp.flatMap fP ++ fR R2))) := by
    rw [fR_ctx]; unfold fT; simp only [List.flatMap_append, List.flatMap_cons, List.append_assoc, List.cons_append, List.nil_append]; rfl
  rw [e, show (fR R1).length + (1 + ks.length + (u1.flatMap fU).length) = (((fR R1 ++ [(6, n.1, n.2)]) ++ fS ks) ++ u1.flatMap fU).length by simp only [List.length_append, fS_len, List.length_cons, List.length_nil]; omega]
  exact at_mid _ _ _
theorem at_part {R1 R2 : List KCt} {k : KCt} {j : Nat} {p : PCt} (h : k.2.2.2[j]? = some p) : (fR (R1 ++ k :: R2))[(fR R1).length + tpos k 2 j]? = some (14, p.1.1, p.1.2) := by
  obtain ⟨n, ks, ku, kp⟩ := k
  obtain ⟨u1, u2, e1, e2⟩ := split_at h
  have e1 : kp = u1 ++ p :: u2 := e1
  subst e1 e2
  have hp : tpos (n, ks, ku, u1 ++ p :: u2) 2 u1.length = 1 + ks.length + (ku.flatMap fU).length + (u1.flatMap fP).length := by
    unfold tpos
    rw [if_neg (by decide), if_neg (by decide)]
    show 1 + ks.length + (ku.flatMap fU).length + (((u1 ++ p :: u2).take u1.length).flatMap fP).length = _
    rw [take_mid]
  rw [hp]
  have e : fR (R1 ++ (n, ks, ku, u1 ++ p :: u2) :: R2) = ((((fR R1 ++ [(6, n.1, n.2)]) ++ fS ks) ++ ku.flatMap fU) ++ u1.flatMap fP) ++ (14, p.1.1, p.1.2) :: (fS p.2 ++ (u2.flatMap fP ++ fR R2)) := by
    rw [fR_ctx]; unfold fT; simp only [List.flatMap_append, List.flatMap_cons, List.append_assoc, List.cons_append, List.nil_append]; rfl
  rw [e, show (fR R1).length + (1 + ks.length + (ku.flatMap fU).length + (u1.flatMap fP).length) = ((((fR R1 ++ [(6, n.1, n.2)]) ++ fS ks) ++ ku.flatMap fU) ++ u1.flatMap fP).length by simp only [List.length_append, fS_len, List.length_cons, List.length_nil]; omega]
  exact at_mid _ _ _
theorem sl_key {R1 R2 : List KCt} {k : KY} (hq : KyQ k) : SlAt (fR (R1 ++ kcK k :: R2)) (fR R1).length k.2.2.1.2 := by
  obtain ⟨A, B, q1, q2, q3, -⟩ := seals_at (R1 := R1) (R2 := R2) (k := kcK k) (kd := 0) (j := 0) (Or.inl rfl)
  exact SlAt.mk q1 q2 q3 hq.2.1
theorem sl_user {R1 R2 : List KCt} {k : KY} (hq : KyQ k) {j : Nat} {u : US} (h : k.2.2.2.1.2[j]? = some u) : SlAt (fR (R1 ++ kcK k :: R2)) ((fR R1).length + tpos (kcK k) 1 j) u.2.2.2 := by
  have hj := (List.getElem?_eq_some_iff.mp h).1
  obtain ⟨A, B, q1, q2, q3, -⟩ := seals_at (R1 := R1) (R2 := R2) (k := kcK k) (kd := 1) (j := j) (Or.inr (Or.inl ⟨rfl, by show j < (k.2.2.2.1.2.map kcU).length; rw [List.length_map]; exact hj⟩))
  have e : latQ (kcK k) 1 j = u.2.2.2.map Prod.snd := by
    unfold latQ
    rw [if_neg (by decide), if_pos rfl]
    show ((k.2.2.2.1.2.map kcU)[j]?.map Prod.snd).getD [] = _
    rw [List.getElem?_map, h]; rfl
  rw [e] at q1
  exact SlAt.mk q1 q2 q3 (hq.2.2.1 u (List.mem_of_getElem? h))
theorem sl_part {R1 R2 : List KCt} {k : KY} (hq : KyQ k) {j : Nat} {x : PTt} (h : k.2.2.2.2.2[j]? = some x) : SlAt (fR (R1 ++ kcK k :: R2)) ((fR R1).length + tpos (kcK k) 2 j) x.2.2.2 := by
  have hj := (List.getElem?_eq_some_iff.mp h).1
  obtain ⟨A, B, q1, q2, q3, -⟩ := seals_at (R1 := R1) (R2 := R2) (k := kcK k) (kd := 2) (j := j) (Or.inr (Or.inr ⟨rfl, by show j < (k.2.2.2.2.2.map kcP).length; rw [List.length_map]; exact hj⟩))
  have e : latQ (kcK k) 2 j = x.2.2.2.map Prod.snd := by
    unfold latQ
    rw [if_neg (by decide), if_neg (by decide)]
    show ((k.2.2.2.2.2.map kcP)[j]?.map Prod.snd).getD [] = _
    rw [List.getElem?_map, h]; rfl
  rw [e] at q1
  exact SlAt.mk q1 q2 q3 (hq.2.2.2 x (List.mem_of_getElem? h)).2
theorem bnd_skip {L : List PK} {kx : PK} {t q n : Nat} : ∀ m, (∀ j x, n ≤ j → j < n + m → L[q + 1 + j]? = some x → ¬ x.1 = 13) → bndS L kx t q (n + m) = bndS L kx t q n
  | 0, _ => rfl
  | m + 1, h => by
    rw [← Nat.add_assoc, bndS, bnd_skip m (fun j x h1 h2 => h j x h1 (by omega))]
    unfold bndN
    cases hx : L[q + 1 + (n + m)]? with
    | none => rfl
    | some x => show (if x.1 = 13 then _ else _) = _; rw [if_neg (h (n + m) x (by omega) (by omega) hx)]
theorem msg_key (k : KY) : atMsg (kxP k) (kxP k) = keyMsg k.2.1.2.1 := List.append_nil _
theorem msg_user (k : KY) (u : US) : atMsg (kxP k) (usP9 u) = usM k.2.1.2.1 u.2.1 := rfl
theorem msg_part (k : KY) (x : PTt) : atMsg (kxP k) (ptP9 x) = ptM k.2.1.2.1 x.2.1.2.1 := rfl
theorem us_take (us : List US) (j : Nat) : ((us.map kcU).take (j + 1)).flatMap fU = ((us.map kcU).take j).flatMap fU ++ (match us[j]? with | none => [] | some u => fU (kcU u)) := by
  rw [List.take_add_one, List.getElem?_map]
  cases us[j]? with
  | none => simp
  | some u => show (_ ++ [kcU u]).flatMap fU = _; rw [List.flatMap_append]; simp
theorem bnd_at {R1 R2 : List KCt} {k : KY} (hq : KyQ k) (t : Nat) : RL (fR (R1 ++ kcK k :: R2)) (bndS (fR (R1 ++ kcK k :: R2)) (kxP k) t (fR R1).length (fT (kcK k)).length) (bndC k t) := by
  have hk : kMade (kxP k).2.1 = kmd (kxP k).2.1 := hq.1
  have ctx := fR_ctx R1 (kcK k) R2
  -- what stands at a place behind the key
  have hget : ∀ n x, (fR (R1 ++ kcK k :: R2))[(fR R1).length + 1 + n]? = some x → n < (fT (kcK k)).length → (fT (kcK k))[n]? = some x := by
    intro n x h hn
    rw [ctx, ← one_len (fR R1) (6, (kcK k).1.1, (kcK k).1.2), List.getElem?_append_right (by omega), List.getElem?_append_left (by omega)] at h
    rw [Nat.add_sub_cancel_left] at h
    exact h
  have hfT : fT (kcK k) = fS (k.2.2.1.2.map Prod.snd) ++ ((k.2.2.2.1.2.map kcU).flatMap fU ++ (k.2.2.2.2.2.map kcP).flatMap fP) := rfl
  have hlT : (fT (kcK k)).length = k.2.2.1.2.length + (((k.2.2.2.1.2.map kcU).flatMap fU).length + ((k.2.2.2.2.2.map kcP).flatMap fP).length) := by
    rw [hfT, List.length_append, List.length_append, fS_len, List.length_map]
  -- the key's own seals
  have h0 : RL (fR (R1 ++ kcK k :: R2)) (bndS (fR (R1 ++ kcK k :: R2)) (kxP k) t (fR R1).length (0 + k.2.2.1.2.length)) (latC (keyMsg k.2.1.2.1) k.2.1.2.1 31 31 t k.2.2.1.2) := by
    rw [bnd_skip k.2.2.1.2.length (fun j x h1 h2 h3 => by
      have := hget j x h3 (by omega)
      rw [hfT, List.getElem?_append_left (by rw [fS_len, List.length_map]; omega)] at this
      rw [fS_k x (List.mem_of_getElem? this)]; decide)]
    have := lat_at (sl_key (R1 := R1) (R2 := R2) hq) (kx := kxP k) (tx := kxP k) hk 31 31 t
    rw [msg_key] at this
    exact this
  rw [Nat.zero_add] at h0
  -- the users
  have h1 : ∀ m, m ≤ k.2.2.2.1.2.length → RL (fR (R1 ++ kcK k :: R2)) (bndS (fR (R1 ++ kcK k :: R2)) (kxP k) t (fR R1).length (k.2.2.1.2.length + (((k.2.2.2.1.2.map kcU).take m).flatMap fU).length)) ((k.2.2.2.1.2.take m).foldl (bndF k.2.1.2.1 t) (latC (keyMsg k.2.1.2.1) k.2.1.2.1 31 31 t k.2.2.1.2)) := by
    intro m
    induction m with
    | zero => intro _; exact h0
    | succ m ih =>
      intro hm
      have i0 := ih (by omega)
      obtain ⟨u, hu⟩ : ∃ u, k.2.2.2.1.2[m]? = some u := ⟨_, List.getElem?_eq_getElem hm⟩
      have hpos : tpos (kcK k) 1 m = 1 + k.2.2.1.2.length + (((k.2.2.2.1.2.map kcU).take m).flatMap fU).length := by
        unfold tpos
        rw [if_neg (by decide), if_pos rfl]
        show 1 + (k.2.2.1.2.map Prod.snd).length + _ = _
        rw [List.length_map]; rfl
      have hau := at_user (R1 := R1) (R2 := R2) (k := kcK k) (j := m) (u := kcU u) (by show (k.2.2.2.1.2.map kcU)[m]? = _; rw [List.getElem?_map, hu]; rfl)
      have hsl := sl_user (R1 := R1) (R2 := R2) hq hu
      have hpe : (fR R1).length + tpos (kcK k) 1 m = (fR R1).length + 1 + (k.2.2.1.2.length + (((k.2.2.2.1.2.map kcU).take m).flatMap fU).length) := by rw [hpos]; omega
      rw [hpe] at hau hsl
      have hl9 : RL _ _ (latC (usM k.2.1.2.1 u.2.1) k.2.1.2.1 16 19 t u.2.2.2) := lat_at hsl (kx := kxP k) (tx := usP9 u) hk 16 19 t
      rw [us_take, hu, List.take_add_one, hu, List.foldl_append]
      dsimp only
      rw [List.length_append]
      have hfl : (fU (kcU u)).length = 1 + u.2.2.2.length := by
        show (fS (u.2.2.2.map Prod.snd)).length + 1 = _
        rw [fS_len, List.length_map]; omega
      rw [hfl, ← Nat.add_assoc, ← Nat.add_assoc]
      have hstep : RL (fR (R1 ++ kcK k :: R2)) (bndS (fR (R1 ++ kcK k :: R2)) (kxP k) t (fR R1).length (k.2.2.1.2.length + (((k.2.2.2.1.2.map kcU).take m).flatMap fU).length + 1)) (bndF k.2.1.2.1 t ((k.2.2.2.1.2.take m).foldl (bndF k.2.1.2.1 t) (latC (keyMsg k.2.1.2.1) k.2.1.2.1 31 31 t k.2.2.1.2)) u) := by
        rw [bndS]
        unfold bndN bndF
        rw [hau]
        dsimp only
        rw [if_pos rfl]
        show RL _ (match latS (fR (R1 ++ kcK k :: R2)) (kxP k) (usP9 u) 16 19 t _ _ with | none => _ | some z => _) _
        cases e1 : latS (fR (R1 ++ kcK k :: R2)) (kxP k) (usP9 u) 16 19 t ((fR R1).length + 1 + (k.2.2.1.2.length + (((k.2.2.2.1.2.map kcU).take m).flatMap fU).length)) (nsF (fR (R1 ++ kcK k :: R2)) ((fR R1).length + 1 + (k.2.2.1.2.length + (((k.2.2.2.1.2.map kcU).take m).flatMap fU).length))) with
        | none =>
          rw [e1] at hl9
          have e2 : latC (usM k.2.1.2.1 u.2.1) k.2.1.2.1 16 19 t u.2.2.2 = none := hl9.none_iff.mp rfl
          rw [e2]; exact i0
        | some z =>
          rw [e1] at hl9
          cases e2 : latC (usM k.2.1.2.1 u.2.1) k.2.1.2.1 16 19 t u.2.2.2 with
          | none => rw [e2] at hl9; exact hl9.elim
          | some s =>
            rw [e2] at hl9
            dsimp only
            have hd : _ = u.2.2.2.any (drpC (usM k.2.1.2.1 u.2.1) k.2.1.2.1 z.2 t) := drp_at hsl (kx := kxP k) (tx := usP9 u) hk z.2 t
            rw [show drpS (fR (R1 ++ kcK k :: R2)) (kxP k) (13, (kcU u).1, none) z.2 t _ _ = _ from hd, hl9.2, i0.md]
            cases e3 : u.2.2.2.any (drpC (usM k.2.1.2.1 u.2.1) k.2.1.2.1 (mdN s.2) t) with
            | true => rw [if_pos rfl, if_neg (fun q => by cases q.2)]; exact i0
            | false =>
              rw [if_neg (by decide)]
              by_cases c : (bndS (fR (R1 ++ kcK k :: R2)) (kxP k) t (fR R1).length (k.2.2.1.2.length + (((k.2.2.2.1.2.map kcU).take m).flatMap fU).length)) = none ∨ mdO ((k.2.2.2.1.2.take m).foldl (bndF k.2.1.2.1 t) (latC (keyMsg k.2.1.2.1) k.2.1.2.1 31 31 t k.2.2.1.2)) < mdN s.2
              · rw [if_pos c, if_pos ⟨c.imp i0.none_iff.mp id, rfl⟩]; exact hl9
              · rw [if_neg c, if_neg (fun q => c (q.1.imp i0.none_iff.mpr id))]; exact i0
      rw [bnd_skip u.2.2.2.length (fun j x a1 a2 a3 => by
        obtain ⟨w, hw⟩ : ∃ w, j = (k.2.2.1.2.length + (((k.2.2.2.1.2.map kcU).take m).flatMap fU).length) + 1 + w := ⟨j - ((k.2.2.1.2.length + (((k.2.2.2.1.2.map kcU).take m).flatMap fU).length) + 1), by omega⟩
        obtain ⟨y, hy⟩ : ∃ y, u.2.2.2[w]? = some y := ⟨_, List.getElem?_eq_getElem (by omega)⟩
        have := hsl.2.1 w y hy
        rw [show (fR R1).length + 1 + (k.2.2.1.2.length + (((k.2.2.2.1.2.map kcU).take m).flatMap fU).length) + 1 + w = (fR R1).length + 1 + j by omega, a3] at this
        cases this
        exact (by decide : ¬ (2 : Nat) = 13))]
      exact hstep
  have h2 := h1 k.2.2.2.1.2.length (Nat.le_refl _)
  rw [List.take_of_length_le (by rw [List.length_map]; exact Nat.le_refl _), List.take_length] at h2
  rw [hlT, ← Nat.add_assoc, bnd_skip ((k.2.2.2.2.2.map kcP).flatMap fP).length (fun j x a1 a2 a3 => by
    have := hget j x a3 (by omega)
    rw [hfT, ← List.append_assoc, List.getElem?_append_right (by rw [List.length_append, fS_len, List.length_map]; omega)] at this
    rcases fP_k x (List.mem_of_getElem? this) with e | e <;> rw [e] <;> decide)]
  exact h2
