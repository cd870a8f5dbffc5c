set_option maxRecDepth 100000
/-! the labels of a ring are all different -/
theorem nodup_fm {α β γ : Type} {f : α → List β} {g : α → γ} {ow : β → γ} (h : ∀ a, ∀ l ∈ f a, ow l = g a) : ∀ {R : List α}, (R.map g).Nodup → (∀ a ∈ R, (f a).Nodup) → (R.flatMap f).Nodup
  | [], _, _ => List.nodup_nil
  | a :: R, h1, h2 => by
    rw [List.map_cons, List.nodup_cons] at h1
    rw [List.flatMap_cons, List.nodup_append]
    refine ⟨h2 a List.mem_cons_self, nodup_fm h h1.2 (fun b hb => h2 b (List.mem_cons_of_mem _ hb)), fun x hx y hy e => ?_⟩
    subst e
    obtain ⟨b, hb, hxb⟩ := List.mem_flatMap.mp hy
    exact h1.1 (by rw [← h a x hx, h b x hxb]; exact List.mem_map.mpr ⟨b, hb, rfl⟩)
theorem nodup_inj {α β : Type} {f : α → β} (hi : ∀ a b, f a = f b → a = b) : ∀ {l : List α}, l.Nodup → (l.map f).Nodup
  | [], _ => List.nodup_nil
  | a :: l, h => by
    rw [List.nodup_cons] at h
    rw [List.map_cons, List.nodup_cons]
    refine ⟨fun q => ?_, nodup_inj hi h.2⟩
    obtain ⟨b, hb, e⟩ := List.mem_map.mp q
    exact h.1 (by rw [← hi b a e]; exact hb)
def NdK (k : KCt) : Prop := k.2.1.Nodup ∧ (k.2.2.1.map Prod.fst).Nodup ∧ (k.2.2.2.map (fun p => prF p.1.1)).Nodup ∧ (∀ u ∈ k.2.2.1, u.2.Nodup) ∧ ∀ p ∈ k.2.2.2, p.2.Nodup
def NdR (R : List KCt) : Prop := (R.map (fun k => prF k.1.1)).Nodup ∧ ∀ k ∈ R, NdK k
theorem lbS_nd {pr : List Nat} {tl : Nat × List Nat} {ls : List (List Nat)} (h : ls.Nodup) : (lbS pr tl ls).Nodup := nodup_inj (fun a b e => congrArg (fun z : LB => z.2.2.2) e) h
theorem lbS_in {pr : List Nat} {tl : Nat × List Nat} {ls : List (List Nat)} {l : LB} (h : l ∈ lbS pr tl ls) : l.1 = 2 ∧ l.2.1 = pr ∧ l.2.2.1 = tl := by
  obtain ⟨b, _, e⟩ := List.mem_map.mp h
  rw [← e]; exact ⟨rfl, rfl, rfl⟩
theorem lbU_in {pr : List Nat} {u : UCt} {l : LB} (h : l ∈ lbU pr u) : l.2.1 = pr ∧ ((l.1 = 13 ∧ l.2.2.2 = u.1) ∨ (l.1 = 2 ∧ l.2.2.1 = (1, u.1))) := by
  rcases List.mem_cons.mp h with e | h
  · rw [e]; exact ⟨rfl, Or.inl ⟨rfl, rfl⟩⟩
  · obtain ⟨a, b, c⟩ := lbS_in h
    exact ⟨b, Or.inr ⟨a, c⟩⟩
theorem lbP_in {pr : List Nat} {p : PCt} {l : LB} (h : l ∈ lbP pr p) : l.2.1 = pr ∧ ((l.1 = 14 ∧ l.2.2.2 = p.1.1) ∨ (l.1 = 2 ∧ l.2.2.1 = (2, prF p.1.1))) := by
  rcases List.mem_cons.mp h with e | h
  · rw [e]; exact ⟨rfl, Or.inl ⟨rfl, rfl⟩⟩
  · obtain ⟨a, b, c⟩ := lbS_in h
    exact ⟨b, Or.inr ⟨a, c⟩⟩
theorem lbT_pr {pr : List Nat} {k : KCt} {l : LB} (h : l ∈ lbT pr k) : l.2.1 = pr ∧ ¬ l.1 = 6 := by
  rcases lbT_in.mp h with q | q | q
  · obtain ⟨a, b, _⟩ := lbS_in q
    exact ⟨b, by rw [a]; decide⟩
  · obtain ⟨u, _, q⟩ := List.mem_flatMap.mp q
    obtain ⟨a, b⟩ := lbU_in q
    exact ⟨a, by rcases b with b | b <;> rw [b.1] <;> decide⟩
  · obtain ⟨u, _, q⟩ := List.mem_flatMap.mp q
    obtain ⟨a, b⟩ := lbP_in q
    exact ⟨a, by rcases b with b | b <;> rw [b.1] <;> decide⟩
def owU (l : LB) : List Nat := if l.1 = 13 then l.2.2.2 else l.2.2.1.2
def owP (l : LB) : List Nat := if l.1 = 14 then prF l.2.2.2 else l.2.2.1.2
def owK (l : LB) : List Nat := if l.1 = 6 then prF l.2.2.2 else l.2.1
theorem lbK_nd {k : KCt} (h : NdK k) : (lbK k).Nodup := by
  obtain ⟨h1, h2, h3, h4, h5⟩ := h
  unfold lbK
  rw [List.nodup_cons]
  refine ⟨fun q => (lbT_pr q).2 rfl, ?_⟩
  unfold lbT
  rw [List.nodup_append]
  refine ⟨lbS_nd h1, ?_, fun x hx y hy e => ?_⟩
  · rw [List.nodup_append]
    refine ⟨nodup_fm (g := Prod.fst) (ow := owU) (fun u l hl => ?_) h2 (fun u hu => ?_), nodup_fm (g := fun p : PCt => prF p.1.1) (ow := owP) (fun u l hl => ?_) h3 (fun u hu => ?_), fun x hx y hy e => ?_⟩
    · unfold owU
      rcases (lbU_in hl).2 with q | q
      · rw [if_pos q.1, q.2]
      · rw [if_neg (by rw [q.1]; decide), q.2]
    · show ((13, _, _, _) :: lbS _ _ _).Nodup
      rw [List.nodup_cons]
      exact ⟨fun q => absurd (lbS_in q).1 (show ¬ (13 : Nat) = 2 by decide), lbS_nd (h4 u hu)⟩
    · unfold owP
      rcases (lbP_in hl).2 with q | q
      · rw [if_pos q.1, q.2]
      · rw [if_neg (by rw [q.1]; decide), q.2]
    · show ((14, _, _, _) :: lbS _ _ _).Nodup
      rw [List.nodup_cons]
      exact ⟨fun q => absurd (lbS_in q).1 (show ¬ (14 : Nat) = 2 by decide), lbS_nd (h5 u hu)⟩
    · subst e
      obtain ⟨u, _, q1⟩ := List.mem_flatMap.mp hx
      obtain ⟨p, _, q2⟩ := List.mem_flatMap.mp hy
      rcases (lbU_in q1).2 with a | a <;> rcases (lbP_in q2).2 with b | b
      · rw [a.1] at b; cases b.1
      · rw [a.1] at b; cases b.1
      · rw [a.1] at b; cases b.1
      · rw [a.2] at b; cases b.2
  · subst e
    obtain ⟨a1, a2, a3⟩ := lbS_in hx
    rcases List.mem_append.mp hy with q | q
    · obtain ⟨u, _, q1⟩ := List.mem_flatMap.mp q
      rcases (lbU_in q1).2 with b | b
      · rw [a1] at b; cases b.1
      · rw [a3] at b; cases b.2
    · obtain ⟨u, _, q1⟩ := List.mem_flatMap.mp q
      rcases (lbP_in q1).2 with b | b
      · rw [a1] at b; cases b.1
      · rw [a3] at b; cases b.2
theorem lbR_nd {R : List KCt} (h : NdR R) : (lbR R).Nodup := by
  refine nodup_fm (g := fun k : KCt => prF k.1.1) (ow := owK) (fun k l hl => ?_) h.1 (fun k hk => lbK_nd (h.2 k hk))
  unfold owK
  rcases List.mem_cons.mp hl with q | q
  · rw [q]; rfl
  · obtain ⟨a, b⟩ := lbT_pr q
    rw [if_neg b, a]
theorem wt_R {R : List KCt} {U : List LB} (h : NdR R) (hs : SubL R U) : wt (lbR R) ≤ wt U := wt_le (lbR_nd h) hs
/-! reading keeps them different -/
theorem NdR.mid {R1 R2 : List KCt} {k k' : KCt} (h : NdR (R1 ++ k :: R2)) (hp : prF k'.1.1 = prF k.1.1) (hk : NdK k') : NdR (R1 ++ k' :: R2) := by
  obtain ⟨h1, h2⟩ := h
  refine ⟨?_, fun z hz => ?_⟩
  · rw [List.map_append, List.map_cons] at h1 ⊢
    rw [hp]; exact h1
  · rcases mid_mem (x := k) hz with q | q
    · rw [q]; exact hk
    · exact h2 z q
theorem nd_snoc {α : Type} {l : List α} {x : α} (h : l.Nodup) (hx : x ∉ l) : (l ++ [x]).Nodup := by
  rw [List.nodup_append]
  refine ⟨h, List.nodup_cons.mpr ⟨List.not_mem_nil, List.nodup_nil⟩, fun a ha b hb e => ?_⟩
  rw [List.mem_singleton.mp hb] at e
  exact hx (by rw [← e]; exact ha)
theorem fx_none {α : Type} {f : α → Bool} {l : List α} (h : l.findIdx? f = none) : ∀ x ∈ l, f x = false := List.findIdx?_eq_none_iff.mp h
theorem nd_key {x x' : RNt} {n : NCt} (h : NdR x.1) (hp : keyN2 x (cmN x.1 n) = some x') : NdR x'.1 := by
  obtain ⟨R, cu, m⟩ := x
  unfold cmN at hp
  dsimp only at hp
  have h : NdR R := h
  cases hf : R.findIdx? (prK (sha1 (keyMsg n.1))) with
  | some i =>
    rw [hf] at hp
    obtain ⟨R1, k, R2, e1, e2⟩ := fx_lt hf
    subst e1 e2
    dsimp only at hp
    rw [mod_mid] at hp
    cases hp
    exact h.mid (k' := wthK n k) rfl (h.2 k (List.mem_append_right _ List.mem_cons_self))
  | none =>
    rw [hf] at hp
    dsimp only at hp
    by_cases c : R.length = 16
    · rw [if_pos c] at hp; cases hp
    · rw [if_neg c] at hp
      cases hp
      refine ⟨?_, fun k hk => ?_⟩
      · show ((R ++ [(n, [], [], [])]).map (fun k : KCt => prF k.1.1)).Nodup
        rw [List.map_append]
        refine nd_snoc h.1 (fun q => ?_)
        obtain ⟨k, hk, e⟩ := List.mem_map.mp q
        have := fx_none hf k hk
        exact absurd e (of_decide_eq_false this)
      · rcases List.mem_append.mp hk with q | q
        · exact h.2 k q
        · rw [List.mem_singleton.mp q]
          exact ⟨List.nodup_nil, List.nodup_nil, List.nodup_nil, fun _ q => absurd q List.not_mem_nil, fun _ q => absurd q List.not_mem_nil⟩
theorem nd_part {x x' : RNt} {R1 R2 : List KCt} {k : KCt} {n : NCt} (h : NdR x.1) (hR : x.1 = R1 ++ k :: R2) (hp : partN2 x R1.length k (ptN k.2.2.2 n) = some x') : NdR x'.1 := by
  have hset : ∀ k', x.1.set R1.length k' = R1 ++ k' :: R2 := fun k' => by rw [hR]; exact set_mid R1 k k' R2
  rw [hR] at h
  obtain ⟨a1, a2, a3, a4, a5⟩ := h.2 k (List.mem_append_right _ List.mem_cons_self)
  unfold ptN at hp
  cases hf : k.2.2.2.findIdx? (prP2 (sha1 (keyMsg n.1))) with
  | some i =>
    rw [hf] at hp
    obtain ⟨p1, z, p2, e1, e2⟩ := fx_lt hf
    subst e2
    dsimp only at hp
    rw [e1, mod_mid] at hp
    rw [e1] at a3 a5
    cases hp
    show NdR (x.1.set R1.length (k.1, k.2.1, k.2.2.1, p1 ++ wthP n z :: p2))
    rw [hset]
    refine h.mid rfl ⟨a1, a2, ?_, a4, fun p hp => ?_⟩
    · show ((p1 ++ wthP n z :: p2).map _).Nodup
      rw [List.map_append, List.map_cons] at a3 ⊢
      exact a3
    · rcases mid_mem (x := z) hp with q | q
      · rw [q]; exact a5 z (List.mem_append_right _ List.mem_cons_self)
      · exact a5 p q
  | none =>
    rw [hf] at hp
    dsimp only at hp
    by_cases c : k.2.2.2.length = 8
    · rw [if_pos c] at hp; cases hp
    · rw [if_neg c] at hp
      cases hp
      show NdR (x.1.set R1.length (k.1, k.2.1, k.2.2.1, k.2.2.2 ++ [(n, [])]))
      rw [hset]
      refine h.mid rfl ⟨a1, a2, ?_, a4, fun p hp => ?_⟩
      · show ((k.2.2.2 ++ [(n, [])]).map _).Nodup
        rw [List.map_append]
        refine nd_snoc a3 (fun q => ?_)
        obtain ⟨p, hp, e⟩ := List.mem_map.mp q
        exact absurd e (of_decide_eq_false (fx_none hf p hp))
      · rcases List.mem_append.mp hp with q | q
        · exact a5 p q
        · rw [List.mem_singleton.mp q]; exact List.nodup_nil
theorem nd_user {x x' : RNt} {R1 R2 : List KCt} {k : KCt} {bd : List Nat} (h : NdR x.1) (hR : x.1 = R1 ++ k :: R2) (hp : userN2 x R1.length k (usN k.2.2.1 bd) = some x') : NdR x'.1 := by
  have hset : ∀ k', x.1.set R1.length k' = R1 ++ k' :: R2 := fun k' => by rw [hR]; exact set_mid R1 k k' R2
  have h0 := h
  rw [hR] at h
  obtain ⟨a1, a2, a3, a4, a5⟩ := h.2 k (List.mem_append_right _ List.mem_cons_self)
  unfold usN at hp
  cases hf : k.2.2.1.findIdx? (isU bd) with
  | some i =>
    rw [hf] at hp
    cases hp
    show NdR (x.1.set R1.length k)
    rw [hset]; exact h
  | none =>
    rw [hf] at hp
    dsimp only at hp
    by_cases c : 200 < bd.length ∨ k.2.2.1.length = 8
    · rw [if_pos c] at hp; cases hp
    · rw [if_neg c] at hp
      cases hp
      show NdR (x.1.set R1.length (k.1, k.2.1, k.2.2.1 ++ [(bd, [])], k.2.2.2))
      rw [hset]
      refine h.mid rfl ⟨a1, ?_, a3, fun p hp => ?_, a5⟩
      · show ((k.2.2.1 ++ [(bd, [])]).map _).Nodup
        rw [List.map_append]
        refine nd_snoc a2 (fun q => ?_)
        obtain ⟨p, hp, e⟩ := List.mem_map.mp q
        exact absurd e (of_decide_eq_false (fx_none hf p hp))
      · rcases List.mem_append.mp hp with q | q
        · exact a4 p q
        · rw [List.mem_singleton.mp q]; exact List.nodup_nil
theorem any_not {b : List Nat} {l : List (List Nat)} (h : ¬ l.any (fun y => decide (y = b)) = true) : b ∉ l := fun q => h (List.any_eq_true.mpr ⟨b, q, decide_eq_true rfl⟩)
theorem nd_add {k : KCt} {kd j : Nat} {b : List Nat} (h : NdK k) (ht : tOk k kd j) (hn : b ∉ latQ k kd j) : NdK (addN k kd j b) := by
  obtain ⟨a1, a2, a3, a4, a5⟩ := h
  obtain ⟨k0, ks, ku, kp⟩ := k
  rcases ht with e | ⟨e, hj⟩ | ⟨e, hj⟩
  · subst e
    exact ⟨nd_snoc a1 hn, a2, a3, a4, a5⟩
  · subst e
    have hj : j < ku.length := hj
    obtain ⟨u, hu⟩ : ∃ u, ku[j]? = some u := ⟨_, List.getElem?_eq_getElem hj⟩
    obtain ⟨u1, u2, e1, e2⟩ := split_at hu
    subst e1 e2
    have ha : addN (k0, ks, u1 ++ u :: u2, kp) 1 u1.length b = (k0, ks, u1 ++ (u.1, u.2 ++ [b]) :: u2, kp) := by
      unfold addN
      rw [if_neg (by decide), if_pos rfl]
      show (k0, ks, (u1 ++ u :: u2).modify u1.length (fun u => (u.1, u.2 ++ [b])), kp) = _
      rw [mod_mid]
    have hq : latQ (k0, ks, u1 ++ u :: u2, kp) 1 u1.length = u.2 := by
      unfold latQ
      rw [if_neg (by decide), if_pos rfl]
      show (((u1 ++ u :: u2)[u1.length]?).map Prod.snd).getD [] = u.2
      rw [at_mid]; rfl
    rw [hq] at hn
    rw [ha]
    refine ⟨a1, ?_, a3, fun w hw => ?_, a5⟩
    · have a2 : ((u1 ++ u :: u2).map Prod.fst).Nodup := a2
      show ((u1 ++ (u.1, u.2 ++ [b]) :: u2).map Prod.fst).Nodup
      rw [List.map_append, List.map_cons] at a2 ⊢; exact a2
    · rcases mid_mem (x := u) hw with q | q
      · rw [q]; exact nd_snoc (a4 u (List.mem_append_right _ List.mem_cons_self)) hn
      · exact a4 w q
  · subst e
    have hj : j < kp.length := hj
    obtain ⟨u, hu⟩ : ∃ u, kp[j]? = some u := ⟨_, List.getElem?_eq_getElem hj⟩
    obtain ⟨u1, u2, e1, e2⟩ := split_at hu
    subst e1 e2
    have ha : addN (k0, ks, ku, u1 ++ u :: u2) 2 u1.length b = (k0, ks, ku, u1 ++ (u.1, u.2 ++ [b]) :: u2) := by
      unfold addN
      rw [if_neg (by decide), if_neg (by decide)]
      show (k0, ks, ku, (u1 ++ u :: u2).modify u1.length (fun u => (u.1, u.2 ++ [b]))) = _
      rw [mod_mid]
    have hq : latQ (k0, ks, ku, u1 ++ u :: u2) 2 u1.length = u.2 := by
      unfold latQ
      rw [if_neg (by decide), if_neg (by decide)]
      show (((u1 ++ u :: u2)[u1.length]?).map Prod.snd).getD [] = u.2
      rw [at_mid]; rfl
    rw [hq] at hn
    rw [ha]
    refine ⟨a1, a2, ?_, a4, fun w hw => ?_⟩
    · have a3 : ((u1 ++ u :: u2).map (fun p : PCt => prF p.1.1)).Nodup := a3
      show ((u1 ++ (u.1, u.2 ++ [b]) :: u2).map (fun p : PCt => prF p.1.1)).Nodup
      rw [List.map_append, List.map_cons] at a3 ⊢; exact a3
    · rcases mid_mem (x := u) hw with q | q
      · rw [q]; exact nd_snoc (a5 u (List.mem_append_right _ List.mem_cons_self)) hn
      · exact a5 w q
theorem nd_seal {x x' : RNt} {R1 R2 : List KCt} {k : KCt} {kd j : Nat} {bd : List Nat} (h : NdR x.1) (hR : x.1 = R1 ++ k :: R2) (ht : tOk k kd j) (hp : sealN2 x R1.length kd j k bd = some x') : NdR x'.1 := by
  have hset : ∀ k', x.1.set R1.length k' = R1 ++ k' :: R2 := fun k' => by rw [hR]; exact set_mid R1 k k' R2
  unfold sealN2 at hp
  split at hp
  · cases hp
  · split at hp
    · cases hp; exact h
    · split at hp
      · cases hp
      · split at hp
        · cases hp; exact h
        · next hn =>
          split at hp
          · cases hp
          · cases hp
            show NdR (x.1.set R1.length (addN k kd j bd))
            rw [hset]
            rw [hR] at h
            exact h.mid (add_lab (b := bd) ht).2.1 (nd_add (h.2 k (List.mem_append_right _ List.mem_cons_self)) ht (any_not hn))
theorem pk_nd {x x' : RNt} {kd : Nat} {bd : List Nat} (hv : CurV x) (h : NdR x.1) (hp : pkN x kd bd = some x') : NdR x'.1 := by
  unfold pkN at hp
  by_cases c1 : kd = 10 ∨ kd = 12 ∨ kd = 17 ∨ 40 ≤ kd
  · rw [if_pos c1] at hp; cases hp; exact h
  rw [if_neg c1] at hp
  by_cases c2 : kd = 5 ∨ kd = 6
  · rw [if_pos c2] at hp
    by_cases c : keyOk bd (decide (kd = 5)) = true
    · rw [if_pos c] at hp; exact nd_key h hp
    · rw [if_neg c] at hp; cases hp
  rw [if_neg c2] at hp
  rcases hv with hv | ⟨pr, tl, hc⟩
  · rw [hv] at hp; cases hp
  obtain ⟨R1, k, R2, a, j, e1, e2, e3, e4, e5, e6⟩ := cur_un hc
  rw [e6] at hp
  unfold undN at hp
  by_cases c3 : kd = 7 ∨ kd = 14
  · rw [if_pos c3] at hp
    by_cases c : keyOk bd (decide (kd = 7)) = true
    · rw [if_pos c] at hp; exact nd_part h e1 hp
    · rw [if_neg c] at hp; cases hp
  rw [if_neg c3] at hp
  by_cases c4 : kd = 13
  · rw [if_pos c4] at hp; exact nd_user h e1 hp
  rw [if_neg c4] at hp
  by_cases c5 : kd = 2
  · rw [if_pos c5] at hp; exact nd_seal h e1 e4 hp
  · rw [if_neg c5] at hp; cases hp
theorem keys_nd {rw9 : List Nat} : ∀ (f : Nat) (x : RNt) (nx : Nat), CurV x → NdR x.1 → NdR (keysN rw9 f x nx).2.1
  | 0, x, nx, _, h => h
  | f + 1, x, nx, hv, h => by
    rw [keysN]
    by_cases c : rw9.length ≤ nx
    · rw [if_pos c]; exact h
    · rw [if_neg c]
      cases hq : pktS rw9 nx with
      | none => exact h
      | some q =>
        show NdR (nextN nx x (pkN x q.1 q.2.1) (fun y => keysN rw9 f y q.2.2)).2.1
        cases hp : pkN x q.1 q.2.1 with
        | none => exact h
        | some x' => exact keys_nd f x' q.2.2 (pk_any hv hp).1 (pk_nd hv h hp)
