set_option maxRecDepth 100000

def cpC (k : KY) : Nat := 7 + 5 * k.2.2.2.1.2.length + 5 * k.2.2.2.2.2.length
def cpS (k : KY) : Nat := 100 + 74 * k.2.2.2.1.2.length + 74 * k.2.2.2.2.2.length
def RowOk (r : RowS) : Prop := SBis r.2.2.1 r.2.1 r.2.2.2 ∧ 64 ≤ r.2.1 ∧ r.2.1 < 400000
def keysT (lw : List Nat) (R : List KCt) : Int32 × RNt := keysN lw (lw.length + 1) (R, none, 0) 0
def joinN (tp : List Nat) (R : List KCt) : Int32 × List KCt := if (rowS tp).1 = 0 then (if (keysT (rowS tp).2 R).1 = 0 ∧ ¬ (keysT (rowS tp).2 R).2.2.2 = 0 then (nI (keysT (rowS tp).2 R).2.2.2, (keysT (rowS tp).2 R).2.1) else (tellN (keysT (rowS tp).2 R) (rowS tp).2.length, R)) else ((rowS tp).1, R)
theorem usC_kc {u u' : US} (h : usC u' = usC u) : kcU u' = kcU u := by
  have h1 : u'.2.1 = u.2.1 := (congrArg Prod.fst h : (usC u').1 = (usC u).1)
  have h2 : u'.2.2.2 = u.2.2.2 := (congrArg Prod.snd h : (usC u').2 = (usC u).2)
  unfold kcU; rw [h1, h2]
theorem ptC_kc {u u' : PTt} (h : ptC u' = ptC u) : kcP u' = kcP u := by
  have h1 : u'.2.1 = u.2.1 := (congrArg Prod.fst h : (ptC u').1 = (ptC u).1)
  have h2 : u'.2.2.2 = u.2.2.2 := (congrArg Prod.snd h : (ptC u').2 = (ptC u).2)
  unfold kcP; rw [h1, h2]
theorem map_via {α β γ : Type} {f : α → β} {g : α → γ} (hfg : ∀ x y, f x = f y → g x = g y) : ∀ {l k : List α}, l.map f = k.map f → l.map g = k.map g
  | [], [], _ => rfl
  | [], _ :: _, h => by cases h
  | _ :: _, [], h => by cases h
  | x :: l, y :: k, h => by
    rw [List.map_cons, List.map_cons] at h ⊢
    injection h with h1 h2
    rw [hfg x y h1, map_via hfg h2]
theorem mem_via {α β : Type} {f : α → β} {l k : List α} (h : l.map f = k.map f) {x : α} (hx : x ∈ l) : ∃ y ∈ k, f y = f x := by
  have : f x ∈ k.map f := by rw [← h]; exact List.mem_map.mpr ⟨x, hx, rfl⟩
  exact List.mem_map.mp this
theorem kcK_copy {k k' : KY} (h1 : k'.2.1 = k.2.1) (h2 : k'.2.2.1.2 = k.2.2.1.2) (h3 : k'.2.2.2.1.2.map usC = k.2.2.2.1.2.map usC) (h4 : k'.2.2.2.2.2.map ptC = k.2.2.2.2.2.map ptC) : kcK k' = kcK k := by
  unfold kcK
  rw [h1, h2, map_via (f := usC) (g := kcU) (fun _ _ h => usC_kc h) h3, map_via (f := ptC) (g := kcP) (fun _ _ h => ptC_kc h) h4]
theorem KyS.copy {dA : Nat → ClassId} {cx : CX} {G : va_W} {k k' : KY} (h : KyS dA cx G k) (h1 : k'.2.1 = k.2.1) (h2 : k'.2.2.1.2 = k.2.2.1.2) (h3 : k'.2.2.2.1.2.map usC = k.2.2.2.1.2.map usC) (h4 : k'.2.2.2.2.2.map ptC = k.2.2.2.2.2.map ptC) (h5 : KyIn dA G k') : KyS dA cx G k' := by
  obtain ⟨_, a2, a3, a4⟩ := h
  refine ⟨h5, by rw [h1, h2]; exact a2, fun u hu => ?_, fun u hu => ?_⟩
  · obtain ⟨v, hv, e⟩ := mem_via h3 hu
    have e1 : v.2.1 = u.2.1 := (congrArg Prod.fst e : (usC v).1 = (usC u).1)
    have e2 : v.2.2.2 = u.2.2.2 := (congrArg Prod.snd e : (usC v).2 = (usC u).2)
    rw [h1, ← e1, ← e2]; exact a3 v hv
  · obtain ⟨v, hv, e⟩ := mem_via h4 hu
    have e1 : v.2.1 = u.2.1 := (congrArg Prod.fst e : (ptC v).1 = (ptC u).1)
    have e2 : v.2.2.2 = u.2.2.2 := (congrArg Prod.snd e : (ptC v).2 = (ptC u).2)
    rw [h1, ← e1, ← e2]; exact a4 v hv


theorem sumL_tk {α : Type} (f : α → Nat) (l : List α) (i : Nat) : sumL f (l.take i) ≤ sumL f l := by
  have h : l = l.take i ++ l.drop i := (List.take_append_drop i l).symm
  have h2 : sumL f l = sumL f (l.take i) + sumL f (l.drop i) := by
    unfold sumL
    conv => lhs; rw [h]
    rw [List.map_append, List.sum_append]
  omega

