set_option maxRecDepth 100000
/-! a world whose members all stayed is the old one and more -/
theorem sub_perm {α : Type} : ∀ {F F' : List α}, F.Nodup → (∀ z ∈ F, z ∈ F') → ∃ E, F'.Perm (F ++ E)
  | [], F', _, _ => ⟨F', List.Perm.refl _⟩
  | a :: F, F', hn, hs => by
    obtain ⟨s, t, e⟩ := List.append_of_mem (hs a List.mem_cons_self)
    obtain ⟨ha, hn2⟩ := List.nodup_cons.mp hn
    have h2 : ∀ z ∈ F, z ∈ s ++ t := by
      intro z hz
      have h3 := hs z (List.mem_cons_of_mem _ hz)
      rw [e] at h3
      rcases List.mem_append.mp h3 with q | q
      · exact List.mem_append_left _ q
      · rcases List.mem_cons.mp q with q | q
        · rw [q] at hz; exact absurd hz ha
        · exact List.mem_append_right _ q
    obtain ⟨E, hE⟩ := sub_perm hn2 h2
    refine ⟨E, ?_⟩
    rw [e]
    exact List.perm_middle.trans (List.Perm.cons a hE)
theorem Wd.nodup {D : va_G} {B : Nat} {s : State} {ws : va_W} {H : Heap} {locs : List Loc} (h : Wd D B s ws H locs) : ws.Nodup := by
  unfold List.Nodup
  rw [List.pairwise_iff_getElem]
  intro i j hi hj hij e
  have := h.2.1.1 i j ws[i] ws[j] (List.getElem?_eq_getElem hi) (List.getElem?_eq_getElem hj) (by rw [e])
  omega
theorem Wd.grow {D : va_G} {B : Nat} {s : State} {X X' F F' : va_W} {H H' : Heap} {locs locs' : List Loc} (h0 : Wd D B s (X ++ F) H locs) (hs : ∀ z ∈ F, z ∈ F') (h : Wd D B s (X' ++ F') H' locs') : ∃ E, F'.Perm (F ++ E) ∧ Wd D B s (X' ++ (F ++ E)) H' locs' := by
  have hn := (List.nodup_append.mp h0.nodup).2.1
  obtain ⟨E, hE⟩ := sub_perm hn hs
  exact ⟨E, hE, h.permL (hE.append_left X')⟩
theorem Wd.grow0 {D : va_G} {B : Nat} {s : State} {F F' : va_W} {H H' : Heap} {locs locs' : List Loc} (h0 : Wd D B s F H locs) (hs : ∀ z ∈ F, z ∈ F') (h : Wd D B s F' H' locs') : ∃ E, F'.Perm (F ++ E) ∧ Wd D B s (F ++ E) H' locs' := by
  obtain ⟨E, hE⟩ := sub_perm h0.nodup hs
  exact ⟨E, hE, h.permL hE⟩
def withO (s o : Option (List Nat)) : Option (List Nat) := match s with
  | some b => some b
  | none => o
theorem cW_with (l : Launch) (D : va_G) (dA : Nat → ClassId) (B : Nat) (Z : State → Prop) (hZ : Stab B Z) (O F : va_W) (x : NBr) (b : Option Nat) (o : Option (List Nat)) (hN : NumIn dA F x) (hb : ROb dA F b o) (ho : secB o) :
    Ct (S := NBr × va_W) l D dA B Z yX16_with cX16_with 3 (some ((.object "SignetRing$Numbers"))) 3 2 26 [.ref x.1, va_rf b] (O ++ F) (fun u => u.1.2 = (x.2.1, withO x.2.2 o) ∧ NumIn dA (F ++ u.2) u.1) (fun u => some (.ref u.1.1)) (fun u => O ++ (F ++ u.2)) := by
  have hN9 : NumIn dA (O ++ F) x := hN.sub (fun b q hq => List.mem_append_right _ hq) (fun a fs hq => List.mem_append_right _ hq)
  have hN8 : NumIn dA (F ++ []) x := by rw [List.append_nil]; exact hN
  cases hs : x.2.2 with
  | some z =>
    refine (Ct.map (c16_with l D dA B Z hZ (O ++ F) x b hN9 (Or.inl (by rw [hs]; exact fun q => by cases q))) (fun u _ => ⟨(x, []), ⟨?_, hN8⟩, rfl, by rw [List.append_nil]⟩)).mono (Nat.le_refl _) (by decide) (by decide)
    show x.2 = (x.2.1, some z)
    rw [← hs]
  | none =>
    cases o with
    | none =>
      have hb : b = none := hb
      refine (Ct.map (c16_with l D dA B Z hZ (O ++ F) x b hN9 (Or.inr hb)) (fun u _ => ⟨(x, []), ⟨?_, hN8⟩, rfl, by rw [List.append_nil]⟩)).mono (Nat.le_refl _) (by decide) (by decide)
      show x.2 = (x.2.1, none)
      rw [← hs]
    | some lb =>
      obtain ⟨q, hq, hm⟩ := hb
      rw [hq]
      obtain ⟨h1, h2⟩ := ho lb rfl
      exact Ct.map (c16_withM l D dA B Z hZ O F x q lb hN hs hm h1 h2) (fun u hu => ⟨((u.1, x.2.1, some lb), u.2), ⟨rfl, hu⟩, rfl, rfl⟩)
theorem addD_nodup {B : Nat} {ws : va_W} (h : va_D (bA B) ws) : ws.Nodup := by
  unfold List.Nodup
  rw [List.pairwise_iff_getElem]
  intro i j hi hj hij e
  have := h.1 i j ws[i] ws[j] (List.getElem?_eq_getElem hi) (List.getElem?_eq_getElem hj) (by rw [e])
  omega
/-- a contract told of a world in another order -/
theorem Ct.permW {S S' : Type} {l : Launch} {D : va_G} {dA : Nat → ClassId} {B : Nat} {Z : State → Prop} {y : MethodName} {cc : ByteArray} {maxL : Nat} {ret : Option FieldType} {d mc ms : Nat} {av : List Value} {ws ws' : va_W} {post : S → Prop} {rf : S → Option Value} {wf : S → va_W} {post' : S' → Prop} {rf' : S' → Option Value} {wf' : S' → va_W} (h : Ct l D dA B Z y cc maxL ret d mc ms av ws post rf wf) (hp : ws'.Perm ws) (hm : ws'.Nodup → ∀ u, post u → ∃ u', post' u' ∧ rf' u' = rf u ∧ (wf u).Perm (wf' u')) : Ct l D dA B Z y cc maxL ret d mc ms av ws' post' rf' wf' := by
  intro p e ha hf hc s m args below h1 h2 h3 h4
  have hnd : ws'.Nodup := addD_nodup h3.2.2.1
  obtain ⟨n, o, g1, g2, g3, ⟨⟨u, k1, k2, k3⟩, k4⟩, g5⟩ := h p e ha hf hc s m args below h1 h2 ⟨h3.1, h3.2.permL hp⟩ h4
  obtain ⟨u', q1, q2, q3⟩ := hm hnd u k2
  exact ⟨n, o, g1, g2, g3, ⟨⟨u', by rw [q2]; exact k1, q1, k3.permL q3⟩, k4⟩, g5⟩
theorem CtX.permW {S S' SX SX' : Type} {l : Launch} {D : va_G} {dA : Nat → ClassId} {B : Nat} {Z : State → Prop} {y : MethodName} {cc : ByteArray} {maxL : Nat} {ret : Option FieldType} {d mc ms : Nat} {av : List Value} {ws ws' : va_W} {post : S → Prop} {rf : S → Option Value} {wf : S → va_W} {px : SX → Prop} {ax : SX → Nat} {en : SX → String} {wx : SX → va_W} {post' : S' → Prop} {rf' : S' → Option Value} {wf' : S' → va_W} {px' : SX' → Prop} {ax' : SX' → Nat} {en' : SX' → String} {wx' : SX' → va_W} (h : CtX l D dA B Z y cc maxL ret d mc ms av ws post rf wf px ax en wx) (hp : ws'.Perm ws) (hm : ws'.Nodup → ∀ u, post u → ∃ u', post' u' ∧ rf' u' = rf u ∧ (wf u).Perm (wf' u')) (hx : ws'.Nodup → ∀ u, px u → ∃ u', px' u' ∧ ax' u' = ax u ∧ en' u' = en u ∧ (wx u).Perm (wx' u')) : CtX l D dA B Z y cc maxL ret d mc ms av ws' post' rf' wf' px' ax' en' wx' := by
  intro p e ha hf hc s m args below h1 h2 h3 h4
  have hnd : ws'.Nodup := addD_nodup h3.2.2.1
  obtain ⟨n, o, g1, g2, g3, g4⟩ := h p e ha hf hc s m args below h1 h2 ⟨h3.1, h3.2.permL hp⟩ h4
  refine ⟨n, o, g1, g2, g3, ?_⟩
  rcases g4 with ⟨⟨⟨u, k1, k2, k3⟩, k4⟩, g5⟩ | ⟨q, e1, E, ce, L, ⟨⟨u, k1, k2, k3, k4⟩, k5⟩, g5⟩
  · obtain ⟨u', q1, q2, q3⟩ := hm hnd u k2
    exact Or.inl ⟨⟨⟨u', by rw [q2]; exact k1, q1, k3.permL q3⟩, k4⟩, g5⟩
  · obtain ⟨u', q1, q2, q3, q4⟩ := hx hnd u k3
    exact Or.inr ⟨q, e1, E, ce, L, ⟨⟨u', by rw [q3]; exact k1, by rw [q2]; exact k2, q1, k4.permL q4⟩, k5⟩, g5⟩
