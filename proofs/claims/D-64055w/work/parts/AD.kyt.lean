set_option maxRecDepth 100000
/-! a key of the ring, whole, with seals that know what they seal -/
def usM (kb ub : List Nat) : List Nat := keyMsg kb ++ ([180] ++ be 4 ub.length ++ ub)
def ptM (kb pb : List Nat) : List Nat := keyMsg kb ++ keyMsg pb
def SlT (dA : Nat → ClassId) (cx : CX) (G : va_W) (msg kb : List Nat) (sls : List SL) : Prop := ∀ y ∈ sls, SealT dA cx G y ∧ cx y.1 = (msg, kb)
def KyT (dA : Nat → ClassId) (e0 : Nat) (cx : CX) (G : va_W) (k : KY) : Prop := (∀ z ∈ kyW dA e0 k, z ∈ G) ∧ KyIn dA G k ∧ SlT dA cx G (keyMsg k.2.1.2.1) k.2.1.2.1 k.2.2.1.2 ∧ (∀ u ∈ k.2.2.2.1.2, SlT dA cx G (usM k.2.1.2.1 u.2.1) k.2.1.2.1 u.2.2.2) ∧ ∀ x ∈ k.2.2.2.2.2, SlT dA cx G (ptM k.2.1.2.1 x.2.1.2.1) k.2.1.2.1 x.2.2.2
theorem lW_ns {dA : Nat → ClassId} {e0 n : Nat} {x : LD} {z : Nat × va_E} (hz : z ∈ lW dA e0 x n) (fs : List Value) : z.2 ≠ .inr (14, fs) := by
  intro q
  obtain ⟨la, mo, o⟩ := x
  unfold lW alC at hz
  cases o with
  | none =>
    have hz := List.mem_singleton.mp hz
    rw [hz] at q
    have q2 : (16 : Nat) = 14 := congrArg Prod.fst (Sum.inr.inj q)
    exact absurd q2 (by decide)
  | some o =>
    rcases List.mem_cons.mp hz with hz | hz
    · rw [hz] at q
      have q2 : (16 : Nat) = 14 := congrArg Prod.fst (Sum.inr.inj q)
      exact absurd q2 (by decide)
    · have hz := List.mem_singleton.mp hz
      rw [hz] at q
      cases q
theorem kyW_ns {dA : Nat → ClassId} {e0 : Nat} {k : KY} {z : Nat × va_E} (hz : z ∈ kyW dA e0 k) (fs : List Value) : z.2 ≠ .inr (14, fs) := by
  unfold kyW kyW0 at hz
  rcases List.mem_append.mp hz with hz | hz
  · rcases List.mem_append.mp hz with hz | hz
    · intro q
      have hz := List.mem_singleton.mp hz
      rw [hz] at q
      have q2 : (6 : Nat) = 14 := congrArg Prod.fst (Sum.inr.inj q)
      exact absurd q2 (by decide)
    · rcases List.mem_append.mp hz with hz | hz
      · exact lW_ns hz fs
      · rcases List.mem_append.mp hz with hz | hz
        · exact lW_ns hz fs
        · exact lW_ns hz fs
  · rcases List.mem_append.mp hz with hz | hz
    · obtain ⟨u, _, hz⟩ := List.mem_flatMap.mp hz
      exact lW_ns hz fs
    · obtain ⟨u, _, hz⟩ := List.mem_flatMap.mp hz
      rcases List.mem_append.mp hz with hz | hz
      · intro q
        have hz := List.mem_singleton.mp hz
        rw [hz] at q
        have q2 : (8 : Nat) = 14 := congrArg Prod.fst (Sum.inr.inj q)
        exact absurd q2 (by decide)
      · exact lW_ns hz fs
theorem TR.slt {dA : Nat → ClassId} {cx : CX} {G G' : va_W} (h : TR dA cx G G') {msg kb : List Nat} {sls : List SL} (hs : SlT dA cx G msg kb sls) : SlT dA cx G' msg kb sls := fun y hy => ⟨h.2 y (hs y hy).1, (hs y hy).2⟩
theorem TR.ky {dA : Nat → ClassId} {cx : CX} {G G' : va_W} (h : TR dA cx G G') {e0 : Nat} {k : KY} (hk : KyT dA e0 cx G k) : KyT dA e0 cx G' k := by
  obtain ⟨h1, ⟨k1, k2, k3, k4, k5, k6⟩, h3, h4, h5⟩ := hk
  refine ⟨fun z hz => h.1 z.1 z.2 (h1 z hz) (fun fs => kyW_ns hz fs), ⟨h.num k1, ⟨k2.1, k2.2.1, k2.2.2.1, fun y hy => (h.2 y (h3 y hy).1).b⟩, k3, k4, fun u hu => ⟨h.us (k5 u hu).1, ⟨(k5 u hu).2.1, (k5 u hu).2.2.1, (k5 u hu).2.2.2.1, fun y hy => (h.2 y (h4 u hu y hy).1).b⟩⟩, fun u hu => ⟨h.num (k6 u hu).1, ⟨(k6 u hu).2.1, (k6 u hu).2.2.1, (k6 u hu).2.2.2.1, fun y hy => (h.2 y (h5 u hu y hy).1).b⟩⟩⟩, h.slt h3, fun u hu => h.slt (h4 u hu), fun u hu => h.slt (h5 u hu)⟩
theorem latC_ok {msg kb : List Nat} {lo hi t : Nat} {ls : List SL} {s : SL} (h : latC msg kb lo hi t ls = some s) : s ∈ ls ∧ sVain s.2 = false := by
  have key : ∀ (l2 : List SL) (o : Option SL), (∀ b, o = some b → b ∈ ls ∧ sVain b.2 = false) → (∀ y ∈ l2, y ∈ ls) → ∀ b, l2.foldl (latF msg kb lo hi t) o = some b → b ∈ ls ∧ sVain b.2 = false := by
    intro l2
    induction l2 with
    | nil => intro o ho _ b hb; exact ho b hb
    | cons y l2 ih =>
      intro o ho hl b hb
      refine ih (latF msg kb lo hi t o y) ?_ (fun z hz => hl z (List.mem_cons_of_mem _ hz)) b hb
      intro b9 h9
      unfold latF at h9
      split at h9
      · next q => rw [← Option.some.inj h9]; exact ⟨hl y List.mem_cons_self, cnt_nv q.2.1⟩
      · exact ho b9 h9
  exact key ls none (fun b hb => by cases hb) (fun y hy => hy) s h
def bndF (kb : List Nat) (t : Nat) (o : Option SL) (u : US) : Option SL := match latC (usM kb u.2.1) kb 16 19 t u.2.2.2 with
  | none => o
  | some s => if (o = none ∨ mdO o < mdN s.2) ∧ u.2.2.2.any (drpC (usM kb u.2.1) kb (mdN s.2) t) = false then some s else o
theorem bndF_n {kb : List Nat} {t : Nat} {o : Option SL} {u : US} (h : latC (usM kb u.2.1) kb 16 19 t u.2.2.2 = none) : bndF kb t o u = o := by unfold bndF; rw [h]
theorem bndF_s {kb : List Nat} {t : Nat} {o : Option SL} {u : US} {s : SL} (h : latC (usM kb u.2.1) kb 16 19 t u.2.2.2 = some s) : bndF kb t o u = if (o = none ∨ mdO o < mdN s.2) ∧ u.2.2.2.any (drpC (usM kb u.2.1) kb (mdN s.2) t) = false then some s else o := by unfold bndF; rw [h]
def bndC (k : KY) (t : Nat) : Option SL := k.2.2.2.1.2.foldl (bndF k.2.1.2.1 t) (latC (keyMsg k.2.1.2.1) k.2.1.2.1 31 31 t k.2.2.1.2)
