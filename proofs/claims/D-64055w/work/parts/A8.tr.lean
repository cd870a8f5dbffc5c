set_option maxRecDepth 100000
/-! seals remember whether they are true -/
theorem Wd.uniq {D : va_G} {B : Nat} {s : State} {ws : va_W} {H : Heap} {locs : List Loc} (h : Wd D B s ws H locs) {a : Nat} {x y : va_E} (ha : (a, x) ∈ ws) (hb : (a, y) ∈ ws) : x = y := Classical.byContradiction (fun q => addr_ne h ha hb q rfl)
theorem bal_inj {dA : Nat → ClassId} {l k : List Nat} (hl : byt l) (hk : byt k) (h : bal dA l = bal dA k) : l = k := by
  have hlen : l.length = k.length := Classical.byContradiction (fun q => bal_ne q h)
  unfold bal bar at h
  have h2 := congrArg (fun z : ClassId × vp_A => z.2.2) (Sum.inl.inj h)
  have h3 := Sum.inl.inj h2
  refine List.ext_getElem hlen (fun j h4 h5 => ?_)
  have h6 : gD l j = gD k j := sb_inj (byt_gD hl j) (byt_gD hk j) (congrFun h3 j)
  unfold gD at h6
  rw [List.getD_eq_getElem?_getD, List.getD_eq_getElem?_getD, List.getElem?_eq_getElem h4, List.getElem?_eq_getElem h5] at h6
  exact h6
theorem mem_out {α : Type} {z c : α} {s t : List α} (h : z ∈ s ++ c :: t) (hn : z ≠ c) : z ∈ s ++ t := by
  rcases List.mem_append.mp h with h | h
  · exact List.mem_append_left _ h
  · rcases List.mem_cons.mp h with h | h
    · exact absurd h hn
    · exact List.mem_append_right _ h
theorem mem_in {α : Type} {z c : α} {s t E : List α} (h : z ∈ s ++ t) : z ∈ (s ++ c :: t) ++ E := by
  rcases List.mem_append.mp h with h | h
  · exact List.mem_append_left _ (List.mem_append_left _ h)
  · exact List.mem_append_left _ (List.mem_append_right _ (List.mem_cons_of_mem _ h))
def trI (b : Bool) : Int32 := if b = true then 1 else -1
abbrev CX : Type := Nat → List Nat × List Nat
/-- a seal whose truth, if it is known, is right; cx tells by its place what it seals and by which key -/
def SealT (dA : Nat → ClassId) (cx : CX) (G : va_W) (x : SL) : Prop := ∃ t, SealIn dA G x t ∧ (t = 0 ∨ t = trI (trueS (cx x.1).1 x.2 (cx x.1).2))
theorem SealT.b {dA : Nat → ClassId} {cx : CX} {G : va_W} {x : SL} (h : SealT dA cx G x) : SealB dA G x := by
  obtain ⟨t, h1, _⟩ := h
  exact ⟨t, h1⟩
/-- G' is G, but that seals may know more -/
def TR (dA : Nat → ClassId) (cx : CX) (G G' : va_W) : Prop := (∀ a e, (a, e) ∈ G → (∀ fs, e ≠ .inr (14, fs)) → (a, e) ∈ G') ∧ ∀ y, SealT dA cx G y → SealT dA cx G' y
theorem TR.rf {dA : Nat → ClassId} {cx : CX} {G : va_W} : TR dA cx G G := ⟨fun _ _ h _ => h, fun _ h => h⟩
theorem TR.trans {dA : Nat → ClassId} {cx : CX} {G G1 G2 : va_W} (h : TR dA cx G G1) (k : TR dA cx G1 G2) : TR dA cx G G2 := ⟨fun a e h1 h2 => k.1 a e (h.1 a e h1 h2) h2, fun y hy => k.2 y (h.2 y hy)⟩
theorem TR.app {dA : Nat → ClassId} {cx : CX} {G E : va_W} : TR dA cx G (G ++ E) := ⟨fun _ _ h _ => List.mem_append_left _ h, fun y hy => by
  obtain ⟨t, h1, h2⟩ := hy
  exact ⟨t, h1.sub (fun b q hq => List.mem_append_left _ hq) (fun a fs hq => List.mem_append_left _ hq), h2⟩⟩
theorem TR.ba {dA : Nat → ClassId} {cx : CX} {G G' : va_W} (h : TR dA cx G G') {b : List Nat} {q : Nat} (hq : (q, bal dA b) ∈ G) : (q, bal dA b) ∈ G' := h.1 _ _ hq (fun fs z => by cases z)
theorem TR.ob {dA : Nat → ClassId} {cx : CX} {G G' : va_W} (h : TR dA cx G G') {a ci : Nat} {fs : List Value} (hc : ci ≠ 14) (hq : (a, .inr (ci, fs)) ∈ G) : (a, .inr (ci, fs)) ∈ G' := h.1 _ _ hq (fun fs' z => hc (congrArg Prod.fst (Sum.inr.inj z)))
theorem TR.num {dA : Nat → ClassId} {cx : CX} {G G' : va_W} (h : TR dA cx G G') {n : NBr} (hn : NumIn dA G n) : NumIn dA G' n := hn.sub (fun _ _ hq => h.ba hq) (fun _ _ hq => h.ob (by decide) hq)
/-- the truth of a seal is put -/
theorem TR.set {dA : Nat → ClassId} {cx : CX} {G s t E : va_W} {x : SL} {t0 v : Int32} (hu : ∀ a e e', (a, e) ∈ G → (a, e') ∈ G → e = e') {fs : List Value} (hG : G = s ++ (x.1, .inr (14, fs)) :: t) (hx : SealIn dA G x t0) (hv : v = trI (trueS (cx x.1).1 x.2 (cx x.1).2)) : TR dA cx G ((s ++ (x.1, .inr (14, fs.set 15 (.int v))) :: t) ++ E) := by
  have hsub : ∀ a e, (a, e) ∈ G → (∀ fs, e ≠ .inr (14, fs)) → (a, e) ∈ (s ++ (x.1, .inr (14, fs.set 15 (.int v))) :: t) ++ E := by
    intro a e h1 h2
    rw [hG] at h1
    exact mem_in (mem_out h1 (fun z => h2 fs (congrArg Prod.snd z)))
  refine ⟨hsub, fun y hy => ?_⟩
  have hb : ∀ b q, (q, bal dA b) ∈ G → (q, bal dA b) ∈ (s ++ (x.1, .inr (14, fs.set 15 (.int v))) :: t) ++ E := fun b q hq => hsub _ _ hq (fun fs z => by cases z)
  obtain ⟨t', hy1, hy2⟩ := hy
  have hcx : (x.1, .inr (14, fs)) ∈ G := by rw [hG]; exact List.mem_append_right _ List.mem_cons_self
  by_cases q : y.1 = x.1
  · have hxx := hx
    have hyy := hy1
    obtain ⟨p0, ba, sn, r1, r2, r3, w1, w2, w3, k0, k1, k2, k3, k4, k5⟩ := hxx
    obtain ⟨p9, ba9, sn9, r19, r29, r39, w19, w29, w39, j0, j1, j2, j3, j4, j5⟩ := hyy
    have e1 := congrArg Prod.snd (Sum.inr.inj (hu _ _ _ k0 hcx))
    dsimp only at e1
    rw [q] at j0
    have e2 := congrArg Prod.snd (Sum.inr.inj (hu _ _ _ j0 k0))
    have e3 : ba9 = ba := by
      have := congrArg (fun l : List Value => l[0]?) e2
      dsimp only [List.getElem?_cons_zero] at this
      exact Value.ref.inj (Option.some.inj this)
    rw [e3] at j1
    have e4 : y.2 = x.2 := bal_inj p9.1 p0.1 (hu _ _ _ j1 k1)
    have e5 : y = x := Prod.ext q e4
    rw [e5]
    refine ⟨v, ⟨p0, ba, sn, r1, r2, r3, w1, w2, w3, ?_, hb _ _ k1, hb _ _ k2, k3.sub hb, k4.sub hb, k5.sub hb⟩, Or.inr hv⟩
    rw [← e1]
    exact List.mem_append_left _ (List.mem_append_right _ List.mem_cons_self)
  · refine ⟨t', ?_, hy2⟩
    obtain ⟨p9, ba9, sn9, r19, r29, r39, w19, w29, w39, j0, j1, j2, j3, j4, j5⟩ := hy1
    refine ⟨p9, ba9, sn9, r19, r29, r39, w19, w29, w39, ?_, hb _ _ j1, hb _ _ j2, j3.sub hb, j4.sub hb, j5.sub hb⟩
    rw [hG] at j0
    exact mem_in (mem_out j0 (fun z => q (Prod.mk.inj z).1))
theorem Blk_nil {gb : Nat → Nat} (h : ∀ j, j < 64 → gb j < 256) : Blk gb [] := ⟨fun j hj => absurd hj (Nat.not_lt_zero _), h⟩
/-- instanceof: what is not castable -/
def ZN (Z : State → Prop) : Prop := (∀ U : State, Z U → va_Nc "SignetRing$Key" "SignetRing$User" U) ∧ (∀ U : State, Z U → va_Nc "SignetRing$Key" "SignetRing$Part" U) ∧ ∀ U : State, Z U → va_Nc "SignetRing$Part" "SignetRing$User" U
section IN9
variable {p : Program} {l : Launch} {e : Env} {R : Room} {s : State} {m : MethodId} {args : Array Value} {below : List Frame} {meth : Method} {c : Code} {H : Heap} {locs : List Loc} {cells slots : Nat} {Q : State → Prop} {cc : ByteArray} {pc : Nat} {ls : Array Slot} {rest : List Value}
variable {nL : Nat} {own : String} {D : va_G} {dA : Nat → ClassId} {B : Nat} {Z : State → Prop} {d mc ms : Nat} {ws ws' F : va_W}
theorem o_instS (C : Cx p R s m args c cc nL own D dA B Z d mc ms) (h : Wd D B s ws H locs) {a ci N idx : Nat} {fs : List Value} {RC : String} {T : u_T} (hm : (a, .inr (ci, fs)) ∈ ws) (hc : vwCl[ci]? = some (RC, T, N)) (hlink : Cond.classLink own idx RC ∈ lw_all) (hdg : decode cc pc = .ok (.instanceof idx, 3))
    (kk : W p l e R s m args below meth c H locs cells slots Q (F0 m (pc + 3) ls (.int (bZ true) :: rest))) : W p l e R s m args below meth c H locs cells slots Q (F0 m pc ls (.ref a :: rest)) := by
  have hR := o_recv C h hm hc
  obtain ⟨hx, hb, hml, hown, hts, hK, hN, hz, hZ, hB, hRf, hRl, hRc, hRs⟩ := C
  exact va_instS hx hb hown (hts _ hlink) (hK.1 ci _ hc).2 hR hdg kk
theorem o_instN (C : Cx p R s m args c cc nL own D dA B Z d mc ms) (h : Wd D B s ws H locs) {a ci N idx : Nat} {fs : List Value} {RC nm : String} {T : u_T} (hm : (a, .inr (ci, fs)) ∈ ws) (hc : vwCl[ci]? = some (RC, T, N)) (hlink : Cond.classLink own idx nm ∈ lw_all) (hno : ∀ U : State, Z U → va_Nc RC nm U) (hdg : decode cc pc = .ok (.instanceof idx, 3))
    (kk : W p l e R s m args below meth c H locs cells slots Q (F0 m (pc + 3) ls (.int (bZ false) :: rest))) : W p l e R s m args below meth c H locs cells slots Q (F0 m pc ls (.ref a :: rest)) := by
  have hR := o_recv C h hm hc
  obtain ⟨hx, hb, hml, hown, hts, hK, hN, hz, hZ, hB, hRf, hRl, hRc, hRs⟩ := C
  exact va_instNo hx hb hown (hts _ hlink) (hno s hz) hR hdg kk
end IN9
