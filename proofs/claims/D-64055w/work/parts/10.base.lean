set_option maxRecDepth 100000
/-! my base: worlds that all contracts share -/
def upN {α : Type} (f : Nat → α) (k : Nat) (v : α) : Nat → α := fun j => bif Nat.beq j k then v else f j
theorem upN_s {α : Type} {f : Nat → α} {k : Nat} {v : α} : upN f k v k = v := by
  have h : Nat.beq k k = true := Nat.beq_refl k
  simp [upN, h]
theorem upN_n {α : Type} {f : Nat → α} {k j : Nat} {v : α} (h : j ≠ k) : upN f k v j = f j := by
  unfold upN
  cases hb : Nat.beq j k with
  | true => exact absurd (Nat.eq_of_beq_eq_true hb) h
  | false => rfl
theorem upN_if {α : Type} (f : Nat → α) (k : Nat) (v : α) (j : Nat) : upN f k v j = if j = k then v else f j := by
  by_cases h : j = k
  · subst h; rw [upN_s, if_pos rfl]
  · rw [upN_n h, if_neg h]
theorem upN_upd (f : Nat → Int32) (k : Nat) (v : Int32) : upd f k v = upN f k v := by
  funext j
  rw [upN_if]
  rfl
theorem upN_updL (f : Nat → Int64) (k : Nat) (v : Int64) : vp_updL f k v = upN f k v := by
  funext j
  rw [upN_if]
  rfl
theorem upN_va {α : Type} (f : Nat → α) (k : Nat) (v : α) : va_up f k v = upN f k v := by
  funext j
  rw [upN_if]
  rfl
theorem upN_map {α β : Type} (h : α → β) (f : Nat → α) (k : Nat) (v : α) : upN (fun j => h (f j)) k (h v) = fun j => h (upN f k v j) := by
  funext j
  rw [upN_if, upN_if]
  split <;> rfl
def bZ (b : Bool) : Int32 := bif b then 1 else 0
abbrev bA (B : Nat) : Nat → Prop := fun q => B ≤ q
/-! the classes -/
abbrev vwCl : List vw_C := [(RX1, TX1, 14), (RX2, TX2, 2), (RX4, TX4, 5), (RX5, TX5, 6), (RX6, TX6, 6), (RX7, TX7, 74), (RX9, TX9, 4), (RX10, TX10, 2), (RX11, TX11, 2), (RX12, TX12, 5), (RX13, TX13, 7), (RX14, TX14, 7), (RX15, TX15, 3), (RX16, TX16, 6), (RX17, TX17, 19), (RX18, TX18, 3), (RJ2, TJ2, 3), (RJ13, TJ13, 4), (RJ12, TJ12, 4)]
abbrev tyL (dA : Nat → ClassId) : List (ClassId × FieldType) := [(dA 0, .int), (dA 1, .byte), (dA 2, .long), (dA 3, .boolean), (dA 4, .object "java/lang/Object"), (dA 5, .object "java/lang/String"), (dA 6, .array .int)]
/-! the words that don't ride in lw_all -/
def lw_keep : Cond → Bool
  | .fieldLinkNest .. => true
  | .methodLinkNest .. => true
  | .castable .. => true
  | .declares .. => true
  | .privateMethod .. => true
  | _ => false
def NW (U : State) : Prop := ∀ w ∈ lw_tbl, lw_keep w = true → va_Nw w U
theorem NW.warm {s U : State} (hW : s.WarmedH U.vm) (h : NW s) : NW U := by
  intro w hw hk
  have h1 := h w hw hk
  cases w <;> first | exact va_Nw.warmF hW h1 | exact va_Nw.warmM hW h1 | exact va_Nw.warmC hW h1 | exact va_Nw.warmD hW h1 | exact Cond.privateMethod_warm hW h1 | (simp [lw_keep] at hk)
def Stab (B : Nat) (Z : State → Prop) : Prop := ∀ u U : State, u.WarmedH U.vm → (∀ q, q < B → U.heap[q]? = u.heap[q]?) → Z u → Z U
/-- the world at a contract's start and end -/
def Pr (D : va_G) (dA : Nat → ClassId) (B : Nat) (Z : State → Prop) (ws : va_W) (U : State) : Prop :=
  va_P D vwCl ws U.heap ∧ va_D (bA B) ws ∧ va_K D vwCl (tyL dA) U ∧ NW U ∧ Z U ∧ B ≤ U.heap.size
theorem Pr.blind {D : va_G} {dA : Nat → ClassId} {B : Nat} {Z : State → Prop} (hZ : Stab B Z) {ws : va_W} {U : State} (h : Pr D dA B Z ws U) (g : JFrame) (mk : MethodId) (a : Array Value) : Pr D dA B Z ws (U.calling g mk a) := by
  obtain ⟨h1, h2, h3, h4, h5, h6⟩ := h
  refine ⟨h1, h2, va_K.moved (u := U) (U := U.calling g mk a) (Vm.Alike.refl U.vm) h3, NW.warm (s := U) (U := U.calling g mk a) (State.WarmedH.refl U) h4, hZ U (U.calling g mk a) (State.WarmedH.refl U) (fun _ _ => rfl) h5, h6⟩
abbrev rmD (d mc ms : Nat) : Room := { frames := d, cells := mc, slots := ms, locals := 64 * d }
/-- what holds all through a method -/
def Cx (p : Program) (R : Room) (s : State) (m : MethodId) (args : Array Value) (c : Code) (cc : ByteArray) (nL : Nat) (own : String) (D : va_G) (dA : Nat → ClassId) (B : Nat) (Z : State → Prop) (d mc ms : Nat) : Prop :=
  p.tables.exec = Jvm.exec ∧ c.code = cc ∧ c.maxLocals = nL ∧ s.vm.findClass own = some m.cls ∧ (∀ w ∈ lw_all, w.before args s = true) ∧ va_K D vwCl (tyL dA) s ∧ NW s ∧ Z s ∧ Stab B Z ∧ B ≤ s.heap.size ∧ R.frames = d ∧ R.locals = 64 * d ∧ R.cells = mc ∧ R.slots = ms
/-- the world, now -/
def Wd (D : va_G) (B : Nat) (s : State) (ws : va_W) (H : Heap) (locs : List Loc) : Prop := va_P D vwCl ws H ∧ va_D (bA B) ws ∧ va_S (bA B) s.heap H locs
theorem Wd.hA {B : Nat} {s : State} (h : B ≤ s.heap.size) : ∀ q : Nat, s.heap.size ≤ q → bA B q := fun _ hq => Nat.le_trans h hq
/-- the world at a call -/
theorem Wd.pr {D : va_G} {dA : Nat → ClassId} {B : Nat} {Z : State → Prop} {s : State} {ws : va_W} {H : Heap} {locs : List Loc} (h : Wd D B s ws H locs) (hK : va_K D vwCl (tyL dA) s) (hN : NW s) (hz : Z s) (hZ : Stab B Z) (hB : B ≤ s.heap.size) (U : State) (hU : U.heap = H) (hW : s.WarmedH U.vm) : Pr D dA B Z ws U := by
  obtain ⟨h1, h2, h3⟩ := h
  subst hU
  exact ⟨h1, h2, va_K.moved hW.alike hK, hN.warm hW, hZ s U hW (fun q hq => h3.2.1 q (by omega) (Nat.not_le.mpr hq)) hz, Nat.le_trans hB h3.1⟩
/-- permuted worlds -/
theorem Wd.perm {D : va_G} {B : Nat} {s : State} {X Y F : va_W} {H : Heap} {locs : List Loc} (h : Wd D B s (X ++ F) H locs) (is : List Nat) (hs : is.map (fun i => X[i]?) = Y.map some) (hn : va_nd is = true) : Wd D B s (Y ++ F) H locs := ⟨h.1.part is hs, h.2.1.part is hn hs, h.2.2⟩
theorem va_P.perm {D : va_G} {cl : List vw_C} {ws ws' : va_W} {H : Heap} (hp : ws.Perm ws') (h : va_P D cl ws H) : va_P D cl ws' H := by
  intro k q hk
  obtain ⟨i, hi⟩ := List.getElem?_of_mem (hp.mem_iff.mpr (List.mem_of_getElem? hk))
  exact h i q hi
theorem va_D_iff {A : Nat → Prop} {ws : va_W} : va_D A ws ↔ (ws.map (fun q => q.1)).Nodup ∧ ∀ q ∈ ws, A q.1 := by
  constructor
  · intro h
    refine ⟨?_, fun q hq => ?_⟩
    · rw [List.nodup_iff_pairwise_ne, List.pairwise_iff_getElem]
      intro i j hi hj hij he
      simp only [List.length_map] at hi hj
      simp only [List.getElem_map] at he
      have := h.1 i j ws[i] ws[j] (List.getElem?_eq_getElem hi) (List.getElem?_eq_getElem hj) he
      omega
    · obtain ⟨i, hi⟩ := List.getElem?_of_mem hq
      exact h.2 i q hi
  · rintro ⟨h1, h2⟩
    refine ⟨fun i j p q hi hj he => ?_, fun k q hk => h2 q (List.mem_of_getElem? hk)⟩
    rw [List.nodup_iff_pairwise_ne, List.pairwise_iff_getElem] at h1
    obtain ⟨hi1, hi2⟩ := List.getElem?_eq_some_iff.mp hi
    obtain ⟨hj1, hj2⟩ := List.getElem?_eq_some_iff.mp hj
    rcases Nat.lt_trichotomy i j with h | h | h
    · exact absurd (by rw [List.getElem_map, List.getElem_map, hi2, hj2]; exact he) (h1 i j (by simpa using hi1) (by simpa using hj1) h)
    · exact h
    · exact absurd (by rw [List.getElem_map, List.getElem_map, hi2, hj2]; exact he.symm) (h1 j i (by simpa using hj1) (by simpa using hi1) h)
theorem va_D.perm {A : Nat → Prop} {ws ws' : va_W} (hp : ws.Perm ws') (h : va_D A ws) : va_D A ws' := by
  rw [va_D_iff] at h ⊢
  exact ⟨(hp.map _).nodup_iff.mp h.1, fun q hq => h.2 q (hp.mem_iff.mpr hq)⟩
theorem Wd.permL {D : va_G} {B : Nat} {s : State} {ws ws' : va_W} {H : Heap} {locs : List Loc} (hp : ws.Perm ws') (h : Wd D B s ws H locs) : Wd D B s ws' H locs := ⟨h.1.perm hp, h.2.1.perm hp, h.2.2⟩
theorem Pr.permL {D : va_G} {dA : Nat → ClassId} {B : Nat} {Z : State → Prop} {ws ws' : va_W} {U : State} (hp : ws.Perm ws') (h : Pr D dA B Z ws U) : Pr D dA B Z ws' U := ⟨h.1.perm hp, h.2.1.perm hp, h.2.2⟩
section NB
variable {p : Program} {l : Launch} {e : Env} {R : Room} {s : State} {m : MethodId} {args : Array Value} {below : List Frame} {meth : Method} {c : Code} {H : Heap} {locs : List Loc} {cells slots : Nat} {Q : State → Prop} {cc : ByteArray} {pc : Nat} {ls : Array Slot} {rest : List Value}
theorem n_top {x y : Int32} (ee : x = y) (k : W p l e R s m args below meth c H locs cells slots Q (F0 m pc ls (.int y :: rest))) : W p l e R s m args below meth c H locs cells slots Q (F0 m pc ls (.int x :: rest)) := by
  subst ee; exact k
theorem n_topl {x y : Int64} (ee : x = y) (k : W p l e R s m args below meth c H locs cells slots Q (F0 m pc ls (.long y :: rest))) : W p l e R s m args below meth c H locs cells slots Q (F0 m pc ls (.long x :: rest)) := by
  subst ee; exact k
theorem n_topv {x y : Value} (ee : x = y) (k : W p l e R s m args below meth c H locs cells slots Q (F0 m pc ls (y :: rest))) : W p l e R s m args below meth c H locs cells slots Q (F0 m pc ls (x :: rest)) := by
  subst ee; exact k
/-! compares of counted numbers -/
theorem n_icmp_ge (hexec : p.tables.exec = Jvm.exec) (hb : c.code = cc) {a b : Nat} (ha : a < 2147483648) (hb2 : b < 2147483648) {off : Int} {tgt : Nat} (hdg : decode cc pc = .ok (.if_icmp .ge off, 3)) (ht : (pc : Int) + off = (tgt : Int))
    (kt : b ≤ a → W p l e R s m args below meth c H locs cells slots Q (F0 m tgt ls rest)) (kf : a < b → W p l e R s m args below meth c H locs cells slots Q (F0 m (pc + 3) ls rest)) : W p l e R s m args below meth c H locs cells slots Q (F0 m pc ls (.int (nI b) :: .int (nI a) :: rest)) :=
  lv_icmp_ge hexec hb hdg ht (fun h => kt ((nI_leI hb2 ha).mp h)) (fun h => kf (Nat.not_le.mp fun q => h ((nI_leI hb2 ha).mpr q)))
theorem n_icmp_le (hexec : p.tables.exec = Jvm.exec) (hb : c.code = cc) {a b : Nat} (ha : a < 2147483648) (hb2 : b < 2147483648) {off : Int} {tgt : Nat} (hdg : decode cc pc = .ok (.if_icmp .le off, 3)) (ht : (pc : Int) + off = (tgt : Int))
    (kt : a ≤ b → W p l e R s m args below meth c H locs cells slots Q (F0 m tgt ls rest)) (kf : b < a → W p l e R s m args below meth c H locs cells slots Q (F0 m (pc + 3) ls rest)) : W p l e R s m args below meth c H locs cells slots Q (F0 m pc ls (.int (nI b) :: .int (nI a) :: rest)) :=
  lv_icmp_le hexec hb hdg ht (fun h => kt ((nI_leI ha hb2).mp h)) (fun h => kf (Nat.not_le.mp fun q => h ((nI_leI ha hb2).mpr q)))
theorem n_icmp_lt (hexec : p.tables.exec = Jvm.exec) (hb : c.code = cc) {a b : Nat} (ha : a < 2147483648) (hb2 : b < 2147483648) {off : Int} {tgt : Nat} (hdg : decode cc pc = .ok (.if_icmp .lt off, 3)) (ht : (pc : Int) + off = (tgt : Int))
    (kt : a < b → W p l e R s m args below meth c H locs cells slots Q (F0 m tgt ls rest)) (kf : b ≤ a → W p l e R s m args below meth c H locs cells slots Q (F0 m (pc + 3) ls rest)) : W p l e R s m args below meth c H locs cells slots Q (F0 m pc ls (.int (nI b) :: .int (nI a) :: rest)) :=
  lv_icmp_lt hexec hb hdg ht (fun h => kt ((nI_ltI ha hb2).mp h)) (fun h => kf (Nat.not_lt.mp fun q => h ((nI_ltI ha hb2).mpr q)))
theorem n_icmp_gt (hexec : p.tables.exec = Jvm.exec) (hb : c.code = cc) {a b : Nat} (ha : a < 2147483648) (hb2 : b < 2147483648) {off : Int} {tgt : Nat} (hdg : decode cc pc = .ok (.if_icmp .gt off, 3)) (ht : (pc : Int) + off = (tgt : Int))
    (kt : b < a → W p l e R s m args below meth c H locs cells slots Q (F0 m tgt ls rest)) (kf : a ≤ b → W p l e R s m args below meth c H locs cells slots Q (F0 m (pc + 3) ls rest)) : W p l e R s m args below meth c H locs cells slots Q (F0 m pc ls (.int (nI b) :: .int (nI a) :: rest)) :=
  lv_icmp_gt hexec hb hdg ht (fun h => kt ((nI_ltI hb2 ha).mp h)) (fun h => kf (Nat.not_lt.mp fun q => h ((nI_ltI hb2 ha).mpr q)))
theorem n_icmp_eq (hexec : p.tables.exec = Jvm.exec) (hb : c.code = cc) {a b : Nat} (ha : a < 2147483648) (hb2 : b < 2147483648) {off : Int} {tgt : Nat} (hdg : decode cc pc = .ok (.if_icmp .eq off, 3)) (ht : (pc : Int) + off = (tgt : Int))
    (kt : a = b → W p l e R s m args below meth c H locs cells slots Q (F0 m tgt ls rest)) (kf : a ≠ b → W p l e R s m args below meth c H locs cells slots Q (F0 m (pc + 3) ls rest)) : W p l e R s m args below meth c H locs cells slots Q (F0 m pc ls (.int (nI b) :: .int (nI a) :: rest)) :=
  lv_icmp_eq hexec hb hdg ht (fun h => kt ((nI_eq ha hb2).mp h)) (fun h => kf (fun q => h ((nI_eq ha hb2).mpr q)))
theorem n_icmp_ne (hexec : p.tables.exec = Jvm.exec) (hb : c.code = cc) {a b : Nat} (ha : a < 2147483648) (hb2 : b < 2147483648) {off : Int} {tgt : Nat} (hdg : decode cc pc = .ok (.if_icmp .ne off, 3)) (ht : (pc : Int) + off = (tgt : Int))
    (kt : a ≠ b → W p l e R s m args below meth c H locs cells slots Q (F0 m tgt ls rest)) (kf : a = b → W p l e R s m args below meth c H locs cells slots Q (F0 m (pc + 3) ls rest)) : W p l e R s m args below meth c H locs cells slots Q (F0 m pc ls (.int (nI b) :: .int (nI a) :: rest)) :=
  lv_icmp_ne hexec hb hdg ht (fun h => kt (fun q => h ((nI_eq ha hb2).mpr q))) (fun h => kf ((nI_eq ha hb2).mp h))
theorem n_if_eq (hexec : p.tables.exec = Jvm.exec) (hb : c.code = cc) {a : Nat} (ha : a < 2147483648) {off : Int} {tgt : Nat} (hdg : decode cc pc = .ok (.ifCond .eq off, 3)) (ht : (pc : Int) + off = (tgt : Int))
    (kt : a = 0 → W p l e R s m args below meth c H locs cells slots Q (F0 m tgt ls rest)) (kf : a ≠ 0 → W p l e R s m args below meth c H locs cells slots Q (F0 m (pc + 3) ls rest)) : W p l e R s m args below meth c H locs cells slots Q (F0 m pc ls (.int (nI a) :: rest)) :=
  lv_if_eq hexec hb hdg ht (fun h => kt ((nI_eq ha (by decide : (0:Nat) < 2147483648)).mp h)) (fun h => kf (fun q => h (by rw [q]; rfl)))
theorem n_if_ne (hexec : p.tables.exec = Jvm.exec) (hb : c.code = cc) {a : Nat} (ha : a < 2147483648) {off : Int} {tgt : Nat} (hdg : decode cc pc = .ok (.ifCond .ne off, 3)) (ht : (pc : Int) + off = (tgt : Int))
    (kt : a ≠ 0 → W p l e R s m args below meth c H locs cells slots Q (F0 m tgt ls rest)) (kf : a = 0 → W p l e R s m args below meth c H locs cells slots Q (F0 m (pc + 3) ls rest)) : W p l e R s m args below meth c H locs cells slots Q (F0 m pc ls (.int (nI a) :: rest)) :=
  lv_if_ne hexec hb hdg ht (fun h => kt (fun q => h (by rw [q]; rfl))) (fun h => kf ((nI_eq ha (by decide : (0:Nat) < 2147483648)).mp h))
theorem n_if_gt (hexec : p.tables.exec = Jvm.exec) (hb : c.code = cc) {a : Nat} (ha : a < 2147483648) {off : Int} {tgt : Nat} (hdg : decode cc pc = .ok (.ifCond .gt off, 3)) (ht : (pc : Int) + off = (tgt : Int))
    (kt : 0 < a → W p l e R s m args below meth c H locs cells slots Q (F0 m tgt ls rest)) (kf : a = 0 → W p l e R s m args below meth c H locs cells slots Q (F0 m (pc + 3) ls rest)) : W p l e R s m args below meth c H locs cells slots Q (F0 m pc ls (.int (nI a) :: rest)) :=
  lv_if_gt hexec hb hdg ht (fun h => kt ((nI_ltI (by decide : (0:Nat) < 2147483648) ha).mp h)) (fun h => kf (by
    rcases Nat.eq_zero_or_pos a with q | q
    · exact q
    · exact absurd ((nI_ltI (by decide : (0:Nat) < 2147483648) ha).mpr q) h))
theorem n_if_le (hexec : p.tables.exec = Jvm.exec) (hb : c.code = cc) {a : Nat} (ha : a < 2147483648) {off : Int} {tgt : Nat} (hdg : decode cc pc = .ok (.ifCond .le off, 3)) (ht : (pc : Int) + off = (tgt : Int))
    (kt : a = 0 → W p l e R s m args below meth c H locs cells slots Q (F0 m tgt ls rest)) (kf : 0 < a → W p l e R s m args below meth c H locs cells slots Q (F0 m (pc + 3) ls rest)) : W p l e R s m args below meth c H locs cells slots Q (F0 m pc ls (.int (nI a) :: rest)) :=
  lv_if_le hexec hb hdg ht (fun h => kt (by
    rcases Nat.eq_zero_or_pos a with q | q
    · exact q
    · exact absurd h (nI_nle q ha))) (fun h => kf (by
    rcases Nat.eq_zero_or_pos a with q | q
    · subst q; exact absurd (show nI 0 ≤ 0 by decide) h
    · exact q))
theorem n_if_lt (hexec : p.tables.exec = Jvm.exec) (hb : c.code = cc) {a : Nat} (ha : a < 2147483648) {off : Int} (hdg : decode cc pc = .ok (.ifCond .lt off, 3)) {tgt : Nat} (ht : (pc : Int) + off = (tgt : Int))
    (kf : W p l e R s m args below meth c H locs cells slots Q (F0 m (pc + 3) ls rest)) : W p l e R s m args below meth c H locs cells slots Q (F0 m pc ls (.int (nI a) :: rest)) :=
  lv_if_lt hexec hb hdg ht (fun h => absurd h (nI_pos ha)) (fun _ => kf)
theorem n_if_ge (hexec : p.tables.exec = Jvm.exec) (hb : c.code = cc) {a : Nat} (ha : a < 2147483648) {off : Int} (hdg : decode cc pc = .ok (.ifCond .ge off, 3)) {tgt : Nat} (ht : (pc : Int) + off = (tgt : Int))
    (kt : W p l e R s m args below meth c H locs cells slots Q (F0 m tgt ls rest)) : W p l e R s m args below meth c H locs cells slots Q (F0 m pc ls (.int (nI a) :: rest)) :=
  lv_if_ge hexec hb hdg ht (fun _ => kt) (fun h => absurd (nI_pos' ha) h)
/-! truths -/
theorem z_if_eq (hexec : p.tables.exec = Jvm.exec) (hb : c.code = cc) {b : Bool} {off : Int} {tgt : Nat} (hdg : decode cc pc = .ok (.ifCond .eq off, 3)) (ht : (pc : Int) + off = (tgt : Int))
    (kt : b = false → W p l e R s m args below meth c H locs cells slots Q (F0 m tgt ls rest)) (kf : b = true → W p l e R s m args below meth c H locs cells slots Q (F0 m (pc + 3) ls rest)) : W p l e R s m args below meth c H locs cells slots Q (F0 m pc ls (.int (bZ b) :: rest)) :=
  lv_if_eq hexec hb hdg ht (fun h => kt (by cases b with | false => rfl | true => exact absurd h (by decide))) (fun h => kf (by cases b with | true => rfl | false => exact absurd (show bZ false = 0 by decide) h))
theorem z_if_ne (hexec : p.tables.exec = Jvm.exec) (hb : c.code = cc) {b : Bool} {off : Int} {tgt : Nat} (hdg : decode cc pc = .ok (.ifCond .ne off, 3)) (ht : (pc : Int) + off = (tgt : Int))
    (kt : b = true → W p l e R s m args below meth c H locs cells slots Q (F0 m tgt ls rest)) (kf : b = false → W p l e R s m args below meth c H locs cells slots Q (F0 m (pc + 3) ls rest)) : W p l e R s m args below meth c H locs cells slots Q (F0 m pc ls (.int (bZ b) :: rest)) :=
  lv_if_ne hexec hb hdg ht (fun h => kt (by cases b with | true => rfl | false => exact absurd (show bZ false = 0 by decide) h)) (fun h => kf (by cases b with | false => rfl | true => exact absurd h (by decide)))
end NB
