set_option maxRecDepth 100000

def ixO (n : Nat) (x : Int32) : Option Nat := if ¬ x < 0 ∧ ¬ nI n ≤ x then some x.toInt.toNat else none
theorem ixO_s {n : Nat} {x : Int32} {k : Nat} (h : ¬ x < 0 ∧ ¬ nI n ≤ x) (hk : x.toInt.toNat = k) : ixO n x = some k := by unfold ixO; rw [if_pos h, hk]
theorem ixO_n {n : Nat} {x : Int32} (h : ¬ (¬ x < 0 ∧ ¬ nI n ≤ x)) : ixO n x = none := by unfold ixO; rw [if_neg h]
def thC (Ry : List KY) (x y : Int32) : Option (KY × Option Nat) := match ixO Ry.length x with
  | none => none
  | some i => match Ry[i]? with
    | none => none
    | some k => if y < -1 ∨ nI k.2.2.2.2.2.length ≤ y then none else some (k, if y < 0 then none else some y.toInt.toNat)
theorem thC_n {Ry : List KY} {x y : Int32} (h : ixO Ry.length x = none) : thC Ry x y = none := by unfold thC; rw [h]
theorem thC_k {Ry : List KY} {x y : Int32} {i : Nat} {k : KY} (h : ixO Ry.length x = some i) (hk : Ry[i]? = some k) : thC Ry x y = if y < -1 ∨ nI k.2.2.2.2.2.length ≤ y then none else some (k, if y < 0 then none else some y.toInt.toNat) := by
  unfold thC; rw [h]
  show (match Ry[i]? with | none => none | some k => if y < -1 ∨ nI k.2.2.2.2.2.length ≤ y then none else some (k, if y < 0 then none else some y.toInt.toNat)) = _
  rw [hk]
theorem m1_eq {y : Int32} (h1 : ¬ y < -1) (h2 : y < 0) : y = -1 := by
  rw [Int32.lt_iff_toInt_lt] at h1 h2
  apply Int32.toInt_inj.mp
  have e1 : (-1 : Int32).toInt = -1 := by decide
  have e2 : (0 : Int32).toInt = 0 := by decide
  rw [e1] at h1 ⊢
  rw [e2] at h2
  omega
def numC (t : KY × Option Nat) : NBr := match t.2 with
  | none => t.1.2.1
  | some j => match t.1.2.2.2.2.2[j]? with
    | none => t.1.2.1
    | some p => p.2.1
theorem numC_n (k : KY) : numC (k, none) = k.2.1 := rfl
theorem numC_s {k : KY} {j : Nat} {p : PTt} (h : k.2.2.2.2.2[j]? = some p) : numC (k, some j) = p.2.1 := by
  unfold numC
  show (match k.2.2.2.2.2[j]? with | none => k.2.1 | some p => p.2.1) = _
  rw [h]
/-- a key of a ring and one of its things -/
def ThIs (Ry : List KY) (t : KY × Option Nat) (y : Int32) : Prop := t.1 ∈ Ry ∧ ((t.2 = none ∧ y = -1) ∨ ∃ j p, t.2 = some j ∧ y = nI j ∧ j < 8 ∧ t.1.2.2.2.2.2[j]? = some p)
theorem ThIs.num {Ry : List KY} {t : KY × Option Nat} {y : Int32} (h : ThIs Ry t y) {dA : Nat → ClassId} {G : va_W} (hK : KyIn dA G t.1) : NumIn dA G (numC t) := by
  obtain ⟨k, o⟩ := t
  obtain ⟨_, h2⟩ := h
  rcases h2 with ⟨q, _⟩ | ⟨j, p, q, _, _, hp⟩
  · have q : o = none := q
    subst q; exact hK.1
  · have q : o = some j := q
    subst q
    rw [numC_s hp]
    exact (hK.2.2.2.2.2 p (List.mem_of_getElem? hp)).1
def keyVC (k : KY) (y : Nat) : Int64 :=
  if y = 0 then lN (kMade k.2.1.2.1) else if y = 1 then (bitsI (gD (kN k.2.1.2.1) 0) (kN k.2.1.2.1).length).toInt64
  else if y = 2 then lN k.2.2.2.1.2.length else if y = 3 then lN k.2.2.2.2.2.length
  else if y = 4 then lN (k.2.2.1.2.length + sumL (fun u : US => u.2.2.2.length) k.2.2.2.1.2 + sumL (fun u : PTt => u.2.2.2.length) k.2.2.2.2.2) else if k.2.1.2.2 = none then lN 0 else lN 1
def keyC (Ry : List KY) (x y : Int32) : Nat × Int64 := match ixO Ry.length x with
  | none => (1, lN 0)
  | some i => if y < 0 ∨ nI 5 < y then (1, lN 0) else (0, match Ry[i]? with | none => lN 0 | some k => keyVC k y.toInt.toNat)
theorem keyC_n {Ry : List KY} {x y : Int32} (h : ixO Ry.length x = none) : keyC Ry x y = (1, lN 0) := by unfold keyC; rw [h]
theorem keyC_b {Ry : List KY} {x y : Int32} {i : Nat} (h : ixO Ry.length x = some i) (h1 : y < 0 ∨ nI 5 < y) : keyC Ry x y = (1, lN 0) := by unfold keyC; rw [h]; show (if y < 0 ∨ nI 5 < y then _ else _) = _; rw [if_pos h1]
theorem keyC_s {Ry : List KY} {x y : Int32} {i j : Nat} {k : KY} (h : ixO Ry.length x = some i) (hk : Ry[i]? = some k) (h1 : ¬ y < 0 ∧ ¬ nI 5 < y) (hj : y.toInt.toNat = j) : keyC Ry x y = (0, keyVC k j) := by
  unfold keyC; rw [h]; show (if y < 0 ∨ nI 5 < y then _ else _) = _
  rw [if_neg (fun q => q.elim h1.1 h1.2), hk, hj]
def prtC (Ry : List KY) (x y z : Int32) : Nat × Nat := match thC Ry x y with
  | none => (1, 0)
  | some t => if ¬ z < 0 ∧ ¬ nI 20 ≤ z then (0, gD (sha1 (keyMsg (numC t).2.1)) z.toInt.toNat) else (1, 0)
theorem prtC_n {Ry : List KY} {x y z : Int32} (h : thC Ry x y = none) : prtC Ry x y z = (1, 0) := by unfold prtC; rw [h]
theorem prtC_s {Ry : List KY} {x y z : Int32} {t : KY × Option Nat} (h : thC Ry x y = some t) : prtC Ry x y z = if ¬ z < 0 ∧ ¬ nI 20 ≤ z then (0, gD (sha1 (keyMsg (numC t).2.1)) z.toInt.toNat) else (1, 0) := by unfold prtC; rw [h]


theorem sumL_bd {α : Type} {f : α → Nat} {b : Nat} : ∀ {l : List α}, (∀ x ∈ l, f x ≤ b) → sumL f l ≤ b * l.length
  | [], _ => Nat.le_refl _
  | a :: l, h => by
    have h1 := h a List.mem_cons_self
    have h2 := sumL_bd (f := f) (b := b) (l := l) (fun x hx => h x (List.mem_cons_of_mem _ hx))
    show f a + sumL f l ≤ b * (l.length + 1)
    rw [Nat.mul_add]
    omega
theorem KyIn.seals_le {dA : Nat → ClassId} {G : va_W} {k : KY} (h : KyIn dA G k) : k.2.2.1.2.length + sumL (fun u : US => u.2.2.2.length) k.2.2.2.1.2 + sumL (fun u : PTt => u.2.2.2.length) k.2.2.2.2.2 ≤ 300 := by
  obtain ⟨h1, h2, h3, h4, h5, h6⟩ := h
  have a1 := h2.2.2.1
  have a2 := h3.2.2
  have a3 := h4.2.2
  have a4 : sumL (fun u : US => u.2.2.2.length) k.2.2.2.1.2 ≤ 16 * k.2.2.2.1.2.length := sumL_bd (fun u hu => (h5 u hu).2.2.2.1)
  have a5 : sumL (fun u : PTt => u.2.2.2.length) k.2.2.2.2.2 ≤ 16 * k.2.2.2.2.2.length := sumL_bd (fun u hu => (h6 u hu).2.2.2.1)
  omega

set_option maxHeartbeats 400000 in
set_option maxRecDepth 100000 in
theorem c1_want (l : Launch) (D : va_G) (dA : Nat → ClassId) (B : Nat) (Z : State → Prop) (hZ : Stab B Z) (ws : va_W) (b : Bool) (hlt : l.stackTraces = false) (hzx : ZX B Z) :
    CtX (S := Unit) (SX := Nat) l D dA B Z yX1_want cX1_want 1 none 6 1 6 [.int (bZ b)] (ws) (fun _ => b = true) (fun _ => none) (fun _ => ws) (fun _ => b = false) (fun u => u) (fun _ => "java/lang/IllegalArgumentException") (fun _ => ws) := by
  refine CtX.mk2 (by decide) (Nat.le_of_ble_eq_true rfl) hZ ?_
  intro p e R s m args below meth c ls Q C hr hlocks hin hex hQ hl h
  have C0 := C
  obtain ⟨hx, hb, hml, hown, hts, -⟩ := C0
  have hl : lv_has ls 1 [(0, .int (bZ b))] := hl
  refine lv_iload_n hx hb dX1_want_0 rfl (lv_at hl 0 rfl) ?_
  refine z_if_ne (tgt := 12) hx hb dX1_want_1 (by decide) (fun c1 => ?_) (fun c1 => ?_)
  · subst hQ
    refine vy_ret ?_
    exact ret_v C hr hlocks h () c1 rfl rfl (by omega) (by omega) dX1_want_12
  · subst hQ
    exact x_throw0 C (fun x hx9 => (hex x hx9).elim) hlocks hlt hzx h hl (by decide +kernel) (by decide +kernel) q1451 q159 (ex_IAE C hzx) eg_IAE (fun q9 => q9) (fun _ => rfl) (fun _ => rfl) (fun q9 => c1) (fun _ => rfl) (by decide) (Nat.le_of_ble_eq_true rfl) (by omega) (by omega) dX1_want_4 dX1_want_7 dX1_want_8 dX1_want_11
set_option maxHeartbeats 400000 in
set_option maxRecDepth 100000 in
theorem c1_index (l : Launch) (D : va_G) (dA : Nat → ClassId) (B : Nat) (Z : State → Prop) (hZ : Stab B Z) (ws : va_W) (b : Bool) (hlt : l.stackTraces = false) (hzx : ZX B Z) :
    CtX (S := Unit) (SX := Nat) l D dA B Z yX1_index cX1_index 1 none 6 1 6 [.int (bZ b)] (ws) (fun _ => b = true) (fun _ => none) (fun _ => ws) (fun _ => b = false) (fun u => u) (fun _ => "java/lang/IndexOutOfBoundsException") (fun _ => ws) := by
  refine CtX.mk2 (by decide) (Nat.le_of_ble_eq_true rfl) hZ ?_
  intro p e R s m args below meth c ls Q C hr hlocks hin hex hQ hl h
  have C0 := C
  obtain ⟨hx, hb, hml, hown, hts, -⟩ := C0
  have hl : lv_has ls 1 [(0, .int (bZ b))] := hl
  refine lv_iload_n hx hb dX1_index_0 rfl (lv_at hl 0 rfl) ?_
  refine z_if_ne (tgt := 12) hx hb dX1_index_1 (by decide) (fun c1 => ?_) (fun c1 => ?_)
  · subst hQ
    refine vy_ret ?_
    exact ret_v C hr hlocks h () c1 rfl rfl (by omega) (by omega) dX1_index_12
  · subst hQ
    exact x_throw0 C (fun x hx9 => (hex x hx9).elim) hlocks hlt hzx h hl (by decide +kernel) (by decide +kernel) q1683 q167 (ex_IOB C hzx) eg_IOB (fun q9 => q9) (fun _ => rfl) (fun _ => rfl) (fun q9 => c1) (fun _ => rfl) (by decide) (Nat.le_of_ble_eq_true rfl) (by omega) (by omega) dX1_index_4 dX1_index_7 dX1_index_8 dX1_index_11
set_option maxHeartbeats 400000 in
set_option maxRecDepth 100000 in
theorem c1_keyOf (l : Launch) (D : va_G) (dA : Nat → ClassId) (B : Nat) (Z : State → Prop) (hZ : Stab B Z) (ws : va_W) (A : Nat → Nat) (sz dc e0 : Nat) (rl : LD) (Ry : List KY) (x : Int32) (hlt : l.stackTraces = false) (hzx : ZX B Z) (hme : meC A sz dc rl.1 ∈ ws) (hRw : ∀ z ∈ ringW dA e0 rl Ry, z ∈ ws) (hRk : LsR rl Ry) (hKy : ∀ k ∈ Ry, KyIn dA ws k) :
    CtX (S := Nat × KY) (SX := Nat) l D dA B Z yX1_keyOf cX1_keyOf 2 (some ((.object "SignetRing$Key"))) 7 1 6 [.ref (A 24), .int x] (ws) (fun u => ixO Ry.length x = some u.1 ∧ Ry[u.1]? = some u.2) (fun u => some (.ref u.2.1)) (fun _ => ws) (fun _ => ixO Ry.length x = none) (fun u => u) (fun _ => "java/lang/IndexOutOfBoundsException") (fun _ => ws) := by
  refine CtX.mk2 (by decide) (Nat.le_of_ble_eq_true rfl) hZ ?_
  intro p e R s m args below meth c ls Q C hr hlocks hin hex hQ hl h
  have C0 := C
  obtain ⟨hx, hb, hml, hown, hts, -⟩ := C0
  have hl : lv_has ls 2 [(0, .ref (A 24)), (1, .int x)] := hl
  have hLI : LIn dA e0 ws rl (Ry.map Prod.fst) := rl_lin hRk hRw
  obtain ⟨ed9, hcl9⟩ := hLI.cell
  have hR16 := hRk.2.2
  have jn : ∀ (tjn : Bool) (cc cs : Nat), (tjn = decide (¬ x < 0 ∧ ¬ nI Ry.length ≤ x)) → (cc ≤ 0) → (cs ≤ 0) → ∀ (H : Heap) (locs : List Loc), Wd D B s (ws) H locs → ∀ (ls : Array Slot), lv_has ls 2 [(0, .ref (A 24)), (1, .int x)] → W p l e R s m args below meth c H locs cc cs Q (F0 m 20 ls [.int (bZ tjn)]) := by
    intro tjn  cc cs  hjn hcc hcs H locs h ls hl
    refine call_SX (As := [.int (bZ tjn)]) (rest := []) (n := 1) C h (c1_index l D dA B Z hZ ws tjn hlt hzx) (lw_S q1680 q1681 q129 q1682) (by decide +kernel) (by decide) (by decide) rfl hl rfl (Nat.le_of_ble_eq_true rfl) dX1_keyOf_20 (by omega) (fun ux ce9 H locs hbx h hce9 hcv9 hcl9 => ?_) (fun _ H locs hb9 h => ?_)
    · subst hQ
      exact thr_out C hex hlocks h ux rfl rfl (ixO_n (fun q9 => by rw [hjn, decide_eq_true q9] at hbx; cases hbx)) rfl hce9 hcv9 hcl9 (by omega) (by omega)
    have hpp : ¬ x < 0 ∧ ¬ nI Ry.length ≤ x := of_decide_eq_true (hjn ▸ hb9)
    obtain ⟨i, hi, hxi, hti⟩ := i_lt (n := Ry.length) (by omega) hpp.1 (Int32.not_le.mp hpp.2)
    obtain ⟨k, hk⟩ := at_lt (l := Ry) hi
    have hkm := List.mem_of_getElem? hk
    have hkw : ∀ z ∈ kyW dA e0 k, z ∈ ws := fun z hz => hRw z (ky_ring hkm hz)
    refine lv_aload_n hx hb dX1_keyOf_23 rfl (lv_at hl 0 rfl) ?_
    refine o_get C h (RC := RX1) (T := TX1) (N := 14) (hme) rfl in_X1 4 (by decide) q312 rfl (v := .ref rl.1) rfl dX1_keyOf_24 ?_
    refine lv_iload_n hx hb dX1_keyOf_27 rfl (lv_at hl 1 rfl) ?_
    refine n_top (y := nI i) hxi ?_
    refine call_VR (As := [.int (nI i)]) (rest := []) (n := 1) C h (cA_get l D dA B Z hZ _ e0 rl _ i k.1 hLI (at_map hk)) (lw_V q364 q365 q366 q133 q367) (by decide +kernel) (o_recv C h (RC := RJ2) (T := TJ2) (N := 3) (hcl9) rfl) (by decide) (by decide) rfl hl rfl (Nat.le_of_ble_eq_true rfl) dX1_keyOf_28 (by omega) (fun _ H locs _ h => ?_)
    refine o_cast C h (RC := RX9) (T := TX9) (N := 4) (hkw _ kyc_in) rfl q378 dX1_keyOf_31 ?_
    subst hQ
    refine vy_ret ?_
    exact ret_a C hr (Or.inl ⟨_, rfl⟩) hlocks h (i, k) (⟨ixO_s hpp hti, hk⟩) (Or.inr ⟨_, rfl⟩) rfl rfl (by omega) (by omega) dX1_keyOf_34
  refine lv_iload_n hx hb dX1_keyOf_0 rfl (lv_at hl 1 rfl) ?_
  refine lv_if_lt (tgt := 19) hx hb dX1_keyOf_1 (by decide) (fun c1 => ?_) (fun c1 => ?_)
  · refine lv_iconst (v := nI 0) hx hb dX1_keyOf_19 (by decide) ?_
    refine n_top (y := bZ false) rfl ?_
    exact jn false _ _ (by symm; exact decide_eq_false (fun q9 => by first | exact q9.1 c1 | exact q9.2 c12)) (by omega) (by omega) _ _ h _ (lv_sub hl [0, 1] rfl)
  · refine lv_iload_n hx hb dX1_keyOf_4 rfl (lv_at hl 1 rfl) ?_
    refine lv_aload_n hx hb dX1_keyOf_5 rfl (lv_at hl 0 rfl) ?_
    refine o_get C h (RC := RX1) (T := TX1) (N := 14) (hme) rfl in_X1 4 (by decide) q312 rfl (v := .ref rl.1) rfl dX1_keyOf_6 ?_
    refine call_VR (As := []) (rest := [.int x]) (n := 0) C h (cA_size l D dA B Z hZ _ e0 rl _ hLI) (lw_V q360 q361 q362 q133 q363) (by decide +kernel) (o_recv C h (RC := RJ2) (T := TJ2) (N := 3) (hcl9) rfl) (by decide) (by decide) rfl hl rfl (Nat.le_of_ble_eq_true rfl) dX1_keyOf_9 (by omega) (fun _ H locs _ h => ?_)
    refine n_top (y := nI Ry.length) (by rw [List.length_map]) ?_
    refine lv_icmp_ge (tgt := 19) hx hb dX1_keyOf_12 (by decide) (fun c12 => ?_) (fun c12 => ?_)
    · refine lv_iconst (v := nI 0) hx hb dX1_keyOf_19 (by decide) ?_
      refine n_top (y := bZ false) rfl ?_
      exact jn false _ _ (by symm; exact decide_eq_false (fun q9 => by first | exact q9.1 c1 | exact q9.2 c12)) (by omega) (by omega) _ _ h _ (lv_sub hl [0, 1] rfl)
    · refine lv_iconst (v := nI 1) hx hb dX1_keyOf_15 (by decide) ?_
      refine lv_goto (tgt := 20) hx hb dX1_keyOf_16 (by decide) ?_
      refine n_top (y := bZ true) rfl ?_
      exact jn true _ _ ((decide_eq_true ⟨c1, c12⟩).symm) (by omega) (by omega) _ _ h _ (lv_sub hl [0, 1] rfl)
set_option maxHeartbeats 400000 in
set_option maxRecDepth 100000 in
theorem c1_keyOf2 (l : Launch) (D : va_G) (dA : Nat → ClassId) (B : Nat) (Z : State → Prop) (hZ : Stab B Z) (ws : va_W) (A : Nat → Nat) (sz dc e0 : Nat) (rl : LD) (Ry : List KY) (x y : Int32) (hlt : l.stackTraces = false) (hzx : ZX B Z) (hme : meC A sz dc rl.1 ∈ ws) (hRw : ∀ z ∈ ringW dA e0 rl Ry, z ∈ ws) (hRk : LsR rl Ry) (hKy : ∀ k ∈ Ry, KyIn dA ws k) :
    CtX (S := KY × Option Nat) (SX := Nat) l D dA B Z yX1_keyOf_2 cX1_keyOf_2 4 (some ((.object "SignetRing$Key"))) 8 2 12 [.ref (A 24), .int x, .int y] (ws) (fun u => thC Ry x y = some u ∧ ThIs Ry u y) (fun u => some (.ref u.1.1)) (fun _ => ws) (fun _ => thC Ry x y = none) (fun u => u) (fun _ => "java/lang/IndexOutOfBoundsException") (fun _ => ws) := by
  refine CtX.mk2 (by decide) (Nat.le_of_ble_eq_true rfl) hZ ?_
  intro p e R s m args below meth c ls Q C hr hlocks hin hex hQ hl h
  have C0 := C
  obtain ⟨hx, hb, hml, hown, hts, -⟩ := C0
  have hl : lv_has ls 4 [(0, .ref (A 24)), (1, .int x), (2, .int y)] := hl
  refine lv_aload_n hx hb dX1_keyOf_2_0 rfl (lv_at hl 0 rfl) ?_
  refine lv_iload_n hx hb dX1_keyOf_2_1 rfl (lv_at hl 1 rfl) ?_
  refine call_VX (As := [.int x]) (rest := []) (n := 1) C h (c1_keyOf l D dA B Z hZ ws A sz dc e0 rl Ry x hlt hzx hme hRw hRk hKy) (lw_V q1676 q1678 qs37 q129 q1679) (by decide +kernel) (o_recv C h (RC := RX1) (T := TX1) (N := 14) (hme) rfl) (by decide) (by decide) rfl hl rfl (Nat.le_of_ble_eq_true rfl) dX1_keyOf_2_2 (by omega) (fun ux ce9 H locs hux h hce9 hcv9 hcl9 => ?_) (fun u8 H locs hu8 h => ?_)
  · subst hQ
    exact thr_out C hex hlocks h ux rfl rfl (thC_n hux) rfl hce9 hcv9 hcl9 (by omega) (by omega)
  obtain ⟨i, k⟩ := u8
  obtain ⟨hix, hk⟩ := hu8
  dsimp only at hix hk
  have hkm := List.mem_of_getElem? hk
  have hkw : ∀ z ∈ kyW dA e0 k, z ∈ ws := fun z hz => hRw z (ky_ring hkm hz)
  have hpl := (hKy k hkm).pl hkw
  obtain ⟨edp, hcpl⟩ := hpl.cell
  have hp8 := (hKy k hkm).2.2.2.1.2.2
  show W p l e R s m args below meth c H locs (0 + 1) (0 + 6) Q (F0 m 5 ls [.ref k.1])
  have jn : ∀ (tjn : Bool) (cc cs : Nat), (tjn = decide (¬ y < -1 ∧ ¬ nI k.2.2.2.2.2.length ≤ y)) → (cc ≤ 1) → (cs ≤ 6) → ∀ (H : Heap) (locs : List Loc), Wd D B s (ws) H locs → ∀ (ls : Array Slot), lv_has ls 4 [(0, .ref (A 24)), (1, .int x), (2, .int y), (3, .ref k.1)] → W p l e R s m args below meth c H locs cc cs Q (F0 m 27 ls [.int (bZ tjn)]) := by
    intro tjn  cc cs  hjn hcc hcs H locs h ls hl
    refine call_SX (As := [.int (bZ tjn)]) (rest := []) (n := 1) C h (c1_index l D dA B Z hZ ws tjn hlt hzx) (lw_S q1680 q1681 q129 q1682) (by decide +kernel) (by decide) (by decide) rfl hl rfl (Nat.le_of_ble_eq_true rfl) dX1_keyOf_2_27 (by omega) (fun ux ce9 H locs hbx h hce9 hcv9 hcl9 => ?_) (fun _ H locs hb9 h => ?_)
    · subst hQ
      exact thr_out C hex hlocks h ux rfl rfl (by rw [thC_k hix hk, if_pos]; exact Classical.byContradiction (fun q9 => by rw [hjn, decide_eq_true (not_or.mp q9)] at hbx; cases hbx)) rfl hce9 hcv9 hcl9 (by omega) (by omega)
    have hpp : ¬ y < -1 ∧ ¬ nI k.2.2.2.2.2.length ≤ y := of_decide_eq_true (hjn ▸ hb9)
    have hth : thC Ry x y = some (k, if y < 0 then none else some y.toInt.toNat) := by rw [thC_k hix hk, if_neg (fun q9 => q9.elim hpp.1 hpp.2)]
    have hTI : ThIs Ry (k, if y < 0 then none else some y.toInt.toNat) y := by
      refine ⟨hkm, ?_⟩
      by_cases q9 : y < 0
      · rw [if_pos q9]; exact Or.inl ⟨rfl, m1_eq hpp.1 q9⟩
      · rw [if_neg q9]
        obtain ⟨j, hj, hyj, htj⟩ := i_lt (n := k.2.2.2.2.2.length) (by omega) q9 (Int32.not_le.mp hpp.2)
        obtain ⟨p9, hp9⟩ := at_lt (l := k.2.2.2.2.2) hj
        exact Or.inr ⟨j, p9, by rw [htj], hyj, by omega, hp9⟩
    refine lv_aload_n hx hb dX1_keyOf_2_30 rfl (lv_at hl 3 rfl) ?_
    subst hQ
    refine vy_ret ?_
    exact ret_a C hr (Or.inl ⟨_, rfl⟩) hlocks h (k, if y < 0 then none else some y.toInt.toNat) (⟨hth, hTI⟩) (Or.inr ⟨_, rfl⟩) rfl rfl (by omega) (by omega) dX1_keyOf_2_31
  refine lv_astore_n (lv' := [(3, .ref k.1), (0, .ref (A 24)), (1, .int x), (2, .int y)]) hx hb dX1_keyOf_2_5 rfl hl (by decide) rfl (fun ls hl => ?_)
  refine lv_iload_n hx hb dX1_keyOf_2_6 rfl (lv_at hl 3 rfl) ?_
  refine lv_iconst (v := -1) hx hb dX1_keyOf_2_7 (by decide) ?_
  refine lv_icmp_lt (tgt := 26) hx hb dX1_keyOf_2_8 (by decide) (fun c8 => ?_) (fun c8 => ?_)
  · refine lv_iconst (v := nI 0) hx hb dX1_keyOf_2_26 (by decide) ?_
    refine n_top (y := bZ false) rfl ?_
    exact jn false _ _ (by symm; exact decide_eq_false (fun q9 => by first | exact q9.1 c8 | exact q9.2 c19)) (by omega) (by omega) _ _ h _ (lv_sub hl [1, 2, 3, 0] rfl)
  · refine lv_iload_n hx hb dX1_keyOf_2_11 rfl (lv_at hl 3 rfl) ?_
    refine lv_aload_n hx hb dX1_keyOf_2_12 rfl (lv_at hl 0 rfl) ?_
    refine o_get C h (RC := RX9) (T := TX9) (N := 4) (hkw _ kyc_in) rfl in_X9 3 (by decide) q401 rfl (v := .ref k.2.2.2.2.1.1) rfl dX1_keyOf_2_13 ?_
    refine call_VR (As := []) (rest := [.int y]) (n := 0) C h (cA_size l D dA B Z hZ _ e0 k.2.2.2.2.1 _ hpl) (lw_V q360 q361 q362 q133 q363) (by decide +kernel) (o_recv C h (RC := RJ2) (T := TJ2) (N := 3) (hcpl) rfl) (by decide) (by decide) rfl hl rfl (Nat.le_of_ble_eq_true rfl) dX1_keyOf_2_16 (by omega) (fun _ H locs _ h => ?_)
    refine n_top (y := nI k.2.2.2.2.2.length) (by rw [List.length_map]) ?_
    refine lv_icmp_ge (tgt := 26) hx hb dX1_keyOf_2_19 (by decide) (fun c19 => ?_) (fun c19 => ?_)
    · refine lv_iconst (v := nI 0) hx hb dX1_keyOf_2_26 (by decide) ?_
      refine n_top (y := bZ false) rfl ?_
      exact jn false _ _ (by symm; exact decide_eq_false (fun q9 => by first | exact q9.1 c8 | exact q9.2 c19)) (by omega) (by omega) _ _ h _ (lv_sub hl [1, 2, 3, 0] rfl)
    · refine lv_iconst (v := nI 1) hx hb dX1_keyOf_2_22 (by decide) ?_
      refine lv_goto (tgt := 27) hx hb dX1_keyOf_2_23 (by decide) ?_
      refine n_top (y := bZ true) rfl ?_
      exact jn true _ _ ((decide_eq_true ⟨c8, c19⟩).symm) (by omega) (by omega) _ _ h _ (lv_sub hl [1, 2, 3, 0] rfl)
set_option maxHeartbeats 400000 in
set_option maxRecDepth 100000 in
theorem c1_keys (l : Launch) (D : va_G) (dA : Nat → ClassId) (B : Nat) (Z : State → Prop) (hZ : Stab B Z) (ws : va_W) (A : Nat → Nat) (sz dc e0 : Nat) (rl : LD) (Ry : List KY) (hme : meC A sz dc rl.1 ∈ ws) (hRw : ∀ z ∈ ringW dA e0 rl Ry, z ∈ ws) (hRk : LsR rl Ry) (hKy : ∀ k ∈ Ry, KyIn dA ws k) :
    Ct (S := Unit) l D dA B Z yX1_keys cX1_keys 1 (some .int) 2 0 0 [.ref (A 24)] (ws) (fun _ => True) (fun _ => some (.int (nI Ry.length))) (fun _ => ws) := by
  refine Ct.mk2 (by decide) (Nat.le_of_ble_eq_true rfl) hZ ?_
  intro p e R s m args below meth c ls Q C hr hlocks hin hQ hl h
  have C0 := C
  obtain ⟨hx, hb, hml, hown, hts, -⟩ := C0
  have hl : lv_has ls 1 [(0, .ref (A 24))] := hl
  have hLI : LIn dA e0 ws rl (Ry.map Prod.fst) := rl_lin hRk hRw
  obtain ⟨ed9, hcl9⟩ := hLI.cell
  have hR16 := hRk.2.2
  refine lv_aload_n hx hb dX1_keys_0 rfl (lv_at hl 0 rfl) ?_
  refine o_get C h (RC := RX1) (T := TX1) (N := 14) (hme) rfl in_X1 4 (by decide) q312 rfl (v := .ref rl.1) rfl dX1_keys_1 ?_
  refine call_VR (As := []) (rest := []) (n := 0) C h (cA_size l D dA B Z hZ _ e0 rl _ hLI) (lw_V q360 q361 q362 q133 q363) (by decide +kernel) (o_recv C h (RC := RJ2) (T := TJ2) (N := 3) (hcl9) rfl) (by decide) (by decide) rfl hl rfl (Nat.le_of_ble_eq_true rfl) dX1_keys_4 (by omega) (fun _ H locs _ h => ?_)
  refine n_top (y := nI Ry.length) (by rw [List.length_map]) ?_
  subst hQ
  exact ret_i C hr hlocks h () trivial rfl rfl (by omega) (by omega) dX1_keys_7
set_option maxHeartbeats 400000 in
set_option maxRecDepth 100000 in
theorem c1_key (l : Launch) (D : va_G) (dA : Nat → ClassId) (B : Nat) (Z : State → Prop) (hZ : Stab B Z) (ws : va_W) (A : Nat → Nat) (sz dc e0 : Nat) (rl : LD) (Ry : List KY) (x y : Int32) (hlt : l.stackTraces = false) (hzx : ZX B Z) (hme : meC A sz dc rl.1 ∈ ws) (hRw : ∀ z ∈ ringW dA e0 rl Ry, z ∈ ws) (hRk : LsR rl Ry) (hKy : ∀ k ∈ Ry, KyIn dA ws k) :
    CtX (S := Unit) (SX := Nat) l D dA B Z yX1_key cX1_key 4 (some .long) 8 2 12 [.ref (A 24), .int x, .int y] (ws) (fun _ => (keyC Ry x y).1 = 0) (fun _ => some (.long (keyC Ry x y).2)) (fun _ => ws) (fun _ => (keyC Ry x y).1 = 1) (fun u => u) (fun _ => "java/lang/IndexOutOfBoundsException") (fun _ => ws) := by
  refine CtX.mk2 (by decide) (Nat.le_of_ble_eq_true rfl) hZ ?_
  intro p e R s m args below meth c ls Q C hr hlocks hin hex hQ hl h
  have C0 := C
  obtain ⟨hx, hb, hml, hown, hts, -⟩ := C0
  have hl : lv_has ls 4 [(0, .ref (A 24)), (1, .int x), (2, .int y)] := hl
  refine lv_aload_n hx hb dX1_key_0 rfl (lv_at hl 0 rfl) ?_
  refine lv_iload_n hx hb dX1_key_1 rfl (lv_at hl 1 rfl) ?_
  refine call_VX (As := [.int x]) (rest := []) (n := 1) C h (c1_keyOf l D dA B Z hZ ws A sz dc e0 rl Ry x hlt hzx hme hRw hRk hKy) (lw_V q1676 q1678 qs37 q129 q1679) (by decide +kernel) (o_recv C h (RC := RX1) (T := TX1) (N := 14) (hme) rfl) (by decide) (by decide) rfl hl rfl (Nat.le_of_ble_eq_true rfl) dX1_key_2 (by omega) (fun ux ce9 H locs hux h hce9 hcv9 hcl9 => ?_) (fun u8 H locs hu8 h => ?_)
  · subst hQ
    exact thr_out C hex hlocks h ux rfl rfl (by rw [keyC_n hux]) rfl hce9 hcv9 hcl9 (by omega) (by omega)
  obtain ⟨i, k⟩ := u8
  obtain ⟨hix, hk⟩ := hu8
  dsimp only at hix hk
  have hkm := List.mem_of_getElem? hk
  have hkw : ∀ z ∈ kyW dA e0 k, z ∈ ws := fun z hz => hRw z (ky_ring hkm hz)
  have hKk := hKy k hkm
  have hpl := hKk.pl hkw
  obtain ⟨edp, hcpl⟩ := hpl.cell
  have hul := hKk.ul hkw
  obtain ⟨edu, hcul⟩ := hul.cell
  have hp8 := hKk.2.2.2.1.2.2
  have hu8n := hKk.2.2.1.2.2
  show W p l e R s m args below meth c H locs (0 + 1) (0 + 6) Q (F0 m 5 ls [.ref k.1])
  obtain ⟨⟨hnbn, hnln, hnkn, hnsn⟩, ban, ann, aen, apn, san, hncn, hnban, hnann, hnaen, hnapn, hnsan⟩ := hKk.1
  have jn : ∀ (tjn : Bool) (cc cs : Nat), (tjn = decide (¬ y < 0 ∧ ¬ nI 5 < y)) → (cc ≤ 1) → (cs ≤ 6) → ∀ (H : Heap) (locs : List Loc), Wd D B s (ws) H locs → ∀ (ls : Array Slot), lv_has ls 4 [(0, .ref (A 24)), (1, .int x), (2, .int y), (3, .ref k.1)] → W p l e R s m args below meth c H locs cc cs Q (F0 m 20 ls [.int (bZ tjn)]) := by
    intro tjn  cc cs  hjn hcc hcs H locs h ls hl
    refine call_SX (As := [.int (bZ tjn)]) (rest := []) (n := 1) C h (c1_index l D dA B Z hZ ws tjn hlt hzx) (lw_S q1680 q1681 q129 q1682) (by decide +kernel) (by decide) (by decide) rfl hl rfl (Nat.le_of_ble_eq_true rfl) dX1_key_20 (by omega) (fun ux ce9 H locs hbx h hce9 hcv9 hcl9 => ?_) (fun _ H locs hb9 h => ?_)
    · subst hQ
      exact thr_out C hex hlocks h ux rfl rfl (by rw [keyC_b hix]; exact Classical.byContradiction (fun q9 => by rw [hjn, decide_eq_true (not_or.mp q9)] at hbx; cases hbx)) rfl hce9 hcv9 hcl9 (by omega) (by omega)
    have hpp : ¬ y < 0 ∧ ¬ nI 5 < y := of_decide_eq_true (hjn ▸ hb9)
    obtain ⟨j, hj, hyj, htj⟩ := i_le (n := 5) (by omega) hpp.1 (Int32.not_lt.mp hpp.2)
    have hks := keyC_s hix hk hpp htj
    refine lv_iload_n hx hb dX1_key_23 rfl (lv_at hl 2 rfl) ?_
    rcases (show j = 0 ∨ 0 < j by omega) with q0 | q0
    · refine n_top (y := nI 0) (by rw [hyj, q0]) ?_
      refine lv_tableIn (x := nI 0) (off := 36) (tgt := 60) hx hb dX1_key_24 (by decide) (by decide) (by decide) (by decide) ?_
      refine lv_aload_n hx hb dX1_key_60 rfl (lv_at hl 3 rfl) ?_
      refine o_get C h (RC := RX9) (T := TX9) (N := 4) (hkw _ kyc_in) rfl in_X9 1 (by decide) q397 rfl (v := .ref k.2.1.1) rfl dX1_key_61 ?_
      refine o_get C h (RC := RX16) (T := TX16) (N := 6) (hncn) rfl in_X16 1 (by decide) q1150 rfl (v := .long (lN (kMade k.2.1.2.1))) rfl dX1_key_64 ?_
      refine lv_goto (tgt := 129) hx hb dX1_key_67 (by decide) ?_
      subst hQ
      have hfin : keyC Ry x y = (0, lN (kMade k.2.1.2.1)) := by
        rw [hks, q0]
        unfold keyVC
        rw [if_pos rfl]
      refine vy_ret ?_
      exact ret_l C hr hlocks h () (by rw [hfin]) (by rw [hfin]) rfl (by omega) (by omega) dX1_key_129
    rcases (show j = 1 ∨ 1 < j by omega) with q1 | q1
    · refine n_top (y := nI 1) (by rw [hyj, q1]) ?_
      refine lv_tableIn (x := nI 1) (off := 46) (tgt := 70) hx hb dX1_key_24 (by decide) (by decide) (by decide) (by decide) ?_
      refine lv_aload_n hx hb dX1_key_70 rfl (lv_at hl 3 rfl) ?_
      refine o_get C h (RC := RX9) (T := TX9) (N := 4) (hkw _ kyc_in) rfl in_X9 1 (by decide) q397 rfl (v := .ref k.2.1.1) rfl dX1_key_71 ?_
      refine o_get C h (RC := RX16) (T := TX16) (N := 6) (hncn) rfl in_X16 2 (by decide) q1152 rfl (v := .ref ann) rfl dX1_key_74 ?_
      have hkp := keyOk_nums hnkn hnbn (by omega)
      have hkn0 : 0 < (kN k.2.1.2.1).length := by have := hkp.2.2.1; omega
      have hkn1 := hkp.2.2.2.1
      have hknb : byt (kN k.2.1.2.1) := hkp.1
      refine call_S (As := [.ref ann]) (rest := []) (n := 1) C h (c1_bitsOf l D dA B Z hZ _ ann (kN k.2.1.2.1).length (gD (kN k.2.1.2.1)) hnann hkn0 (by omega) (byt_gD hknb 0)) (lw_S q1139 q1134 q129 q1135) (by decide +kernel) (by decide) (by decide) rfl hl rfl (Nat.le_of_ble_eq_true rfl) dX1_key_77 (by omega) (fun _ H locs _ h => ?_)
      refine lv_i2l (v := (bitsI (gD (kN k.2.1.2.1) 0) (kN k.2.1.2.1).length).toInt64) hx hb dX1_key_80 rfl ?_
      refine lv_goto (tgt := 129) hx hb dX1_key_81 (by decide) ?_
      subst hQ
      have hfin : keyC Ry x y = (0, (bitsI (gD (kN k.2.1.2.1) 0) (kN k.2.1.2.1).length).toInt64) := by
        rw [hks, q1]
        unfold keyVC
        rw [if_neg (by decide), if_pos rfl]
      refine vy_ret ?_
      exact ret_l C hr hlocks h () (by rw [hfin]) (by rw [hfin]) rfl (by omega) (by omega) dX1_key_129
    rcases (show j = 2 ∨ 2 < j by omega) with q2 | q2
    · refine n_top (y := nI 2) (by rw [hyj, q2]) ?_
      refine lv_tableIn (x := nI 2) (off := 60) (tgt := 84) hx hb dX1_key_24 (by decide) (by decide) (by decide) (by decide) ?_
      refine lv_aload_n hx hb dX1_key_84 rfl (lv_at hl 3 rfl) ?_
      refine o_get C h (RC := RX9) (T := TX9) (N := 4) (hkw _ kyc_in) rfl in_X9 2 (by decide) q399 rfl (v := .ref k.2.2.2.1.1.1) rfl dX1_key_85 ?_
      refine call_VR (As := []) (rest := []) (n := 0) C h (cA_size l D dA B Z hZ _ e0 k.2.2.2.1.1 _ hul) (lw_V q360 q361 q362 q133 q363) (by decide +kernel) (o_recv C h (RC := RJ2) (T := TJ2) (N := 3) (hcul) rfl) (by decide) (by decide) rfl hl rfl (Nat.le_of_ble_eq_true rfl) dX1_key_88 (by omega) (fun _ H locs _ h => ?_)
      refine n_top (y := nI k.2.2.2.1.2.length) (by rw [List.length_map]) ?_
      refine lv_i2l (v := lN k.2.2.2.1.2.length) hx hb dX1_key_91 (nI_l (by omega)) ?_
      refine lv_goto (tgt := 129) hx hb dX1_key_92 (by decide) ?_
      subst hQ
      have hfin : keyC Ry x y = (0, lN k.2.2.2.1.2.length) := by
        rw [hks, q2]
        unfold keyVC
        rw [if_neg (by decide), if_neg (by decide), if_pos rfl]
      refine vy_ret ?_
      exact ret_l C hr hlocks h () (by rw [hfin]) (by rw [hfin]) rfl (by omega) (by omega) dX1_key_129
    rcases (show j = 3 ∨ 3 < j by omega) with q3 | q3
    · refine n_top (y := nI 3) (by rw [hyj, q3]) ?_
      refine lv_tableIn (x := nI 3) (off := 71) (tgt := 95) hx hb dX1_key_24 (by decide) (by decide) (by decide) (by decide) ?_
      refine lv_aload_n hx hb dX1_key_95 rfl (lv_at hl 3 rfl) ?_
      refine o_get C h (RC := RX9) (T := TX9) (N := 4) (hkw _ kyc_in) rfl in_X9 3 (by decide) q401 rfl (v := .ref k.2.2.2.2.1.1) rfl dX1_key_96 ?_
      refine call_VR (As := []) (rest := []) (n := 0) C h (cA_size l D dA B Z hZ _ e0 k.2.2.2.2.1 _ hpl) (lw_V q360 q361 q362 q133 q363) (by decide +kernel) (o_recv C h (RC := RJ2) (T := TJ2) (N := 3) (hcpl) rfl) (by decide) (by decide) rfl hl rfl (Nat.le_of_ble_eq_true rfl) dX1_key_99 (by omega) (fun _ H locs _ h => ?_)
      refine n_top (y := nI k.2.2.2.2.2.length) (by rw [List.length_map]) ?_
      refine lv_i2l (v := lN k.2.2.2.2.2.length) hx hb dX1_key_102 (nI_l (by omega)) ?_
      refine lv_goto (tgt := 129) hx hb dX1_key_103 (by decide) ?_
      subst hQ
      have hfin : keyC Ry x y = (0, lN k.2.2.2.2.2.length) := by
        rw [hks, q3]
        unfold keyVC
        rw [if_neg (by decide), if_neg (by decide), if_neg (by decide), if_pos rfl]
      refine vy_ret ?_
      exact ret_l C hr hlocks h () (by rw [hfin]) (by rw [hfin]) rfl (by omega) (by omega) dX1_key_129
    rcases (show j = 4 ∨ 4 < j by omega) with q4 | q4
    · refine n_top (y := nI 4) (by rw [hyj, q4]) ?_
      refine lv_tableIn (x := nI 4) (off := 82) (tgt := 106) hx hb dX1_key_24 (by decide) (by decide) (by decide) (by decide) ?_
      refine lv_aload_n hx hb dX1_key_106 rfl (lv_at hl 3 rfl) ?_
      refine call_VR (As := []) (rest := []) (n := 0) C h (c9_seals l D dA B Z hZ _ k e0 hkw hKk) (lw_V q1698 q1699 q1700 q142 q1701) (by decide +kernel) (o_recv C h (RC := RX9) (T := TX9) (N := 4) (hkw _ kyc_in) rfl) (by decide) (by decide) rfl hl rfl (Nat.le_of_ble_eq_true rfl) dX1_key_107 (by omega) (fun _ H locs _ h => ?_)
      have hsl9 := KyIn.seals_le hKk
      refine lv_i2l (v := lN (k.2.2.1.2.length + sumL (fun u : US => u.2.2.2.length) k.2.2.2.1.2 + sumL (fun u : PTt => u.2.2.2.length) k.2.2.2.2.2)) hx hb dX1_key_110 (nI_l (by omega)) ?_
      refine lv_goto (tgt := 129) hx hb dX1_key_111 (by decide) ?_
      subst hQ
      have hfin : keyC Ry x y = (0, lN (k.2.2.1.2.length + sumL (fun u : US => u.2.2.2.length) k.2.2.2.1.2 + sumL (fun u : PTt => u.2.2.2.length) k.2.2.2.2.2)) := by
        rw [hks, q4]
        unfold keyVC
        rw [if_neg (by decide), if_neg (by decide), if_neg (by decide), if_neg (by decide), if_pos rfl]
      refine vy_ret ?_
      exact ret_l C hr hlocks h () (by rw [hfin]) (by rw [hfin]) rfl (by omega) (by omega) dX1_key_129
    refine n_top (y := nI 5) (by rw [hyj, show j = 5 by omega]) ?_
    refine lv_tableOut (x := nI 5) (tgt := 114) hx hb dX1_key_24 (by decide) (by decide) ?_
    refine lv_aload_n hx hb dX1_key_114 rfl (lv_at hl 3 rfl) ?_
    refine o_get C h (RC := RX9) (T := TX9) (N := 4) (hkw _ kyc_in) rfl in_X9 1 (by decide) q397 rfl (v := .ref k.2.1.1) rfl dX1_key_115 ?_
    refine o_get C h (RC := RX16) (T := TX16) (N := 6) (hncn) rfl in_X16 5 (by decide) q1158 rfl (v := va_rf san) rfl dX1_key_118 ?_
    refine q_ifnull (tgt := 128) hx hb dX1_key_121 (by decide) (fun c121 => ?_) (fun a121 c121 => ?_)
    · refine lv_lconst (v := lN 0) hx hb dX1_key_128 (by decide) ?_
      subst hQ
      have hfin : keyC Ry x y = (0, lN 0) := by
        rw [hks, show j = 5 by omega]
        unfold keyVC
        rw [if_neg (by decide), if_neg (by decide), if_neg (by decide), if_neg (by decide), if_neg (by decide)]
        first | rw [if_pos (ROb_n hnsan c121)] | (obtain ⟨b9, hb8, _⟩ := ROb_s hnsan c121; rw [if_neg (by rw [hb8]; exact fun q => by cases q)])
      refine vy_ret ?_
      exact ret_l C hr hlocks h () (by rw [hfin]) (by rw [hfin]) rfl (by omega) (by omega) dX1_key_129
    · refine lv_lconst (v := lN 1) hx hb dX1_key_124 (by decide) ?_
      refine lv_goto (tgt := 129) hx hb dX1_key_125 (by decide) ?_
      subst hQ
      have hfin : keyC Ry x y = (0, lN 1) := by
        rw [hks, show j = 5 by omega]
        unfold keyVC
        rw [if_neg (by decide), if_neg (by decide), if_neg (by decide), if_neg (by decide), if_neg (by decide)]
        first | rw [if_pos (ROb_n hnsan c121)] | (obtain ⟨b9, hb8, _⟩ := ROb_s hnsan c121; rw [if_neg (by rw [hb8]; exact fun q => by cases q)])
      refine vy_ret ?_
      exact ret_l C hr hlocks h () (by rw [hfin]) (by rw [hfin]) rfl (by omega) (by omega) dX1_key_129
  refine lv_astore_n (lv' := [(3, .ref k.1), (0, .ref (A 24)), (1, .int x), (2, .int y)]) hx hb dX1_key_5 rfl hl (by decide) rfl (fun ls hl => ?_)
  refine lv_iload_n hx hb dX1_key_6 rfl (lv_at hl 3 rfl) ?_
  refine lv_if_lt (tgt := 19) hx hb dX1_key_7 (by decide) (fun c7 => ?_) (fun c7 => ?_)
  · refine lv_iconst (v := nI 0) hx hb dX1_key_19 (by decide) ?_
    refine n_top (y := bZ false) rfl ?_
    exact jn false _ _ (by symm; exact decide_eq_false (fun q9 => by first | exact q9.1 c7 | exact q9.2 c12)) (by omega) (by omega) _ _ h _ (lv_sub hl [1, 2, 3, 0] rfl)
  · refine lv_iload_n hx hb dX1_key_10 rfl (lv_at hl 3 rfl) ?_
    refine lv_iconst (v := nI 5) hx hb dX1_key_11 (by decide) ?_
    refine lv_icmp_gt (tgt := 19) hx hb dX1_key_12 (by decide) (fun c12 => ?_) (fun c12 => ?_)
    · refine lv_iconst (v := nI 0) hx hb dX1_key_19 (by decide) ?_
      refine n_top (y := bZ false) rfl ?_
      exact jn false _ _ (by symm; exact decide_eq_false (fun q9 => by first | exact q9.1 c7 | exact q9.2 c12)) (by omega) (by omega) _ _ h _ (lv_sub hl [1, 2, 3, 0] rfl)
    · refine lv_iconst (v := nI 1) hx hb dX1_key_15 (by decide) ?_
      refine lv_goto (tgt := 20) hx hb dX1_key_16 (by decide) ?_
      refine n_top (y := bZ true) rfl ?_
      exact jn true _ _ ((decide_eq_true ⟨c7, Int32.not_lt.mpr (Int32.not_lt.mp c12)⟩).symm) (by omega) (by omega) _ _ h _ (lv_sub hl [1, 2, 3, 0] rfl)
set_option maxHeartbeats 400000 in
set_option maxRecDepth 100000 in
theorem c1_print (l : Launch) (D : va_G) (dA : Nat → ClassId) (B : Nat) (Z : State → Prop) (hZ : Stab B Z) (ws : va_W) (A : Nat → Nat) (sz dc e0 : Nat) (rl : LD) (Ry : List KY) (x y z : Int32) (hlt : l.stackTraces = false) (hzx : ZX B Z) (hme : meC A sz dc rl.1 ∈ ws) (hRw : ∀ z ∈ ringW dA e0 rl Ry, z ∈ ws) (hRk : LsR rl Ry) (hKy : ∀ k ∈ Ry, KyIn dA ws k) :
    CtX (S := Unit) (SX := Nat) l D dA B Z yX1_print cX1_print 5 (some .int) 9 3 18 [.ref (A 24), .int x, .int y, .int z] (ws) (fun _ => (prtC Ry x y z).1 = 0) (fun _ => some (.int (nI (prtC Ry x y z).2))) (fun _ => ws) (fun _ => (prtC Ry x y z).1 = 1) (fun u => u) (fun _ => "java/lang/IndexOutOfBoundsException") (fun _ => ws) := by
  refine CtX.mk2 (by decide) (Nat.le_of_ble_eq_true rfl) hZ ?_
  intro p e R s m args below meth c ls Q C hr hlocks hin hex hQ hl h
  have C0 := C
  obtain ⟨hx, hb, hml, hown, hts, -⟩ := C0
  have hl : lv_has ls 5 [(0, .ref (A 24)), (1, .int x), (2, .int y), (3, .int z)] := hl
  refine lv_aload_n hx hb dX1_print_0 rfl (lv_at hl 0 rfl) ?_
  refine lv_iload_n hx hb dX1_print_1 rfl (lv_at hl 1 rfl) ?_
  refine lv_iload_n hx hb dX1_print_2 rfl (lv_at hl 2 rfl) ?_
  refine call_VX (As := [.int x, .int y]) (rest := []) (n := 2) C h (c1_keyOf2 l D dA B Z hZ ws A sz dc e0 rl Ry x y hlt hzx hme hRw hRk hKy) (lw_V q1709 q1711 qs38 q129 q1712) (by decide +kernel) (o_recv C h (RC := RX1) (T := TX1) (N := 14) (hme) rfl) (by decide) (by decide) rfl hl rfl (Nat.le_of_ble_eq_true rfl) dX1_print_3 (by omega) (fun ux ce9 H locs hux h hce9 hcv9 hcl9 => ?_) (fun u8 H locs hu8 h => ?_)
  · subst hQ
    exact thr_out C hex hlocks h ux rfl rfl (by rw [prtC_n hux]) rfl hce9 hcv9 hcl9 (by omega) (by omega)
  obtain ⟨tt, htt⟩ : ∃ z : KY × Option Nat, z = u8 := ⟨_, rfl⟩
  rw [← htt] at hu8
  obtain ⟨hth, hTI⟩ := hu8
  have hkw : ∀ z ∈ kyW dA e0 tt.1, z ∈ ws := fun z hz => hRw z (ky_ring hTI.1 hz)
  have hKk := hKy tt.1 hTI.1
  rw [← htt]
  show W p l e R s m args below meth c H locs (0 + 2) (0 + 12) Q (F0 m 6 ls [.ref tt.1.1])
  have jn : ∀ (tjn : Bool) (cc cs : Nat), (tjn = decide (¬ z < 0 ∧ ¬ nI 20 ≤ z)) → (cc ≤ 2) → (cs ≤ 12) → ∀ (H : Heap) (locs : List Loc), Wd D B s (ws) H locs → ∀ (ls : Array Slot), lv_has ls 5 [(0, .ref (A 24)), (1, .int x), (2, .int y), (3, .int z), (4, .ref tt.1.1)] → W p l e R s m args below meth c H locs cc cs Q (F0 m 23 ls [.int (bZ tjn)]) := by
    intro tjn  cc cs  hjn hcc hcs H locs h ls hl
    refine call_SX (As := [.int (bZ tjn)]) (rest := []) (n := 1) C h (c1_index l D dA B Z hZ ws tjn hlt hzx) (lw_S q1680 q1681 q129 q1682) (by decide +kernel) (by decide) (by decide) rfl hl rfl (Nat.le_of_ble_eq_true rfl) dX1_print_23 (by omega) (fun ux ce9 H locs hbx h hce9 hcv9 hcl9 => ?_) (fun _ H locs hb9 h => ?_)
    · subst hQ
      exact thr_out C hex hlocks h ux rfl rfl (by rw [prtC_s hth, if_neg]; exact fun q9 => by rw [hjn, decide_eq_true q9] at hbx; cases hbx) rfl hce9 hcv9 hcl9 (by omega) (by omega)
    have hpp : ¬ z < 0 ∧ ¬ nI 20 ≤ z := of_decide_eq_true (hjn ▸ hb9)
    obtain ⟨k9, hk9, hzk, htk⟩ := i_lt (n := 20) (by omega) hpp.1 (Int32.not_le.mp hpp.2)
    have hps : prtC Ry x y z = (0, gD (sha1 (keyMsg (numC tt).2.1)) k9) := by rw [prtC_s hth, if_pos hpp, htk]
    refine lv_aload hx hb dX1_print_26 (lv_at hl 4 rfl) ?_
    refine lv_iload_n hx hb dX1_print_28 rfl (lv_at hl 2 rfl) ?_
    have hnum : Ct (S := Unit) l D dA B Z yX9_numbersOf cX9_numbersOf 2 (some ((.object "SignetRing$Numbers"))) 4 0 0 [.ref tt.1.1, .int y] (ws) (fun _ => True) (fun _ => some (.ref (numC tt).1)) (fun _ => ws) := by
      clear h
      obtain ⟨kq, oq⟩ := tt
      rcases hTI.2 with ⟨e1, e2⟩ | ⟨jq, pq, e1, e2, e3, e4⟩
      · have e1 : oq = none := e1
        subst e1
        rw [e2]
        exact c9_numbersOfK l D dA B Z hZ _ kq.1 _ kq.2.1.1 _ _ (hkw _ kyc_in)
      · have e1 : oq = some jq := e1
        subst e1
        rw [e2, numC_s e4]
        exact c9_numbersOf l D dA B Z hZ _ kq.1 _ kq.2.1.1 _ e0 jq kq.2.2.2.2.1 kq.2.2.2.2.2 pq (hkw _ kyc_in) ((KyIn.pl (k := kq) hKk hkw).sub (fun z hz => (KyIn.pl (k := kq) hKk hkw).1 z hz)) (fun y9 hy9 => ⟨(hKk.2.2.2.2.2 y9 hy9).1.sub (fun b q hq => hq) (fun a fs hq => hq), KyIn.ptc (k := kq) hkw hy9⟩) e4 (by omega)
    refine call_VR (As := [.int y]) (rest := []) (n := 1) C h hnum (lw_V q1508 q1509 q1510 q142 q1511) (by decide +kernel) (o_recv C h (RC := RX9) (T := TX9) (N := 4) (hkw _ kyc_in) rfl) (by decide) (by decide) rfl hl rfl (Nat.le_of_ble_eq_true rfl) dX1_print_29 (by omega) (fun _ H locs _ h => ?_)
    have hNt := hTI.num hKk
    obtain ⟨⟨hnbn, hnln, hnkn, hnsn⟩, ban, ann, aen, apn, san, hncn, hnban, hnann, hnaen, hnapn, hnsan⟩ := hNt
    refine o_get C h (RC := RX16) (T := TX16) (N := 6) (hncn) rfl in_X16 4 (by decide) q1156 rfl (v := .ref apn) rfl dX1_print_32 ?_
    refine lv_iload_n hx hb dX1_print_35 rfl (lv_at hl 3 rfl) ?_
    refine n_top (y := nI k9) hzk ?_
    have hg9 := byt_gD (sha1_byt (keyMsg (numC tt).2.1)) k9
    have hs20 : (sha1 (keyMsg (numC tt).2.1)).length = 20 := sha1_len _
    refine n_bald C h (v := (gD (sha1 (keyMsg (numC tt).2.1))) k9) (hnapn) (show k9 < (sha1 (keyMsg (numC tt).2.1)).length by omega) (by omega) rfl dX1_print_36 ?_
    refine lv_sipush (v := nI 255) hx hb dX1_print_37 (by decide) ?_
    refine lv_iand hx hb dX1_print_40 ?_
    refine n_top (y := nI (gD (sha1 (keyMsg (numC tt).2.1)) k9)) ((sb_byte _ hg9).1) ?_
    subst hQ
    refine vy_ret ?_
    exact ret_i C hr hlocks h () (by rw [hps]) (by rw [hps]) rfl (by omega) (by omega) dX1_print_41
  refine lv_astore (lv' := [(4, .ref tt.1.1), (0, .ref (A 24)), (1, .int x), (2, .int y), (3, .int z)]) hx hb dX1_print_6 hl (by decide) rfl (fun ls hl => ?_)
  refine lv_iload_n hx hb dX1_print_8 rfl (lv_at hl 4 rfl) ?_
  refine lv_if_lt (tgt := 22) hx hb dX1_print_9 (by decide) (fun c9 => ?_) (fun c9 => ?_)
  · refine lv_iconst (v := nI 0) hx hb dX1_print_22 (by decide) ?_
    refine n_top (y := bZ false) rfl ?_
    exact jn false _ _ (by symm; exact decide_eq_false (fun q9 => by first | exact q9.1 c9 | exact q9.2 c15)) (by omega) (by omega) _ _ h _ (lv_sub hl [1, 2, 3, 4, 0] rfl)
  · refine lv_iload_n hx hb dX1_print_12 rfl (lv_at hl 4 rfl) ?_
    refine lv_bipush (v := nI 20) hx hb dX1_print_13 (by decide) ?_
    refine lv_icmp_ge (tgt := 22) hx hb dX1_print_15 (by decide) (fun c15 => ?_) (fun c15 => ?_)
    · refine lv_iconst (v := nI 0) hx hb dX1_print_22 (by decide) ?_
      refine n_top (y := bZ false) rfl ?_
      exact jn false _ _ (by symm; exact decide_eq_false (fun q9 => by first | exact q9.1 c9 | exact q9.2 c15)) (by omega) (by omega) _ _ h _ (lv_sub hl [1, 2, 3, 4, 0] rfl)
    · refine lv_iconst (v := nI 1) hx hb dX1_print_18 (by decide) ?_
      refine lv_goto (tgt := 23) hx hb dX1_print_19 (by decide) ?_
      refine n_top (y := bZ true) rfl ?_
      exact jn true _ _ ((decide_eq_true ⟨c9, c15⟩).symm) (by omega) (by omega) _ _ h _ (lv_sub hl [1, 2, 3, 4, 0] rfl)
