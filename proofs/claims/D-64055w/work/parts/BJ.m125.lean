set_option maxRecDepth 100000

/-- which exceptions aren't which -/
def ZE (Z : State → Prop) : Prop := (∀ U : State, Z U → va_Nc "java/lang/IllegalArgumentException" "java/lang/IndexOutOfBoundsException" U) ∧ (∀ U : State, Z U → va_Nc "java/lang/IllegalStateException" "java/lang/IndexOutOfBoundsException" U) ∧ (∀ U : State, Z U → va_Nc "java/lang/IllegalStateException" "java/lang/IllegalArgumentException" U) ∧ (∀ U : State, Z U → va_Nc "java/lang/UnsupportedOperationException" "java/lang/IllegalArgumentException" U) ∧ ∀ U : State, Z U → va_Nc "java/lang/IndexOutOfBoundsException" "java/lang/IllegalArgumentException" U
section XC9
variable {p : Program} {l : Launch} {e : Env} {R : Room} {s : State} {m : MethodId} {args : Array Value} {below : List Frame} {meth : Method} {c : Code} {H : Heap} {locs : List Loc} {cells slots : Nat} {Q : State → Prop} {cc : ByteArray} {pc : Nat} {ls : Array Slot} {rest : List Value}
variable {nL : Nat} {own : String} {D : va_G} {dA : Nat → ClassId} {B : Nat} {Z : State → Prop} {d mc ms : Nat} {ws : va_W}
theorem x_catchN {hh : List (Nat × Nat × Nat × Nat)} {pre suf : List ExceptionTableEntry} {x : ExceptionTableEntry} {q : Nat} {E name : String} {ce : Cell} (C : Cx p R s m args c cc nL own D dA B Z d mc ms) (hex : c.exceptionTable.toList = tableOf hh) (hsp : tableOf hh = pre ++ x :: suf) (hpass : ∀ z ∈ pre, z.catchType ≠ 0 ∧ ∃ nm : String, Cond.classLink own z.catchType nm ∈ lw_all ∧ ∀ U : State, Z U → va_Nc E nm U) (hcov : covers x pc = true) (h0 : x.catchType ≠ 0) (hlink : Cond.classLink own x.catchType name ∈ lw_all) (hcast : Cond.castable E name ∈ lw_tbl) (hcell : H[q]? = some ce) (hv : ce.vm = .none) (hcl : s.vm.findClass E = some ce.cls)
    (kk : W p l e R s m args below meth c H locs cells slots Q (F0 m x.handlerPc ls [.ref q])) : vy_W p l e R s m args below meth c H locs cells slots Q (F0 m pc ls rest) q := by
  obtain ⟨hx, hb, hml, hown, hts, hK, hN, hz, hZ, hB, hRf, hRl, hRc, hRs⟩ := C
  exact vy_catch hown pre x suf (hex.trans hsp) (fun z hz9 => Or.inr (by
    obtain ⟨h1, nm, h2, h3⟩ := hpass z hz9
    exact ⟨h1, nm, hts _ h2, h3 s hz⟩)) hcov h0 (hts _ hlink) (va_Nw.use rfl (hN _ hcast rfl)) hcell hv hcl kk
theorem lar_same9 {n : Nat} {g g' : Nat → Nat} (h : ∀ j, j < n → g j = g' j) : sameE (lar dA n g) (lar dA n g') := by
  intro D cl a H h1
  have e1 : arrV (dA 2) n (fun j => .long (lN (g j))) = arrV (dA 2) n (fun j => .long (lN (g' j))) := arrV_ext (fun j hj => by rw [h j hj])
  show H[a]? = some (arrV (dA 2) n (fun j => .long (lN (g' j))))
  rw [← e1]; exact h1
theorem n_lst (C : Cx p R s m args c cc nL own D dA B Z d mc ms) {oa : Nat} {g : Nat → Nat} {v : Int64} (h : Wd D B s ([(oa, lar dA 1 g)] ++ ws) H locs) (hdg : decode cc pc = .ok (.lastore, 1))
    (kk : ∀ (H1 : Heap) (locs1 : List Loc), Wd D B s ([(oa, lar dA 1 (fun _ => uL v))] ++ ws) H1 locs1 → W p l e R s m args below meth c H1 locs1 cells slots Q (F0 m (pc + 1) ls rest)) : W p l e R s m args below meth c H locs cells slots Q (F0 m pc ls (.long v :: .int (nI 0) :: .ref oa :: rest)) := by
  obtain ⟨hx, hb, hml, hown, hts, hK, hN, hz, hZ, hB, hRf, hRl, hRc, hRs⟩ := C
  rw [← lN_uL v]
  have hcl : (nI 0).toNatClampNeg = 0 := nI_clamp (by decide)
  refine va_last hx hb hK h.1 h.2.1 h.2.2 0 2 (f := fun j => lN (g j)) rfl rfl (vp_in_nI (by decide) (by decide)) hdg (fun H1 locs1 hP hD hS => ?_)
  rw [hcl, upN_updL, upN_map lN] at hP hD
  have h2 : Wd D B s ([(oa, lar dA 1 (upN g 0 (uL v)))] ++ ws) H1 locs1 := ⟨hP, hD, hS⟩
  rw [lN_uL v]
  refine kk H1 locs1 (Wd.same h2 0 rfl (lar_same9 (fun j hj => ?_)) rfl)
  rw [show j = 0 by omega]; exact upN_s
end XC9

set_option maxHeartbeats 1000000 in
set_option maxRecDepth 100000 in
theorem w_key (l : Launch) (D : va_G) (dA : Nat → ClassId) (B : Nat) (Z : State → Prop) (hZ : Stab B Z) {S SX : Type} (ws : va_W) (oa xa : Nat) (g : Nat → Nat) (x : Int32) (y : Int32) (post : S → Prop) (vf : S → Int64) (wr : S → va_W) (px : SX → Prop) (kn ax : SX → Nat) (en : SX → String) (wx : SX → va_W) (mc ms : Nat) (hze : ZE Z) (fs9 : List Value) (hx0 : (xa, .inr (0, fs9)) ∈ ws) (hen : ∀ u, px u → (kn u = 1 ∧ en u = "java/lang/IndexOutOfBoundsException")) (hM : CtX (S := S) (SX := SX) l D dA B Z yX1_key cX1_key 4 (some .long) 8 mc ms [.ref xa, .int x, .int y] ws post (fun u => some (.long (vf u))) (fun u => [(oa, lar dA 1 g)] ++ wr u) px ax en wx) :
    CtH (S := S ⊕ SX) (SX := Unit) l D dA B Z yX0_key cX0_key 5 (some .int) [((0 : Nat), (9 : Nat), (12 : Nat), (19 : Nat))] 20 mc ms [.ref xa, .int x, .int y, .ref oa] ws (fun u => Sum.elim post px u) (fun u => some (.int (nI (Sum.elim (fun _ => 0) kn u)))) (fun u => Sum.elim (fun u => [(oa, lar dA 1 (fun _ => uL (vf u)))] ++ wr u) wx u) (fun _ => False) (fun _ => 0) (fun _ => "") (fun _ => []) := by
  refine CtH.mk2 (by decide) (Nat.le_of_ble_eq_true rfl) hZ ?_
  intro p e R s m args below meth c ls Q C hr hlocks hin hex hQ hl h
  have C0 := C
  obtain ⟨hx, hb, hml, hown, hts, -⟩ := C0
  have hl : lv_has ls 5 [(0, .ref xa), (1, .int x), (2, .int y), (3, .ref oa)] := hl
  refine lv_aload_n hx hb dX0_key_0 rfl (lv_at hl 3 rfl) ?_
  refine lv_iconst (v := nI 0) hx hb dX0_key_1 (by decide) ?_
  refine lv_aload_n hx hb dX0_key_2 rfl (lv_at hl 0 rfl) ?_
  refine lv_iload_n hx hb dX0_key_3 rfl (lv_at hl 1 rfl) ?_
  refine lv_iload_n hx hb dX0_key_4 rfl (lv_at hl 2 rfl) ?_
  refine call_VX (As := [.int x, .int y]) (rest := [.int (nI 0), .ref oa]) (n := 2) C h hM (lw_V q1672 q1673 q1674 q129 q1675) (by decide +kernel) (o_recv C h (RC := RX1) (T := TX1) (N := 14) hx0 rfl) (by decide) (by decide) rfl hl rfl (Nat.le_of_ble_eq_true rfl) dX0_key_5 (by omega) (fun ux ce9 H locs hux h hce9 hcv9 hcl9 => ?_) (fun u H locs hu h => ?_)
  · have hen9 := hen ux hux
    obtain ⟨hk9, he9⟩ := hen9
    rw [he9] at hcl9
    refine x_catchN (pre := []) (x := ⟨0, 9, 12, 19⟩) (suf := []) C hex rfl (fun z hz => by cases hz) (by decide) (by decide) q1669 q1685 hce9 hcv9 hcl9 ?_
    refine lv_astore (lv' := [(4, .ref (ax ux)), (0, .ref xa), (1, .int x), (2, .int y), (3, .ref oa)]) hx hb dX0_key_12 hl (by decide) rfl (fun ls hl => ?_)
    refine lv_iconst (v := nI 1) hx hb dX0_key_14 (by decide) ?_
    subst hQ
    refine vy_ret ?_
    exact ret_i C hr hlocks h (Sum.inr ux) hux (by show some (Value.int (nI (kn ux))) = _; rw [hk9]) rfl (by omega) (by omega) dX0_key_15
  have h : Wd D B s ([(oa, lar dA 1 g)] ++ wr u) H locs := h
  refine n_lst C h dX0_key_8 (fun H locs h => ?_)
  refine lv_goto (tgt := 16) hx hb dX0_key_9 (by decide) ?_
  refine lv_iconst (v := nI 0) hx hb dX0_key_16 (by decide) ?_
  subst hQ
  refine vy_ret ?_
  exact ret_i C hr hlocks h (Sum.inl u) hu rfl rfl (by omega) (by omega) dX0_key_17
set_option maxHeartbeats 1000000 in
set_option maxRecDepth 100000 in
theorem w_print (l : Launch) (D : va_G) (dA : Nat → ClassId) (B : Nat) (Z : State → Prop) (hZ : Stab B Z) {S SX : Type} (ws : va_W) (oa xa : Nat) (g : Nat → Nat) (x : Int32) (y : Int32) (z : Int32) (post : S → Prop) (vf : S → Int32) (wr : S → va_W) (px : SX → Prop) (kn ax : SX → Nat) (en : SX → String) (wx : SX → va_W) (mc ms : Nat) (hze : ZE Z) (fs9 : List Value) (hx0 : (xa, .inr (0, fs9)) ∈ ws) (hen : ∀ u, px u → (kn u = 1 ∧ en u = "java/lang/IndexOutOfBoundsException")) (hM : CtX (S := S) (SX := SX) l D dA B Z yX1_print cX1_print 5 (some .int) 9 mc ms [.ref xa, .int x, .int y, .int z] ws post (fun u => some (.int (vf u))) (fun u => [(oa, lar dA 1 g)] ++ wr u) px ax en wx) :
    CtH (S := S ⊕ SX) (SX := Unit) l D dA B Z yX0_print cX0_print 6 (some .int) [((0 : Nat), (12 : Nat), (15 : Nat), (19 : Nat))] 20 mc ms [.ref xa, .int x, .int y, .int z, .ref oa] ws (fun u => Sum.elim post px u) (fun u => some (.int (nI (Sum.elim (fun _ => 0) kn u)))) (fun u => Sum.elim (fun u => [(oa, lar dA 1 (fun _ => uL ((vf u).toInt64)))] ++ wr u) wx u) (fun _ => False) (fun _ => 0) (fun _ => "") (fun _ => []) := by
  refine CtH.mk2 (by decide) (Nat.le_of_ble_eq_true rfl) hZ ?_
  intro p e R s m args below meth c ls Q C hr hlocks hin hex hQ hl h
  have C0 := C
  obtain ⟨hx, hb, hml, hown, hts, -⟩ := C0
  have hl : lv_has ls 6 [(0, .ref xa), (1, .int x), (2, .int y), (3, .int z), (4, .ref oa)] := hl
  refine lv_aload hx hb dX0_print_0 (lv_at hl 4 rfl) ?_
  refine lv_iconst (v := nI 0) hx hb dX0_print_2 (by decide) ?_
  refine lv_aload_n hx hb dX0_print_3 rfl (lv_at hl 0 rfl) ?_
  refine lv_iload_n hx hb dX0_print_4 rfl (lv_at hl 1 rfl) ?_
  refine lv_iload_n hx hb dX0_print_5 rfl (lv_at hl 2 rfl) ?_
  refine lv_iload_n hx hb dX0_print_6 rfl (lv_at hl 3 rfl) ?_
  refine call_VX (As := [.int x, .int y, .int z]) (rest := [.int (nI 0), .ref oa]) (n := 3) C h hM (lw_V q1705 q1706 q1707 q129 q1708) (by decide +kernel) (o_recv C h (RC := RX1) (T := TX1) (N := 14) hx0 rfl) (by decide) (by decide) rfl hl rfl (Nat.le_of_ble_eq_true rfl) dX0_print_7 (by omega) (fun ux ce9 H locs hux h hce9 hcv9 hcl9 => ?_) (fun u H locs hu h => ?_)
  · have hen9 := hen ux hux
    obtain ⟨hk9, he9⟩ := hen9
    rw [he9] at hcl9
    refine x_catchN (pre := []) (x := ⟨0, 12, 15, 19⟩) (suf := []) C hex rfl (fun z hz => by cases hz) (by decide) (by decide) q1669 q1685 hce9 hcv9 hcl9 ?_
    refine lv_astore (lv' := [(5, .ref (ax ux)), (0, .ref xa), (1, .int x), (2, .int y), (3, .int z), (4, .ref oa)]) hx hb dX0_print_15 hl (by decide) rfl (fun ls hl => ?_)
    refine lv_iconst (v := nI 1) hx hb dX0_print_17 (by decide) ?_
    subst hQ
    refine vy_ret ?_
    exact ret_i C hr hlocks h (Sum.inr ux) hux (by show some (Value.int (nI (kn ux))) = _; rw [hk9]) rfl (by omega) (by omega) dX0_print_18
  have h : Wd D B s ([(oa, lar dA 1 g)] ++ wr u) H locs := h
  refine lv_i2l (v := (vf u).toInt64) hx hb dX0_print_10 rfl ?_
  refine n_lst C h dX0_print_11 (fun H locs h => ?_)
  refine lv_goto (tgt := 19) hx hb dX0_print_12 (by decide) ?_
  refine lv_iconst (v := nI 0) hx hb dX0_print_19 (by decide) ?_
  subst hQ
  refine vy_ret ?_
  exact ret_i C hr hlocks h (Sum.inl u) hu rfl rfl (by omega) (by omega) dX0_print_20
set_option maxHeartbeats 1000000 in
set_option maxRecDepth 100000 in
theorem w_usable (l : Launch) (D : va_G) (dA : Nat → ClassId) (B : Nat) (Z : State → Prop) (hZ : Stab B Z) {S SX : Type} (ws : va_W) (oa xa : Nat) (g : Nat → Nat) (x : Int32) (y : Int32) (v : Int64) (post : S → Prop) (vf : S → Int32) (wr : S → va_W) (px : SX → Prop) (kn ax : SX → Nat) (en : SX → String) (wx : SX → va_W) (mc ms : Nat) (hze : ZE Z) (fs9 : List Value) (hx0 : (xa, .inr (0, fs9)) ∈ ws) (hen : ∀ u, px u → (kn u = 1 ∧ en u = "java/lang/IndexOutOfBoundsException") ∨ (kn u = 2 ∧ en u = "java/lang/IllegalArgumentException")) (hM : CtX (S := S) (SX := SX) l D dA B Z yX1_usable_3 cX1_usable_3 6 (some .int) 14 mc ms [.ref xa, .int x, .int y, .long v] ws post (fun u => some (.int (vf u))) (fun u => [(oa, lar dA 1 g)] ++ wr u) px ax en wx) :
    CtH (S := S ⊕ SX) (SX := Unit) l D dA B Z yX0_usable cX0_usable 7 (some .int) [((0 : Nat), (12 : Nat), (15 : Nat), (19 : Nat)), ((0 : Nat), (12 : Nat), (19 : Nat), (13 : Nat))] 20 mc ms [.ref xa, .int x, .int y, .long v, .ref oa] ws (fun u => Sum.elim post px u) (fun u => some (.int (nI (Sum.elim (fun _ => 0) kn u)))) (fun u => Sum.elim (fun u => [(oa, lar dA 1 (fun _ => uL ((vf u).toInt64)))] ++ wr u) wx u) (fun _ => False) (fun _ => 0) (fun _ => "") (fun _ => []) := by
  refine CtH.mk2 (by decide) (Nat.le_of_ble_eq_true rfl) hZ ?_
  intro p e R s m args below meth c ls Q C hr hlocks hin hex hQ hl h
  have C0 := C
  obtain ⟨hx, hb, hml, hown, hts, -⟩ := C0
  have hl : lv_has ls 7 [(0, .ref xa), (1, .int x), (2, .int y), (3, .long v), (5, .ref oa)] := hl
  refine lv_aload hx hb dX0_usable_0 (lv_at hl 4 rfl) ?_
  refine lv_iconst (v := nI 0) hx hb dX0_usable_2 (by decide) ?_
  refine lv_aload_n hx hb dX0_usable_3 rfl (lv_at hl 0 rfl) ?_
  refine lv_iload_n hx hb dX0_usable_4 rfl (lv_at hl 1 rfl) ?_
  refine lv_iload_n hx hb dX0_usable_5 rfl (lv_at hl 2 rfl) ?_
  refine lv_lload_n hx hb dX0_usable_6 rfl (lv_at hl 3 rfl) ?_
  refine call_VX (As := [.int x, .int y, .long v]) (rest := [.int (nI 0), .ref oa]) (n := 3) C h hM (lw_V q1716 q1717 q1718 q129 q1719) (by decide +kernel) (o_recv C h (RC := RX1) (T := TX1) (N := 14) hx0 rfl) (by decide) (by decide) rfl hl rfl (Nat.le_of_ble_eq_true rfl) dX0_usable_7 (by omega) (fun ux ce9 H locs hux h hce9 hcv9 hcl9 => ?_) (fun u H locs hu h => ?_)
  · have hen9 := hen ux hux
    rcases hen9 with ⟨hk9, he9⟩ | ⟨hk9, he9⟩
    · rw [he9] at hcl9
      refine x_catchN (pre := []) (x := ⟨0, 12, 15, 19⟩) (suf := [⟨0, 12, 19, 13⟩]) C hex rfl (fun z hz => by cases hz) (by decide) (by decide) q1669 q1685 hce9 hcv9 hcl9 ?_
      refine lv_astore (lv' := [(6, .ref (ax ux)), (0, .ref xa), (1, .int x), (2, .int y), (3, .long v), (5, .ref oa)]) hx hb dX0_usable_15 hl (by decide) rfl (fun ls hl => ?_)
      refine lv_iconst (v := nI 1) hx hb dX0_usable_17 (by decide) ?_
      subst hQ
      refine vy_ret ?_
      exact ret_i C hr hlocks h (Sum.inr ux) hux (by show some (Value.int (nI (kn ux))) = _; rw [hk9]) rfl (by omega) (by omega) dX0_usable_18
    · rw [he9] at hcl9
      refine x_catchN (pre := [⟨0, 12, 15, 19⟩]) (x := ⟨0, 12, 19, 13⟩) (suf := []) C hex rfl (fun z hz => by
        rcases (List.mem_cons.mp hz) with e9 | hz
        · rw [e9]; exact ⟨by decide, _, q1669, hze.1⟩
        · cases hz) (by decide) (by decide) q1439 q866 hce9 hcv9 hcl9 ?_
      refine lv_astore (lv' := [(6, .ref (ax ux)), (0, .ref xa), (1, .int x), (2, .int y), (3, .long v), (5, .ref oa)]) hx hb dX0_usable_19 hl (by decide) rfl (fun ls hl => ?_)
      refine lv_iconst (v := nI 2) hx hb dX0_usable_21 (by decide) ?_
      subst hQ
      refine vy_ret ?_
      exact ret_i C hr hlocks h (Sum.inr ux) hux (by show some (Value.int (nI (kn ux))) = _; rw [hk9]) rfl (by omega) (by omega) dX0_usable_22
  have h : Wd D B s ([(oa, lar dA 1 g)] ++ wr u) H locs := h
  refine lv_i2l (v := (vf u).toInt64) hx hb dX0_usable_10 rfl ?_
  refine n_lst C h dX0_usable_11 (fun H locs h => ?_)
  refine lv_goto (tgt := 23) hx hb dX0_usable_12 (by decide) ?_
  refine lv_iconst (v := nI 0) hx hb dX0_usable_23 (by decide) ?_
  subst hQ
  refine vy_ret ?_
  exact ret_i C hr hlocks h (Sum.inl u) hu rfl rfl (by omega) (by omega) dX0_usable_24
set_option maxHeartbeats 1000000 in
set_option maxRecDepth 100000 in
theorem w_seal (l : Launch) (D : va_G) (dA : Nat → ClassId) (B : Nat) (Z : State → Prop) (hZ : Stab B Z) {S SX : Type} (ws : va_W) (oa xa : Nat) (g : Nat → Nat) (x : Int32) (y : Int32) (z : Int32) (v : Int64) (post : S → Prop) (vf : S → Int32) (wr : S → va_W) (px : SX → Prop) (kn ax : SX → Nat) (en : SX → String) (wx : SX → va_W) (mc ms : Nat) (hze : ZE Z) (fs9 : List Value) (hx0 : (xa, .inr (0, fs9)) ∈ ws) (hen : ∀ u, px u → (kn u = 1 ∧ en u = "java/lang/IndexOutOfBoundsException") ∨ (kn u = 2 ∧ en u = "java/lang/IllegalArgumentException") ∨ (kn u = 3 ∧ en u = "java/lang/IllegalStateException")) (hM : CtX (S := S) (SX := SX) l D dA B Z yX1_seal cX1_seal 7 (some .int) 14 mc ms [.ref xa, .int x, .int y, .int z, .long v] ws post (fun u => some (.int (vf u))) (fun u => [(oa, lar dA 1 g)] ++ wr u) px ax en wx) :
    CtH (S := S ⊕ SX) (SX := Unit) l D dA B Z yX0_seal cX0_seal 8 (some .int) [((0 : Nat), (14 : Nat), (17 : Nat), (19 : Nat)), ((0 : Nat), (14 : Nat), (21 : Nat), (13 : Nat)), ((0 : Nat), (14 : Nat), (25 : Nat), (33 : Nat))] 20 mc ms [.ref xa, .int x, .int y, .int z, .long v, .ref oa] ws (fun u => Sum.elim post px u) (fun u => some (.int (nI (Sum.elim (fun _ => 0) kn u)))) (fun u => Sum.elim (fun u => [(oa, lar dA 1 (fun _ => uL ((vf u).toInt64)))] ++ wr u) wx u) (fun _ => False) (fun _ => 0) (fun _ => "") (fun _ => []) := by
  refine CtH.mk2 (by decide) (Nat.le_of_ble_eq_true rfl) hZ ?_
  intro p e R s m args below meth c ls Q C hr hlocks hin hex hQ hl h
  have C0 := C
  obtain ⟨hx, hb, hml, hown, hts, -⟩ := C0
  have hl : lv_has ls 8 [(0, .ref xa), (1, .int x), (2, .int y), (3, .int z), (4, .long v), (6, .ref oa)] := hl
  refine lv_aload hx hb dX0_seal_0 (lv_at hl 5 rfl) ?_
  refine lv_iconst (v := nI 0) hx hb dX0_seal_2 (by decide) ?_
  refine lv_aload_n hx hb dX0_seal_3 rfl (lv_at hl 0 rfl) ?_
  refine lv_iload_n hx hb dX0_seal_4 rfl (lv_at hl 1 rfl) ?_
  refine lv_iload_n hx hb dX0_seal_5 rfl (lv_at hl 2 rfl) ?_
  refine lv_iload_n hx hb dX0_seal_6 rfl (lv_at hl 3 rfl) ?_
  refine lv_lload hx hb dX0_seal_7 (lv_at hl 4 rfl) ?_
  refine call_VX (As := [.int x, .int y, .int z, .long v]) (rest := [.int (nI 0), .ref oa]) (n := 4) C h hM (lw_V q1724 q1725 q1726 q129 q1727) (by decide +kernel) (o_recv C h (RC := RX1) (T := TX1) (N := 14) hx0 rfl) (by decide) (by decide) rfl hl rfl (Nat.le_of_ble_eq_true rfl) dX0_seal_9 (by omega) (fun ux ce9 H locs hux h hce9 hcv9 hcl9 => ?_) (fun u H locs hu h => ?_)
  · have hen9 := hen ux hux
    rcases hen9 with ⟨hk9, he9⟩ | ⟨hk9, he9⟩ | ⟨hk9, he9⟩
    · rw [he9] at hcl9
      refine x_catchN (pre := []) (x := ⟨0, 14, 17, 19⟩) (suf := [⟨0, 14, 21, 13⟩, ⟨0, 14, 25, 33⟩]) C hex rfl (fun z hz => by cases hz) (by decide) (by decide) q1669 q1685 hce9 hcv9 hcl9 ?_
      refine lv_astore (lv' := [(7, .ref (ax ux)), (0, .ref xa), (1, .int x), (2, .int y), (3, .int z), (4, .long v), (6, .ref oa)]) hx hb dX0_seal_17 hl (by decide) rfl (fun ls hl => ?_)
      refine lv_iconst (v := nI 1) hx hb dX0_seal_19 (by decide) ?_
      subst hQ
      refine vy_ret ?_
      exact ret_i C hr hlocks h (Sum.inr ux) hux (by show some (Value.int (nI (kn ux))) = _; rw [hk9]) rfl (by omega) (by omega) dX0_seal_20
    · rw [he9] at hcl9
      refine x_catchN (pre := [⟨0, 14, 17, 19⟩]) (x := ⟨0, 14, 21, 13⟩) (suf := [⟨0, 14, 25, 33⟩]) C hex rfl (fun z hz => by
        rcases (List.mem_cons.mp hz) with e9 | hz
        · rw [e9]; exact ⟨by decide, _, q1669, hze.1⟩
        · cases hz) (by decide) (by decide) q1439 q866 hce9 hcv9 hcl9 ?_
      refine lv_astore (lv' := [(7, .ref (ax ux)), (0, .ref xa), (1, .int x), (2, .int y), (3, .int z), (4, .long v), (6, .ref oa)]) hx hb dX0_seal_21 hl (by decide) rfl (fun ls hl => ?_)
      refine lv_iconst (v := nI 2) hx hb dX0_seal_23 (by decide) ?_
      subst hQ
      refine vy_ret ?_
      exact ret_i C hr hlocks h (Sum.inr ux) hux (by show some (Value.int (nI (kn ux))) = _; rw [hk9]) rfl (by omega) (by omega) dX0_seal_24
    · rw [he9] at hcl9
      refine x_catchN (pre := [⟨0, 14, 17, 19⟩, ⟨0, 14, 21, 13⟩]) (x := ⟨0, 14, 25, 33⟩) (suf := []) C hex rfl (fun z hz => by
        rcases (List.mem_cons.mp hz) with e9 | hz
        · rw [e9]; exact ⟨by decide, _, q1669, hze.2.1⟩
        · rcases (List.mem_cons.mp hz) with e9 | hz
          · rw [e9]; exact ⟨by decide, _, q1439, hze.2.2.1⟩
          · cases hz) (by decide) (by decide) q1723 q1730 hce9 hcv9 hcl9 ?_
      refine lv_astore (lv' := [(7, .ref (ax ux)), (0, .ref xa), (1, .int x), (2, .int y), (3, .int z), (4, .long v), (6, .ref oa)]) hx hb dX0_seal_25 hl (by decide) rfl (fun ls hl => ?_)
      refine lv_iconst (v := nI 3) hx hb dX0_seal_27 (by decide) ?_
      subst hQ
      refine vy_ret ?_
      exact ret_i C hr hlocks h (Sum.inr ux) hux (by show some (Value.int (nI (kn ux))) = _; rw [hk9]) rfl (by omega) (by omega) dX0_seal_28
  have h : Wd D B s ([(oa, lar dA 1 g)] ++ wr u) H locs := h
  refine lv_i2l (v := (vf u).toInt64) hx hb dX0_seal_12 rfl ?_
  refine n_lst C h dX0_seal_13 (fun H locs h => ?_)
  refine lv_goto (tgt := 29) hx hb dX0_seal_14 (by decide) ?_
  refine lv_iconst (v := nI 0) hx hb dX0_seal_29 (by decide) ?_
  subst hQ
  refine vy_ret ?_
  exact ret_i C hr hlocks h (Sum.inl u) hu rfl rfl (by omega) (by omega) dX0_seal_30
set_option maxHeartbeats 1000000 in
set_option maxRecDepth 100000 in
theorem w_export (l : Launch) (D : va_G) (dA : Nat → ClassId) (B : Nat) (Z : State → Prop) (hZ : Stab B Z) {S SX : Type} (ws : va_W) (oa xa : Nat) (g : Nat → Nat) (x : Int32) (post : S → Prop) (vf : S → Int32) (wr : S → va_W) (px : SX → Prop) (kn ax : SX → Nat) (en : SX → String) (wx : SX → va_W) (mc ms : Nat) (hze : ZE Z) (fs9 : List Value) (hx0 : (xa, .inr (0, fs9)) ∈ ws) (hen : ∀ u, px u → (kn u = 1 ∧ en u = "java/lang/IndexOutOfBoundsException")) (hM : CtX (S := S) (SX := SX) l D dA B Z yX1_export cX1_export 4 (some .int) 9 mc ms [.ref xa, .int x] ws post (fun u => some (.int (vf u))) (fun u => [(oa, lar dA 1 g)] ++ wr u) px ax en wx) :
    CtH (S := S ⊕ SX) (SX := Unit) l D dA B Z yX0_export cX0_export 4 (some .int) [((0 : Nat), (9 : Nat), (12 : Nat), (19 : Nat))] 20 mc ms [.ref xa, .int x, .ref oa] ws (fun u => Sum.elim post px u) (fun u => some (.int (nI (Sum.elim (fun _ => 0) kn u)))) (fun u => Sum.elim (fun u => [(oa, lar dA 1 (fun _ => uL ((vf u).toInt64)))] ++ wr u) wx u) (fun _ => False) (fun _ => 0) (fun _ => "") (fun _ => []) := by
  refine CtH.mk2 (by decide) (Nat.le_of_ble_eq_true rfl) hZ ?_
  intro p e R s m args below meth c ls Q C hr hlocks hin hex hQ hl h
  have C0 := C
  obtain ⟨hx, hb, hml, hown, hts, -⟩ := C0
  have hl : lv_has ls 4 [(0, .ref xa), (1, .int x), (2, .ref oa)] := hl
  refine lv_aload_n hx hb dX0_export_0 rfl (lv_at hl 2 rfl) ?_
  refine lv_iconst (v := nI 0) hx hb dX0_export_1 (by decide) ?_
  refine lv_aload_n hx hb dX0_export_2 rfl (lv_at hl 0 rfl) ?_
  refine lv_iload_n hx hb dX0_export_3 rfl (lv_at hl 1 rfl) ?_
  refine call_VX (As := [.int x]) (rest := [.int (nI 0), .ref oa]) (n := 1) C h hM (lw_V q1795 q1796 q1797 q129 q1798) (by decide +kernel) (o_recv C h (RC := RX1) (T := TX1) (N := 14) hx0 rfl) (by decide) (by decide) rfl hl rfl (Nat.le_of_ble_eq_true rfl) dX0_export_4 (by omega) (fun ux ce9 H locs hux h hce9 hcv9 hcl9 => ?_) (fun u H locs hu h => ?_)
  · have hen9 := hen ux hux
    obtain ⟨hk9, he9⟩ := hen9
    rw [he9] at hcl9
    refine x_catchN (pre := []) (x := ⟨0, 9, 12, 19⟩) (suf := []) C hex rfl (fun z hz => by cases hz) (by decide) (by decide) q1669 q1685 hce9 hcv9 hcl9 ?_
    refine lv_astore_n (lv' := [(3, .ref (ax ux)), (0, .ref xa), (1, .int x), (2, .ref oa)]) hx hb dX0_export_12 rfl hl (by decide) rfl (fun ls hl => ?_)
    refine lv_iconst (v := nI 1) hx hb dX0_export_13 (by decide) ?_
    subst hQ
    refine vy_ret ?_
    exact ret_i C hr hlocks h (Sum.inr ux) hux (by show some (Value.int (nI (kn ux))) = _; rw [hk9]) rfl (by omega) (by omega) dX0_export_14
  have h : Wd D B s ([(oa, lar dA 1 g)] ++ wr u) H locs := h
  refine lv_i2l (v := (vf u).toInt64) hx hb dX0_export_7 rfl ?_
  refine n_lst C h dX0_export_8 (fun H locs h => ?_)
  refine lv_goto (tgt := 15) hx hb dX0_export_9 (by decide) ?_
  refine lv_iconst (v := nI 0) hx hb dX0_export_15 (by decide) ?_
  subst hQ
  refine vy_ret ?_
  exact ret_i C hr hlocks h (Sum.inl u) hu rfl rfl (by omega) (by omega) dX0_export_16
set_option maxHeartbeats 1000000 in
set_option maxRecDepth 100000 in
theorem w_armor (l : Launch) (D : va_G) (dA : Nat → ClassId) (B : Nat) (Z : State → Prop) (hZ : Stab B Z) {S SX : Type} (ws : va_W) (oa xa : Nat) (g : Nat → Nat) (x : Int32) (post : S → Prop) (vf : S → Int32) (wr : S → va_W) (px : SX → Prop) (kn ax : SX → Nat) (en : SX → String) (wx : SX → va_W) (mc ms : Nat) (hze : ZE Z) (fs9 : List Value) (hx0 : (xa, .inr (0, fs9)) ∈ ws) (hen : ∀ u, px u → (kn u = 1 ∧ en u = "java/lang/IllegalArgumentException") ∨ (kn u = 2 ∧ en u = "java/lang/UnsupportedOperationException")) (hM : CtX (S := S) (SX := SX) l D dA B Z yX1_armor_2 cX1_armor_2 2 (some .int) 9 mc ms [.ref xa, .int x] ws post (fun u => some (.int (vf u))) (fun u => [(oa, lar dA 1 g)] ++ wr u) px ax en wx) :
    CtH (S := S ⊕ SX) (SX := Unit) l D dA B Z yX0_armor cX0_armor 4 (some .int) [((0 : Nat), (9 : Nat), (12 : Nat), (13 : Nat)), ((0 : Nat), (9 : Nat), (15 : Nat), (42 : Nat))] 20 mc ms [.ref xa, .int x, .ref oa] ws (fun u => Sum.elim post px u) (fun u => some (.int (nI (Sum.elim (fun _ => 0) kn u)))) (fun u => Sum.elim (fun u => [(oa, lar dA 1 (fun _ => uL ((vf u).toInt64)))] ++ wr u) wx u) (fun _ => False) (fun _ => 0) (fun _ => "") (fun _ => []) := by
  refine CtH.mk2 (by decide) (Nat.le_of_ble_eq_true rfl) hZ ?_
  intro p e R s m args below meth c ls Q C hr hlocks hin hex hQ hl h
  have C0 := C
  obtain ⟨hx, hb, hml, hown, hts, -⟩ := C0
  have hl : lv_has ls 4 [(0, .ref xa), (1, .int x), (2, .ref oa)] := hl
  refine lv_aload_n hx hb dX0_armor_0 rfl (lv_at hl 2 rfl) ?_
  refine lv_iconst (v := nI 0) hx hb dX0_armor_1 (by decide) ?_
  refine lv_aload_n hx hb dX0_armor_2 rfl (lv_at hl 0 rfl) ?_
  refine lv_iload_n hx hb dX0_armor_3 rfl (lv_at hl 1 rfl) ?_
  refine call_VX (As := [.int x]) (rest := [.int (nI 0), .ref oa]) (n := 1) C h hM (lw_V q1807 q1808 q1809 q129 q1810) (by decide +kernel) (o_recv C h (RC := RX1) (T := TX1) (N := 14) hx0 rfl) (by decide) (by decide) rfl hl rfl (Nat.le_of_ble_eq_true rfl) dX0_armor_4 (by omega) (fun ux ce9 H locs hux h hce9 hcv9 hcl9 => ?_) (fun u H locs hu h => ?_)
  · have hen9 := hen ux hux
    rcases hen9 with ⟨hk9, he9⟩ | ⟨hk9, he9⟩
    · rw [he9] at hcl9
      refine x_catchN (pre := []) (x := ⟨0, 9, 12, 13⟩) (suf := [⟨0, 9, 15, 42⟩]) C hex rfl (fun z hz => by cases hz) (by decide) (by decide) q1439 q866 hce9 hcv9 hcl9 ?_
      refine lv_astore_n (lv' := [(3, .ref (ax ux)), (0, .ref xa), (1, .int x), (2, .ref oa)]) hx hb dX0_armor_12 rfl hl (by decide) rfl (fun ls hl => ?_)
      refine lv_iconst (v := nI 1) hx hb dX0_armor_13 (by decide) ?_
      subst hQ
      refine vy_ret ?_
      exact ret_i C hr hlocks h (Sum.inr ux) hux (by show some (Value.int (nI (kn ux))) = _; rw [hk9]) rfl (by omega) (by omega) dX0_armor_14
    · rw [he9] at hcl9
      refine x_catchN (pre := [⟨0, 9, 12, 13⟩]) (x := ⟨0, 9, 15, 42⟩) (suf := []) C hex rfl (fun z hz => by
        rcases (List.mem_cons.mp hz) with e9 | hz
        · rw [e9]; exact ⟨by decide, _, q1439, hze.2.2.2.1⟩
        · cases hz) (by decide) (by decide) q1806 q1813 hce9 hcv9 hcl9 ?_
      refine lv_astore_n (lv' := [(3, .ref (ax ux)), (0, .ref xa), (1, .int x), (2, .ref oa)]) hx hb dX0_armor_15 rfl hl (by decide) rfl (fun ls hl => ?_)
      refine lv_iconst (v := nI 2) hx hb dX0_armor_16 (by decide) ?_
      subst hQ
      refine vy_ret ?_
      exact ret_i C hr hlocks h (Sum.inr ux) hux (by show some (Value.int (nI (kn ux))) = _; rw [hk9]) rfl (by omega) (by omega) dX0_armor_17
  have h : Wd D B s ([(oa, lar dA 1 g)] ++ wr u) H locs := h
  refine lv_i2l (v := (vf u).toInt64) hx hb dX0_armor_7 rfl ?_
  refine n_lst C h dX0_armor_8 (fun H locs h => ?_)
  refine lv_goto (tgt := 18) hx hb dX0_armor_9 (by decide) ?_
  refine lv_iconst (v := nI 0) hx hb dX0_armor_18 (by decide) ?_
  subst hQ
  refine vy_ret ?_
  exact ret_i C hr hlocks h (Sum.inl u) hu rfl rfl (by omega) (by omega) dX0_armor_19
set_option maxHeartbeats 1000000 in
set_option maxRecDepth 100000 in
theorem w_out (l : Launch) (D : va_G) (dA : Nat → ClassId) (B : Nat) (Z : State → Prop) (hZ : Stab B Z) {S SX : Type} (ws : va_W) (oa xa : Nat) (g : Nat → Nat) (x : Int32) (post : S → Prop) (vf : S → Int32) (wr : S → va_W) (px : SX → Prop) (kn ax : SX → Nat) (en : SX → String) (wx : SX → va_W) (mc ms : Nat) (hze : ZE Z) (fs9 : List Value) (hx0 : (xa, .inr (0, fs9)) ∈ ws) (hen : ∀ u, px u → (kn u = 1 ∧ en u = "java/lang/ArrayIndexOutOfBoundsException")) (hM : CtX (S := S) (SX := SX) l D dA B Z yX1_out cX1_out 2 (some .int) 7 mc ms [.ref xa, .int x] ws post (fun u => some (.int (vf u))) (fun u => [(oa, lar dA 1 g)] ++ wr u) px ax en wx) :
    CtH (S := S ⊕ SX) (SX := Unit) l D dA B Z yX0_out cX0_out 4 (some .int) [((0 : Nat), (9 : Nat), (12 : Nat), (47 : Nat))] 20 mc ms [.ref xa, .int x, .ref oa] ws (fun u => Sum.elim post px u) (fun u => some (.int (nI (Sum.elim (fun _ => 0) kn u)))) (fun u => Sum.elim (fun u => [(oa, lar dA 1 (fun _ => uL ((vf u).toInt64)))] ++ wr u) wx u) (fun _ => False) (fun _ => 0) (fun _ => "") (fun _ => []) := by
  refine CtH.mk2 (by decide) (Nat.le_of_ble_eq_true rfl) hZ ?_
  intro p e R s m args below meth c ls Q C hr hlocks hin hex hQ hl h
  have C0 := C
  obtain ⟨hx, hb, hml, hown, hts, -⟩ := C0
  have hl : lv_has ls 4 [(0, .ref xa), (1, .int x), (2, .ref oa)] := hl
  refine lv_aload_n hx hb dX0_out_0 rfl (lv_at hl 2 rfl) ?_
  refine lv_iconst (v := nI 0) hx hb dX0_out_1 (by decide) ?_
  refine lv_aload_n hx hb dX0_out_2 rfl (lv_at hl 0 rfl) ?_
  refine lv_iload_n hx hb dX0_out_3 rfl (lv_at hl 1 rfl) ?_
  refine call_VX (As := [.int x]) (rest := [.int (nI 0), .ref oa]) (n := 1) C h hM (lw_V q1830 q1831 q1832 q129 q1833) (by decide +kernel) (o_recv C h (RC := RX1) (T := TX1) (N := 14) hx0 rfl) (by decide) (by decide) rfl hl rfl (Nat.le_of_ble_eq_true rfl) dX0_out_4 (by omega) (fun ux ce9 H locs hux h hce9 hcv9 hcl9 => ?_) (fun u H locs hu h => ?_)
  · have hen9 := hen ux hux
    obtain ⟨hk9, he9⟩ := hen9
    rw [he9] at hcl9
    refine x_catchN (pre := []) (x := ⟨0, 9, 12, 47⟩) (suf := []) C hex rfl (fun z hz => by cases hz) (by decide) (by decide) q1829 q1566 hce9 hcv9 hcl9 ?_
    refine lv_astore_n (lv' := [(3, .ref (ax ux)), (0, .ref xa), (1, .int x), (2, .ref oa)]) hx hb dX0_out_12 rfl hl (by decide) rfl (fun ls hl => ?_)
    refine lv_iconst (v := nI 1) hx hb dX0_out_13 (by decide) ?_
    subst hQ
    refine vy_ret ?_
    exact ret_i C hr hlocks h (Sum.inr ux) hux (by show some (Value.int (nI (kn ux))) = _; rw [hk9]) rfl (by omega) (by omega) dX0_out_14
  have h : Wd D B s ([(oa, lar dA 1 g)] ++ wr u) H locs := h
  refine lv_i2l (v := (vf u).toInt64) hx hb dX0_out_7 rfl ?_
  refine n_lst C h dX0_out_8 (fun H locs h => ?_)
  refine lv_goto (tgt := 15) hx hb dX0_out_9 (by decide) ?_
  refine lv_iconst (v := nI 0) hx hb dX0_out_15 (by decide) ?_
  subst hQ
  refine vy_ret ?_
  exact ret_i C hr hlocks h (Sum.inl u) hu rfl rfl (by omega) (by omega) dX0_out_16
set_option maxHeartbeats 1000000 in
set_option maxRecDepth 100000 in
theorem w_drop (l : Launch) (D : va_G) (dA : Nat → ClassId) (B : Nat) (Z : State → Prop) (hZ : Stab B Z) {S SX : Type} (ws : va_W) (oa xa : Nat) (g : Nat → Nat) (x : Int32) (post : S → Prop) (vf : S → Int32) (wr : S → va_W) (px : SX → Prop) (kn ax : SX → Nat) (en : SX → String) (wx : SX → va_W) (mc ms : Nat) (hze : ZE Z) (fs9 : List Value) (hx0 : (xa, .inr (0, fs9)) ∈ ws) (hen : ∀ u, px u → (kn u = 1 ∧ en u = "java/lang/IndexOutOfBoundsException")) (hM : CtX (S := S) (SX := SX) l D dA B Z yX1_drop cX1_drop 2 (some .int) 7 mc ms [.ref xa, .int x] ws post (fun u => some (.int (vf u))) (fun u => [(oa, lar dA 1 g)] ++ wr u) px ax en wx) :
    CtH (S := S ⊕ SX) (SX := Unit) l D dA B Z yX0_drop cX0_drop 4 (some .int) [((0 : Nat), (9 : Nat), (12 : Nat), (19 : Nat))] 20 mc ms [.ref xa, .int x, .ref oa] ws (fun u => Sum.elim post px u) (fun u => some (.int (nI (Sum.elim (fun _ => 0) kn u)))) (fun u => Sum.elim (fun u => [(oa, lar dA 1 (fun _ => uL ((vf u).toInt64)))] ++ wr u) wx u) (fun _ => False) (fun _ => 0) (fun _ => "") (fun _ => []) := by
  refine CtH.mk2 (by decide) (Nat.le_of_ble_eq_true rfl) hZ ?_
  intro p e R s m args below meth c ls Q C hr hlocks hin hex hQ hl h
  have C0 := C
  obtain ⟨hx, hb, hml, hown, hts, -⟩ := C0
  have hl : lv_has ls 4 [(0, .ref xa), (1, .int x), (2, .ref oa)] := hl
  refine lv_aload_n hx hb dX0_drop_0 rfl (lv_at hl 2 rfl) ?_
  refine lv_iconst (v := nI 0) hx hb dX0_drop_1 (by decide) ?_
  refine lv_aload_n hx hb dX0_drop_2 rfl (lv_at hl 0 rfl) ?_
  refine lv_iload_n hx hb dX0_drop_3 rfl (lv_at hl 1 rfl) ?_
  refine call_VX (As := [.int x]) (rest := [.int (nI 0), .ref oa]) (n := 1) C h hM (lw_V q1842 q1843 q1844 q129 q1845) (by decide +kernel) (o_recv C h (RC := RX1) (T := TX1) (N := 14) hx0 rfl) (by decide) (by decide) rfl hl rfl (Nat.le_of_ble_eq_true rfl) dX0_drop_4 (by omega) (fun ux ce9 H locs hux h hce9 hcv9 hcl9 => ?_) (fun u H locs hu h => ?_)
  · have hen9 := hen ux hux
    obtain ⟨hk9, he9⟩ := hen9
    rw [he9] at hcl9
    refine x_catchN (pre := []) (x := ⟨0, 9, 12, 19⟩) (suf := []) C hex rfl (fun z hz => by cases hz) (by decide) (by decide) q1669 q1685 hce9 hcv9 hcl9 ?_
    refine lv_astore_n (lv' := [(3, .ref (ax ux)), (0, .ref xa), (1, .int x), (2, .ref oa)]) hx hb dX0_drop_12 rfl hl (by decide) rfl (fun ls hl => ?_)
    refine lv_iconst (v := nI 1) hx hb dX0_drop_13 (by decide) ?_
    subst hQ
    refine vy_ret ?_
    exact ret_i C hr hlocks h (Sum.inr ux) hux (by show some (Value.int (nI (kn ux))) = _; rw [hk9]) rfl (by omega) (by omega) dX0_drop_14
  have h : Wd D B s ([(oa, lar dA 1 g)] ++ wr u) H locs := h
  refine lv_i2l (v := (vf u).toInt64) hx hb dX0_drop_7 rfl ?_
  refine n_lst C h dX0_drop_8 (fun H locs h => ?_)
  refine lv_goto (tgt := 15) hx hb dX0_drop_9 (by decide) ?_
  refine lv_iconst (v := nI 0) hx hb dX0_drop_15 (by decide) ?_
  subst hQ
  refine vy_ret ?_
  exact ret_i C hr hlocks h (Sum.inl u) hu rfl rfl (by omega) (by omega) dX0_drop_16
set_option maxHeartbeats 1000000 in
set_option maxRecDepth 100000 in
theorem w_hash (l : Launch) (D : va_G) (dA : Nat → ClassId) (B : Nat) (Z : State → Prop) (hZ : Stab B Z) {S SX : Type} (ws : va_W) (oa xa : Nat) (g : Nat → Nat) (x : Int32) (y : Int32) (post : S → Prop) (vf : S → Int32) (wr : S → va_W) (px : SX → Prop) (kn ax : SX → Nat) (en : SX → String) (wx : SX → va_W) (mc ms : Nat) (hze : ZE Z) (fs9 : List Value) (hx0 : (xa, .inr (0, fs9)) ∈ ws) (hen : ∀ u, px u → (kn u = 1 ∧ en u = "java/lang/IllegalArgumentException") ∨ (kn u = 2 ∧ en u = "java/lang/IndexOutOfBoundsException")) (hM : CtX (S := S) (SX := SX) l D dA B Z yX1_hash cX1_hash 4 (some .int) 9 mc ms [.ref xa, .int x, .int y] ws post (fun u => some (.int (vf u))) (fun u => [(oa, lar dA 1 g)] ++ wr u) px ax en wx) :
    CtH (S := S ⊕ SX) (SX := Unit) l D dA B Z yX0_hash cX0_hash 5 (some .int) [((0 : Nat), (10 : Nat), (13 : Nat), (13 : Nat)), ((0 : Nat), (10 : Nat), (17 : Nat), (19 : Nat))] 20 mc ms [.ref xa, .int x, .int y, .ref oa] ws (fun u => Sum.elim post px u) (fun u => some (.int (nI (Sum.elim (fun _ => 0) kn u)))) (fun u => Sum.elim (fun u => [(oa, lar dA 1 (fun _ => uL ((vf u).toInt64)))] ++ wr u) wx u) (fun _ => False) (fun _ => 0) (fun _ => "") (fun _ => []) := by
  refine CtH.mk2 (by decide) (Nat.le_of_ble_eq_true rfl) hZ ?_
  intro p e R s m args below meth c ls Q C hr hlocks hin hex hQ hl h
  have C0 := C
  obtain ⟨hx, hb, hml, hown, hts, -⟩ := C0
  have hl : lv_has ls 5 [(0, .ref xa), (1, .int x), (2, .int y), (3, .ref oa)] := hl
  refine lv_aload_n hx hb dX0_hash_0 rfl (lv_at hl 3 rfl) ?_
  refine lv_iconst (v := nI 0) hx hb dX0_hash_1 (by decide) ?_
  refine lv_aload_n hx hb dX0_hash_2 rfl (lv_at hl 0 rfl) ?_
  refine lv_iload_n hx hb dX0_hash_3 rfl (lv_at hl 1 rfl) ?_
  refine lv_iload_n hx hb dX0_hash_4 rfl (lv_at hl 2 rfl) ?_
  refine call_VX (As := [.int x, .int y]) (rest := [.int (nI 0), .ref oa]) (n := 2) C h hM (lw_V q1857 q1858 q1859 q129 q1860) (by decide +kernel) (o_recv C h (RC := RX1) (T := TX1) (N := 14) hx0 rfl) (by decide) (by decide) rfl hl rfl (Nat.le_of_ble_eq_true rfl) dX0_hash_5 (by omega) (fun ux ce9 H locs hux h hce9 hcv9 hcl9 => ?_) (fun u H locs hu h => ?_)
  · have hen9 := hen ux hux
    rcases hen9 with ⟨hk9, he9⟩ | ⟨hk9, he9⟩
    · rw [he9] at hcl9
      refine x_catchN (pre := []) (x := ⟨0, 10, 13, 13⟩) (suf := [⟨0, 10, 17, 19⟩]) C hex rfl (fun z hz => by cases hz) (by decide) (by decide) q1439 q866 hce9 hcv9 hcl9 ?_
      refine lv_astore (lv' := [(4, .ref (ax ux)), (0, .ref xa), (1, .int x), (2, .int y), (3, .ref oa)]) hx hb dX0_hash_13 hl (by decide) rfl (fun ls hl => ?_)
      refine lv_iconst (v := nI 1) hx hb dX0_hash_15 (by decide) ?_
      subst hQ
      refine vy_ret ?_
      exact ret_i C hr hlocks h (Sum.inr ux) hux (by show some (Value.int (nI (kn ux))) = _; rw [hk9]) rfl (by omega) (by omega) dX0_hash_16
    · rw [he9] at hcl9
      refine x_catchN (pre := [⟨0, 10, 13, 13⟩]) (x := ⟨0, 10, 17, 19⟩) (suf := []) C hex rfl (fun z hz => by
        rcases (List.mem_cons.mp hz) with e9 | hz
        · rw [e9]; exact ⟨by decide, _, q1439, hze.2.2.2.2⟩
        · cases hz) (by decide) (by decide) q1669 q1685 hce9 hcv9 hcl9 ?_
      refine lv_astore (lv' := [(4, .ref (ax ux)), (0, .ref xa), (1, .int x), (2, .int y), (3, .ref oa)]) hx hb dX0_hash_17 hl (by decide) rfl (fun ls hl => ?_)
      refine lv_iconst (v := nI 2) hx hb dX0_hash_19 (by decide) ?_
      subst hQ
      refine vy_ret ?_
      exact ret_i C hr hlocks h (Sum.inr ux) hux (by show some (Value.int (nI (kn ux))) = _; rw [hk9]) rfl (by omega) (by omega) dX0_hash_20
  have h : Wd D B s ([(oa, lar dA 1 g)] ++ wr u) H locs := h
  refine lv_i2l (v := (vf u).toInt64) hx hb dX0_hash_8 rfl ?_
  refine n_lst C h dX0_hash_9 (fun H locs h => ?_)
  refine lv_goto (tgt := 21) hx hb dX0_hash_10 (by decide) ?_
  refine lv_iconst (v := nI 0) hx hb dX0_hash_21 (by decide) ?_
  subst hQ
  refine vy_ret ?_
  exact ret_i C hr hlocks h (Sum.inl u) hu rfl rfl (by omega) (by omega) dX0_hash_22
