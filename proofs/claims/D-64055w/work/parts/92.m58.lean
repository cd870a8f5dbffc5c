set_option maxRecDepth 100000

theorem hs1_put {msg : List Nat} {v : Nat} {gb : Nat → Nat} (h : Blk gb msg) (h1 : (msg.length + 1) % 64 = 0) : hs1 (msg ++ [v]) ((msg ++ [v]).length / 64) = add5 (hs1 msg (msg.length / 64)) (rd1 (sW1 (bwF (upN gb (msg.length % 64) v))) 80 (hs1 msg (msg.length / 64))) := by
  rw [List.length_append, show (msg.length + [v].length) / 64 = msg.length / 64 + 1 by show (msg.length + 1) / 64 = _; omega, sW1_cg (h.full (v := v) h1), ← hs1_app (a := msg) (b := [v]) (i := msg.length / 64) (by omega)]
  rfl
theorem hs1_no {msg : List Nat} {v : Nat} (h1 : (msg.length + 1) % 64 ≠ 0) : hs1 (msg ++ [v]) ((msg ++ [v]).length / 64) = hs1 msg (msg.length / 64) := by
  rw [List.length_append, show (msg.length + [v].length) / 64 = msg.length / 64 by show (msg.length + 1) / 64 = _; omega, hs1_app (by omega)]
theorem hs2_put {msg : List Nat} {v : Nat} {gb : Nat → Nat} (h : Blk gb msg) (h1 : (msg.length + 1) % 64 = 0) : hs2 (msg ++ [v]) ((msg ++ [v]).length / 64) = fun j => hs2 msg (msg.length / 64) j + rd2 (sW2 (bwF (upN gb (msg.length % 64) v))) 64 (hs2 msg (msg.length / 64)) j := by
  rw [List.length_append, show (msg.length + [v].length) / 64 = msg.length / 64 + 1 by show (msg.length + 1) / 64 = _; omega, sW2_cg (h.full (v := v) h1), ← hs2_app (a := msg) (b := [v]) (i := msg.length / 64) (by omega)]
  rfl
theorem hs2_no {msg : List Nat} {v : Nat} (h1 : (msg.length + 1) % 64 ≠ 0) : hs2 (msg ++ [v]) ((msg ++ [v]).length / 64) = hs2 msg (msg.length / 64) := by
  rw [List.length_append, show (msg.length + [v].length) / 64 = msg.length / 64 by show (msg.length + 1) / 64 = _; omega, hs2_app (by omega)]

set_option maxHeartbeats 400000 in
set_option maxRecDepth 100000 in
theorem c4_put (l : Launch) (D : va_G) (dA : Nat → ClassId) (B : Nat) (Z : State → Prop) (hZ : Stab B Z) (F : va_W) (ho st fi bl wo : Nat) (gw : Nat → Int32) (gb : Nat → Nat) (msg : List Nat) (x : Int32) (v : Nat)  (hbk : Blk gb msg) (hml : msg.length < 1000000) (h3 : x.toInt8.toInt32 = sb_b v) (hv : v < 256) :
    Ct (S := (Nat → Int32) × (Nat → Int32) × (Nat → Nat)) l D dA B Z yX3_put cX3_put 2 none 4 0 0 [.ref ho, .int x] ([(ho, .inr (2, [.ref st, .ref fi, .ref bl, .long (lN msg.length), .ref wo])), (st, war dA 5 (t5 (hs1 msg (msg.length / 64)))), (wo, war dA 80 gw), (bl, bar dA 64 gb)] ++ F) (fun u => Blk u.2.2 (msg ++ [v])) (fun _ => none) (fun u => [(ho, .inr (2, [.ref st, .ref fi, .ref bl, .long (lN ((msg ++ [v]).length)), .ref wo])), (st, war dA 5 (t5 (hs1 (msg ++ [v]) ((msg ++ [v]).length / 64)))), (wo, war dA 80 u.1), (bl, bar dA 64 u.2.2)] ++ F) := by
  refine Ct.mk2 (by decide) (Nat.le_of_ble_eq_true rfl) hZ ?_
  intro p e R s m args below meth c ls Q C hr hlocks hin hQ hl h
  have C0 := C
  obtain ⟨hx, hb, hml, hown, hts, -⟩ := C0
  have hl : lv_has ls 2 [(0, .ref ho), (1, .int x)] := hl
  have hb2 : Blk (upN gb (msg.length % 64) v) (msg ++ [v]) := hbk.put hv
  refine lv_aload_n hx hb dX3_put_0 rfl (lv_at hl 0 rfl) ?_
  refine o_get C h (RC := RX4) (T := TX4) (N := 5) (List.mem_of_getElem? (i := 0) rfl) rfl in_X4 2 (by decide) q241 rfl (v := .ref bl) rfl dX3_put_1 ?_
  refine lv_aload_n hx hb dX3_put_4 rfl (lv_at hl 0 rfl) ?_
  refine lv_dup hx hb dX3_put_5 rfl ?_
  refine o_get C h (RC := RX4) (T := TX4) (N := 5) (List.mem_of_getElem? (i := 0) rfl) rfl in_X4 3 (by decide) q242 rfl (v := .long (lN msg.length)) rfl dX3_put_6 ?_
  refine lv_dup2_x1_2 hx hb dX3_put_9 rfl rfl ?_
  refine lv_lconst (v := lN 1) hx hb dX3_put_10 (by decide) ?_
  refine lv_ladd hx hb dX3_put_11 (n_topl (y := lN (msg.length + 1)) (lN_add msg.length 1) ?_)
  refine o_put C h 0 (RC := RX4) (T := TX4) (N := 5) (ws' := [(ho, .inr (2, [.ref st, .ref fi, .ref bl, .long (lN (msg.length + 1)), .ref wo])), (st, war dA 5 (t5 (hs1 msg (msg.length / 64)))), (wo, war dA 80 gw), (bl, bar dA 64 gb)] ++ F) rfl rfl in_X4 tyX4_ok nmX4 3 (by decide) q242 rfl rfl (v := .long (lN (msg.length + 1))) rfl rfl (Nat.le_of_ble_eq_true rfl) rfl dX3_put_12 (fun H locs h => ?_)
  refine lv_ldc2 hx hb hown (hts _ q1196) dX3_put_15 ?_
  refine n_topl (y := lN 63) (by decide) ?_
  refine lv_land hx hb dX3_put_18 (n_topl (y := lN (msg.length % 64)) (l_andN (k := 6) (by omega) (by decide)) ?_)
  refine lv_l2i (v := nI (msg.length % 64)) hx hb dX3_put_19 (lN_i _) ?_
  refine lv_iload_n hx hb dX3_put_20 rfl (lv_at hl 1 rfl) ?_
  refine lv_i2b (v := x.toInt8.toInt32) hx hb dX3_put_21 rfl ?_
  refine x_bast C h 3 (v := v) (ws' := [(ho, .inr (2, [.ref st, .ref fi, .ref bl, .long (lN (msg.length + 1)), .ref wo])), (st, war dA 5 (t5 (hs1 msg (msg.length / 64)))), (wo, war dA 80 gw), (bl, bar dA 64 (upN gb (msg.length % 64) v))] ++ F) rfl (by omega) (by decide) (by rw [h3, sb_idem]) rfl dX3_put_22 (fun H locs h => ?_)
  refine lv_aload_n hx hb dX3_put_23 rfl (lv_at hl 0 rfl) ?_
  refine o_get C h (RC := RX4) (T := TX4) (N := 5) (List.mem_of_getElem? (i := 0) rfl) rfl in_X4 3 (by decide) q242 rfl (v := .long (lN (msg.length + 1))) rfl dX3_put_24 ?_
  refine lv_ldc2 hx hb hown (hts _ q1196) dX3_put_27 ?_
  refine n_topl (y := lN 63) (by decide) ?_
  refine lv_land hx hb dX3_put_30 (n_topl (y := lN ((msg.length + 1) % 64)) (l_andN (k := 6) (by omega) (by decide)) ?_)
  refine lv_lconst (v := lN 0) hx hb dX3_put_31 (by decide) ?_
  refine n_lcmp_ne (tgt := 40) hx hb (by omega) (by omega) dX3_put_32 dX3_put_33 (by decide) (fun c32 => ?_) (fun c32 => ?_)
  · subst hQ
    have h : Wd D B s ([(ho, .inr (2, [.ref st, .ref fi, .ref bl, .long (lN ((msg ++ [v]).length)), .ref wo])), (st, war dA 5 (t5 (hs1 (msg ++ [v]) ((msg ++ [v]).length / 64)))), (wo, war dA 80 gw), (bl, bar dA 64 (upN gb (msg.length % 64) v))] ++ F) H locs := by rw [hs1_no c32, List.length_append]; exact h
    exact ret_v C hr hlocks h (gw, gw, upN gb (msg.length % 64) v) hb2 rfl rfl (by omega) (by omega) dX3_put_40
  · refine lv_aload_n hx hb dX3_put_36 rfl (lv_at hl 0 rfl) ?_
    have h : Wd D B s ([(ho, .inr (2, [.ref st, .ref fi, .ref bl, .long (lN (msg.length + 1)), .ref wo])), (st, war dA 5 (t5 (hs1 msg (msg.length / 64)))), (wo, war dA 80 gw)] ++ ([(bl, bar dA 64 (upN gb (msg.length % 64) v))] ++ F)) H locs := h.permL (perm_add (fun g f p0 p1 p2 => by (try simp only [p0, p1, p2]) <;> omega))
    refine call_VS (As := []) (rest := []) (n := 0) (CN := "SignetRing$First") C h (c4_step l D dA B Z hZ ([(bl, bar dA 64 (upN gb (msg.length % 64) v))] ++ F) ho st fi bl wo (lN (msg.length + 1)) (hs1 msg (msg.length / 64)) gw (upN gb (msg.length % 64) v) List.mem_cons_self hb2.2) q1197 q1199 (sel_priv (y := ⟨"SignetRing$Hash", "step", "()V"⟩) ⟨by decide, by decide⟩ (hts _ q1183) rfl (hts _ q226) ((C.2.2.2.2.2.2.1 _ q1198 rfl).use rfl) (hts _ q1199)) q134 q1200 (by decide +kernel) (o_recv C h (RC := RX4) (T := TX4) (N := 5) (List.mem_of_getElem? (i := 0) rfl) rfl) (by decide) (by decide) rfl hl rfl (Nat.le_of_ble_eq_true rfl) dX3_put_37 (by omega) (fun _ H locs _ h => ?_)
    have h : Wd D B s ([(ho, .inr (2, [.ref st, .ref fi, .ref bl, .long (lN (msg.length + 1)), .ref wo])), (st, war dA 5 (t5 (add5 (hs1 msg (msg.length / 64)) (rd1 (sW1 (bwF (upN gb (msg.length % 64) v))) 80 (hs1 msg (msg.length / 64)))))), (wo, war dA 80 (mixF 80 (sW1 (bwF (upN gb (msg.length % 64) v))) gw)), (bl, bar dA 64 (upN gb (msg.length % 64) v))] ++ F) H locs := h.permL (perm_add (fun g f p0 p1 p2 => by (try simp only [p0, p1, p2]) <;> omega))
    subst hQ
    have h : Wd D B s ([(ho, .inr (2, [.ref st, .ref fi, .ref bl, .long (lN ((msg ++ [v]).length)), .ref wo])), (st, war dA 5 (t5 (hs1 (msg ++ [v]) ((msg ++ [v]).length / 64)))), (wo, war dA 80 (mixF 80 (sW1 (bwF (upN gb (msg.length % 64) v))) gw)), (bl, bar dA 64 (upN gb (msg.length % 64) v))] ++ F) H locs := by rw [hs1_put hbk c32, List.length_append]; exact h
    exact ret_v C hr hlocks h (mixF 80 (sW1 (bwF (upN gb (msg.length % 64) v))) gw, gw, upN gb (msg.length % 64) v) hb2 rfl rfl (by omega) (by omega) dX3_put_40
set_option maxHeartbeats 400000 in
set_option maxRecDepth 100000 in
theorem c5_put (l : Launch) (D : va_G) (dA : Nat → ClassId) (B : Nat) (Z : State → Prop) (hZ : Stab B Z) (F : va_W) (ho st fi bl wo ei : Nat) (gw y : Nat → Int32) (gb : Nat → Nat) (msg : List Nat) (x : Int32) (v : Nat) (hzA : ∀ U : State, Z U → ∃ t, va_Z "SignetRing$Second" "ADD" "[I" (.ref t) (bA B) U U.heap ∧ va_T .int t 64 (fun j => .int (K2 j)) (bA B) U U.heap) (hbk : Blk gb msg) (hml : msg.length < 1000000) (h3 : x.toInt8.toInt32 = sb_b v) (hv : v < 256) :
    Ct (S := (Nat → Int32) × (Nat → Int32) × (Nat → Nat)) l D dA B Z yX3_put cX3_put 2 none 4 0 0 [.ref ho, .int x] ([(ho, .inr (3, [.ref st, .ref fi, .ref bl, .long (lN msg.length), .ref wo, .ref ei])), (st, war dA 8 (hs2 msg (msg.length / 64))), (wo, war dA 64 gw), (ei, war dA 8 y), (bl, bar dA 64 gb)] ++ F) (fun u => Blk u.2.2 (msg ++ [v])) (fun _ => none) (fun u => [(ho, .inr (3, [.ref st, .ref fi, .ref bl, .long (lN ((msg ++ [v]).length)), .ref wo, .ref ei])), (st, war dA 8 (hs2 (msg ++ [v]) ((msg ++ [v]).length / 64))), (wo, war dA 64 u.1), (ei, war dA 8 u.2.1), (bl, bar dA 64 u.2.2)] ++ F) := by
  refine Ct.mk2 (by decide) (Nat.le_of_ble_eq_true rfl) hZ ?_
  intro p e R s m args below meth c ls Q C hr hlocks hin hQ hl h
  have C0 := C
  obtain ⟨hx, hb, hml, hown, hts, -⟩ := C0
  have hl : lv_has ls 2 [(0, .ref ho), (1, .int x)] := hl
  have hb2 : Blk (upN gb (msg.length % 64) v) (msg ++ [v]) := hbk.put hv
  refine lv_aload_n hx hb dX3_put_0 rfl (lv_at hl 0 rfl) ?_
  refine o_get C h (RC := RX5) (T := TX5) (N := 6) (List.mem_of_getElem? (i := 0) rfl) rfl in_X5 2 (by decide) q241 rfl (v := .ref bl) rfl dX3_put_1 ?_
  refine lv_aload_n hx hb dX3_put_4 rfl (lv_at hl 0 rfl) ?_
  refine lv_dup hx hb dX3_put_5 rfl ?_
  refine o_get C h (RC := RX5) (T := TX5) (N := 6) (List.mem_of_getElem? (i := 0) rfl) rfl in_X5 3 (by decide) q242 rfl (v := .long (lN msg.length)) rfl dX3_put_6 ?_
  refine lv_dup2_x1_2 hx hb dX3_put_9 rfl rfl ?_
  refine lv_lconst (v := lN 1) hx hb dX3_put_10 (by decide) ?_
  refine lv_ladd hx hb dX3_put_11 (n_topl (y := lN (msg.length + 1)) (lN_add msg.length 1) ?_)
  refine o_put C h 0 (RC := RX5) (T := TX5) (N := 6) (ws' := [(ho, .inr (3, [.ref st, .ref fi, .ref bl, .long (lN (msg.length + 1)), .ref wo, .ref ei])), (st, war dA 8 (hs2 msg (msg.length / 64))), (wo, war dA 64 gw), (ei, war dA 8 y), (bl, bar dA 64 gb)] ++ F) rfl rfl in_X5 tyX5_ok nmX5 3 (by decide) q242 rfl rfl (v := .long (lN (msg.length + 1))) rfl rfl (Nat.le_of_ble_eq_true rfl) rfl dX3_put_12 (fun H locs h => ?_)
  refine lv_ldc2 hx hb hown (hts _ q1196) dX3_put_15 ?_
  refine n_topl (y := lN 63) (by decide) ?_
  refine lv_land hx hb dX3_put_18 (n_topl (y := lN (msg.length % 64)) (l_andN (k := 6) (by omega) (by decide)) ?_)
  refine lv_l2i (v := nI (msg.length % 64)) hx hb dX3_put_19 (lN_i _) ?_
  refine lv_iload_n hx hb dX3_put_20 rfl (lv_at hl 1 rfl) ?_
  refine lv_i2b (v := x.toInt8.toInt32) hx hb dX3_put_21 rfl ?_
  refine x_bast C h 4 (v := v) (ws' := [(ho, .inr (3, [.ref st, .ref fi, .ref bl, .long (lN (msg.length + 1)), .ref wo, .ref ei])), (st, war dA 8 (hs2 msg (msg.length / 64))), (wo, war dA 64 gw), (ei, war dA 8 y), (bl, bar dA 64 (upN gb (msg.length % 64) v))] ++ F) rfl (by omega) (by decide) (by rw [h3, sb_idem]) rfl dX3_put_22 (fun H locs h => ?_)
  refine lv_aload_n hx hb dX3_put_23 rfl (lv_at hl 0 rfl) ?_
  refine o_get C h (RC := RX5) (T := TX5) (N := 6) (List.mem_of_getElem? (i := 0) rfl) rfl in_X5 3 (by decide) q242 rfl (v := .long (lN (msg.length + 1))) rfl dX3_put_24 ?_
  refine lv_ldc2 hx hb hown (hts _ q1196) dX3_put_27 ?_
  refine n_topl (y := lN 63) (by decide) ?_
  refine lv_land hx hb dX3_put_30 (n_topl (y := lN ((msg.length + 1) % 64)) (l_andN (k := 6) (by omega) (by decide)) ?_)
  refine lv_lconst (v := lN 0) hx hb dX3_put_31 (by decide) ?_
  refine n_lcmp_ne (tgt := 40) hx hb (by omega) (by omega) dX3_put_32 dX3_put_33 (by decide) (fun c32 => ?_) (fun c32 => ?_)
  · subst hQ
    have h : Wd D B s ([(ho, .inr (3, [.ref st, .ref fi, .ref bl, .long (lN ((msg ++ [v]).length)), .ref wo, .ref ei])), (st, war dA 8 (hs2 (msg ++ [v]) ((msg ++ [v]).length / 64))), (wo, war dA 64 gw), (ei, war dA 8 y), (bl, bar dA 64 (upN gb (msg.length % 64) v))] ++ F) H locs := by rw [hs2_no c32, List.length_append]; exact h
    exact ret_v C hr hlocks h (gw, y, upN gb (msg.length % 64) v) hb2 rfl rfl (by omega) (by omega) dX3_put_40
  · refine lv_aload_n hx hb dX3_put_36 rfl (lv_at hl 0 rfl) ?_
    have h : Wd D B s ([(ho, .inr (3, [.ref st, .ref fi, .ref bl, .long (lN (msg.length + 1)), .ref wo, .ref ei])), (st, war dA 8 (hs2 msg (msg.length / 64))), (wo, war dA 64 gw), (ei, war dA 8 y)] ++ ([(bl, bar dA 64 (upN gb (msg.length % 64) v))] ++ F)) H locs := h.permL (perm_add (fun g f p0 p1 p2 => by (try simp only [p0, p1, p2]) <;> omega))
    refine call_VS (As := []) (rest := []) (n := 0) (CN := "SignetRing$Second") C h (c5_step l D dA B Z hZ ([(bl, bar dA 64 (upN gb (msg.length % 64) v))] ++ F) ho st fi bl wo ei (lN (msg.length + 1)) (hs2 msg (msg.length / 64)) gw y (upN gb (msg.length % 64) v) hzA List.mem_cons_self hb2.2) q1197 q1199 (sel_priv (y := ⟨"SignetRing$Hash", "step", "()V"⟩) ⟨by decide, by decide⟩ (hts _ q1184) rfl (hts _ q261) ((C.2.2.2.2.2.2.1 _ q1198 rfl).use rfl) (hts _ q1199)) q134 q1200 (by decide +kernel) (o_recv C h (RC := RX5) (T := TX5) (N := 6) (List.mem_of_getElem? (i := 0) rfl) rfl) (by decide) (by decide) rfl hl rfl (Nat.le_of_ble_eq_true rfl) dX3_put_37 (by omega) (fun _ H locs _ h => ?_)
    have h : Wd D B s ([(ho, .inr (3, [.ref st, .ref fi, .ref bl, .long (lN (msg.length + 1)), .ref wo, .ref ei])), (st, war dA 8 (fun j => (hs2 msg (msg.length / 64)) j + rd2 (sW2 (bwF (upN gb (msg.length % 64) v))) 64 (hs2 msg (msg.length / 64)) j)), (wo, war dA 64 (mixF 64 (sW2 (bwF (upN gb (msg.length % 64) v))) gw)), (ei, war dA 8 (rd2 (sW2 (bwF (upN gb (msg.length % 64) v))) 64 (hs2 msg (msg.length / 64)))), (bl, bar dA 64 (upN gb (msg.length % 64) v))] ++ F) H locs := h.permL (perm_add (fun g f p0 p1 p2 => by (try simp only [p0, p1, p2]) <;> omega))
    subst hQ
    have h : Wd D B s ([(ho, .inr (3, [.ref st, .ref fi, .ref bl, .long (lN ((msg ++ [v]).length)), .ref wo, .ref ei])), (st, war dA 8 (hs2 (msg ++ [v]) ((msg ++ [v]).length / 64))), (wo, war dA 64 (mixF 64 (sW2 (bwF (upN gb (msg.length % 64) v))) gw)), (ei, war dA 8 (rd2 (sW2 (bwF (upN gb (msg.length % 64) v))) 64 (hs2 msg (msg.length / 64)))), (bl, bar dA 64 (upN gb (msg.length % 64) v))] ++ F) H locs := by rw [hs2_put hbk c32, List.length_append]; exact h
    exact ret_v C hr hlocks h (mixF 64 (sW2 (bwF (upN gb (msg.length % 64) v))) gw, rd2 (sW2 (bwF (upN gb (msg.length % 64) v))) 64 (hs2 msg (msg.length / 64)), upN gb (msg.length % 64) v) hb2 rfl rfl (by omega) (by omega) dX3_put_40
