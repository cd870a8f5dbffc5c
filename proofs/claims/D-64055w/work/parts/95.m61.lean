set_option maxRecDepth 100000
set_option maxHeartbeats 400000 in
set_option maxRecDepth 100000 in
theorem c4_hash (l : Launch) (D : va_G) (dA : Nat → ClassId) (B : Nat) (Z : State → Prop) (hZ : Stab B Z) (F : va_W) (ho fi : Nat) (mn : Int64) (x9 : Nat → Int32)  :
    Ct (S := Nat × Nat × Nat) l D dA B Z yX3_init cX3_init 3 none 2 3 149 [.ref ho, .ref fi, .int (nI 80)] ([(ho, .inr (2, [.null, .null, .null, .long mn, .null])), (fi, war dA 5 x9)] ++ F) (fun _ => True) (fun _ => none) (fun u => [(ho, .inr (2, [.ref u.1, .ref fi, .ref u.2.1, .long mn, .ref u.2.2])), (u.1, war dA 5 (fun _ => nI 0)), (u.2.2, war dA 80 (fun _ => nI 0)), (u.2.1, bar dA 64 (fun _ => 0)), (fi, war dA 5 x9)] ++ F) := by
  refine Ct.mk2 (by decide) (Nat.le_of_ble_eq_true rfl) hZ ?_
  intro p e R s m args below meth c ls Q C hr hlocks hin hQ hl h
  have C0 := C
  obtain ⟨hx, hb, hml, hown, hts, -⟩ := C0
  have hl : lv_has ls 3 [(0, .ref ho), (1, .ref fi), (2, .int (nI 80))] := hl
  refine lv_aload_n hx hb dX3_init_0 rfl (lv_at hl 0 rfl) ?_
  refine o_init C h q238 hl.1 (by decide) (Nat.le_of_ble_eq_true rfl) dX3_init_1 ?_
  refine lv_aload_n hx hb dX3_init_4 rfl (lv_at hl 0 rfl) ?_
  refine lv_bipush (v := nI 64) hx hb dX3_init_5 (by decide) ?_
  refine n_newb C h (n := 64) q198 (by omega) (by omega) (by omega) dX3_init_7 (fun o1 H h => ?_)
  have h : Wd D B s ([(o1, bar dA 64 (fun _ => 0)), (ho, .inr (2, [.null, .null, .null, .long mn, .null])), (fi, war dA 5 x9)] ++ F) H [] := h.permL (perm_add (fun g f p0 p1 p2 => by (try simp only [p0, p1, p2]) <;> omega))
  refine o_putF C h 1 (RC := RX4) (T := TX4) (N := 5) (ws' := [(o1, bar dA 64 (fun _ => 0)), (ho, .inr (2, [.null, .null, .ref o1, .long mn, .null])), (fi, war dA 5 x9)] ++ F) rfl rfl in_X4 tyX4_ok nmX4 2 (by decide) q241 rfl rfl (hin rfl) rfl (v := .ref o1) rfl rfl (Nat.le_of_ble_eq_true rfl) rfl dX3_init_9 (fun H locs h => ?_)
  refine lv_aload_n hx hb dX3_init_12 rfl (lv_at hl 0 rfl) ?_
  refine lv_aload_n hx hb dX3_init_13 rfl (lv_at hl 1 rfl) ?_
  refine o_putF C h 1 (RC := RX4) (T := TX4) (N := 5) (ws' := [(o1, bar dA 64 (fun _ => 0)), (ho, .inr (2, [.null, .ref fi, .ref o1, .long mn, .null])), (fi, war dA 5 x9)] ++ F) rfl rfl in_X4 tyX4_ok nmX4 1 (by decide) q240 rfl rfl (hin rfl) rfl (v := .ref fi) rfl rfl (Nat.le_of_ble_eq_true rfl) rfl dX3_init_14 (fun H locs h => ?_)
  refine lv_aload_n hx hb dX3_init_17 rfl (lv_at hl 0 rfl) ?_
  refine lv_aload_n hx hb dX3_init_18 rfl (lv_at hl 1 rfl) ?_
  refine n_walen C h (List.mem_of_getElem? (i := 2) rfl) dX3_init_19 ?_
  refine n_newa C h (n := 5) (by omega) (by omega) (by omega) dX3_init_20 (fun o2 H h => ?_)
  have h : Wd D B s ([(o2, iar dA 5 (fun _ => 0)), (o1, bar dA 64 (fun _ => 0)), (ho, .inr (2, [.null, .ref fi, .ref o1, .long mn, .null])), (fi, war dA 5 x9)] ++ F) H locs := h.permL (perm_add (fun g f p0 p1 p2 => by (try simp only [p0, p1, p2]) <;> omega))
  have h : Wd D B s ([(o2, war dA 5 (fun _ => nI 0)), (o1, bar dA 64 (fun _ => 0)), (ho, .inr (2, [.null, .ref fi, .ref o1, .long mn, .null])), (fi, war dA 5 x9)] ++ F) H locs := h
  refine o_putF C h 2 (RC := RX4) (T := TX4) (N := 5) (ws' := [(o2, war dA 5 (fun _ => nI 0)), (o1, bar dA 64 (fun _ => 0)), (ho, .inr (2, [.ref o2, .ref fi, .ref o1, .long mn, .null])), (fi, war dA 5 x9)] ++ F) rfl rfl in_X4 tyX4_ok nmX4 0 (by decide) q239 rfl rfl (hin rfl) rfl (v := .ref o2) rfl rfl (Nat.le_of_ble_eq_true rfl) rfl dX3_init_22 (fun H locs h => ?_)
  refine lv_aload_n hx hb dX3_init_25 rfl (lv_at hl 0 rfl) ?_
  refine lv_iload_n hx hb dX3_init_26 rfl (lv_at hl 2 rfl) ?_
  refine n_newa C h (n := 80) (by omega) (by omega) (by omega) dX3_init_27 (fun o3 H h => ?_)
  have h : Wd D B s ([(o3, iar dA 80 (fun _ => 0)), (o2, war dA 5 (fun _ => nI 0)), (o1, bar dA 64 (fun _ => 0)), (ho, .inr (2, [.ref o2, .ref fi, .ref o1, .long mn, .null])), (fi, war dA 5 x9)] ++ F) H locs := h.permL (perm_add (fun g f p0 p1 p2 => by (try simp only [p0, p1, p2]) <;> omega))
  have h : Wd D B s ([(o3, war dA 80 (fun _ => nI 0)), (o2, war dA 5 (fun _ => nI 0)), (o1, bar dA 64 (fun _ => 0)), (ho, .inr (2, [.ref o2, .ref fi, .ref o1, .long mn, .null])), (fi, war dA 5 x9)] ++ F) H locs := h
  refine o_putF C h 3 (RC := RX4) (T := TX4) (N := 5) (ws' := [(o3, war dA 80 (fun _ => nI 0)), (o2, war dA 5 (fun _ => nI 0)), (o1, bar dA 64 (fun _ => 0)), (ho, .inr (2, [.ref o2, .ref fi, .ref o1, .long mn, .ref o3])), (fi, war dA 5 x9)] ++ F) rfl rfl in_X4 tyX4_ok nmX4 4 (by decide) q243 rfl rfl (hin rfl) rfl (v := .ref o3) rfl rfl (Nat.le_of_ble_eq_true rfl) rfl dX3_init_29 (fun H locs h => ?_)
  subst hQ
  have h : Wd D B s ([(ho, .inr (2, [.ref o2, .ref fi, .ref o1, .long mn, .ref o3])), (o2, war dA 5 (fun _ => nI 0)), (o3, war dA 80 (fun _ => nI 0)), (o1, bar dA 64 (fun _ => 0)), (fi, war dA 5 x9)] ++ F) H locs := h.permL (perm_add (fun g f p0 p1 p2 => by (try simp only [p0, p1, p2]) <;> omega))
  exact ret_v C hr hlocks h (o2, o1, o3) trivial rfl rfl (by omega) (by omega) dX3_init_32
set_option maxHeartbeats 400000 in
set_option maxRecDepth 100000 in
theorem c4_init (l : Launch) (D : va_G) (dA : Nat → ClassId) (B : Nat) (Z : State → Prop) (hZ : Stab B Z) (F : va_W) (ho : Nat) (mn : Int64)  :
    Ct (S := Nat × Nat × Nat × Nat × Nat) l D dA B Z yX4_init cX4_init 1 none 3 4 154 [.ref ho] ([(ho, .inr (2, [.null, .null, .null, .long mn, .null]))] ++ F) (fun _ => True) (fun _ => none) (fun u => [(ho, .inr (2, [.ref u.1, .ref u.2.1, .ref u.2.2.1, .long mn, .ref u.2.2.2.1])), (u.1, war dA 5 (fun _ => nI 0)), (u.2.2.2.1, war dA 80 (fun _ => nI 0)), (u.2.2.1, bar dA 64 (fun _ => 0)), (u.2.1, war dA 5 (t5 in1))] ++ F) := by
  refine Ct.mk2 (by decide) (Nat.le_of_ble_eq_true rfl) hZ ?_
  intro p e R s m args below meth c ls Q C hr hlocks hin hQ hl h
  have C0 := C
  obtain ⟨hx, hb, hml, hown, hts, -⟩ := C0
  have hl : lv_has ls 1 [(0, .ref ho)] := hl
  refine lv_aload_n hx hb dX4_init_0 rfl (lv_at hl 0 rfl) ?_
  refine lv_iconst (v := nI 5) hx hb dX4_init_1 (by decide) ?_
  refine n_newa C h (n := 5) (by omega) (by omega) (by omega) dX4_init_2 (fun o1 H h => ?_)
  have h : Wd D B s ([(o1, iar dA 5 (fun _ => 0)), (ho, .inr (2, [.null, .null, .null, .long mn, .null]))] ++ F) H [] := h.permL (perm_add (fun g f p0 p1 p2 => by (try simp only [p0, p1, p2]) <;> omega))
  have h : Wd D B s ([(o1, war dA 5 (fun _ => nI 0)), (ho, .inr (2, [.null, .null, .null, .long mn, .null]))] ++ F) H [] := h
  refine lv_dup hx hb dX4_init_4 rfl ?_
  refine lv_iconst (v := nI 0) hx hb dX4_init_5 (by decide) ?_
  refine lv_ldc hx hb hown (hts _ q230) dX4_init_6 ?_
  refine n_top (y := nI 1732584193) (by decide) ?_
  refine x_wast C h 0 (v := nI 1732584193) (ws' := [(o1, war dA 5 (upN (fun _ => nI 0) 0 (nI 1732584193))), (ho, .inr (2, [.null, .null, .null, .long mn, .null]))] ++ F) rfl (by omega) (by decide) rfl dX4_init_8 (fun H locs h => ?_)
  refine lv_dup hx hb dX4_init_9 rfl ?_
  refine lv_iconst (v := nI 1) hx hb dX4_init_10 (by decide) ?_
  refine lv_ldc hx hb hown (hts _ q231) dX4_init_11 ?_
  refine x_wast C h 0 (v := (-271733879)) (ws' := [(o1, war dA 5 (upN (upN (fun _ => nI 0) 0 (nI 1732584193)) 1 (-271733879))), (ho, .inr (2, [.null, .null, .null, .long mn, .null]))] ++ F) rfl (by omega) (by decide) rfl dX4_init_13 (fun H locs h => ?_)
  refine lv_dup hx hb dX4_init_14 rfl ?_
  refine lv_iconst (v := nI 2) hx hb dX4_init_15 (by decide) ?_
  refine lv_ldc hx hb hown (hts _ q232) dX4_init_16 ?_
  refine x_wast C h 0 (v := (-1732584194)) (ws' := [(o1, war dA 5 (upN (upN (upN (fun _ => nI 0) 0 (nI 1732584193)) 1 (-271733879)) 2 (-1732584194))), (ho, .inr (2, [.null, .null, .null, .long mn, .null]))] ++ F) rfl (by omega) (by decide) rfl dX4_init_18 (fun H locs h => ?_)
  refine lv_dup hx hb dX4_init_19 rfl ?_
  refine lv_iconst (v := nI 3) hx hb dX4_init_20 (by decide) ?_
  refine lv_ldc hx hb hown (hts _ q233) dX4_init_21 ?_
  refine n_top (y := nI 271733878) (by decide) ?_
  refine x_wast C h 0 (v := nI 271733878) (ws' := [(o1, war dA 5 (upN (upN (upN (upN (fun _ => nI 0) 0 (nI 1732584193)) 1 (-271733879)) 2 (-1732584194)) 3 (nI 271733878))), (ho, .inr (2, [.null, .null, .null, .long mn, .null]))] ++ F) rfl (by omega) (by decide) rfl dX4_init_23 (fun H locs h => ?_)
  refine lv_dup hx hb dX4_init_24 rfl ?_
  refine lv_iconst (v := nI 4) hx hb dX4_init_25 (by decide) ?_
  refine lv_ldc hx hb hown (hts _ q234) dX4_init_26 ?_
  refine x_wast C h 0 (v := (-1009589776)) (ws' := [(o1, war dA 5 (upN (upN (upN (upN (upN (fun _ => nI 0) 0 (nI 1732584193)) 1 (-271733879)) 2 (-1732584194)) 3 (nI 271733878)) 4 (-1009589776))), (ho, .inr (2, [.null, .null, .null, .long mn, .null]))] ++ F) rfl (by omega) (by decide) rfl dX4_init_28 (fun H locs h => ?_)
  refine lv_bipush (v := nI 80) hx hb dX4_init_29 (by decide) ?_
  have h : Wd D B s ([(o1, war dA 5 (t5 in1)), (ho, .inr (2, [.null, .null, .null, .long mn, .null]))] ++ F) H locs := Wd.same h 0 rfl (war_same (fun j hj => by
    rcases (show j = 0 ∨ j = 1 ∨ j = 2 ∨ j = 3 ∨ j = 4 by omega) with rfl | rfl | rfl | rfl | rfl <;> rfl)) rfl
  have h : Wd D B s ([(ho, .inr (2, [.null, .null, .null, .long mn, .null])), (o1, war dA 5 (t5 in1))] ++ F) H locs := h.permL (perm_add (fun g f p0 p1 p2 => by (try simp only [p0, p1, p2]) <;> omega))
  refine call_I (As := [.ref o1, .int (nI 80)]) (rest := []) (n := 2) C h (c4_hash l D dA B Z hZ F ho o1 mn (t5 in1)) (lw_meth q237) q134 q235 q236 rfl (by decide +kernel) (by decide) (by decide) rfl hl rfl (Nat.le_of_ble_eq_true rfl) dX4_init_31 (by omega) (fun u3 H locs _ h => ?_)
  obtain ⟨st3, bl3, wo3⟩ := u3
  have h : Wd D B s ([(ho, .inr (2, [.ref st3, .ref o1, .ref bl3, .long mn, .ref wo3])), (st3, war dA 5 (fun _ => nI 0)), (wo3, war dA 80 (fun _ => nI 0)), (bl3, bar dA 64 (fun _ => 0)), (o1, war dA 5 (t5 in1))] ++ F) H locs := h.permL (perm_add (fun g f p0 p1 p2 => by (try simp only [p0, p1, p2]) <;> omega))
  subst hQ
  have h : Wd D B s ([(ho, .inr (2, [.ref st3, .ref o1, .ref bl3, .long mn, .ref wo3])), (st3, war dA 5 (fun _ => nI 0)), (wo3, war dA 80 (fun _ => nI 0)), (bl3, bar dA 64 (fun _ => 0)), (o1, war dA 5 (t5 in1))] ++ F) H locs := h.permL (perm_add (fun g f p0 p1 p2 => by (try simp only [p0, p1, p2]) <;> omega))
  exact ret_v C hr hlocks h (st3, o1, bl3, wo3, 0) trivial rfl rfl (by omega) (by omega) dX4_init_34
set_option maxHeartbeats 400000 in
set_option maxRecDepth 100000 in
theorem c5_hash (l : Launch) (D : va_G) (dA : Nat → ClassId) (B : Nat) (Z : State → Prop) (hZ : Stab B Z) (F : va_W) (ho fi : Nat) (mn : Int64) (x9 : Nat → Int32)  :
    Ct (S := Nat × Nat × Nat) l D dA B Z yX3_init cX3_init 3 none 2 3 136 [.ref ho, .ref fi, .int (nI 64)] ([(ho, .inr (3, [.null, .null, .null, .long mn, .null, .null])), (fi, war dA 8 x9)] ++ F) (fun _ => True) (fun _ => none) (fun u => [(ho, .inr (3, [.ref u.1, .ref fi, .ref u.2.1, .long mn, .ref u.2.2, .null])), (u.1, war dA 8 (fun _ => nI 0)), (u.2.2, war dA 64 (fun _ => nI 0)), (u.2.1, bar dA 64 (fun _ => 0)), (fi, war dA 8 x9)] ++ F) := by
  refine Ct.mk2 (by decide) (Nat.le_of_ble_eq_true rfl) hZ ?_
  intro p e R s m args below meth c ls Q C hr hlocks hin hQ hl h
  have C0 := C
  obtain ⟨hx, hb, hml, hown, hts, -⟩ := C0
  have hl : lv_has ls 3 [(0, .ref ho), (1, .ref fi), (2, .int (nI 64))] := hl
  refine lv_aload_n hx hb dX3_init_0 rfl (lv_at hl 0 rfl) ?_
  refine o_init C h q238 hl.1 (by decide) (Nat.le_of_ble_eq_true rfl) dX3_init_1 ?_
  refine lv_aload_n hx hb dX3_init_4 rfl (lv_at hl 0 rfl) ?_
  refine lv_bipush (v := nI 64) hx hb dX3_init_5 (by decide) ?_
  refine n_newb C h (n := 64) q198 (by omega) (by omega) (by omega) dX3_init_7 (fun o1 H h => ?_)
  have h : Wd D B s ([(o1, bar dA 64 (fun _ => 0)), (ho, .inr (3, [.null, .null, .null, .long mn, .null, .null])), (fi, war dA 8 x9)] ++ F) H [] := h.permL (perm_add (fun g f p0 p1 p2 => by (try simp only [p0, p1, p2]) <;> omega))
  refine o_putF C h 1 (RC := RX5) (T := TX5) (N := 6) (ws' := [(o1, bar dA 64 (fun _ => 0)), (ho, .inr (3, [.null, .null, .ref o1, .long mn, .null, .null])), (fi, war dA 8 x9)] ++ F) rfl rfl in_X5 tyX5_ok nmX5 2 (by decide) q241 rfl rfl (hin rfl) rfl (v := .ref o1) rfl rfl (Nat.le_of_ble_eq_true rfl) rfl dX3_init_9 (fun H locs h => ?_)
  refine lv_aload_n hx hb dX3_init_12 rfl (lv_at hl 0 rfl) ?_
  refine lv_aload_n hx hb dX3_init_13 rfl (lv_at hl 1 rfl) ?_
  refine o_putF C h 1 (RC := RX5) (T := TX5) (N := 6) (ws' := [(o1, bar dA 64 (fun _ => 0)), (ho, .inr (3, [.null, .ref fi, .ref o1, .long mn, .null, .null])), (fi, war dA 8 x9)] ++ F) rfl rfl in_X5 tyX5_ok nmX5 1 (by decide) q240 rfl rfl (hin rfl) rfl (v := .ref fi) rfl rfl (Nat.le_of_ble_eq_true rfl) rfl dX3_init_14 (fun H locs h => ?_)
  refine lv_aload_n hx hb dX3_init_17 rfl (lv_at hl 0 rfl) ?_
  refine lv_aload_n hx hb dX3_init_18 rfl (lv_at hl 1 rfl) ?_
  refine n_walen C h (List.mem_of_getElem? (i := 2) rfl) dX3_init_19 ?_
  refine n_newa C h (n := 8) (by omega) (by omega) (by omega) dX3_init_20 (fun o2 H h => ?_)
  have h : Wd D B s ([(o2, iar dA 8 (fun _ => 0)), (o1, bar dA 64 (fun _ => 0)), (ho, .inr (3, [.null, .ref fi, .ref o1, .long mn, .null, .null])), (fi, war dA 8 x9)] ++ F) H locs := h.permL (perm_add (fun g f p0 p1 p2 => by (try simp only [p0, p1, p2]) <;> omega))
  have h : Wd D B s ([(o2, war dA 8 (fun _ => nI 0)), (o1, bar dA 64 (fun _ => 0)), (ho, .inr (3, [.null, .ref fi, .ref o1, .long mn, .null, .null])), (fi, war dA 8 x9)] ++ F) H locs := h
  refine o_putF C h 2 (RC := RX5) (T := TX5) (N := 6) (ws' := [(o2, war dA 8 (fun _ => nI 0)), (o1, bar dA 64 (fun _ => 0)), (ho, .inr (3, [.ref o2, .ref fi, .ref o1, .long mn, .null, .null])), (fi, war dA 8 x9)] ++ F) rfl rfl in_X5 tyX5_ok nmX5 0 (by decide) q239 rfl rfl (hin rfl) rfl (v := .ref o2) rfl rfl (Nat.le_of_ble_eq_true rfl) rfl dX3_init_22 (fun H locs h => ?_)
  refine lv_aload_n hx hb dX3_init_25 rfl (lv_at hl 0 rfl) ?_
  refine lv_iload_n hx hb dX3_init_26 rfl (lv_at hl 2 rfl) ?_
  refine n_newa C h (n := 64) (by omega) (by omega) (by omega) dX3_init_27 (fun o3 H h => ?_)
  have h : Wd D B s ([(o3, iar dA 64 (fun _ => 0)), (o2, war dA 8 (fun _ => nI 0)), (o1, bar dA 64 (fun _ => 0)), (ho, .inr (3, [.ref o2, .ref fi, .ref o1, .long mn, .null, .null])), (fi, war dA 8 x9)] ++ F) H locs := h.permL (perm_add (fun g f p0 p1 p2 => by (try simp only [p0, p1, p2]) <;> omega))
  have h : Wd D B s ([(o3, war dA 64 (fun _ => nI 0)), (o2, war dA 8 (fun _ => nI 0)), (o1, bar dA 64 (fun _ => 0)), (ho, .inr (3, [.ref o2, .ref fi, .ref o1, .long mn, .null, .null])), (fi, war dA 8 x9)] ++ F) H locs := h
  refine o_putF C h 3 (RC := RX5) (T := TX5) (N := 6) (ws' := [(o3, war dA 64 (fun _ => nI 0)), (o2, war dA 8 (fun _ => nI 0)), (o1, bar dA 64 (fun _ => 0)), (ho, .inr (3, [.ref o2, .ref fi, .ref o1, .long mn, .ref o3, .null])), (fi, war dA 8 x9)] ++ F) rfl rfl in_X5 tyX5_ok nmX5 4 (by decide) q243 rfl rfl (hin rfl) rfl (v := .ref o3) rfl rfl (Nat.le_of_ble_eq_true rfl) rfl dX3_init_29 (fun H locs h => ?_)
  subst hQ
  have h : Wd D B s ([(ho, .inr (3, [.ref o2, .ref fi, .ref o1, .long mn, .ref o3, .null])), (o2, war dA 8 (fun _ => nI 0)), (o3, war dA 64 (fun _ => nI 0)), (o1, bar dA 64 (fun _ => 0)), (fi, war dA 8 x9)] ++ F) H locs := h.permL (perm_add (fun g f p0 p1 p2 => by (try simp only [p0, p1, p2]) <;> omega))
  exact ret_v C hr hlocks h (o2, o1, o3) trivial rfl rfl (by omega) (by omega) dX3_init_32
set_option maxHeartbeats 400000 in
set_option maxRecDepth 100000 in
theorem c5_init (l : Launch) (D : va_G) (dA : Nat → ClassId) (B : Nat) (Z : State → Prop) (hZ : Stab B Z) (F : va_W) (ho : Nat) (mn : Int64)  :
    Ct (S := Nat × Nat × Nat × Nat × Nat) l D dA B Z yX5_init cX5_init 1 none 3 5 152 [.ref ho] ([(ho, .inr (3, [.null, .null, .null, .long mn, .null, .null]))] ++ F) (fun _ => True) (fun _ => none) (fun u => [(ho, .inr (3, [.ref u.1, .ref u.2.1, .ref u.2.2.1, .long mn, .ref u.2.2.2.1, .ref u.2.2.2.2])), (u.1, war dA 8 (fun _ => nI 0)), (u.2.2.2.1, war dA 64 (fun _ => nI 0)), (u.2.2.2.2, war dA 8 (fun _ => nI 0)), (u.2.2.1, bar dA 64 (fun _ => 0)), (u.2.1, war dA 8 in2)] ++ F) := by
  refine Ct.mk2 (by decide) (Nat.le_of_ble_eq_true rfl) hZ ?_
  intro p e R s m args below meth c ls Q C hr hlocks hin hQ hl h
  have C0 := C
  obtain ⟨hx, hb, hml, hown, hts, -⟩ := C0
  have hl : lv_has ls 1 [(0, .ref ho)] := hl
  refine lv_aload_n hx hb dX5_init_0 rfl (lv_at hl 0 rfl) ?_
  refine lv_bipush (v := nI 8) hx hb dX5_init_1 (by decide) ?_
  refine n_newa C h (n := 8) (by omega) (by omega) (by omega) dX5_init_3 (fun o1 H h => ?_)
  have h : Wd D B s ([(o1, iar dA 8 (fun _ => 0)), (ho, .inr (3, [.null, .null, .null, .long mn, .null, .null]))] ++ F) H [] := h.permL (perm_add (fun g f p0 p1 p2 => by (try simp only [p0, p1, p2]) <;> omega))
  have h : Wd D B s ([(o1, war dA 8 (fun _ => nI 0)), (ho, .inr (3, [.null, .null, .null, .long mn, .null, .null]))] ++ F) H [] := h
  refine lv_dup hx hb dX5_init_5 rfl ?_
  refine lv_iconst (v := nI 0) hx hb dX5_init_6 (by decide) ?_
  refine lv_ldc hx hb hown (hts _ q265) dX5_init_7 ?_
  refine n_top (y := nI 1779033703) (by decide) ?_
  refine x_wast C h 0 (v := nI 1779033703) (ws' := [(o1, war dA 8 (upN (fun _ => nI 0) 0 (nI 1779033703))), (ho, .inr (3, [.null, .null, .null, .long mn, .null, .null]))] ++ F) rfl (by omega) (by decide) rfl dX5_init_9 (fun H locs h => ?_)
  refine lv_dup hx hb dX5_init_10 rfl ?_
  refine lv_iconst (v := nI 1) hx hb dX5_init_11 (by decide) ?_
  refine lv_ldc hx hb hown (hts _ q266) dX5_init_12 ?_
  refine x_wast C h 0 (v := (-1150833019)) (ws' := [(o1, war dA 8 (upN (upN (fun _ => nI 0) 0 (nI 1779033703)) 1 (-1150833019))), (ho, .inr (3, [.null, .null, .null, .long mn, .null, .null]))] ++ F) rfl (by omega) (by decide) rfl dX5_init_14 (fun H locs h => ?_)
  refine lv_dup hx hb dX5_init_15 rfl ?_
  refine lv_iconst (v := nI 2) hx hb dX5_init_16 (by decide) ?_
  refine lv_ldc hx hb hown (hts _ q267) dX5_init_17 ?_
  refine n_top (y := nI 1013904242) (by decide) ?_
  refine x_wast C h 0 (v := nI 1013904242) (ws' := [(o1, war dA 8 (upN (upN (upN (fun _ => nI 0) 0 (nI 1779033703)) 1 (-1150833019)) 2 (nI 1013904242))), (ho, .inr (3, [.null, .null, .null, .long mn, .null, .null]))] ++ F) rfl (by omega) (by decide) rfl dX5_init_19 (fun H locs h => ?_)
  refine lv_dup hx hb dX5_init_20 rfl ?_
  refine lv_iconst (v := nI 3) hx hb dX5_init_21 (by decide) ?_
  refine lv_ldc hx hb hown (hts _ q268) dX5_init_22 ?_
  refine x_wast C h 0 (v := (-1521486534)) (ws' := [(o1, war dA 8 (upN (upN (upN (upN (fun _ => nI 0) 0 (nI 1779033703)) 1 (-1150833019)) 2 (nI 1013904242)) 3 (-1521486534))), (ho, .inr (3, [.null, .null, .null, .long mn, .null, .null]))] ++ F) rfl (by omega) (by decide) rfl dX5_init_24 (fun H locs h => ?_)
  refine lv_dup hx hb dX5_init_25 rfl ?_
  refine lv_iconst (v := nI 4) hx hb dX5_init_26 (by decide) ?_
  refine lv_ldc hx hb hown (hts _ q269) dX5_init_27 ?_
  refine n_top (y := nI 1359893119) (by decide) ?_
  refine x_wast C h 0 (v := nI 1359893119) (ws' := [(o1, war dA 8 (upN (upN (upN (upN (upN (fun _ => nI 0) 0 (nI 1779033703)) 1 (-1150833019)) 2 (nI 1013904242)) 3 (-1521486534)) 4 (nI 1359893119))), (ho, .inr (3, [.null, .null, .null, .long mn, .null, .null]))] ++ F) rfl (by omega) (by decide) rfl dX5_init_29 (fun H locs h => ?_)
  refine lv_dup hx hb dX5_init_30 rfl ?_
  refine lv_iconst (v := nI 5) hx hb dX5_init_31 (by decide) ?_
  refine lv_ldc hx hb hown (hts _ q270) dX5_init_32 ?_
  refine x_wast C h 0 (v := (-1694144372)) (ws' := [(o1, war dA 8 (upN (upN (upN (upN (upN (upN (fun _ => nI 0) 0 (nI 1779033703)) 1 (-1150833019)) 2 (nI 1013904242)) 3 (-1521486534)) 4 (nI 1359893119)) 5 (-1694144372))), (ho, .inr (3, [.null, .null, .null, .long mn, .null, .null]))] ++ F) rfl (by omega) (by decide) rfl dX5_init_34 (fun H locs h => ?_)
  refine lv_dup hx hb dX5_init_35 rfl ?_
  refine lv_bipush (v := nI 6) hx hb dX5_init_36 (by decide) ?_
  refine lv_ldc hx hb hown (hts _ q271) dX5_init_38 ?_
  refine n_top (y := nI 528734635) (by decide) ?_
  refine x_wast C h 0 (v := nI 528734635) (ws' := [(o1, war dA 8 (upN (upN (upN (upN (upN (upN (upN (fun _ => nI 0) 0 (nI 1779033703)) 1 (-1150833019)) 2 (nI 1013904242)) 3 (-1521486534)) 4 (nI 1359893119)) 5 (-1694144372)) 6 (nI 528734635))), (ho, .inr (3, [.null, .null, .null, .long mn, .null, .null]))] ++ F) rfl (by omega) (by decide) rfl dX5_init_40 (fun H locs h => ?_)
  refine lv_dup hx hb dX5_init_41 rfl ?_
  refine lv_bipush (v := nI 7) hx hb dX5_init_42 (by decide) ?_
  refine lv_ldc hx hb hown (hts _ q272) dX5_init_44 ?_
  refine n_top (y := nI 1541459225) (by decide) ?_
  refine x_wast C h 0 (v := nI 1541459225) (ws' := [(o1, war dA 8 (upN (upN (upN (upN (upN (upN (upN (upN (fun _ => nI 0) 0 (nI 1779033703)) 1 (-1150833019)) 2 (nI 1013904242)) 3 (-1521486534)) 4 (nI 1359893119)) 5 (-1694144372)) 6 (nI 528734635)) 7 (nI 1541459225))), (ho, .inr (3, [.null, .null, .null, .long mn, .null, .null]))] ++ F) rfl (by omega) (by decide) rfl dX5_init_46 (fun H locs h => ?_)
  refine lv_bipush (v := nI 64) hx hb dX5_init_47 (by decide) ?_
  have h : Wd D B s ([(o1, war dA 8 in2), (ho, .inr (3, [.null, .null, .null, .long mn, .null, .null]))] ++ F) H locs := Wd.same h 0 rfl (war_same (fun j hj => by
    rcases (show j = 0 ∨ j = 1 ∨ j = 2 ∨ j = 3 ∨ j = 4 ∨ j = 5 ∨ j = 6 ∨ j = 7 by omega) with rfl | rfl | rfl | rfl | rfl | rfl | rfl | rfl <;> rfl)) rfl
  have h : Wd D B s ([(ho, .inr (3, [.null, .null, .null, .long mn, .null, .null])), (o1, war dA 8 in2)] ++ F) H locs := h.permL (perm_add (fun g f p0 p1 p2 => by (try simp only [p0, p1, p2]) <;> omega))
  refine call_I (As := [.ref o1, .int (nI 64)]) (rest := []) (n := 2) C h (c5_hash l D dA B Z hZ F ho o1 mn in2) (lw_meth q237) q134 q273 q236 rfl (by decide +kernel) (by decide) (by decide) rfl hl rfl (Nat.le_of_ble_eq_true rfl) dX5_init_49 (by omega) (fun u3 H locs _ h => ?_)
  obtain ⟨st3, bl3, wo3⟩ := u3
  have h : Wd D B s ([(ho, .inr (3, [.ref st3, .ref o1, .ref bl3, .long mn, .ref wo3, .null])), (st3, war dA 8 (fun _ => nI 0)), (wo3, war dA 64 (fun _ => nI 0)), (bl3, bar dA 64 (fun _ => 0)), (o1, war dA 8 in2)] ++ F) H locs := h.permL (perm_add (fun g f p0 p1 p2 => by (try simp only [p0, p1, p2]) <;> omega))
  refine lv_aload_n hx hb dX5_init_52 rfl (lv_at hl 0 rfl) ?_
  refine lv_bipush (v := nI 8) hx hb dX5_init_53 (by decide) ?_
  refine n_newa C h (n := 8) (by omega) (by omega) (by omega) dX5_init_55 (fun o2 H h => ?_)
  have h : Wd D B s ([(o2, iar dA 8 (fun _ => 0)), (ho, .inr (3, [.ref st3, .ref o1, .ref bl3, .long mn, .ref wo3, .null])), (st3, war dA 8 (fun _ => nI 0)), (wo3, war dA 64 (fun _ => nI 0)), (bl3, bar dA 64 (fun _ => 0)), (o1, war dA 8 in2)] ++ F) H locs := h.permL (perm_add (fun g f p0 p1 p2 => by (try simp only [p0, p1, p2]) <;> omega))
  have h : Wd D B s ([(o2, war dA 8 (fun _ => nI 0)), (ho, .inr (3, [.ref st3, .ref o1, .ref bl3, .long mn, .ref wo3, .null])), (st3, war dA 8 (fun _ => nI 0)), (wo3, war dA 64 (fun _ => nI 0)), (bl3, bar dA 64 (fun _ => 0)), (o1, war dA 8 in2)] ++ F) H locs := h
  refine o_putF C h 1 (RC := RX5) (T := TX5) (N := 6) (ws' := [(o2, war dA 8 (fun _ => nI 0)), (ho, .inr (3, [.ref st3, .ref o1, .ref bl3, .long mn, .ref wo3, .ref o2])), (st3, war dA 8 (fun _ => nI 0)), (wo3, war dA 64 (fun _ => nI 0)), (bl3, bar dA 64 (fun _ => 0)), (o1, war dA 8 in2)] ++ F) rfl rfl in_X5 tyX5_ok nmX5 5 (by decide) q274 rfl rfl (hin rfl) rfl (v := .ref o2) rfl rfl (Nat.le_of_ble_eq_true rfl) rfl dX5_init_57 (fun H locs h => ?_)
  subst hQ
  have h : Wd D B s ([(ho, .inr (3, [.ref st3, .ref o1, .ref bl3, .long mn, .ref wo3, .ref o2])), (st3, war dA 8 (fun _ => nI 0)), (wo3, war dA 64 (fun _ => nI 0)), (o2, war dA 8 (fun _ => nI 0)), (bl3, bar dA 64 (fun _ => 0)), (o1, war dA 8 in2)] ++ F) H locs := h.permL (perm_add (fun g f p0 p1 p2 => by (try simp only [p0, p1, p2]) <;> omega))
  exact ret_v C hr hlocks h (st3, o1, bl3, wo3, o2) trivial rfl rfl (by omega) (by omega) dX5_init_60
