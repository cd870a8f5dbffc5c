set_option maxRecDepth 100000
set_option maxHeartbeats 400000 in
set_option maxRecDepth 100000 in
theorem c8_initX10 (l : Launch) (D : va_G) (dA : Nat → ClassId) (B : Nat) (Z : State → Prop) (hZ : Stab B Z) (F : va_W) (o9 e0 mi : Nat) (hzs : ZS dA B Z) (hza : ZA B e0 mi Z) :
    Ct (S := Nat) l D dA B Z yX8_init cX8_init 1 none 5 1 3 [.ref o9] ([(o9, .inr (7, [.null, .null]))] ++ F) (fun _ => True) (fun _ => none) (fun u => [(o9, .inr (7, [.ref u, .null])), (u, .inr (16, [.int (nI 0), .ref e0, .int (nI 0)]))] ++ F) := by
  refine Ct.mk2 (by decide) (Nat.le_of_ble_eq_true rfl) hZ ?_
  intro p e R s m args below meth c ls Q C hr hlocks hin hQ hl h
  have C0 := C
  obtain ⟨hx, hb, hml, hown, hts, -⟩ := C0
  have hl : lv_has ls 1 [(0, .ref o9)] := hl
  refine lv_aload_n hx hb dX8_init_0 rfl (lv_at hl 0 rfl) ?_
  refine o_init C h q391 hl.1 (by decide) (Nat.le_of_ble_eq_true rfl) dX8_init_1 ?_
  refine lv_aload_n hx hb dX8_init_4 rfl (lv_at hl 0 rfl) ?_
  refine o_new C h (RC := RJ2) (T := TJ2) (N := 3) (ci := 16) (fs := [.int 0, .null, .int 0]) rfl in_J2 tyJ2_ok q392 q200 q133 dv_J2 (by omega) (by omega) dX8_init_5 (fun o1 H h => ?_)
  have h := Wd.toFront h
  have h : Wd D B s ([(o1, .inr (16, [.int 0, .null, .int 0])), (o9, .inr (7, [.null, .null]))] ++ F) H [] := h
  refine lv_dup hx hb dX8_init_8 rfl ?_
  refine call_I (As := []) (rest := [.ref o1, .ref o9]) (n := 0) C h (cJ_alInit l D dA B Z hZ ([(o9, .inr (7, [.null, .null]))] ++ F) o1 e0 mi hzs hza) (lw_meth q203) q133 q393 q202 rfl (by decide +kernel) (by decide) (by decide) rfl hl rfl (Nat.le_of_ble_eq_true rfl) dX8_init_9 (by omega) (fun _ H locs _ h => ?_)
  have h : Wd D B s ([(o1, .inr (16, [.int (nI 0), .ref e0, .int (nI 0)])), (o9, .inr (7, [.null, .null]))] ++ F) H locs := h
  refine o_putF C h 1 (RC := RX10) (T := TX10) (N := 2) (ws' := [(o1, .inr (16, [.int (nI 0), .ref e0, .int (nI 0)])), (o9, .inr (7, [.ref o1, .null]))] ++ F) rfl rfl in_X10 tyX10_ok nmX10 0 (by decide) q402 rfl rfl (hin rfl) rfl (v := .ref o1) rfl rfl (Nat.le_of_ble_eq_true rfl) rfl dX8_init_12 (fun H locs h => ?_)
  subst hQ
  have h : Wd D B s ([(o9, .inr (7, [.ref o1, .null])), (o1, .inr (16, [.int (nI 0), .ref e0, .int (nI 0)]))] ++ F) H locs := h.perm [1, 0] rfl rfl
  exact ret_v C hr hlocks h o1 trivial rfl rfl (by omega) (by omega) dX8_init_15
set_option maxHeartbeats 400000 in
set_option maxRecDepth 100000 in
theorem c10_init (l : Launch) (D : va_G) (dA : Nat → ClassId) (B : Nat) (Z : State → Prop) (hZ : Stab B Z) (F : va_W) (o9 v9 e0 mi : Nat) (hzs : ZS dA B Z) (hza : ZA B e0 mi Z) :
    Ct (S := Nat) l D dA B Z yX10_init cX10_init 2 none 6 1 3 [.ref o9, .ref v9] ([(o9, .inr (7, [.null, .null]))] ++ F) (fun _ => True) (fun _ => none) (fun u => [(o9, .inr (7, [.ref u, .ref v9])), (u, .inr (16, [.int (nI 0), .ref e0, .int (nI 0)]))] ++ F) := by
  refine Ct.mk2 (by decide) (Nat.le_of_ble_eq_true rfl) hZ ?_
  intro p e R s m args below meth c ls Q C hr hlocks hin hQ hl h
  have C0 := C
  obtain ⟨hx, hb, hml, hown, hts, -⟩ := C0
  have hl : lv_has ls 2 [(0, .ref o9), (1, .ref v9)] := hl
  refine lv_aload_n hx hb dX10_init_0 rfl (lv_at hl 0 rfl) ?_
  refine call_IN (As := []) (rest := []) (n := 0) C h (c8_initX10 l D dA B Z hZ F o9 e0 mi hzs hza) (lw_meth q390) q508 q389 q141 rfl (by decide +kernel) (by decide) (by decide) rfl hl rfl (Nat.le_of_ble_eq_true rfl) dX10_init_1 (by omega) (fun q9 H locs _ h => ?_)
  have h : Wd D B s ([(o9, .inr (7, [.ref q9, .null])), (q9, .inr (16, [.int (nI 0), .ref e0, .int (nI 0)]))] ++ F) H locs := h
  refine lv_aload_n hx hb dX10_init_4 rfl (lv_at hl 0 rfl) ?_
  refine lv_aload_n hx hb dX10_init_5 rfl (lv_at hl 1 rfl) ?_
  refine o_putF C h 0 (RC := RX10) (T := TX10) (N := 2) (ws' := [(o9, .inr (7, [.ref q9, .ref v9])), (q9, .inr (16, [.int (nI 0), .ref e0, .int (nI 0)]))] ++ F) rfl rfl in_X10 tyX10_ok nmX10 1 (by decide) q509 rfl rfl (hin rfl) rfl (v := .ref v9) rfl rfl (Nat.le_of_ble_eq_true rfl) rfl dX10_init_6 (fun H locs h => ?_)
  subst hQ
  exact ret_v C hr hlocks h q9 trivial rfl rfl (by omega) (by omega) dX10_init_9
set_option maxHeartbeats 400000 in
set_option maxRecDepth 100000 in
theorem c8_initX11 (l : Launch) (D : va_G) (dA : Nat → ClassId) (B : Nat) (Z : State → Prop) (hZ : Stab B Z) (F : va_W) (o9 e0 mi : Nat) (hzs : ZS dA B Z) (hza : ZA B e0 mi Z) :
    Ct (S := Nat) l D dA B Z yX8_init cX8_init 1 none 5 1 3 [.ref o9] ([(o9, .inr (8, [.null, .null]))] ++ F) (fun _ => True) (fun _ => none) (fun u => [(o9, .inr (8, [.ref u, .null])), (u, .inr (16, [.int (nI 0), .ref e0, .int (nI 0)]))] ++ F) := by
  refine Ct.mk2 (by decide) (Nat.le_of_ble_eq_true rfl) hZ ?_
  intro p e R s m args below meth c ls Q C hr hlocks hin hQ hl h
  have C0 := C
  obtain ⟨hx, hb, hml, hown, hts, -⟩ := C0
  have hl : lv_has ls 1 [(0, .ref o9)] := hl
  refine lv_aload_n hx hb dX8_init_0 rfl (lv_at hl 0 rfl) ?_
  refine o_init C h q391 hl.1 (by decide) (Nat.le_of_ble_eq_true rfl) dX8_init_1 ?_
  refine lv_aload_n hx hb dX8_init_4 rfl (lv_at hl 0 rfl) ?_
  refine o_new C h (RC := RJ2) (T := TJ2) (N := 3) (ci := 16) (fs := [.int 0, .null, .int 0]) rfl in_J2 tyJ2_ok q392 q200 q133 dv_J2 (by omega) (by omega) dX8_init_5 (fun o1 H h => ?_)
  have h := Wd.toFront h
  have h : Wd D B s ([(o1, .inr (16, [.int 0, .null, .int 0])), (o9, .inr (8, [.null, .null]))] ++ F) H [] := h
  refine lv_dup hx hb dX8_init_8 rfl ?_
  refine call_I (As := []) (rest := [.ref o1, .ref o9]) (n := 0) C h (cJ_alInit l D dA B Z hZ ([(o9, .inr (8, [.null, .null]))] ++ F) o1 e0 mi hzs hza) (lw_meth q203) q133 q393 q202 rfl (by decide +kernel) (by decide) (by decide) rfl hl rfl (Nat.le_of_ble_eq_true rfl) dX8_init_9 (by omega) (fun _ H locs _ h => ?_)
  have h : Wd D B s ([(o1, .inr (16, [.int (nI 0), .ref e0, .int (nI 0)])), (o9, .inr (8, [.null, .null]))] ++ F) H locs := h
  refine o_putF C h 1 (RC := RX11) (T := TX11) (N := 2) (ws' := [(o1, .inr (16, [.int (nI 0), .ref e0, .int (nI 0)])), (o9, .inr (8, [.ref o1, .null]))] ++ F) rfl rfl in_X11 tyX11_ok nmX11 0 (by decide) q402 rfl rfl (hin rfl) rfl (v := .ref o1) rfl rfl (Nat.le_of_ble_eq_true rfl) rfl dX8_init_12 (fun H locs h => ?_)
  subst hQ
  have h : Wd D B s ([(o9, .inr (8, [.ref o1, .null])), (o1, .inr (16, [.int (nI 0), .ref e0, .int (nI 0)]))] ++ F) H locs := h.perm [1, 0] rfl rfl
  exact ret_v C hr hlocks h o1 trivial rfl rfl (by omega) (by omega) dX8_init_15
set_option maxHeartbeats 400000 in
set_option maxRecDepth 100000 in
theorem c11_init (l : Launch) (D : va_G) (dA : Nat → ClassId) (B : Nat) (Z : State → Prop) (hZ : Stab B Z) (F : va_W) (o9 v9 e0 mi : Nat) (hzs : ZS dA B Z) (hza : ZA B e0 mi Z) :
    Ct (S := Nat) l D dA B Z yX11_init cX11_init 2 none 6 1 3 [.ref o9, .ref v9] ([(o9, .inr (8, [.null, .null]))] ++ F) (fun _ => True) (fun _ => none) (fun u => [(o9, .inr (8, [.ref u, .ref v9])), (u, .inr (16, [.int (nI 0), .ref e0, .int (nI 0)]))] ++ F) := by
  refine Ct.mk2 (by decide) (Nat.le_of_ble_eq_true rfl) hZ ?_
  intro p e R s m args below meth c ls Q C hr hlocks hin hQ hl h
  have C0 := C
  obtain ⟨hx, hb, hml, hown, hts, -⟩ := C0
  have hl : lv_has ls 2 [(0, .ref o9), (1, .ref v9)] := hl
  refine lv_aload_n hx hb dX11_init_0 rfl (lv_at hl 0 rfl) ?_
  refine call_IN (As := []) (rest := []) (n := 0) C h (c8_initX11 l D dA B Z hZ F o9 e0 mi hzs hza) (lw_meth q390) q539 q389 q141 rfl (by decide +kernel) (by decide) (by decide) rfl hl rfl (Nat.le_of_ble_eq_true rfl) dX11_init_1 (by omega) (fun q9 H locs _ h => ?_)
  have h : Wd D B s ([(o9, .inr (8, [.ref q9, .null])), (q9, .inr (16, [.int (nI 0), .ref e0, .int (nI 0)]))] ++ F) H locs := h
  refine lv_aload_n hx hb dX11_init_4 rfl (lv_at hl 0 rfl) ?_
  refine lv_aload_n hx hb dX11_init_5 rfl (lv_at hl 1 rfl) ?_
  refine o_put C h 0 (RC := RX11) (T := TX11) (N := 2) (ws' := [(o9, .inr (8, [.ref q9, .ref v9])), (q9, .inr (16, [.int (nI 0), .ref e0, .int (nI 0)]))] ++ F) rfl rfl in_X11 tyX11_ok nmX11 1 (by decide) q540 rfl rfl (v := .ref v9) rfl rfl (Nat.le_of_ble_eq_true rfl) rfl dX11_init_6 (fun H locs h => ?_)
  subst hQ
  exact ret_v C hr hlocks h q9 trivial rfl rfl (by omega) (by omega) dX11_init_9
set_option maxHeartbeats 400000 in
set_option maxRecDepth 100000 in
theorem c8_initX9 (l : Launch) (D : va_G) (dA : Nat → ClassId) (B : Nat) (Z : State → Prop) (hZ : Stab B Z) (F : va_W) (o9 e0 mi : Nat) (hzs : ZS dA B Z) (hza : ZA B e0 mi Z) :
    Ct (S := Nat) l D dA B Z yX8_init cX8_init 1 none 5 1 3 [.ref o9] ([(o9, .inr (6, [.null, .null, .null, .null]))] ++ F) (fun _ => True) (fun _ => none) (fun u => [(o9, .inr (6, [.ref u, .null, .null, .null])), (u, .inr (16, [.int (nI 0), .ref e0, .int (nI 0)]))] ++ F) := by
  refine Ct.mk2 (by decide) (Nat.le_of_ble_eq_true rfl) hZ ?_
  intro p e R s m args below meth c ls Q C hr hlocks hin hQ hl h
  have C0 := C
  obtain ⟨hx, hb, hml, hown, hts, -⟩ := C0
  have hl : lv_has ls 1 [(0, .ref o9)] := hl
  refine lv_aload_n hx hb dX8_init_0 rfl (lv_at hl 0 rfl) ?_
  refine o_init C h q391 hl.1 (by decide) (Nat.le_of_ble_eq_true rfl) dX8_init_1 ?_
  refine lv_aload_n hx hb dX8_init_4 rfl (lv_at hl 0 rfl) ?_
  refine o_new C h (RC := RJ2) (T := TJ2) (N := 3) (ci := 16) (fs := [.int 0, .null, .int 0]) rfl in_J2 tyJ2_ok q392 q200 q133 dv_J2 (by omega) (by omega) dX8_init_5 (fun o1 H h => ?_)
  have h := Wd.toFront h
  have h : Wd D B s ([(o1, .inr (16, [.int 0, .null, .int 0])), (o9, .inr (6, [.null, .null, .null, .null]))] ++ F) H [] := h
  refine lv_dup hx hb dX8_init_8 rfl ?_
  refine call_I (As := []) (rest := [.ref o1, .ref o9]) (n := 0) C h (cJ_alInit l D dA B Z hZ ([(o9, .inr (6, [.null, .null, .null, .null]))] ++ F) o1 e0 mi hzs hza) (lw_meth q203) q133 q393 q202 rfl (by decide +kernel) (by decide) (by decide) rfl hl rfl (Nat.le_of_ble_eq_true rfl) dX8_init_9 (by omega) (fun _ H locs _ h => ?_)
  have h : Wd D B s ([(o1, .inr (16, [.int (nI 0), .ref e0, .int (nI 0)])), (o9, .inr (6, [.null, .null, .null, .null]))] ++ F) H locs := h
  refine o_putF C h 1 (RC := RX9) (T := TX9) (N := 4) (ws' := [(o1, .inr (16, [.int (nI 0), .ref e0, .int (nI 0)])), (o9, .inr (6, [.ref o1, .null, .null, .null]))] ++ F) rfl rfl in_X9 tyX9_ok nmX9 0 (by decide) q402 rfl rfl (hin rfl) rfl (v := .ref o1) rfl rfl (Nat.le_of_ble_eq_true rfl) rfl dX8_init_12 (fun H locs h => ?_)
  subst hQ
  have h : Wd D B s ([(o9, .inr (6, [.ref o1, .null, .null, .null])), (o1, .inr (16, [.int (nI 0), .ref e0, .int (nI 0)]))] ++ F) H locs := h.perm [1, 0] rfl rfl
  exact ret_v C hr hlocks h o1 trivial rfl rfl (by omega) (by omega) dX8_init_15
set_option maxHeartbeats 400000 in
set_option maxRecDepth 100000 in
theorem c9_init (l : Launch) (D : va_G) (dA : Nat → ClassId) (B : Nat) (Z : State → Prop) (hZ : Stab B Z) (F : va_W) (o9 v9 e0 mi : Nat) (hzs : ZS dA B Z) (hza : ZA B e0 mi Z) :
    Ct (S := Nat × Nat × Nat) l D dA B Z yX9_init cX9_init 2 none 6 3 9 [.ref o9, .ref v9] ([(o9, .inr (6, [.null, .null, .null, .null]))] ++ F) (fun _ => True) (fun _ => none) (fun u => [(o9, .inr (6, [.ref u.1, .ref v9, .ref u.2.1, .ref u.2.2])), (u.1, .inr (16, [.int (nI 0), .ref e0, .int (nI 0)])), (u.2.1, .inr (16, [.int (nI 0), .ref e0, .int (nI 0)])), (u.2.2, .inr (16, [.int (nI 0), .ref e0, .int (nI 0)]))] ++ F) := by
  refine Ct.mk2 (by decide) (Nat.le_of_ble_eq_true rfl) hZ ?_
  intro p e R s m args below meth c ls Q C hr hlocks hin hQ hl h
  have C0 := C
  obtain ⟨hx, hb, hml, hown, hts, -⟩ := C0
  have hl : lv_has ls 2 [(0, .ref o9), (1, .ref v9)] := hl
  refine lv_aload_n hx hb dX9_init_0 rfl (lv_at hl 0 rfl) ?_
  refine call_IN (As := []) (rest := []) (n := 0) C h (c8_initX9 l D dA B Z hZ F o9 e0 mi hzs hza) (lw_meth q390) q388 q389 q141 rfl (by decide +kernel) (by decide) (by decide) rfl hl rfl (Nat.le_of_ble_eq_true rfl) dX9_init_1 (by omega) (fun q9 H locs _ h => ?_)
  have h : Wd D B s ([(o9, .inr (6, [.ref q9, .null, .null, .null])), (q9, .inr (16, [.int (nI 0), .ref e0, .int (nI 0)]))] ++ F) H locs := h
  refine lv_aload_n hx hb dX9_init_4 rfl (lv_at hl 0 rfl) ?_
  refine o_new C h (RC := RJ2) (T := TJ2) (N := 3) (ci := 16) (fs := [.int 0, .null, .int 0]) rfl in_J2 tyJ2_ok q394 q200 q133 dv_J2 (by omega) (by omega) dX9_init_5 (fun o1 H h => ?_)
  have h := Wd.toFront h
  have h : Wd D B s ([(o1, .inr (16, [.int 0, .null, .int 0])), (o9, .inr (6, [.ref q9, .null, .null, .null])), (q9, .inr (16, [.int (nI 0), .ref e0, .int (nI 0)]))] ++ F) H locs := h
  refine lv_dup hx hb dX9_init_8 rfl ?_
  refine call_I (As := []) (rest := [.ref o1, .ref o9]) (n := 0) C h (cJ_alInit l D dA B Z hZ ([(o9, .inr (6, [.ref q9, .null, .null, .null])), (q9, .inr (16, [.int (nI 0), .ref e0, .int (nI 0)]))] ++ F) o1 e0 mi hzs hza) (lw_meth q203) q133 q395 q202 rfl (by decide +kernel) (by decide) (by decide) rfl hl rfl (Nat.le_of_ble_eq_true rfl) dX9_init_9 (by omega) (fun _ H locs _ h => ?_)
  have h : Wd D B s ([(o1, .inr (16, [.int (nI 0), .ref e0, .int (nI 0)])), (o9, .inr (6, [.ref q9, .null, .null, .null])), (q9, .inr (16, [.int (nI 0), .ref e0, .int (nI 0)]))] ++ F) H locs := h
  refine o_putF C h 1 (RC := RX9) (T := TX9) (N := 4) (ws' := [(o1, .inr (16, [.int (nI 0), .ref e0, .int (nI 0)])), (o9, .inr (6, [.ref q9, .null, .ref o1, .null])), (q9, .inr (16, [.int (nI 0), .ref e0, .int (nI 0)]))] ++ F) rfl rfl in_X9 tyX9_ok nmX9 2 (by decide) q398 rfl rfl (hin rfl) rfl (v := .ref o1) rfl rfl (Nat.le_of_ble_eq_true rfl) rfl dX9_init_12 (fun H locs h => ?_)
  refine lv_aload_n hx hb dX9_init_15 rfl (lv_at hl 0 rfl) ?_
  refine o_new C h (RC := RJ2) (T := TJ2) (N := 3) (ci := 16) (fs := [.int 0, .null, .int 0]) rfl in_J2 tyJ2_ok q394 q200 q133 dv_J2 (by omega) (by omega) dX9_init_16 (fun o2 H h => ?_)
  have h := Wd.toFront h
  have h : Wd D B s ([(o2, .inr (16, [.int 0, .null, .int 0])), (o1, .inr (16, [.int (nI 0), .ref e0, .int (nI 0)])), (o9, .inr (6, [.ref q9, .null, .ref o1, .null])), (q9, .inr (16, [.int (nI 0), .ref e0, .int (nI 0)]))] ++ F) H locs := h
  refine lv_dup hx hb dX9_init_19 rfl ?_
  refine call_I (As := []) (rest := [.ref o2, .ref o9]) (n := 0) C h (cJ_alInit l D dA B Z hZ ([(o1, .inr (16, [.int (nI 0), .ref e0, .int (nI 0)])), (o9, .inr (6, [.ref q9, .null, .ref o1, .null])), (q9, .inr (16, [.int (nI 0), .ref e0, .int (nI 0)]))] ++ F) o2 e0 mi hzs hza) (lw_meth q203) q133 q395 q202 rfl (by decide +kernel) (by decide) (by decide) rfl hl rfl (Nat.le_of_ble_eq_true rfl) dX9_init_20 (by omega) (fun _ H locs _ h => ?_)
  have h : Wd D B s ([(o2, .inr (16, [.int (nI 0), .ref e0, .int (nI 0)])), (o1, .inr (16, [.int (nI 0), .ref e0, .int (nI 0)])), (o9, .inr (6, [.ref q9, .null, .ref o1, .null])), (q9, .inr (16, [.int (nI 0), .ref e0, .int (nI 0)]))] ++ F) H locs := h
  refine o_putF C h 2 (RC := RX9) (T := TX9) (N := 4) (ws' := [(o2, .inr (16, [.int (nI 0), .ref e0, .int (nI 0)])), (o1, .inr (16, [.int (nI 0), .ref e0, .int (nI 0)])), (o9, .inr (6, [.ref q9, .null, .ref o1, .ref o2])), (q9, .inr (16, [.int (nI 0), .ref e0, .int (nI 0)]))] ++ F) rfl rfl in_X9 tyX9_ok nmX9 3 (by decide) q400 rfl rfl (hin rfl) rfl (v := .ref o2) rfl rfl (Nat.le_of_ble_eq_true rfl) rfl dX9_init_23 (fun H locs h => ?_)
  refine lv_aload_n hx hb dX9_init_26 rfl (lv_at hl 0 rfl) ?_
  refine lv_aload_n hx hb dX9_init_27 rfl (lv_at hl 1 rfl) ?_
  refine o_put C h 2 (RC := RX9) (T := TX9) (N := 4) (ws' := [(o2, .inr (16, [.int (nI 0), .ref e0, .int (nI 0)])), (o1, .inr (16, [.int (nI 0), .ref e0, .int (nI 0)])), (o9, .inr (6, [.ref q9, .ref v9, .ref o1, .ref o2])), (q9, .inr (16, [.int (nI 0), .ref e0, .int (nI 0)]))] ++ F) rfl rfl in_X9 tyX9_ok nmX9 1 (by decide) q396 rfl rfl (v := .ref v9) rfl rfl (Nat.le_of_ble_eq_true rfl) rfl dX9_init_28 (fun H locs h => ?_)
  subst hQ
  have h : Wd D B s ([(o9, .inr (6, [.ref q9, .ref v9, .ref o1, .ref o2])), (q9, .inr (16, [.int (nI 0), .ref e0, .int (nI 0)])), (o1, .inr (16, [.int (nI 0), .ref e0, .int (nI 0)])), (o2, .inr (16, [.int (nI 0), .ref e0, .int (nI 0)]))] ++ F) H locs := h.perm [2, 3, 1, 0] rfl rfl
  exact ret_v C hr hlocks h (q9, o1, o2) trivial rfl rfl (by omega) (by omega) dX9_init_31
set_option maxHeartbeats 400000 in
set_option maxRecDepth 100000 in
theorem c8_hasX10 (l : Launch) (D : va_G) (dA : Nat → ClassId) (B : Nat) (Z : State → Prop) (hZ : Stab B Z) (ws : va_W) (o9 f1 f2 f3 e0 : Nat) (x : LD) (sls : List SL) (z : SL) (ho : (o9, .inr (7, [.ref x.1, .ref f1])) ∈ ws) (hA : LIn dA e0 ws x (sls.map Prod.fst)) (hS : ∀ y ∈ sls, SealB dA ws y) (hz : SealB dA ws z) :
    Ct (S := Unit) l D dA B Z yX8_has cX8_has 3 (some .boolean) 4 0 0 [.ref o9, .ref z.1] (ws) (fun _ => True) (fun _ => some (.int (bZ (sls.any (fun y => decide (y.2 = z.2)))))) (fun _ => ws) := by
  refine Ct.mk2 (by decide) (Nat.le_of_ble_eq_true rfl) hZ ?_
  intro p e R s m args below meth c ls Q C hr hlocks hin hQ hl h
  have C0 := C
  obtain ⟨hx, hb, hml, hown, hts, -⟩ := C0
  have hl : lv_has ls 3 [(0, .ref o9), (1, .ref z.1)] := hl
  obtain ⟨ed9, hcl⟩ := hA.cell
  have hln := hA.len
  rw [List.length_map] at hln
  obtain ⟨tz, ⟨hbbz, hblz, hboz, hb0z⟩, baz, snz, r1z, r2z, r3z, w1z, w2z, w3z, hcez, hbaz, hsnz, hr1z, hr2z, hr3z⟩ := hz
  refine lv_iconst (v := nI 0) hx hb dX8_has_0 (by decide) ?_
  refine lv_istore_n (lv' := [(2, .int (nI 0)), (0, .ref o9), (1, .ref z.1)]) hx hb dX8_has_1 rfl hl (by decide) rfl (fun ls hl => ?_)
  have loop : ∀ (nn : Nat) (i : Nat), (i ≤ sls.length) → (∀ j y, j < i → sls[j]? = some y → decide (y.2 = z.2) = false) → sls.length - i < nn → ∀ (H : Heap) (locs : List Loc), Wd D B s (ws) H locs → ∀ (ls : Array Slot), lv_has ls 3 [(0, .ref o9), (1, .ref z.1), (2, .int (nI i))] → W p l e R s m args below meth c H locs 0 0 Q (F0 m 2 ls []) := by
    intro nn
    induction nn with
    | zero => intro i  hi0 hi1 hme; exact absurd hme (Nat.not_lt_zero _)
    | succ nn ih =>
      intro i  hi0 hi1 hme H locs h ls hl
      refine lv_iload_n hx hb dX8_has_2 rfl (lv_at hl 2 rfl) ?_
      refine lv_aload_n hx hb dX8_has_3 rfl (lv_at hl 0 rfl) ?_
      refine o_get C h (RC := RX10) (T := TX10) (N := 2) (ho) rfl in_X10 0 (by decide) q402 rfl (v := .ref x.1) rfl dX8_has_4 ?_
      refine call_VR (As := []) (rest := [.int (nI i)]) (n := 0) C h (cA_size l D dA B Z hZ ws e0 x _ hA) (lw_V q1413 q361 q362 q133 q363) (by decide +kernel) (o_recv C h (RC := RJ2) (T := TJ2) (N := 3) (hcl) rfl) (by decide) (by decide) rfl hl rfl (Nat.le_of_ble_eq_true rfl) dX8_has_7 (by omega) (fun _ H locs _ h => ?_)
      refine n_top (y := nI sls.length) (by rw [List.length_map]) ?_
      refine n_icmp_ge (tgt := 45) hx hb (by omega) (by omega) dX8_has_10 (by decide) (fun c10 => ?_) (fun c10 => ?_)
      · refine lv_iconst (v := nI 0) hx hb dX8_has_45 (by decide) ?_
        subst hQ
        refine n_top (y := bZ false) rfl ?_
        exact ret_z C hr hlocks h () trivial (by rw [any_miss (f := fun y => decide (y.2 = z.2)) (fun j y hj hy => hi1 j y (by omega) hy)]) rfl (by omega) (by omega) dX8_has_46
      · refine lv_aload_n hx hb dX8_has_13 rfl (lv_at hl 0 rfl) ?_
        refine o_get C h (RC := RX10) (T := TX10) (N := 2) (ho) rfl in_X10 0 (by decide) q402 rfl (v := .ref x.1) rfl dX8_has_14 ?_
        refine lv_iload_n hx hb dX8_has_17 rfl (lv_at hl 2 rfl) ?_
        obtain ⟨y, hy⟩ := at_lt (l := sls) (i := i) (by omega)
        obtain ⟨ty, ⟨hbby, hbly, hboy, hb0y⟩, bay, sny, r1y, r2y, r3y, w1y, w2y, w3y, hcey, hbay, hsny, hr1y, hr2y, hr3y⟩ := hS y (List.mem_of_getElem? hy)
        refine call_VR (As := [.int (nI i)]) (rest := []) (n := 1) C h (cA_get l D dA B Z hZ ws e0 x _ i y.1 hA (at_map hy)) (lw_V q1414 q365 q366 q133 q367) (by decide +kernel) (o_recv C h (RC := RJ2) (T := TJ2) (N := 3) (hcl) rfl) (by decide) (by decide) rfl hl rfl (Nat.le_of_ble_eq_true rfl) dX8_has_18 (by omega) (fun _ H locs _ h => ?_)
        refine o_cast C h (RC := RX17) (T := TX17) (N := 19) (hcey) rfl q1415 dX8_has_21 ?_
        refine o_get C h (RC := RX17) (T := TX17) (N := 19) (hcey) rfl in_X17 0 (by decide) q1305 rfl (v := .ref bay) rfl dX8_has_24 ?_
        refine lv_aload_n hx hb dX8_has_27 rfl (lv_at hl 1 rfl) ?_
        refine o_get C h (RC := RX17) (T := TX17) (N := 19) (hcez) rfl in_X17 0 (by decide) q1305 rfl (v := .ref baz) rfl dX8_has_28 ?_
        refine call_SN (As := [.ref bay, .ref baz]) (rest := []) (n := 2) C h (c1_areAlike l D dA B Z hZ ws bay baz y.2 z.2 hbay hbaz (by omega) (by omega) hbby hbbz) (lw_meth q1262) q1416 q1261 q129 (by decide +kernel) (by decide) (by decide) rfl hl rfl (Nat.le_of_ble_eq_true rfl) dX8_has_31 (by omega) (fun _ H locs _ h => ?_)
        refine z_if_eq (tgt := 39) hx hb dX8_has_34 (by decide) (fun c34 => ?_) (fun c34 => ?_)
        · refine lv_iinc (v := nI (i + 1)) (lv' := [(2, .int (nI (i + 1))), (0, .ref o9), (1, .ref z.1)]) hx hb dX8_has_39 hl (k := 2) rfl (nI_add i 1) (by decide) rfl (fun ls hl => ?_)
          refine lv_goto (tgt := 2) hx hb dX8_has_42 (by decide) ?_
          exact ih (i + 1) (by omega) (at_step (f := fun y => decide (y.2 = z.2)) hi1 hy c34) (by omega) _ _ h _ (lv_sub hl [1, 2, 0] rfl)
        · refine lv_iconst (v := nI 1) hx hb dX8_has_37 (by decide) ?_
          subst hQ
          refine n_top (y := bZ true) rfl ?_
          exact ret_z C hr hlocks h () trivial (by rw [any_hit (f := fun y => decide (y.2 = z.2)) hy c34]) rfl (by omega) (by omega) dX8_has_38
  exact loop _ 0 (by omega) (fun j y hj => absurd hj (Nat.not_lt_zero _)) (Nat.lt_succ_self _) _ _ h _ (lv_sub hl [1, 2, 0] rfl)
set_option maxHeartbeats 400000 in
set_option maxRecDepth 100000 in
theorem c8_hasX11 (l : Launch) (D : va_G) (dA : Nat → ClassId) (B : Nat) (Z : State → Prop) (hZ : Stab B Z) (ws : va_W) (o9 f1 f2 f3 e0 : Nat) (x : LD) (sls : List SL) (z : SL) (ho : (o9, .inr (8, [.ref x.1, .ref f1])) ∈ ws) (hA : LIn dA e0 ws x (sls.map Prod.fst)) (hS : ∀ y ∈ sls, SealB dA ws y) (hz : SealB dA ws z) :
    Ct (S := Unit) l D dA B Z yX8_has cX8_has 3 (some .boolean) 4 0 0 [.ref o9, .ref z.1] (ws) (fun _ => True) (fun _ => some (.int (bZ (sls.any (fun y => decide (y.2 = z.2)))))) (fun _ => ws) := by
  refine Ct.mk2 (by decide) (Nat.le_of_ble_eq_true rfl) hZ ?_
  intro p e R s m args below meth c ls Q C hr hlocks hin hQ hl h
  have C0 := C
  obtain ⟨hx, hb, hml, hown, hts, -⟩ := C0
  have hl : lv_has ls 3 [(0, .ref o9), (1, .ref z.1)] := hl
  obtain ⟨ed9, hcl⟩ := hA.cell
  have hln := hA.len
  rw [List.length_map] at hln
  obtain ⟨tz, ⟨hbbz, hblz, hboz, hb0z⟩, baz, snz, r1z, r2z, r3z, w1z, w2z, w3z, hcez, hbaz, hsnz, hr1z, hr2z, hr3z⟩ := hz
  refine lv_iconst (v := nI 0) hx hb dX8_has_0 (by decide) ?_
  refine lv_istore_n (lv' := [(2, .int (nI 0)), (0, .ref o9), (1, .ref z.1)]) hx hb dX8_has_1 rfl hl (by decide) rfl (fun ls hl => ?_)
  have loop : ∀ (nn : Nat) (i : Nat), (i ≤ sls.length) → (∀ j y, j < i → sls[j]? = some y → decide (y.2 = z.2) = false) → sls.length - i < nn → ∀ (H : Heap) (locs : List Loc), Wd D B s (ws) H locs → ∀ (ls : Array Slot), lv_has ls 3 [(0, .ref o9), (1, .ref z.1), (2, .int (nI i))] → W p l e R s m args below meth c H locs 0 0 Q (F0 m 2 ls []) := by
    intro nn
    induction nn with
    | zero => intro i  hi0 hi1 hme; exact absurd hme (Nat.not_lt_zero _)
    | succ nn ih =>
      intro i  hi0 hi1 hme H locs h ls hl
      refine lv_iload_n hx hb dX8_has_2 rfl (lv_at hl 2 rfl) ?_
      refine lv_aload_n hx hb dX8_has_3 rfl (lv_at hl 0 rfl) ?_
      refine o_get C h (RC := RX11) (T := TX11) (N := 2) (ho) rfl in_X11 0 (by decide) q402 rfl (v := .ref x.1) rfl dX8_has_4 ?_
      refine call_VR (As := []) (rest := [.int (nI i)]) (n := 0) C h (cA_size l D dA B Z hZ ws e0 x _ hA) (lw_V q1413 q361 q362 q133 q363) (by decide +kernel) (o_recv C h (RC := RJ2) (T := TJ2) (N := 3) (hcl) rfl) (by decide) (by decide) rfl hl rfl (Nat.le_of_ble_eq_true rfl) dX8_has_7 (by omega) (fun _ H locs _ h => ?_)
      refine n_top (y := nI sls.length) (by rw [List.length_map]) ?_
      refine n_icmp_ge (tgt := 45) hx hb (by omega) (by omega) dX8_has_10 (by decide) (fun c10 => ?_) (fun c10 => ?_)
      · refine lv_iconst (v := nI 0) hx hb dX8_has_45 (by decide) ?_
        subst hQ
        refine n_top (y := bZ false) rfl ?_
        exact ret_z C hr hlocks h () trivial (by rw [any_miss (f := fun y => decide (y.2 = z.2)) (fun j y hj hy => hi1 j y (by omega) hy)]) rfl (by omega) (by omega) dX8_has_46
      · refine lv_aload_n hx hb dX8_has_13 rfl (lv_at hl 0 rfl) ?_
        refine o_get C h (RC := RX11) (T := TX11) (N := 2) (ho) rfl in_X11 0 (by decide) q402 rfl (v := .ref x.1) rfl dX8_has_14 ?_
        refine lv_iload_n hx hb dX8_has_17 rfl (lv_at hl 2 rfl) ?_
        obtain ⟨y, hy⟩ := at_lt (l := sls) (i := i) (by omega)
        obtain ⟨ty, ⟨hbby, hbly, hboy, hb0y⟩, bay, sny, r1y, r2y, r3y, w1y, w2y, w3y, hcey, hbay, hsny, hr1y, hr2y, hr3y⟩ := hS y (List.mem_of_getElem? hy)
        refine call_VR (As := [.int (nI i)]) (rest := []) (n := 1) C h (cA_get l D dA B Z hZ ws e0 x _ i y.1 hA (at_map hy)) (lw_V q1414 q365 q366 q133 q367) (by decide +kernel) (o_recv C h (RC := RJ2) (T := TJ2) (N := 3) (hcl) rfl) (by decide) (by decide) rfl hl rfl (Nat.le_of_ble_eq_true rfl) dX8_has_18 (by omega) (fun _ H locs _ h => ?_)
        refine o_cast C h (RC := RX17) (T := TX17) (N := 19) (hcey) rfl q1415 dX8_has_21 ?_
        refine o_get C h (RC := RX17) (T := TX17) (N := 19) (hcey) rfl in_X17 0 (by decide) q1305 rfl (v := .ref bay) rfl dX8_has_24 ?_
        refine lv_aload_n hx hb dX8_has_27 rfl (lv_at hl 1 rfl) ?_
        refine o_get C h (RC := RX17) (T := TX17) (N := 19) (hcez) rfl in_X17 0 (by decide) q1305 rfl (v := .ref baz) rfl dX8_has_28 ?_
        refine call_SN (As := [.ref bay, .ref baz]) (rest := []) (n := 2) C h (c1_areAlike l D dA B Z hZ ws bay baz y.2 z.2 hbay hbaz (by omega) (by omega) hbby hbbz) (lw_meth q1262) q1416 q1261 q129 (by decide +kernel) (by decide) (by decide) rfl hl rfl (Nat.le_of_ble_eq_true rfl) dX8_has_31 (by omega) (fun _ H locs _ h => ?_)
        refine z_if_eq (tgt := 39) hx hb dX8_has_34 (by decide) (fun c34 => ?_) (fun c34 => ?_)
        · refine lv_iinc (v := nI (i + 1)) (lv' := [(2, .int (nI (i + 1))), (0, .ref o9), (1, .ref z.1)]) hx hb dX8_has_39 hl (k := 2) rfl (nI_add i 1) (by decide) rfl (fun ls hl => ?_)
          refine lv_goto (tgt := 2) hx hb dX8_has_42 (by decide) ?_
          exact ih (i + 1) (by omega) (at_step (f := fun y => decide (y.2 = z.2)) hi1 hy c34) (by omega) _ _ h _ (lv_sub hl [1, 2, 0] rfl)
        · refine lv_iconst (v := nI 1) hx hb dX8_has_37 (by decide) ?_
          subst hQ
          refine n_top (y := bZ true) rfl ?_
          exact ret_z C hr hlocks h () trivial (by rw [any_hit (f := fun y => decide (y.2 = z.2)) hy c34]) rfl (by omega) (by omega) dX8_has_38
  exact loop _ 0 (by omega) (fun j y hj => absurd hj (Nat.not_lt_zero _)) (Nat.lt_succ_self _) _ _ h _ (lv_sub hl [1, 2, 0] rfl)
set_option maxHeartbeats 400000 in
set_option maxRecDepth 100000 in
theorem c8_hasX9 (l : Launch) (D : va_G) (dA : Nat → ClassId) (B : Nat) (Z : State → Prop) (hZ : Stab B Z) (ws : va_W) (o9 f1 f2 f3 e0 : Nat) (x : LD) (sls : List SL) (z : SL) (ho : (o9, .inr (6, [.ref x.1, .ref f1, .ref f2, .ref f3])) ∈ ws) (hA : LIn dA e0 ws x (sls.map Prod.fst)) (hS : ∀ y ∈ sls, SealB dA ws y) (hz : SealB dA ws z) :
    Ct (S := Unit) l D dA B Z yX8_has cX8_has 3 (some .boolean) 4 0 0 [.ref o9, .ref z.1] (ws) (fun _ => True) (fun _ => some (.int (bZ (sls.any (fun y => decide (y.2 = z.2)))))) (fun _ => ws) := by
  refine Ct.mk2 (by decide) (Nat.le_of_ble_eq_true rfl) hZ ?_
  intro p e R s m args below meth c ls Q C hr hlocks hin hQ hl h
  have C0 := C
  obtain ⟨hx, hb, hml, hown, hts, -⟩ := C0
  have hl : lv_has ls 3 [(0, .ref o9), (1, .ref z.1)] := hl
  obtain ⟨ed9, hcl⟩ := hA.cell
  have hln := hA.len
  rw [List.length_map] at hln
  obtain ⟨tz, ⟨hbbz, hblz, hboz, hb0z⟩, baz, snz, r1z, r2z, r3z, w1z, w2z, w3z, hcez, hbaz, hsnz, hr1z, hr2z, hr3z⟩ := hz
  refine lv_iconst (v := nI 0) hx hb dX8_has_0 (by decide) ?_
  refine lv_istore_n (lv' := [(2, .int (nI 0)), (0, .ref o9), (1, .ref z.1)]) hx hb dX8_has_1 rfl hl (by decide) rfl (fun ls hl => ?_)
  have loop : ∀ (nn : Nat) (i : Nat), (i ≤ sls.length) → (∀ j y, j < i → sls[j]? = some y → decide (y.2 = z.2) = false) → sls.length - i < nn → ∀ (H : Heap) (locs : List Loc), Wd D B s (ws) H locs → ∀ (ls : Array Slot), lv_has ls 3 [(0, .ref o9), (1, .ref z.1), (2, .int (nI i))] → W p l e R s m args below meth c H locs 0 0 Q (F0 m 2 ls []) := by
    intro nn
    induction nn with
    | zero => intro i  hi0 hi1 hme; exact absurd hme (Nat.not_lt_zero _)
    | succ nn ih =>
      intro i  hi0 hi1 hme H locs h ls hl
      refine lv_iload_n hx hb dX8_has_2 rfl (lv_at hl 2 rfl) ?_
      refine lv_aload_n hx hb dX8_has_3 rfl (lv_at hl 0 rfl) ?_
      refine o_get C h (RC := RX9) (T := TX9) (N := 4) (ho) rfl in_X9 0 (by decide) q402 rfl (v := .ref x.1) rfl dX8_has_4 ?_
      refine call_VR (As := []) (rest := [.int (nI i)]) (n := 0) C h (cA_size l D dA B Z hZ ws e0 x _ hA) (lw_V q1413 q361 q362 q133 q363) (by decide +kernel) (o_recv C h (RC := RJ2) (T := TJ2) (N := 3) (hcl) rfl) (by decide) (by decide) rfl hl rfl (Nat.le_of_ble_eq_true rfl) dX8_has_7 (by omega) (fun _ H locs _ h => ?_)
      refine n_top (y := nI sls.length) (by rw [List.length_map]) ?_
      refine n_icmp_ge (tgt := 45) hx hb (by omega) (by omega) dX8_has_10 (by decide) (fun c10 => ?_) (fun c10 => ?_)
      · refine lv_iconst (v := nI 0) hx hb dX8_has_45 (by decide) ?_
        subst hQ
        refine n_top (y := bZ false) rfl ?_
        exact ret_z C hr hlocks h () trivial (by rw [any_miss (f := fun y => decide (y.2 = z.2)) (fun j y hj hy => hi1 j y (by omega) hy)]) rfl (by omega) (by omega) dX8_has_46
      · refine lv_aload_n hx hb dX8_has_13 rfl (lv_at hl 0 rfl) ?_
        refine o_get C h (RC := RX9) (T := TX9) (N := 4) (ho) rfl in_X9 0 (by decide) q402 rfl (v := .ref x.1) rfl dX8_has_14 ?_
        refine lv_iload_n hx hb dX8_has_17 rfl (lv_at hl 2 rfl) ?_
        obtain ⟨y, hy⟩ := at_lt (l := sls) (i := i) (by omega)
        obtain ⟨ty, ⟨hbby, hbly, hboy, hb0y⟩, bay, sny, r1y, r2y, r3y, w1y, w2y, w3y, hcey, hbay, hsny, hr1y, hr2y, hr3y⟩ := hS y (List.mem_of_getElem? hy)
        refine call_VR (As := [.int (nI i)]) (rest := []) (n := 1) C h (cA_get l D dA B Z hZ ws e0 x _ i y.1 hA (at_map hy)) (lw_V q1414 q365 q366 q133 q367) (by decide +kernel) (o_recv C h (RC := RJ2) (T := TJ2) (N := 3) (hcl) rfl) (by decide) (by decide) rfl hl rfl (Nat.le_of_ble_eq_true rfl) dX8_has_18 (by omega) (fun _ H locs _ h => ?_)
        refine o_cast C h (RC := RX17) (T := TX17) (N := 19) (hcey) rfl q1415 dX8_has_21 ?_
        refine o_get C h (RC := RX17) (T := TX17) (N := 19) (hcey) rfl in_X17 0 (by decide) q1305 rfl (v := .ref bay) rfl dX8_has_24 ?_
        refine lv_aload_n hx hb dX8_has_27 rfl (lv_at hl 1 rfl) ?_
        refine o_get C h (RC := RX17) (T := TX17) (N := 19) (hcez) rfl in_X17 0 (by decide) q1305 rfl (v := .ref baz) rfl dX8_has_28 ?_
        refine call_SN (As := [.ref bay, .ref baz]) (rest := []) (n := 2) C h (c1_areAlike l D dA B Z hZ ws bay baz y.2 z.2 hbay hbaz (by omega) (by omega) hbby hbbz) (lw_meth q1262) q1416 q1261 q129 (by decide +kernel) (by decide) (by decide) rfl hl rfl (Nat.le_of_ble_eq_true rfl) dX8_has_31 (by omega) (fun _ H locs _ h => ?_)
        refine z_if_eq (tgt := 39) hx hb dX8_has_34 (by decide) (fun c34 => ?_) (fun c34 => ?_)
        · refine lv_iinc (v := nI (i + 1)) (lv' := [(2, .int (nI (i + 1))), (0, .ref o9), (1, .ref z.1)]) hx hb dX8_has_39 hl (k := 2) rfl (nI_add i 1) (by decide) rfl (fun ls hl => ?_)
          refine lv_goto (tgt := 2) hx hb dX8_has_42 (by decide) ?_
          exact ih (i + 1) (by omega) (at_step (f := fun y => decide (y.2 = z.2)) hi1 hy c34) (by omega) _ _ h _ (lv_sub hl [1, 2, 0] rfl)
        · refine lv_iconst (v := nI 1) hx hb dX8_has_37 (by decide) ?_
          subst hQ
          refine n_top (y := bZ true) rfl ?_
          exact ret_z C hr hlocks h () trivial (by rw [any_hit (f := fun y => decide (y.2 = z.2)) hy c34]) rfl (by omega) (by omega) dX8_has_38
  exact loop _ 0 (by omega) (fun j y hj => absurd hj (Nat.not_lt_zero _)) (Nat.lt_succ_self _) _ _ h _ (lv_sub hl [1, 2, 0] rfl)
