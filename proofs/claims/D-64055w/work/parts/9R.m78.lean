set_option maxRecDepth 100000
set_option maxHeartbeats 400000 in
set_option maxRecDepth 100000 in
theorem cJ_acInit (l : Launch) (D : va_G) (dA : Nat → ClassId) (B : Nat) (Z : State → Prop) (hZ : Stab B Z) (ws : va_W) (al : Nat)  :
    Ct (S := Unit) l D dA B Z yJ0_init cJ0_init 1 none 2 0 0 [.ref al] (ws) (fun _ => True) (fun _ => none) (fun _ => ws) := by
  refine Ct.mk2 (by decide) (Nat.le_of_ble_eq_true rfl) hZ ?_
  intro p e R s m args below meth c ls Q C hr hlocks hin hQ hl h
  have C0 := C
  obtain ⟨hx, hb, hml, hown, hts, -⟩ := C0
  have hl : lv_has ls 1 [(0, .ref al)] := hl
  refine lv_aload_n hx hb dJ0_init_0 rfl (lv_at hl 0 rfl) ?_
  refine o_init C h q210 hl.1 (by decide) (Nat.le_of_ble_eq_true rfl) dJ0_init_1 ?_
  subst hQ
  exact ret_v C hr hlocks h () trivial rfl rfl (by omega) (by omega) dJ0_init_4
set_option maxHeartbeats 400000 in
set_option maxRecDepth 100000 in
theorem cJ_absInit (l : Launch) (D : va_G) (dA : Nat → ClassId) (B : Nat) (Z : State → Prop) (hZ : Stab B Z) (F : va_W) (al : Nat)  :
    Ct (S := Unit) l D dA B Z yJ1_init cJ1_init 1 none 3 0 0 [.ref al] ([(al, .inr (16, [.int 0, .null, .int 0]))] ++ F) (fun _ => True) (fun _ => none) (fun _ => [(al, .inr (16, [.int (nI 0), .null, .int 0]))] ++ F) := by
  refine Ct.mk2 (by decide) (Nat.le_of_ble_eq_true rfl) hZ ?_
  intro p e R s m args below meth c ls Q C hr hlocks hin hQ hl h
  have C0 := C
  obtain ⟨hx, hb, hml, hown, hts, -⟩ := C0
  have hl : lv_has ls 1 [(0, .ref al)] := hl
  refine lv_aload_n hx hb dJ1_init_0 rfl (lv_at hl 0 rfl) ?_
  refine call_I (As := []) (rest := []) (n := 0) C h (cJ_acInit l D dA B Z hZ _ al) (lw_meth q209) q131 q207 q208 rfl (by decide +kernel) (by decide) (by decide) rfl hl rfl (Nat.le_of_ble_eq_true rfl) dJ1_init_1 (by omega) (fun _ H locs _ h => ?_)
  refine lv_aload_n hx hb dJ1_init_4 rfl (lv_at hl 0 rfl) ?_
  refine lv_iconst (v := nI 0) hx hb dJ1_init_5 (by decide) ?_
  refine o_put C h 0 (RC := RJ2) (T := TJ2) (N := 3) (ws' := [(al, .inr (16, [.int (nI 0), .null, .int 0]))] ++ F) rfl rfl in_J2 tyJ2_ok nmJ2 0 (by decide) q215 rfl rfl (v := .int (nI 0)) rfl rfl (Nat.le_of_ble_eq_true rfl) rfl dJ1_init_6 (fun H locs h => ?_)
  subst hQ
  exact ret_v C hr hlocks h () trivial rfl rfl (by omega) (by omega) dJ1_init_9
set_option maxHeartbeats 400000 in
set_option maxRecDepth 100000 in
theorem cJ_alInit (l : Launch) (D : va_G) (dA : Nat → ClassId) (B : Nat) (Z : State → Prop) (hZ : Stab B Z) (F : va_W) (al e0 mi : Nat) (hzs : ZS dA B Z) (hza : ZA B e0 mi Z) :
    Ct (S := Unit) l D dA B Z yJ2_init cJ2_init 1 none 4 0 0 [.ref al] ([(al, .inr (16, [.int 0, .null, .int 0]))] ++ F) (fun _ => True) (fun _ => none) (fun _ => [(al, .inr (16, [.int (nI 0), .ref e0, .int (nI 0)]))] ++ F) := by
  refine Ct.mk2 (by decide) (Nat.le_of_ble_eq_true rfl) hZ ?_
  intro p e R s m args below meth c ls Q C hr hlocks hin hQ hl h
  have C0 := C
  obtain ⟨hx, hb, hml, hown, hts, -⟩ := C0
  have hl : lv_has ls 1 [(0, .ref al)] := hl
  refine lv_aload_n hx hb dJ2_init_0 rfl (lv_at hl 0 rfl) ?_
  refine call_I (As := []) (rest := []) (n := 0) C h (cJ_absInit l D dA B Z hZ F al) (lw_meth q206) q132 q204 q205 rfl (by decide +kernel) (by decide) (by decide) rfl hl rfl (Nat.le_of_ble_eq_true rfl) dJ2_init_1 (by omega) (fun _ H locs _ h => ?_)
  have h : Wd D B s ([(al, .inr (16, [.int (nI 0), .null, .int 0]))] ++ F) H locs := h
  refine lv_aload_n hx hb dJ2_init_4 rfl (lv_at hl 0 rfl) ?_
  refine z_gets C h hza.1 q211 rfl dJ2_init_5 ?_
  refine o_put C h 0 (RC := RJ2) (T := TJ2) (N := 3) (ws' := [(al, .inr (16, [.int (nI 0), .ref e0, .int 0]))] ++ F) rfl rfl in_J2 tyJ2_ok nmJ2 1 (by decide) q213 rfl rfl (v := .ref e0) rfl rfl (Nat.le_of_ble_eq_true rfl) rfl dJ2_init_8 (fun H locs h => ?_)
  subst hQ
  exact ret_v C hr hlocks h () trivial rfl rfl (by omega) (by omega) dJ2_init_11
set_option maxHeartbeats 400000 in
set_option maxRecDepth 100000 in
theorem cJ_alSize (l : Launch) (D : va_G) (dA : Nat → ClassId) (B : Nat) (Z : State → Prop) (hZ : Stab B Z) (ws : va_W) (al ed n : Nat) (mo : Int32) (hal : (al, .inr (16, [.int mo, .ref ed, .int (nI n)])) ∈ ws) :
    Ct (S := Unit) l D dA B Z yJ2_size cJ2_size 1 (some .int) 1 0 0 [.ref al] (ws) (fun _ => True) (fun _ => some (.int (nI n))) (fun _ => ws) := by
  refine Ct.mk2 (by decide) (Nat.le_of_ble_eq_true rfl) hZ ?_
  intro p e R s m args below meth c ls Q C hr hlocks hin hQ hl h
  have C0 := C
  obtain ⟨hx, hb, hml, hown, hts, -⟩ := C0
  have hl : lv_has ls 1 [(0, .ref al)] := hl
  refine lv_aload_n hx hb dJ2_size_0 rfl (lv_at hl 0 rfl) ?_
  refine o_get C h (RC := RJ2) (T := TJ2) (N := 3) (hal) rfl in_J2 2 (by decide) q214 rfl (v := .int (nI n)) rfl dJ2_size_1 ?_
  subst hQ
  exact ret_i C hr hlocks h () trivial rfl rfl (by omega) (by omega) dJ2_size_4
set_option maxHeartbeats 400000 in
set_option maxRecDepth 100000 in
theorem cJ_chk (l : Launch) (D : va_G) (dA : Nat → ClassId) (B : Nat) (Z : State → Prop) (hZ : Stab B Z) (ws : va_W) (i n : Nat) (h1 : i < n) (h2 : n < 2147483648) :
    Ct (S := Unit) l D dA B Z yJ3_checkIndex cJ3_checkIndex 2 (some .int) 2 0 0 [.int (nI i), .int (nI n)] (ws) (fun _ => True) (fun _ => some (.int (nI i))) (fun _ => ws) := by
  refine Ct.mk2 (by decide) (Nat.le_of_ble_eq_true rfl) hZ ?_
  intro p e R s m args below meth c ls Q C hr hlocks hin hQ hl h
  have C0 := C
  obtain ⟨hx, hb, hml, hown, hts, -⟩ := C0
  have hl : lv_has ls 2 [(0, .int (nI i)), (1, .int (nI n))] := hl
  refine lv_iload_n hx hb dJ3_checkIndex_0 rfl (lv_at hl 0 rfl) ?_
  refine lv_iload_n hx hb dJ3_checkIndex_1 rfl (lv_at hl 1 rfl) ?_
  refine lv_null hx hb dJ3_checkIndex_2 ?_
  refine call_S (As := [.int (nI i), .int (nI n), .null]) (rest := []) (n := 3) C h (cJ_preCheck l D dA B Z hZ ws i n none h1 h2) (lw_S q371 q372 q140 q373) (by decide +kernel) (by decide) (by decide) rfl hl rfl (Nat.le_of_ble_eq_true rfl) dJ3_checkIndex_3 (by omega) (fun _ H locs _ h => ?_)
  subst hQ
  exact ret_i C hr hlocks h () trivial rfl rfl (by omega) (by omega) dJ3_checkIndex_6
set_option maxHeartbeats 400000 in
set_option maxRecDepth 100000 in
theorem cJ_alEd (l : Launch) (D : va_G) (dA : Nat → ClassId) (B : Nat) (Z : State → Prop) (hZ : Stab B Z) (ws : va_W) (al ed n cap i a : Nat) (mo : Int32) (g : Nat → Option Nat) (hal : (al, .inr (16, [.int mo, .ref ed, .int (nI n)])) ∈ ws) (hed : (ed, oar dA cap g) ∈ ws) (hi : i < n) (hn : n ≤ cap) (hc : cap < 1000000) (ho : g i = some a) :
    Ct (S := Unit) l D dA B Z yJ2_elementData cJ2_elementData 2 (some ((.object "java/lang/Object"))) 1 0 0 [.ref al, .int (nI i)] (ws) (fun _ => True) (fun _ => some (.ref a)) (fun _ => ws) := by
  refine Ct.mk2 (by decide) (Nat.le_of_ble_eq_true rfl) hZ ?_
  intro p e R s m args below meth c ls Q C hr hlocks hin hQ hl h
  have C0 := C
  obtain ⟨hx, hb, hml, hown, hts, -⟩ := C0
  have hl : lv_has ls 2 [(0, .ref al), (1, .int (nI i))] := hl
  refine lv_aload_n hx hb dJ2_elementData_0 rfl (lv_at hl 0 rfl) ?_
  refine o_get C h (RC := RJ2) (T := TJ2) (N := 3) (hal) rfl in_J2 1 (by decide) q213 rfl (v := .ref ed) rfl dJ2_elementData_1 ?_
  refine lv_iload_n hx hb dJ2_elementData_4 rfl (lv_at hl 1 rfl) ?_
  refine n_oald C h (i := i) (o := some a) (hed) (by omega) (by omega) ho dJ2_elementData_5 ?_
  subst hQ
  exact ret_a C hr (Or.inl ⟨_, rfl⟩) hlocks h () trivial (Or.inr ⟨_, rfl⟩) rfl rfl (by omega) (by omega) dJ2_elementData_6
set_option maxHeartbeats 400000 in
set_option maxRecDepth 100000 in
theorem cJ_alGet (l : Launch) (D : va_G) (dA : Nat → ClassId) (B : Nat) (Z : State → Prop) (hZ : Stab B Z) (ws : va_W) (al ed n cap i a : Nat) (mo : Int32) (g : Nat → Option Nat) (hal : (al, .inr (16, [.int mo, .ref ed, .int (nI n)])) ∈ ws) (hed : (ed, oar dA cap g) ∈ ws) (hi : i < n) (hn : n ≤ cap) (hc : cap < 1000000) (ho : g i = some a) :
    Ct (S := Unit) l D dA B Z yJ2_get cJ2_get 2 (some ((.object "java/lang/Object"))) 3 0 0 [.ref al, .int (nI i)] (ws) (fun _ => True) (fun _ => some (.ref a)) (fun _ => ws) := by
  refine Ct.mk2 (by decide) (Nat.le_of_ble_eq_true rfl) hZ ?_
  intro p e R s m args below meth c ls Q C hr hlocks hin hQ hl h
  have C0 := C
  obtain ⟨hx, hb, hml, hown, hts, -⟩ := C0
  have hl : lv_has ls 2 [(0, .ref al), (1, .int (nI i))] := hl
  refine lv_iload_n hx hb dJ2_get_0 rfl (lv_at hl 1 rfl) ?_
  refine lv_aload_n hx hb dJ2_get_1 rfl (lv_at hl 0 rfl) ?_
  refine o_get C h (RC := RJ2) (T := TJ2) (N := 3) (hal) rfl in_J2 2 (by decide) q214 rfl (v := .int (nI n)) rfl dJ2_get_2 ?_
  refine call_S (As := [.int (nI i), .int (nI n)]) (rest := []) (n := 2) C h (cJ_chk l D dA B Z hZ ws i n hi (by omega)) (lw_S q368 q369 q139 q370) (by decide +kernel) (by decide) (by decide) rfl hl rfl (Nat.le_of_ble_eq_true rfl) dJ2_get_5 (by omega) (fun _ H locs _ h => ?_)
  refine lv_pop hx hb dJ2_get_8 rfl ?_
  refine lv_aload_n hx hb dJ2_get_9 rfl (lv_at hl 0 rfl) ?_
  refine lv_iload_n hx hb dJ2_get_10 rfl (lv_at hl 1 rfl) ?_
  refine call_VR (As := [.int (nI i)]) (rest := []) (n := 1) C h (cJ_alEd l D dA B Z hZ ws al ed n cap i a mo g hal hed hi hn hc ho) (lw_V q374 q375 q376 q133 q377) (by decide +kernel) (o_recv C h (RC := RJ2) (T := TJ2) (N := 3) hal rfl) (by decide) (by decide) rfl hl rfl (Nat.le_of_ble_eq_true rfl) dJ2_get_11 (by omega) (fun _ H locs _ h => ?_)
  subst hQ
  exact ret_a C hr (Or.inl ⟨_, rfl⟩) hlocks h () trivial (Or.inr ⟨_, rfl⟩) rfl rfl (by omega) (by omega) dJ2_get_14
set_option maxHeartbeats 400000 in
set_option maxRecDepth 100000 in
theorem cJ_cpO3 (l : Launch) (D : va_G) (dA : Nat → ClassId) (B : Nat) (Z : State → Prop) (hZ : Stab B Z) (ws : va_W) (a n k e0 mi : Nat) (g : Nat → Option Nat) (ci : Nat) (rC9 : vw_C) (hci : vwCl[ci]? = some rC9) (hca : Cond.castable rC9.1 "java/lang/Object" ∈ lw_tbl) (hzs : ZS dA B Z) (hza : ZA B e0 mi Z) (hm : (a, oar dA n g) ∈ ws) (hn : n < 1000000) (hk : k < 1000000) (hel : ∀ j, j < min n k → ∀ y, g j = some y → ∃ fs, (y, .inr (ci, fs)) ∈ ws) :
    Ct (S := Nat) l D dA B Z yJ5_copyOf_2 cJ5_copyOf_2 4 (some ((.array (.object "java/lang/Object")))) 2 1 k [.ref a, .int (nI k), .ref mi] (ws) (fun _ => True) (fun q => some (.ref q)) (fun q => ws ++ [(q, oar dA k (va_cpy g (fun _ => none) 0 0 (min n k)))]) := by
  refine Ct.mk2 (by decide) (Nat.le_of_ble_eq_true rfl) hZ ?_
  intro p e R s m args below meth c ls Q C hr hlocks hin hQ hl h
  have C0 := C
  obtain ⟨hx, hb, hml, hown, hts, -⟩ := C0
  have hl : lv_has ls 4 [(0, .ref a), (1, .int (nI k)), (2, .ref mi)] := hl
  refine lv_aload_n hx hb dJ5_copyOf_2_0 rfl (lv_at hl 2 rfl) ?_
  refine z_ldcM C hza q470 dJ5_copyOf_2_1 ?_
  refine lv_acmp_ne (rx := some mi) (ry := some mi) (tgt := 13) hx hb dJ5_copyOf_2_3 (by decide) (fun c3 => by exfalso; exact c3 rfl) (fun c3 => ?_)
  refine lv_iload_n hx hb dJ5_copyOf_2_6 rfl (lv_at hl 1 rfl) ?_
  refine n_newo C h (n := k) hzs q472 (by omega) (by omega) (by omega) dJ5_copyOf_2_7 (fun o1 H h => ?_)
  refine lv_goto (tgt := 24) hx hb dJ5_copyOf_2_10 (by decide) ?_
  refine lv_astore_n (lv' := [(3, .ref o1), (0, .ref a), (1, .int (nI k)), (2, .ref mi)]) hx hb dJ5_copyOf_2_24 rfl hl (by decide) rfl (fun ls hl => ?_)
  refine lv_aload_n hx hb dJ5_copyOf_2_25 rfl (lv_at hl 1 rfl) ?_
  refine lv_iconst (v := nI 0) hx hb dJ5_copyOf_2_26 (by decide) ?_
  refine lv_aload_n hx hb dJ5_copyOf_2_27 rfl (lv_at hl 0 rfl) ?_
  refine lv_iconst (v := nI 0) hx hb dJ5_copyOf_2_28 (by decide) ?_
  refine lv_aload_n hx hb dJ5_copyOf_2_29 rfl (lv_at hl 1 rfl) ?_
  refine n_Oalen C h (List.mem_append_left _ hm) dJ5_copyOf_2_30 ?_
  refine lv_iload_n hx hb dJ5_copyOf_2_31 rfl (lv_at hl 2 rfl) ?_
  refine n_mmin C h (a := n) (b := k) (by omega) (by omega) q473 q474 q144 q475 hl.1 (by decide) (Nat.le_of_ble_eq_true rfl) (by omega) (by omega) dJ5_copyOf_2_32 ?_
  have h : Wd D B s ([(o1, oar dA k (fun _ => none))] ++ ws) H [] := Wd.toFront h
  refine x_copyO C h 0 (n := min n k) (dp := 0) (sp := 0) (ws' := [(o1, oar dA k (va_cpy g (fun _ => none) 0 0 (min n k)))] ++ ws) (List.mem_append_right _ hm) rfl q476 q478 q477 q145 hci hca (fun i hi y hy => by rw [Nat.zero_add] at hy; obtain ⟨fs, hfs⟩ := hel i hi y hy; exact ⟨fs, List.mem_append_right _ hfs⟩) (by omega) (by omega) (by omega) (by omega) hl.1 (by decide) (Nat.le_of_ble_eq_true rfl) rfl dJ5_copyOf_2_35 (fun H locs h => ?_)
  have h : Wd D B s (ws ++ [(o1, oar dA k (va_cpy g (fun _ => none) 0 0 (min n k)))]) H locs := h.permL List.perm_append_comm
  refine lv_aload_n hx hb dJ5_copyOf_2_38 rfl (lv_at hl 0 rfl) ?_
  subst hQ
  exact ret_a C hr (Or.inr ⟨_, rfl⟩) hlocks h o1 trivial (Or.inr ⟨_, rfl⟩) rfl rfl (by omega) (by omega) dJ5_copyOf_2_39
set_option maxHeartbeats 400000 in
set_option maxRecDepth 100000 in
theorem cJ_cpO (l : Launch) (D : va_G) (dA : Nat → ClassId) (B : Nat) (Z : State → Prop) (hZ : Stab B Z) (ws : va_W) (a n k e0 mi : Nat) (g : Nat → Option Nat) (ci : Nat) (rC9 : vw_C) (hci : vwCl[ci]? = some rC9) (hca : Cond.castable rC9.1 "java/lang/Object" ∈ lw_tbl) (hzs : ZS dA B Z) (hza : ZA B e0 mi Z) (hm : (a, oar dA n g) ∈ ws) (hn : n < 1000000) (hk : k < 1000000) (hel : ∀ j, j < min n k → ∀ y, g j = some y → ∃ fs, (y, .inr (ci, fs)) ∈ ws) :
    Ct (S := Nat) l D dA B Z yJ5_copyOf cJ5_copyOf 2 (some ((.array (.object "java/lang/Object")))) 3 1 k [.ref a, .int (nI k)] (ws) (fun _ => True) (fun q => some (.ref q)) (fun q => ws ++ [(q, oar dA k (va_cpy g (fun _ => none) 0 0 (min n k)))]) := by
  refine Ct.mk2 (by decide) (Nat.le_of_ble_eq_true rfl) hZ ?_
  intro p e R s m args below meth c ls Q C hr hlocks hin hQ hl h
  have C0 := C
  obtain ⟨hx, hb, hml, hown, hts, -⟩ := C0
  have hl : lv_has ls 2 [(0, .ref a), (1, .int (nI k))] := hl
  refine lv_aload_n hx hb dJ5_copyOf_0 rfl (lv_at hl 0 rfl) ?_
  refine lv_iload_n hx hb dJ5_copyOf_1 rfl (lv_at hl 1 rfl) ?_
  refine lv_aload_n hx hb dJ5_copyOf_2 rfl (lv_at hl 0 rfl) ?_
  refine z_getC C h hza (Or.inr ⟨_, _, hm⟩) q439 q2646 q2645 q440 q466 hl.1 (by decide) (Nat.le_of_ble_eq_true rfl) dJ5_copyOf_3 ?_
  refine call_S (As := [.ref a, .int (nI k), .ref mi]) (rest := []) (n := 3) C h (cJ_cpO3 l D dA B Z hZ ws a n k e0 mi g ci rC9 hci hca hzs hza hm hn hk hel) (lw_S q467 q468 q143 q469) (by decide +kernel) (by decide) (by decide) rfl hl rfl (Nat.le_of_ble_eq_true rfl) dJ5_copyOf_6 (by omega) (fun q9 H locs _ h => ?_)
  subst hQ
  exact ret_a C hr (Or.inr ⟨_, rfl⟩) hlocks h q9 trivial (Or.inr ⟨_, rfl⟩) rfl rfl (by omega) (by omega) dJ5_copyOf_9
set_option maxHeartbeats 400000 in
set_option maxRecDepth 100000 in
theorem cJ_cpO3Z (l : Launch) (D : va_G) (dA : Nat → ClassId) (B : Nat) (Z : State → Prop) (hZ : Stab B Z) (ws : va_W) (e0 mi : Nat) (hzs : ZS dA B Z) (hza : ZA B e0 mi Z) :
    Ct (S := Nat) l D dA B Z yJ5_copyOf_2 cJ5_copyOf_2 4 (some ((.array (.object "java/lang/Object")))) 2 1 0 [.ref e0, .int (nI 0), .ref mi] (ws) (fun _ => True) (fun q => some (.ref q)) (fun q => ws ++ [(q, oar dA 0 (fun _ => none))]) := by
  refine Ct.mk2 (by decide) (Nat.le_of_ble_eq_true rfl) hZ ?_
  intro p e R s m args below meth c ls Q C hr hlocks hin hQ hl h
  have C0 := C
  obtain ⟨hx, hb, hml, hown, hts, -⟩ := C0
  have hl : lv_has ls 4 [(0, .ref e0), (1, .int (nI 0)), (2, .ref mi)] := hl
  refine lv_aload_n hx hb dJ5_copyOf_2_0 rfl (lv_at hl 2 rfl) ?_
  refine z_ldcM C hza q470 dJ5_copyOf_2_1 ?_
  refine lv_acmp_ne (rx := some mi) (ry := some mi) (tgt := 13) hx hb dJ5_copyOf_2_3 (by decide) (fun c3 => by exfalso; exact c3 rfl) (fun c3 => ?_)
  refine lv_iload_n hx hb dJ5_copyOf_2_6 rfl (lv_at hl 1 rfl) ?_
  refine n_newo C h (n := 0) hzs q472 (by omega) (by omega) (by omega) dJ5_copyOf_2_7 (fun o1 H h => ?_)
  refine lv_goto (tgt := 24) hx hb dJ5_copyOf_2_10 (by decide) ?_
  refine lv_astore_n (lv' := [(3, .ref o1), (0, .ref e0), (1, .int (nI 0)), (2, .ref mi)]) hx hb dJ5_copyOf_2_24 rfl hl (by decide) rfl (fun ls hl => ?_)
  refine lv_aload_n hx hb dJ5_copyOf_2_25 rfl (lv_at hl 1 rfl) ?_
  refine lv_iconst (v := nI 0) hx hb dJ5_copyOf_2_26 (by decide) ?_
  refine lv_aload_n hx hb dJ5_copyOf_2_27 rfl (lv_at hl 0 rfl) ?_
  refine lv_iconst (v := nI 0) hx hb dJ5_copyOf_2_28 (by decide) ?_
  refine lv_aload_n hx hb dJ5_copyOf_2_29 rfl (lv_at hl 1 rfl) ?_
  refine z_len0 C h hza dJ5_copyOf_2_30 ?_
  refine lv_iload_n hx hb dJ5_copyOf_2_31 rfl (lv_at hl 2 rfl) ?_
  refine n_mmin C h (a := 0) (b := 0) (by omega) (by omega) q473 q474 q144 q475 hl.1 (by decide) (Nat.le_of_ble_eq_true rfl) (by omega) (by omega) dJ5_copyOf_2_32 ?_
  refine n_top (y := nI 0) rfl ?_
  have h : Wd D B s ([(o1, oar dA 0 (fun _ => none))] ++ ws) H [] := Wd.toFront h
  refine x_copyZ C h 0 hza rfl q476 q478 q477 q145 hl.1 (by decide) (Nat.le_of_ble_eq_true rfl) dJ5_copyOf_2_35 (fun H locs h => ?_)
  have h : Wd D B s (ws ++ [(o1, oar dA 0 (fun _ => none))]) H locs := h.permL List.perm_append_comm
  refine lv_aload_n hx hb dJ5_copyOf_2_38 rfl (lv_at hl 0 rfl) ?_
  subst hQ
  exact ret_a C hr (Or.inr ⟨_, rfl⟩) hlocks h o1 trivial (Or.inr ⟨_, rfl⟩) rfl rfl (by omega) (by omega) dJ5_copyOf_2_39
set_option maxHeartbeats 400000 in
set_option maxRecDepth 100000 in
theorem cJ_cpOZ (l : Launch) (D : va_G) (dA : Nat → ClassId) (B : Nat) (Z : State → Prop) (hZ : Stab B Z) (ws : va_W) (e0 mi : Nat) (hzs : ZS dA B Z) (hza : ZA B e0 mi Z) :
    Ct (S := Nat) l D dA B Z yJ5_copyOf cJ5_copyOf 2 (some ((.array (.object "java/lang/Object")))) 3 1 0 [.ref e0, .int (nI 0)] (ws) (fun _ => True) (fun q => some (.ref q)) (fun q => ws ++ [(q, oar dA 0 (fun _ => none))]) := by
  refine Ct.mk2 (by decide) (Nat.le_of_ble_eq_true rfl) hZ ?_
  intro p e R s m args below meth c ls Q C hr hlocks hin hQ hl h
  have C0 := C
  obtain ⟨hx, hb, hml, hown, hts, -⟩ := C0
  have hl : lv_has ls 2 [(0, .ref e0), (1, .int (nI 0))] := hl
  refine lv_aload_n hx hb dJ5_copyOf_0 rfl (lv_at hl 0 rfl) ?_
  refine lv_iload_n hx hb dJ5_copyOf_1 rfl (lv_at hl 1 rfl) ?_
  refine lv_aload_n hx hb dJ5_copyOf_2 rfl (lv_at hl 0 rfl) ?_
  refine z_getC C h hza (Or.inl rfl) q439 q2646 q2645 q440 q466 hl.1 (by decide) (Nat.le_of_ble_eq_true rfl) dJ5_copyOf_3 ?_
  refine call_S (As := [.ref e0, .int (nI 0), .ref mi]) (rest := []) (n := 3) C h (cJ_cpO3Z l D dA B Z hZ ws e0 mi hzs hza) (lw_S q467 q468 q143 q469) (by decide +kernel) (by decide) (by decide) rfl hl rfl (Nat.le_of_ble_eq_true rfl) dJ5_copyOf_6 (by omega) (fun q9 H locs _ h => ?_)
  subst hQ
  exact ret_a C hr (Or.inr ⟨_, rfl⟩) hlocks h q9 trivial (Or.inr ⟨_, rfl⟩) rfl rfl (by omega) (by omega) dJ5_copyOf_9
set_option maxHeartbeats 400000 in
set_option maxRecDepth 100000 in
theorem cJ_growG (l : Launch) (D : va_G) (dA : Nat → ClassId) (B : Nat) (Z : State → Prop) (hZ : Stab B Z) (F : va_W) (al ed n cap mn e0 mi : Nat) (mo : Int32) (g : Nat → Option Nat) (ci : Nat) (rC9 : vw_C) (hci : vwCl[ci]? = some rC9) (hca : Cond.castable rC9.1 "java/lang/Object" ∈ lw_tbl) (hzs : ZS dA B Z) (hza : ZA B e0 mi Z) (h0 : 0 < cap) (hc : cap < 10000) (hm1 : cap < mn) (hm2 : mn < 20000) (hel : ∀ j, j < cap → ∀ y, g j = some y → ∃ fs, (y, .inr (ci, fs)) ∈ F) :
    Ct (S := Nat) l D dA B Z yJ2_grow cJ2_grow 4 (some ((.array (.object "java/lang/Object")))) 4 1 (cap + max (mn - cap) (cap / 2)) [.ref al, .int (nI mn)] ([(al, .inr (16, [.int mo, .ref ed, .int (nI n)])), (ed, oar dA cap g)] ++ F) (fun _ => True) (fun q => some (.ref q)) (fun q => [(al, .inr (16, [.int mo, .ref q, .int (nI n)])), (q, oar dA (cap + max (mn - cap) (cap / 2)) (va_cpy g (fun _ => none) 0 0 cap))] ++ (F ++ [(ed, oar dA cap g)])) := by
  refine Ct.mk2 (by decide) (Nat.le_of_ble_eq_true rfl) hZ ?_
  intro p e R s m args below meth c ls Q C hr hlocks hin hQ hl h
  have C0 := C
  obtain ⟨hx, hb, hml, hown, hts, -⟩ := C0
  have hl : lv_has ls 4 [(0, .ref al), (1, .int (nI mn))] := hl
  refine lv_aload_n hx hb dJ2_grow_0 rfl (lv_at hl 0 rfl) ?_
  refine o_get C h (RC := RJ2) (T := TJ2) (N := 3) (List.mem_of_getElem? (i := 0) rfl) rfl in_J2 1 (by decide) q213 rfl (v := .ref ed) rfl dJ2_grow_1 ?_
  refine n_Oalen C h (List.mem_of_getElem? (i := 1) rfl) dJ2_grow_4 ?_
  refine lv_istore_n (lv' := [(2, .int (nI cap)), (0, .ref al), (1, .int (nI mn))]) hx hb dJ2_grow_5 rfl hl (by decide) rfl (fun ls hl => ?_)
  refine lv_iload_n hx hb dJ2_grow_6 rfl (lv_at hl 0 rfl) ?_
  refine n_if_gt (tgt := 20) hx hb (by omega) dJ2_grow_7 (by decide) (fun c7 => ?_) (fun c7 => by exfalso; omega)
  refine lv_iload_n hx hb dJ2_grow_20 rfl (lv_at hl 0 rfl) ?_
  refine lv_iload_n hx hb dJ2_grow_21 rfl (lv_at hl 2 rfl) ?_
  refine lv_iload_n hx hb dJ2_grow_22 rfl (lv_at hl 0 rfl) ?_
  refine lv_isub hx hb dJ2_grow_23 (n_top (y := nI (mn - cap)) (pk_sub (by omega)) ?_)
  refine lv_iload_n hx hb dJ2_grow_24 rfl (lv_at hl 0 rfl) ?_
  refine lv_iconst (v := nI 1) hx hb dJ2_grow_25 (by decide) ?_
  refine n_ishr hx hb dJ2_grow_26 ?_
  refine n_top (y := nI (cap / 2)) (by rw [show cap / 2 = cap / 2 ^ 1 by rw [Nat.pow_one]]; exact n_shrN (by omega) (by decide)) ?_
  refine call_S (As := [.int (nI cap), .int (nI (mn - cap)), .int (nI (cap / 2))]) (rest := []) (n := 3) C h (cJ_newLength l D dA B Z hZ _ cap (mn - cap) (cap / 2) (by omega) (by omega) (by omega) (by omega)) (lw_S q483 q484 q146 q485) (by decide +kernel) (by decide) (by decide) rfl hl rfl (Nat.le_of_ble_eq_true rfl) dJ2_grow_27 (by omega) (fun _ H locs _ h => ?_)
  refine lv_istore_n (lv' := [(3, .int (nI (cap + max (mn - cap) (cap / 2)))), (2, .int (nI cap)), (0, .ref al), (1, .int (nI mn))]) hx hb dJ2_grow_30 rfl hl (by decide) rfl (fun ls hl => ?_)
  refine lv_aload_n hx hb dJ2_grow_31 rfl (lv_at hl 2 rfl) ?_
  refine lv_aload_n hx hb dJ2_grow_32 rfl (lv_at hl 2 rfl) ?_
  refine o_get C h (RC := RJ2) (T := TJ2) (N := 3) (List.mem_of_getElem? (i := 0) rfl) rfl in_J2 1 (by decide) q213 rfl (v := .ref ed) rfl dJ2_grow_33 ?_
  refine lv_iload_n hx hb dJ2_grow_36 rfl (lv_at hl 0 rfl) ?_
  refine call_S (As := [.ref ed, .int (nI (cap + max (mn - cap) (cap / 2)))]) (rest := [.ref al]) (n := 2) C h (cJ_cpO l D dA B Z hZ _ ed cap (cap + max (mn - cap) (cap / 2)) e0 mi g ci rC9 hci hca hzs hza (List.mem_of_getElem? (i := 1) rfl) (by omega) (by omega) (fun j hj y hy => by obtain ⟨fs, hfs⟩ := hel j (by omega) y hy; exact ⟨fs, List.mem_append_right _ hfs⟩)) (lw_S q436 q437 q143 q438) (by decide +kernel) (by decide) (by decide) rfl hl rfl (Nat.le_of_ble_eq_true rfl) dJ2_grow_37 (by omega) (fun q9 H locs _ h => ?_)
  have hmin : min cap (cap + max (mn - cap) (cap / 2)) = cap := by omega
  rw [hmin] at h
  have h : Wd D B s ([(q9, oar dA (cap + max (mn - cap) (cap / 2)) (va_cpy g (fun _ => none) 0 0 cap))] ++ ([(al, .inr (16, [.int mo, .ref ed, .int (nI n)])), (ed, oar dA cap g)] ++ F)) H locs := Wd.toFront h
  refine lv_dup_x1 hx hb dJ2_grow_40 rfl rfl ?_
  refine o_put C h 1 (RC := RJ2) (T := TJ2) (N := 3) (ws' := [(q9, oar dA (cap + max (mn - cap) (cap / 2)) (va_cpy g (fun _ => none) 0 0 cap)), (al, .inr (16, [.int mo, .ref q9, .int (nI n)])), (ed, oar dA cap g)] ++ F) rfl rfl in_J2 tyJ2_ok nmJ2 1 (by decide) q213 rfl rfl (v := .ref q9) rfl rfl (Nat.le_of_ble_eq_true rfl) rfl dJ2_grow_41 (fun H locs h => ?_)
  subst hQ
  have h : Wd D B s ([(ed, oar dA cap g), (al, .inr (16, [.int mo, .ref q9, .int (nI n)])), (q9, oar dA (cap + max (mn - cap) (cap / 2)) (va_cpy g (fun _ => none) 0 0 cap))] ++ F) H locs := h.perm [2, 1, 0] rfl rfl
  have h : Wd D B s ([(al, .inr (16, [.int mo, .ref q9, .int (nI n)])), (q9, oar dA (cap + max (mn - cap) (cap / 2)) (va_cpy g (fun _ => none) 0 0 cap))] ++ (F ++ [(ed, oar dA cap g)])) H locs := Wd.toLast h
  exact ret_a C hr (Or.inr ⟨_, rfl⟩) hlocks h q9 trivial (Or.inr ⟨_, rfl⟩) rfl rfl (by omega) (by omega) dJ2_grow_44
set_option maxHeartbeats 400000 in
set_option maxRecDepth 100000 in
theorem cJ_growZ (l : Launch) (D : va_G) (dA : Nat → ClassId) (B : Nat) (Z : State → Prop) (hZ : Stab B Z) (F : va_W) (al n mn e0 mi : Nat) (mo : Int32) (hzs : ZS dA B Z) (hza : ZA B e0 mi Z) (hm2 : mn < 20000) :
    Ct (S := Nat) l D dA B Z yJ2_grow cJ2_grow 4 (some ((.array (.object "java/lang/Object")))) 4 1 (max 10 mn) [.ref al, .int (nI mn)] ([(al, .inr (16, [.int mo, .ref e0, .int (nI n)]))] ++ F) (fun _ => True) (fun q => some (.ref q)) (fun q => [(al, .inr (16, [.int mo, .ref q, .int (nI n)])), (q, oar dA (max 10 mn) (fun _ => none))] ++ F) := by
  refine Ct.mk2 (by decide) (Nat.le_of_ble_eq_true rfl) hZ ?_
  intro p e R s m args below meth c ls Q C hr hlocks hin hQ hl h
  have C0 := C
  obtain ⟨hx, hb, hml, hown, hts, -⟩ := C0
  have hl : lv_has ls 4 [(0, .ref al), (1, .int (nI mn))] := hl
  refine lv_aload_n hx hb dJ2_grow_0 rfl (lv_at hl 0 rfl) ?_
  refine o_get C h (RC := RJ2) (T := TJ2) (N := 3) (List.mem_of_getElem? (i := 0) rfl) rfl in_J2 1 (by decide) q213 rfl (v := .ref e0) rfl dJ2_grow_1 ?_
  refine z_len0 C h hza dJ2_grow_4 ?_
  refine lv_istore_n (lv' := [(2, .int (nI 0)), (0, .ref al), (1, .int (nI mn))]) hx hb dJ2_grow_5 rfl hl (by decide) rfl (fun ls hl => ?_)
  refine lv_iload_n hx hb dJ2_grow_6 rfl (lv_at hl 0 rfl) ?_
  refine n_if_gt (tgt := 20) hx hb (by omega) dJ2_grow_7 (by decide) (fun c7 => by exfalso; omega) (fun c7 => ?_)
  refine lv_aload_n hx hb dJ2_grow_10 rfl (lv_at hl 1 rfl) ?_
  refine o_get C h (RC := RJ2) (T := TJ2) (N := 3) (List.mem_of_getElem? (i := 0) rfl) rfl in_J2 1 (by decide) q213 rfl (v := .ref e0) rfl dJ2_grow_11 ?_
  refine z_gets C h hza.1 q211 rfl dJ2_grow_14 ?_
  refine lv_acmp_eq (rx := some e0) (ry := some e0) (tgt := 45) hx hb dJ2_grow_17 (by decide) (fun c17 => ?_) (fun c17 => by exfalso; exact c17 rfl)
  refine lv_aload_n hx hb dJ2_grow_45 rfl (lv_at hl 1 rfl) ?_
  refine lv_bipush (v := nI 10) hx hb dJ2_grow_46 (by decide) ?_
  refine lv_iload_n hx hb dJ2_grow_48 rfl (lv_at hl 2 rfl) ?_
  refine n_mmax C h (a := 10) (b := mn) (by omega) (by omega) q493 q487 q144 q488 hl.1 (by decide) (Nat.le_of_ble_eq_true rfl) (by omega) (by omega) dJ2_grow_49 ?_
  refine n_newo C h (n := max 10 mn) hzs q494 (by omega) (by omega) (by omega) dJ2_grow_52 (fun o1 H h => ?_)
  have h := Wd.toFront h
  have h : Wd D B s ([(o1, oar dA (max 10 mn) (fun _ => none)), (al, .inr (16, [.int mo, .ref e0, .int (nI n)]))] ++ F) H [] := h
  refine lv_dup_x1 hx hb dJ2_grow_55 rfl rfl ?_
  refine o_put C h 1 (RC := RJ2) (T := TJ2) (N := 3) (ws' := [(o1, oar dA (max 10 mn) (fun _ => none)), (al, .inr (16, [.int mo, .ref o1, .int (nI n)]))] ++ F) rfl rfl in_J2 tyJ2_ok nmJ2 1 (by decide) q213 rfl rfl (v := .ref o1) rfl rfl (Nat.le_of_ble_eq_true rfl) rfl dJ2_grow_56 (fun H locs h => ?_)
  subst hQ
  have h : Wd D B s ([(al, .inr (16, [.int mo, .ref o1, .int (nI n)])), (o1, oar dA (max 10 mn) (fun _ => none))] ++ F) H locs := h.perm [1, 0] rfl rfl
  exact ret_a C hr (Or.inr ⟨_, rfl⟩) hlocks h o1 trivial (Or.inr ⟨_, rfl⟩) rfl rfl (by omega) (by omega) dJ2_grow_59

/-- a list's own cells: the object, and its array if it has one -/
def alC (dA : Nat → ClassId) (e0 al : Nat) (mo : Int32) (n : Nat) : Option (Nat × Nat × (Nat → Option Nat)) → va_W
  | none => [(al, .inr (16, [.int mo, .ref e0, .int (nI n)]))]
  | some x => [(al, .inr (16, [.int mo, .ref x.1, .int (nI n)])), (x.1, oar dA x.2.1 x.2.2)]
/-- what it lists -/
def ALis (x : Option (Nat × Nat × (Nat → Option Nat))) (it : List Nat) : Prop := match x with
  | none => it = []
  | some x => it.length ≤ x.2.1 ∧ x.2.1 < 10000 ∧ 0 < x.2.1 ∧ ∀ j, j < it.length → x.2.2 j = some (gD it j)
def alK (x : Option (Nat × Nat × (Nat → Option Nat))) (n : Nat) : Nat := match x with
  | none => 1
  | some x => if n < x.2.1 then 0 else 1
def alS (x : Option (Nat × Nat × (Nat → Option Nat))) (n : Nat) : Nat := match x with
  | none => 10
  | some x => if n < x.2.1 then 0 else x.2.1 + max 1 (x.2.1 / 2)
theorem ALis_add {x : Option (Nat × Nat × (Nat → Option Nat))} {it : List Nat} {ed c2 v : Nat} {g2 : Nat → Option Nat} (h : ALis x it) (h1 : it.length + 1 ≤ c2) (h2 : c2 < 10000) (h3 : ∀ y, x = some y → ∀ j, j < it.length → g2 j = y.2.2 j) (h4 : g2 it.length = some v) : ALis (some (ed, c2, g2)) (it ++ [v]) := by
  refine ⟨by rw [List.length_append]; exact h1, h2, by show 0 < c2; omega, fun j hj => ?_⟩
  rw [List.length_append] at hj
  have hj : j < it.length + 1 := hj
  by_cases q : j = it.length
  · subst q
    rw [gD_appR (Nat.le_refl _), Nat.sub_self]
    exact h4
  · rw [gD_appL (by omega)]
    cases x with
    | none => rw [show it = [] from h] at hj q; exact absurd (show j = 0 by have : j < 0 + 1 := hj; omega) q
    | some y => exact (h3 y rfl j (by omega)).trans (h.2.2.2 j (by omega))
theorem cpy_lo {α : Type} {f g : Nat → α} {n j : Nat} (h : j < n) : va_cpy f g 0 0 n j = f j := by
  unfold va_cpy; rw [if_pos ⟨Nat.zero_le _, by omega⟩, Nat.zero_add, Nat.sub_zero]

set_option maxHeartbeats 400000 in
set_option maxRecDepth 100000 in
theorem cJ_add3R (l : Launch) (D : va_G) (dA : Nat → ClassId) (B : Nat) (Z : State → Prop) (hZ : Stab B Z) (F : va_W) (al e0 mi n : Nat) (mo : Int32) (ed cap : Nat) (g : Nat → Option Nat) (v : Nat) (fs9 : List Value) (ci : Nat) (rC9 : vw_C) (hci : vwCl[ci]? = some rC9) (hca : Cond.castable rC9.1 "java/lang/Object" ∈ lw_tbl) (hzs : ZS dA B Z) (hza : ZA B e0 mi Z) (hv : (v, .inr (ci, fs9)) ∈ F) (hn : n < cap) (hc : cap < 10000) :
    Ct (S := Nat × Nat × (Nat → Option Nat) × va_W) l D dA B Z yJ2_add_2 cJ2_add_2 4 none 6 0 0 [.ref al, .ref v, .ref ed, .int (nI n)] ([(al, .inr (16, [.int mo, .ref ed, .int (nI n)])), (ed, oar dA cap g)] ++ F) (fun u => n + 1 ≤ u.2.1 ∧ u.2.1 < 10000 ∧ (∀ j, j < n → u.2.2.1 j = g j) ∧ u.2.2.1 n = some v) (fun _ => none) (fun u => [(al, .inr (16, [.int mo, .ref u.1, .int (nI (n + 1))])), (u.1, oar dA u.2.1 u.2.2.1)] ++ (F ++ u.2.2.2)) := by
  refine Ct.mk2 (by decide) (Nat.le_of_ble_eq_true rfl) hZ ?_
  intro p e R s m args below meth c ls Q C hr hlocks hin hQ hl h
  have C0 := C
  obtain ⟨hx, hb, hml, hown, hts, -⟩ := C0
  have hl : lv_has ls 4 [(0, .ref al), (1, .ref v), (2, .ref ed), (3, .int (nI n))] := hl
  refine lv_iload_n hx hb dJ2_add_2_0 rfl (lv_at hl 3 rfl) ?_
  refine lv_aload_n hx hb dJ2_add_2_1 rfl (lv_at hl 2 rfl) ?_
  refine n_Oalen C h (List.mem_of_getElem? (i := 1) rfl) dJ2_add_2_2 ?_
  refine n_icmp_ne (tgt := 11) hx hb (by omega) (by omega) dJ2_add_2_3 (by decide) (fun c3 => ?_) (fun c3 => by exfalso; omega)
  refine lv_aload_n hx hb dJ2_add_2_11 rfl (lv_at hl 2 rfl) ?_
  refine lv_iload_n hx hb dJ2_add_2_12 rfl (lv_at hl 3 rfl) ?_
  refine lv_aload_n hx hb dJ2_add_2_13 rfl (lv_at hl 1 rfl) ?_
  refine x_oast C h 1 (i := n) (ws' := [(al, .inr (16, [.int mo, .ref ed, .int (nI n)])), (ed, oar dA cap (upN g n (some v)))] ++ F) rfl (List.mem_append_right _ hv) hci hca (by omega) (by omega) rfl dJ2_add_2_14 (fun H locs h => ?_)
  refine lv_aload_n hx hb dJ2_add_2_15 rfl (lv_at hl 0 rfl) ?_
  refine lv_iload_n hx hb dJ2_add_2_16 rfl (lv_at hl 3 rfl) ?_
  refine lv_iconst (v := nI 1) hx hb dJ2_add_2_17 (by decide) ?_
  refine lv_iadd hx hb dJ2_add_2_18 (n_top (y := nI (n + 1)) (nI_add n 1) ?_)
  refine o_put C h 0 (RC := RJ2) (T := TJ2) (N := 3) (ws' := [(al, .inr (16, [.int mo, .ref ed, .int (nI (n + 1))])), (ed, oar dA cap (upN g n (some v)))] ++ F) rfl rfl in_J2 tyJ2_ok nmJ2 2 (by decide) q214 rfl rfl (v := .int (nI (n + 1))) rfl rfl (Nat.le_of_ble_eq_true rfl) rfl dJ2_add_2_19 (fun H locs h => ?_)
  subst hQ
  have h : Wd D B s ([(al, .inr (16, [.int mo, .ref ed, .int (nI (n + 1))])), (ed, oar dA cap (upN g n (some v)))] ++ (F ++ [])) H locs := by rw [List.append_nil]; exact h
  exact ret_v C hr hlocks h (ed, cap, upN g n (some v), []) (⟨hn, hc, fun j hj => upN_n (by omega), upN_s⟩) rfl rfl (by omega) (by omega) dJ2_add_2_22
set_option maxHeartbeats 400000 in
set_option maxRecDepth 100000 in
theorem cJ_addR (l : Launch) (D : va_G) (dA : Nat → ClassId) (B : Nat) (Z : State → Prop) (hZ : Stab B Z) (F : va_W) (al e0 mi n : Nat) (mo : Int32) (ed cap : Nat) (g : Nat → Option Nat) (v : Nat) (fs9 : List Value) (ci : Nat) (rC9 : vw_C) (hci : vwCl[ci]? = some rC9) (hca : Cond.castable rC9.1 "java/lang/Object" ∈ lw_tbl) (hzs : ZS dA B Z) (hza : ZA B e0 mi Z) (hv : (v, .inr (ci, fs9)) ∈ F) (hn : n < cap) (hc : cap < 10000) :
    Ct (S := Nat × Nat × (Nat → Option Nat) × va_W) l D dA B Z yJ2_add cJ2_add 2 (some .boolean) 7 0 0 [.ref al, .ref v] ([(al, .inr (16, [.int mo, .ref ed, .int (nI n)])), (ed, oar dA cap g)] ++ F) (fun u => n + 1 ≤ u.2.1 ∧ u.2.1 < 10000 ∧ (∀ j, j < n → u.2.2.1 j = g j) ∧ u.2.2.1 n = some v) (fun _ => some (.int (bZ true))) (fun u => [(al, .inr (16, [.int (mo + nI 1), .ref u.1, .int (nI (n + 1))])), (u.1, oar dA u.2.1 u.2.2.1)] ++ (F ++ u.2.2.2)) := by
  refine Ct.mk2 (by decide) (Nat.le_of_ble_eq_true rfl) hZ ?_
  intro p e R s m args below meth c ls Q C hr hlocks hin hQ hl h
  have C0 := C
  obtain ⟨hx, hb, hml, hown, hts, -⟩ := C0
  have hl : lv_has ls 2 [(0, .ref al), (1, .ref v)] := hl
  refine lv_aload_n hx hb dJ2_add_0 rfl (lv_at hl 0 rfl) ?_
  refine lv_dup hx hb dJ2_add_1 rfl ?_
  refine o_getS C h (RC := RJ2) (T := TJ2) (N := 3) (List.mem_of_getElem? (i := 0) rfl) rfl in_J2 0 (by decide) q216 q217 (v := .int mo) rfl dJ2_add_2 ?_
  refine lv_iconst (v := nI 1) hx hb dJ2_add_5 (by decide) ?_
  refine lv_iadd hx hb dJ2_add_6 ?_
  refine o_putS C h 0 (RC := RJ2) (T := TJ2) (N := 3) (ws' := [(al, .inr (16, [.int (mo + (nI 1)), .ref ed, .int (nI n)])), (ed, oar dA cap g)] ++ F) rfl rfl in_J2 tyJ2_ok nmJ2 0 (by decide) q216 q217 rfl (v := .int (mo + (nI 1))) rfl rfl (Nat.le_of_ble_eq_true rfl) rfl dJ2_add_7 (fun H locs h => ?_)
  refine lv_aload_n hx hb dJ2_add_10 rfl (lv_at hl 0 rfl) ?_
  refine lv_aload_n hx hb dJ2_add_11 rfl (lv_at hl 1 rfl) ?_
  refine lv_aload_n hx hb dJ2_add_12 rfl (lv_at hl 0 rfl) ?_
  refine o_get C h (RC := RJ2) (T := TJ2) (N := 3) (List.mem_of_getElem? (i := 0) rfl) rfl in_J2 1 (by decide) q213 rfl (v := .ref ed) rfl dJ2_add_13 ?_
  refine lv_aload_n hx hb dJ2_add_16 rfl (lv_at hl 0 rfl) ?_
  refine o_get C h (RC := RJ2) (T := TJ2) (N := 3) (List.mem_of_getElem? (i := 0) rfl) rfl in_J2 2 (by decide) q214 rfl (v := .int (nI n)) rfl dJ2_add_17 ?_
  refine call_VR (As := [.ref v, .ref ed, .int (nI n)]) (rest := []) (n := 3) C h (cJ_add3R l D dA B Z hZ F al e0 mi n (mo + nI 1) ed cap g v fs9 ci rC9 hci hca hzs hza hv hn hc) (lw_V q521 q523 qs1 q133 q524) (by decide +kernel) (o_recv C h (RC := RJ2) (T := TJ2) (N := 3) (List.mem_of_getElem? (i := 0) rfl) rfl) (by decide) (by decide) rfl hl rfl (Nat.le_of_ble_eq_true rfl) dJ2_add_20 (by omega) (fun u9 H locs hu9 h => ?_)
  obtain ⟨ed2, c2, g2, E2⟩ := u9
  have h : Wd D B s ([(al, .inr (16, [.int (mo + nI 1), .ref ed2, .int (nI (n + 1))])), (ed2, oar dA c2 g2)] ++ (F ++ E2)) H locs := h
  refine lv_iconst (v := nI 1) hx hb dJ2_add_23 (by decide) ?_
  subst hQ
  refine n_top (y := bZ true) rfl ?_
  exact ret_z C hr hlocks h (ed2, c2, g2, E2) hu9 rfl rfl (by omega) (by omega) dJ2_add_24
set_option maxHeartbeats 400000 in
set_option maxRecDepth 100000 in
theorem cJ_growG0 (l : Launch) (D : va_G) (dA : Nat → ClassId) (B : Nat) (Z : State → Prop) (hZ : Stab B Z) (F : va_W) (al e0 mi n : Nat) (mo : Int32) (ed cap : Nat) (g : Nat → Option Nat) (v : Nat) (fs9 : List Value) (ci : Nat) (rC9 : vw_C) (hci : vwCl[ci]? = some rC9) (hca : Cond.castable rC9.1 "java/lang/Object" ∈ lw_tbl) (hzs : ZS dA B Z) (hza : ZA B e0 mi Z) (hv : (v, .inr (ci, fs9)) ∈ F) (hn : n = cap) (h0 : 0 < cap) (hc : cap < 6000) (hel : ∀ j, j < cap → ∀ y, g j = some y → ∃ fs, (y, .inr (ci, fs)) ∈ F) :
    Ct (S := Nat × Nat × (Nat → Option Nat) × va_W) l D dA B Z yJ2_grow_2 cJ2_grow_2 1 (some ((.array (.object "java/lang/Object")))) 5 1 (cap + max 1 (cap / 2)) [.ref al] ([(al, .inr (16, [.int mo, .ref ed, .int (nI n)])), (ed, oar dA cap g)] ++ F) (fun u => n + 1 ≤ u.2.1 ∧ u.2.1 < 10000 ∧ (∀ j, j < n → u.2.2.1 j = g j)) (fun u => some (.ref u.1)) (fun u => [(al, .inr (16, [.int mo, .ref u.1, .int (nI n)])), (u.1, oar dA u.2.1 u.2.2.1)] ++ (F ++ u.2.2.2)) := by
  refine Ct.mk2 (by decide) (Nat.le_of_ble_eq_true rfl) hZ ?_
  intro p e R s m args below meth c ls Q C hr hlocks hin hQ hl h
  have C0 := C
  obtain ⟨hx, hb, hml, hown, hts, -⟩ := C0
  have hl : lv_has ls 1 [(0, .ref al)] := hl
  refine lv_aload_n hx hb dJ2_grow_2_0 rfl (lv_at hl 0 rfl) ?_
  refine lv_aload_n hx hb dJ2_grow_2_1 rfl (lv_at hl 0 rfl) ?_
  refine o_get C h (RC := RJ2) (T := TJ2) (N := 3) (List.mem_of_getElem? (i := 0) rfl) rfl in_J2 2 (by decide) q214 rfl (v := .int (nI n)) rfl dJ2_grow_2_2 ?_
  refine lv_iconst (v := nI 1) hx hb dJ2_grow_2_5 (by decide) ?_
  refine lv_iadd hx hb dJ2_grow_2_6 (n_top (y := nI (n + 1)) (nI_add n 1) ?_)
  refine call_VR (As := [.int (nI (n + 1))]) (rest := []) (n := 1) C h (cJ_growG l D dA B Z hZ F al ed n cap (n + 1) e0 mi mo g ci rC9 hci hca hzs hza h0 (by omega) (by omega) (by omega) hel) (lw_V q479 q481 qs0 q133 q482) (by decide +kernel) (o_recv C h (RC := RJ2) (T := TJ2) (N := 3) (List.mem_of_getElem? (i := 0) rfl) rfl) (by decide) (by decide) rfl hl rfl (Nat.le_of_ble_eq_true rfl) dJ2_grow_2_7 (by rw [show n + 1 - cap = 1 by omega]; omega) (fun q9 H locs _ h => ?_)
  subst hQ
  exact ret_a C hr (Or.inr ⟨_, rfl⟩) hlocks h (q9, cap + max (n + 1 - cap) (cap / 2), va_cpy g (fun _ => none) 0 0 cap, [(ed, oar dA cap g)]) (⟨by show n + 1 ≤ cap + max (n + 1 - cap) (cap / 2); omega, by show cap + max (n + 1 - cap) (cap / 2) < 10000; omega, fun j hj => (show va_cpy g (fun _ => none) 0 0 cap j = g j from cpy_lo (by omega))⟩) (Or.inr ⟨_, rfl⟩) rfl rfl (by omega) (by rw [show n + 1 - cap = 1 by omega]; omega) dJ2_grow_2_10
set_option maxHeartbeats 400000 in
set_option maxRecDepth 100000 in
theorem cJ_add3G (l : Launch) (D : va_G) (dA : Nat → ClassId) (B : Nat) (Z : State → Prop) (hZ : Stab B Z) (F : va_W) (al e0 mi n : Nat) (mo : Int32) (ed cap : Nat) (g : Nat → Option Nat) (v : Nat) (fs9 : List Value) (ci : Nat) (rC9 : vw_C) (hci : vwCl[ci]? = some rC9) (hca : Cond.castable rC9.1 "java/lang/Object" ∈ lw_tbl) (hzs : ZS dA B Z) (hza : ZA B e0 mi Z) (hv : (v, .inr (ci, fs9)) ∈ F) (hn : n = cap) (h0 : 0 < cap) (hc : cap < 6000) (hel : ∀ j, j < cap → ∀ y, g j = some y → ∃ fs, (y, .inr (ci, fs)) ∈ F) :
    Ct (S := Nat × Nat × (Nat → Option Nat) × va_W) l D dA B Z yJ2_add_2 cJ2_add_2 4 none 6 1 (cap + max 1 (cap / 2)) [.ref al, .ref v, .ref ed, .int (nI n)] ([(al, .inr (16, [.int mo, .ref ed, .int (nI n)])), (ed, oar dA cap g)] ++ F) (fun u => n + 1 ≤ u.2.1 ∧ u.2.1 < 10000 ∧ (∀ j, j < n → u.2.2.1 j = g j) ∧ u.2.2.1 n = some v) (fun _ => none) (fun u => [(al, .inr (16, [.int mo, .ref u.1, .int (nI (n + 1))])), (u.1, oar dA u.2.1 u.2.2.1)] ++ (F ++ u.2.2.2)) := by
  refine Ct.mk2 (by decide) (Nat.le_of_ble_eq_true rfl) hZ ?_
  intro p e R s m args below meth c ls Q C hr hlocks hin hQ hl h
  have C0 := C
  obtain ⟨hx, hb, hml, hown, hts, -⟩ := C0
  have hl : lv_has ls 4 [(0, .ref al), (1, .ref v), (2, .ref ed), (3, .int (nI n))] := hl
  refine lv_iload_n hx hb dJ2_add_2_0 rfl (lv_at hl 3 rfl) ?_
  refine lv_aload_n hx hb dJ2_add_2_1 rfl (lv_at hl 2 rfl) ?_
  refine n_Oalen C h (List.mem_of_getElem? (i := 1) rfl) dJ2_add_2_2 ?_
  refine n_icmp_ne (tgt := 11) hx hb (by omega) (by omega) dJ2_add_2_3 (by decide) (fun c3 => by exfalso; omega) (fun c3 => ?_)
  refine lv_aload_n hx hb dJ2_add_2_6 rfl (lv_at hl 0 rfl) ?_
  refine call_VR (As := []) (rest := []) (n := 0) C h (cJ_growG0 l D dA B Z hZ F al e0 mi n mo ed cap g v fs9 ci rC9 hci hca hzs hza hv hn h0 hc hel) (lw_V q525 q527 qs2 q133 q528) (by decide +kernel) (o_recv C h (RC := RJ2) (T := TJ2) (N := 3) (List.mem_of_getElem? (i := 0) rfl) rfl) (by decide) (by decide) rfl hl rfl (Nat.le_of_ble_eq_true rfl) dJ2_add_2_7 (by omega) (fun u9 H locs hu9 h => ?_)
  obtain ⟨ed2, c2, g2, E2⟩ := u9
  obtain ⟨hu1, hu2, hu3⟩ := hu9
  dsimp only at hu1 hu2 hu3
  have h : Wd D B s ([(al, .inr (16, [.int mo, .ref ed2, .int (nI n)])), (ed2, oar dA c2 g2)] ++ (F ++ E2)) H locs := h
  refine lv_astore_n (lv' := [(2, .ref ed2), (0, .ref al), (1, .ref v), (3, .int (nI n))]) hx hb dJ2_add_2_10 rfl hl (by decide) rfl (fun ls hl => ?_)
  refine lv_aload_n hx hb dJ2_add_2_11 rfl (lv_at hl 0 rfl) ?_
  refine lv_iload_n hx hb dJ2_add_2_12 rfl (lv_at hl 3 rfl) ?_
  refine lv_aload_n hx hb dJ2_add_2_13 rfl (lv_at hl 2 rfl) ?_
  refine x_oast C h 1 (i := n) (ws' := [(al, .inr (16, [.int mo, .ref ed2, .int (nI n)])), (ed2, oar dA c2 (upN g2 n (some v)))] ++ (F ++ E2)) rfl (List.mem_append_right _ (List.mem_append_left _ hv)) hci hca (by omega) (by omega) rfl dJ2_add_2_14 (fun H locs h => ?_)
  refine lv_aload_n hx hb dJ2_add_2_15 rfl (lv_at hl 1 rfl) ?_
  refine lv_iload_n hx hb dJ2_add_2_16 rfl (lv_at hl 3 rfl) ?_
  refine lv_iconst (v := nI 1) hx hb dJ2_add_2_17 (by decide) ?_
  refine lv_iadd hx hb dJ2_add_2_18 (n_top (y := nI (n + 1)) (nI_add n 1) ?_)
  refine o_put C h 0 (RC := RJ2) (T := TJ2) (N := 3) (ws' := [(al, .inr (16, [.int mo, .ref ed2, .int (nI (n + 1))])), (ed2, oar dA c2 (upN g2 n (some v)))] ++ (F ++ E2)) rfl rfl in_J2 tyJ2_ok nmJ2 2 (by decide) q214 rfl rfl (v := .int (nI (n + 1))) rfl rfl (Nat.le_of_ble_eq_true rfl) rfl dJ2_add_2_19 (fun H locs h => ?_)
  subst hQ
  exact ret_v C hr hlocks h (ed2, c2, upN g2 n (some v), E2) (⟨hu1, hu2, fun j hj => (upN_n (by omega)).trans (hu3 j hj), upN_s⟩) rfl rfl (by omega) (by omega) dJ2_add_2_22
set_option maxHeartbeats 400000 in
set_option maxRecDepth 100000 in
theorem cJ_addG (l : Launch) (D : va_G) (dA : Nat → ClassId) (B : Nat) (Z : State → Prop) (hZ : Stab B Z) (F : va_W) (al e0 mi n : Nat) (mo : Int32) (ed cap : Nat) (g : Nat → Option Nat) (v : Nat) (fs9 : List Value) (ci : Nat) (rC9 : vw_C) (hci : vwCl[ci]? = some rC9) (hca : Cond.castable rC9.1 "java/lang/Object" ∈ lw_tbl) (hzs : ZS dA B Z) (hza : ZA B e0 mi Z) (hv : (v, .inr (ci, fs9)) ∈ F) (hn : n = cap) (h0 : 0 < cap) (hc : cap < 6000) (hel : ∀ j, j < cap → ∀ y, g j = some y → ∃ fs, (y, .inr (ci, fs)) ∈ F) :
    Ct (S := Nat × Nat × (Nat → Option Nat) × va_W) l D dA B Z yJ2_add cJ2_add 2 (some .boolean) 7 1 (cap + max 1 (cap / 2)) [.ref al, .ref v] ([(al, .inr (16, [.int mo, .ref ed, .int (nI n)])), (ed, oar dA cap g)] ++ F) (fun u => n + 1 ≤ u.2.1 ∧ u.2.1 < 10000 ∧ (∀ j, j < n → u.2.2.1 j = g j) ∧ u.2.2.1 n = some v) (fun _ => some (.int (bZ true))) (fun u => [(al, .inr (16, [.int (mo + nI 1), .ref u.1, .int (nI (n + 1))])), (u.1, oar dA u.2.1 u.2.2.1)] ++ (F ++ u.2.2.2)) := by
  refine Ct.mk2 (by decide) (Nat.le_of_ble_eq_true rfl) hZ ?_
  intro p e R s m args below meth c ls Q C hr hlocks hin hQ hl h
  have C0 := C
  obtain ⟨hx, hb, hml, hown, hts, -⟩ := C0
  have hl : lv_has ls 2 [(0, .ref al), (1, .ref v)] := hl
  refine lv_aload_n hx hb dJ2_add_0 rfl (lv_at hl 0 rfl) ?_
  refine lv_dup hx hb dJ2_add_1 rfl ?_
  refine o_getS C h (RC := RJ2) (T := TJ2) (N := 3) (List.mem_of_getElem? (i := 0) rfl) rfl in_J2 0 (by decide) q216 q217 (v := .int mo) rfl dJ2_add_2 ?_
  refine lv_iconst (v := nI 1) hx hb dJ2_add_5 (by decide) ?_
  refine lv_iadd hx hb dJ2_add_6 ?_
  refine o_putS C h 0 (RC := RJ2) (T := TJ2) (N := 3) (ws' := [(al, .inr (16, [.int (mo + (nI 1)), .ref ed, .int (nI n)])), (ed, oar dA cap g)] ++ F) rfl rfl in_J2 tyJ2_ok nmJ2 0 (by decide) q216 q217 rfl (v := .int (mo + (nI 1))) rfl rfl (Nat.le_of_ble_eq_true rfl) rfl dJ2_add_7 (fun H locs h => ?_)
  refine lv_aload_n hx hb dJ2_add_10 rfl (lv_at hl 0 rfl) ?_
  refine lv_aload_n hx hb dJ2_add_11 rfl (lv_at hl 1 rfl) ?_
  refine lv_aload_n hx hb dJ2_add_12 rfl (lv_at hl 0 rfl) ?_
  refine o_get C h (RC := RJ2) (T := TJ2) (N := 3) (List.mem_of_getElem? (i := 0) rfl) rfl in_J2 1 (by decide) q213 rfl (v := .ref ed) rfl dJ2_add_13 ?_
  refine lv_aload_n hx hb dJ2_add_16 rfl (lv_at hl 0 rfl) ?_
  refine o_get C h (RC := RJ2) (T := TJ2) (N := 3) (List.mem_of_getElem? (i := 0) rfl) rfl in_J2 2 (by decide) q214 rfl (v := .int (nI n)) rfl dJ2_add_17 ?_
  refine call_VR (As := [.ref v, .ref ed, .int (nI n)]) (rest := []) (n := 3) C h (cJ_add3G l D dA B Z hZ F al e0 mi n (mo + nI 1) ed cap g v fs9 ci rC9 hci hca hzs hza hv hn h0 hc hel) (lw_V q521 q523 qs1 q133 q524) (by decide +kernel) (o_recv C h (RC := RJ2) (T := TJ2) (N := 3) (List.mem_of_getElem? (i := 0) rfl) rfl) (by decide) (by decide) rfl hl rfl (Nat.le_of_ble_eq_true rfl) dJ2_add_20 (by omega) (fun u9 H locs hu9 h => ?_)
  obtain ⟨ed2, c2, g2, E2⟩ := u9
  have h : Wd D B s ([(al, .inr (16, [.int (mo + nI 1), .ref ed2, .int (nI (n + 1))])), (ed2, oar dA c2 g2)] ++ (F ++ E2)) H locs := h
  refine lv_iconst (v := nI 1) hx hb dJ2_add_23 (by decide) ?_
  subst hQ
  refine n_top (y := bZ true) rfl ?_
  exact ret_z C hr hlocks h (ed2, c2, g2, E2) hu9 rfl rfl (by omega) (by omega) dJ2_add_24
set_option maxHeartbeats 400000 in
set_option maxRecDepth 100000 in
theorem cJ_growZ0 (l : Launch) (D : va_G) (dA : Nat → ClassId) (B : Nat) (Z : State → Prop) (hZ : Stab B Z) (F : va_W) (al e0 mi n : Nat) (mo : Int32) (v : Nat) (fs9 : List Value) (ci : Nat) (rC9 : vw_C) (hci : vwCl[ci]? = some rC9) (hca : Cond.castable rC9.1 "java/lang/Object" ∈ lw_tbl) (hzs : ZS dA B Z) (hza : ZA B e0 mi Z) (hv : (v, .inr (ci, fs9)) ∈ F) (hn : n = 0) :
    Ct (S := Nat × Nat × (Nat → Option Nat) × va_W) l D dA B Z yJ2_grow_2 cJ2_grow_2 1 (some ((.array (.object "java/lang/Object")))) 5 1 10 [.ref al] ([(al, .inr (16, [.int mo, .ref e0, .int (nI n)]))] ++ F) (fun u => n + 1 ≤ u.2.1 ∧ u.2.1 < 10000 ∧ (∀ j, j < n → u.2.2.1 j = (fun _ => none : Nat → Option Nat) j)) (fun u => some (.ref u.1)) (fun u => [(al, .inr (16, [.int mo, .ref u.1, .int (nI n)])), (u.1, oar dA u.2.1 u.2.2.1)] ++ (F ++ u.2.2.2)) := by
  refine Ct.mk2 (by decide) (Nat.le_of_ble_eq_true rfl) hZ ?_
  intro p e R s m args below meth c ls Q C hr hlocks hin hQ hl h
  have C0 := C
  obtain ⟨hx, hb, hml, hown, hts, -⟩ := C0
  have hl : lv_has ls 1 [(0, .ref al)] := hl
  refine lv_aload_n hx hb dJ2_grow_2_0 rfl (lv_at hl 0 rfl) ?_
  refine lv_aload_n hx hb dJ2_grow_2_1 rfl (lv_at hl 0 rfl) ?_
  refine o_get C h (RC := RJ2) (T := TJ2) (N := 3) (List.mem_of_getElem? (i := 0) rfl) rfl in_J2 2 (by decide) q214 rfl (v := .int (nI n)) rfl dJ2_grow_2_2 ?_
  refine lv_iconst (v := nI 1) hx hb dJ2_grow_2_5 (by decide) ?_
  refine lv_iadd hx hb dJ2_grow_2_6 (n_top (y := nI (n + 1)) (nI_add n 1) ?_)
  refine call_VR (As := [.int (nI (n + 1))]) (rest := []) (n := 1) C h (cJ_growZ l D dA B Z hZ F al n (n + 1) e0 mi mo hzs hza (by omega)) (lw_V q479 q481 qs0 q133 q482) (by decide +kernel) (o_recv C h (RC := RJ2) (T := TJ2) (N := 3) (List.mem_of_getElem? (i := 0) rfl) rfl) (by decide) (by decide) rfl hl rfl (Nat.le_of_ble_eq_true rfl) dJ2_grow_2_7 (by omega) (fun q9 H locs _ h => ?_)
  subst hQ
  have h : Wd D B s ([(al, .inr (16, [.int mo, .ref q9, .int (nI n)])), (q9, oar dA (max 10 (n + 1)) (fun _ => none))] ++ (F ++ [])) H locs := by rw [List.append_nil]; exact h
  exact ret_a C hr (Or.inr ⟨_, rfl⟩) hlocks h (q9, max 10 (n + 1), fun _ => none, []) (⟨by show n + 1 ≤ max 10 (n + 1); omega, by show max 10 (n + 1) < 10000; omega, fun j hj => rfl⟩) (Or.inr ⟨_, rfl⟩) rfl rfl (by omega) (by omega) dJ2_grow_2_10
set_option maxHeartbeats 400000 in
set_option maxRecDepth 100000 in
theorem cJ_add3Z (l : Launch) (D : va_G) (dA : Nat → ClassId) (B : Nat) (Z : State → Prop) (hZ : Stab B Z) (F : va_W) (al e0 mi n : Nat) (mo : Int32) (v : Nat) (fs9 : List Value) (ci : Nat) (rC9 : vw_C) (hci : vwCl[ci]? = some rC9) (hca : Cond.castable rC9.1 "java/lang/Object" ∈ lw_tbl) (hzs : ZS dA B Z) (hza : ZA B e0 mi Z) (hv : (v, .inr (ci, fs9)) ∈ F) (hn : n = 0) :
    Ct (S := Nat × Nat × (Nat → Option Nat) × va_W) l D dA B Z yJ2_add_2 cJ2_add_2 4 none 6 1 10 [.ref al, .ref v, .ref e0, .int (nI n)] ([(al, .inr (16, [.int mo, .ref e0, .int (nI n)]))] ++ F) (fun u => n + 1 ≤ u.2.1 ∧ u.2.1 < 10000 ∧ (∀ j, j < n → u.2.2.1 j = (fun _ => none : Nat → Option Nat) j) ∧ u.2.2.1 n = some v) (fun _ => none) (fun u => [(al, .inr (16, [.int mo, .ref u.1, .int (nI (n + 1))])), (u.1, oar dA u.2.1 u.2.2.1)] ++ (F ++ u.2.2.2)) := by
  refine Ct.mk2 (by decide) (Nat.le_of_ble_eq_true rfl) hZ ?_
  intro p e R s m args below meth c ls Q C hr hlocks hin hQ hl h
  have C0 := C
  obtain ⟨hx, hb, hml, hown, hts, -⟩ := C0
  have hl : lv_has ls 4 [(0, .ref al), (1, .ref v), (2, .ref e0), (3, .int (nI n))] := hl
  refine lv_iload_n hx hb dJ2_add_2_0 rfl (lv_at hl 3 rfl) ?_
  refine lv_aload_n hx hb dJ2_add_2_1 rfl (lv_at hl 2 rfl) ?_
  refine z_len0 C h hza dJ2_add_2_2 ?_
  refine n_icmp_ne (tgt := 11) hx hb (by omega) (by omega) dJ2_add_2_3 (by decide) (fun c3 => by exfalso; omega) (fun c3 => ?_)
  refine lv_aload_n hx hb dJ2_add_2_6 rfl (lv_at hl 0 rfl) ?_
  refine call_VR (As := []) (rest := []) (n := 0) C h (cJ_growZ0 l D dA B Z hZ F al e0 mi n mo v fs9 ci rC9 hci hca hzs hza hv hn) (lw_V q525 q527 qs2 q133 q528) (by decide +kernel) (o_recv C h (RC := RJ2) (T := TJ2) (N := 3) (List.mem_of_getElem? (i := 0) rfl) rfl) (by decide) (by decide) rfl hl rfl (Nat.le_of_ble_eq_true rfl) dJ2_add_2_7 (by omega) (fun u9 H locs hu9 h => ?_)
  obtain ⟨ed2, c2, g2, E2⟩ := u9
  obtain ⟨hu1, hu2, hu3⟩ := hu9
  dsimp only at hu1 hu2 hu3
  have h : Wd D B s ([(al, .inr (16, [.int mo, .ref ed2, .int (nI n)])), (ed2, oar dA c2 g2)] ++ (F ++ E2)) H locs := h
  refine lv_astore_n (lv' := [(2, .ref ed2), (0, .ref al), (1, .ref v), (3, .int (nI n))]) hx hb dJ2_add_2_10 rfl hl (by decide) rfl (fun ls hl => ?_)
  refine lv_aload_n hx hb dJ2_add_2_11 rfl (lv_at hl 0 rfl) ?_
  refine lv_iload_n hx hb dJ2_add_2_12 rfl (lv_at hl 3 rfl) ?_
  refine lv_aload_n hx hb dJ2_add_2_13 rfl (lv_at hl 2 rfl) ?_
  refine x_oast C h 1 (i := n) (ws' := [(al, .inr (16, [.int mo, .ref ed2, .int (nI n)])), (ed2, oar dA c2 (upN g2 n (some v)))] ++ (F ++ E2)) rfl (List.mem_append_right _ (List.mem_append_left _ hv)) hci hca (by omega) (by omega) rfl dJ2_add_2_14 (fun H locs h => ?_)
  refine lv_aload_n hx hb dJ2_add_2_15 rfl (lv_at hl 1 rfl) ?_
  refine lv_iload_n hx hb dJ2_add_2_16 rfl (lv_at hl 3 rfl) ?_
  refine lv_iconst (v := nI 1) hx hb dJ2_add_2_17 (by decide) ?_
  refine lv_iadd hx hb dJ2_add_2_18 (n_top (y := nI (n + 1)) (nI_add n 1) ?_)
  refine o_put C h 0 (RC := RJ2) (T := TJ2) (N := 3) (ws' := [(al, .inr (16, [.int mo, .ref ed2, .int (nI (n + 1))])), (ed2, oar dA c2 (upN g2 n (some v)))] ++ (F ++ E2)) rfl rfl in_J2 tyJ2_ok nmJ2 2 (by decide) q214 rfl rfl (v := .int (nI (n + 1))) rfl rfl (Nat.le_of_ble_eq_true rfl) rfl dJ2_add_2_19 (fun H locs h => ?_)
  subst hQ
  exact ret_v C hr hlocks h (ed2, c2, upN g2 n (some v), E2) (⟨hu1, hu2, fun j hj => (upN_n (by omega)).trans (hu3 j hj), upN_s⟩) rfl rfl (by omega) (by omega) dJ2_add_2_22
set_option maxHeartbeats 400000 in
set_option maxRecDepth 100000 in
theorem cJ_addZ (l : Launch) (D : va_G) (dA : Nat → ClassId) (B : Nat) (Z : State → Prop) (hZ : Stab B Z) (F : va_W) (al e0 mi n : Nat) (mo : Int32) (v : Nat) (fs9 : List Value) (ci : Nat) (rC9 : vw_C) (hci : vwCl[ci]? = some rC9) (hca : Cond.castable rC9.1 "java/lang/Object" ∈ lw_tbl) (hzs : ZS dA B Z) (hza : ZA B e0 mi Z) (hv : (v, .inr (ci, fs9)) ∈ F) (hn : n = 0) :
    Ct (S := Nat × Nat × (Nat → Option Nat) × va_W) l D dA B Z yJ2_add cJ2_add 2 (some .boolean) 7 1 10 [.ref al, .ref v] ([(al, .inr (16, [.int mo, .ref e0, .int (nI n)]))] ++ F) (fun u => n + 1 ≤ u.2.1 ∧ u.2.1 < 10000 ∧ (∀ j, j < n → u.2.2.1 j = (fun _ => none : Nat → Option Nat) j) ∧ u.2.2.1 n = some v) (fun _ => some (.int (bZ true))) (fun u => [(al, .inr (16, [.int (mo + nI 1), .ref u.1, .int (nI (n + 1))])), (u.1, oar dA u.2.1 u.2.2.1)] ++ (F ++ u.2.2.2)) := by
  refine Ct.mk2 (by decide) (Nat.le_of_ble_eq_true rfl) hZ ?_
  intro p e R s m args below meth c ls Q C hr hlocks hin hQ hl h
  have C0 := C
  obtain ⟨hx, hb, hml, hown, hts, -⟩ := C0
  have hl : lv_has ls 2 [(0, .ref al), (1, .ref v)] := hl
  refine lv_aload_n hx hb dJ2_add_0 rfl (lv_at hl 0 rfl) ?_
  refine lv_dup hx hb dJ2_add_1 rfl ?_
  refine o_getS C h (RC := RJ2) (T := TJ2) (N := 3) (List.mem_of_getElem? (i := 0) rfl) rfl in_J2 0 (by decide) q216 q217 (v := .int mo) rfl dJ2_add_2 ?_
  refine lv_iconst (v := nI 1) hx hb dJ2_add_5 (by decide) ?_
  refine lv_iadd hx hb dJ2_add_6 ?_
  refine o_putS C h 0 (RC := RJ2) (T := TJ2) (N := 3) (ws' := [(al, .inr (16, [.int (mo + (nI 1)), .ref e0, .int (nI n)]))] ++ F) rfl rfl in_J2 tyJ2_ok nmJ2 0 (by decide) q216 q217 rfl (v := .int (mo + (nI 1))) rfl rfl (Nat.le_of_ble_eq_true rfl) rfl dJ2_add_7 (fun H locs h => ?_)
  refine lv_aload_n hx hb dJ2_add_10 rfl (lv_at hl 0 rfl) ?_
  refine lv_aload_n hx hb dJ2_add_11 rfl (lv_at hl 1 rfl) ?_
  refine lv_aload_n hx hb dJ2_add_12 rfl (lv_at hl 0 rfl) ?_
  refine o_get C h (RC := RJ2) (T := TJ2) (N := 3) (List.mem_of_getElem? (i := 0) rfl) rfl in_J2 1 (by decide) q213 rfl (v := .ref e0) rfl dJ2_add_13 ?_
  refine lv_aload_n hx hb dJ2_add_16 rfl (lv_at hl 0 rfl) ?_
  refine o_get C h (RC := RJ2) (T := TJ2) (N := 3) (List.mem_of_getElem? (i := 0) rfl) rfl in_J2 2 (by decide) q214 rfl (v := .int (nI n)) rfl dJ2_add_17 ?_
  refine call_VR (As := [.ref v, .ref e0, .int (nI n)]) (rest := []) (n := 3) C h (cJ_add3Z l D dA B Z hZ F al e0 mi n (mo + nI 1) v fs9 ci rC9 hci hca hzs hza hv hn) (lw_V q521 q523 qs1 q133 q524) (by decide +kernel) (o_recv C h (RC := RJ2) (T := TJ2) (N := 3) (List.mem_of_getElem? (i := 0) rfl) rfl) (by decide) (by decide) rfl hl rfl (Nat.le_of_ble_eq_true rfl) dJ2_add_20 (by omega) (fun u9 H locs hu9 h => ?_)
  obtain ⟨ed2, c2, g2, E2⟩ := u9
  have h : Wd D B s ([(al, .inr (16, [.int (mo + nI 1), .ref ed2, .int (nI (n + 1))])), (ed2, oar dA c2 g2)] ++ (F ++ E2)) H locs := h
  refine lv_iconst (v := nI 1) hx hb dJ2_add_23 (by decide) ?_
  subst hQ
  refine n_top (y := bZ true) rfl ?_
  exact ret_z C hr hlocks h (ed2, c2, g2, E2) hu9 rfl rfl (by omega) (by omega) dJ2_add_24

theorem Ct.weak {S : Type} {l : Launch} {D : va_G} {dA : Nat → ClassId} {B : Nat} {Z : State → Prop} {y : MethodName} {cc : ByteArray} {maxL : Nat} {ret : Option FieldType} {d mc ms : Nat} {av : List Value} {ws : va_W} {post post' : S → Prop} {rf : S → Option Value} {wf wf' : S → va_W} (h : Ct l D dA B Z y cc maxL ret d mc ms av ws post rf wf) (hp : ∀ u, post u → post' u) (hw : ∀ u, post u → wf u = wf' u) : Ct l D dA B Z y cc maxL ret d mc ms av ws post' rf wf' := by
  intro p e ha hf hc s m args below h1 h2 h3 h4
  obtain ⟨n, o, g1, g2, g3, ⟨⟨u, k1, k2, k3⟩, k4⟩, g5⟩ := h p e ha hf hc s m args below h1 h2 h3 h4
  exact ⟨n, o, g1, g2, g3, ⟨⟨u, k1, hp u k2, hw u k2 ▸ k3⟩, k4⟩, g5⟩
theorem Ct.perm {S : Type} {l : Launch} {D : va_G} {dA : Nat → ClassId} {B : Nat} {Z : State → Prop} {y : MethodName} {cc : ByteArray} {maxL : Nat} {ret : Option FieldType} {d mc ms : Nat} {av : List Value} {ws ws' : va_W} {post : S → Prop} {rf : S → Option Value} {wf : S → va_W} (h : Ct l D dA B Z y cc maxL ret d mc ms av ws post rf wf) (hp : ws'.Perm ws) : Ct l D dA B Z y cc maxL ret d mc ms av ws' post rf wf := by
  intro p e ha hf hc s m args below h1 h2 h3 h4
  exact h p e ha hf hc s m args below h1 h2 ⟨h3.1, h3.2.permL hp⟩ h4
theorem cJ_add (l : Launch) (D : va_G) (dA : Nat → ClassId) (B : Nat) (Z : State → Prop) (hZ : Stab B Z) (F : va_W) (al e0 mi : Nat) (mo : Int32) (x : Option (Nat × Nat × (Nat → Option Nat))) (it : List Nat) (v : Nat) (fs9 : List Value) (ci : Nat) (rC9 : vw_C) (hci : vwCl[ci]? = some rC9) (hca : Cond.castable rC9.1 "java/lang/Object" ∈ lw_tbl) (hzs : ZS dA B Z) (hza : ZA B e0 mi Z) (hv : (v, .inr (ci, fs9)) ∈ F) (hx : ALis x it) (hsm : it.length < 5000) (hel : ∀ y ∈ it, ∃ fs, (y, .inr (ci, fs)) ∈ F) :
    Ct (S := Nat × Nat × (Nat → Option Nat) × va_W) l D dA B Z yJ2_add cJ2_add 2 (some .boolean) 7 (alK x it.length) (alS x it.length) [.ref al, .ref v] (alC dA e0 al mo it.length x ++ F) (fun u => ALis (some (u.1, u.2.1, u.2.2.1)) (it ++ [v])) (fun _ => some (.int (bZ true))) (fun u => alC dA e0 al (mo + nI 1) (it ++ [v]).length (some (u.1, u.2.1, u.2.2.1)) ++ (F ++ u.2.2.2)) := by
  have hlen : (it ++ [v]).length = it.length + 1 := by rw [List.length_append]; rfl
  cases x with
  | none =>
    have h0 : it.length = 0 := by rw [show it = [] from hx]; rfl
    refine Ct.weak (cJ_addZ l D dA B Z hZ F al e0 mi it.length mo v fs9 ci rC9 hci hca hzs hza hv h0) (fun u hu => ?_) (fun u hu => by rw [hlen]; rfl)
    exact ALis_add hx hu.1 hu.2.1 (fun y hy => by cases hy) hu.2.2.2
  | some x =>
    obtain ⟨ed, cap, g⟩ := x
    obtain ⟨a1, a2, a3, a4⟩ := hx
    dsimp only at a1 a2 a3 a4
    by_cases q : it.length < cap
    · have e1 : alK (some (ed, cap, g)) it.length = 0 := if_pos q
      have e2 : alS (some (ed, cap, g)) it.length = 0 := if_pos q
      rw [e1, e2]
      refine Ct.weak (cJ_addR l D dA B Z hZ F al e0 mi it.length mo ed cap g v fs9 ci rC9 hci hca hzs hza hv q a2) (fun u hu => ?_) (fun u hu => by rw [hlen]; rfl)
      exact ALis_add (x := some (ed, cap, g)) ⟨a1, a2, a3, a4⟩ hu.1 hu.2.1 (fun y hy j hj => by cases hy; exact hu.2.2.1 j hj) hu.2.2.2
    · have e1 : alK (some (ed, cap, g)) it.length = 1 := if_neg q
      have e2 : alS (some (ed, cap, g)) it.length = cap + max 1 (cap / 2) := if_neg q
      rw [e1, e2]
      refine Ct.weak (cJ_addG l D dA B Z hZ F al e0 mi it.length mo ed cap g v fs9 ci rC9 hci hca hzs hza hv (by omega) a3 (by omega) (fun j hj y hy => ?_)) (fun u hu => ?_) (fun u hu => by rw [hlen]; rfl)
      · rw [a4 j (by omega)] at hy
        cases hy
        refine hel _ ?_
        unfold gD
        rw [List.getD_eq_getElem?_getD, List.getElem?_eq_getElem (by omega)]
        exact List.getElem_mem _
      · exact ALis_add (x := some (ed, cap, g)) ⟨a1, a2, a3, a4⟩ hu.1 hu.2.1 (fun y hy j hj => by cases hy; exact hu.2.2.1 j hj) hu.2.2.2

