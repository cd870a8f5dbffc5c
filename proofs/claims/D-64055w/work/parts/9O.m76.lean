set_option maxRecDepth 100000

theorem num_pre {g : Nat → Nat} {a n m : Nat} (h : n ≤ m) : num (sl g a n) ≤ num (sl g a m) := by
  induction m with
  | zero => rw [Nat.le_zero.mp h]; exact Nat.le_refl _
  | succ m ih =>
    by_cases q : n = m + 1
    · rw [q]; exact Nat.le_refl _
    · have := ih (by omega)
      rw [sl_succ, num_snoc]
      omega

set_option maxHeartbeats 400000 in
set_option maxRecDepth 100000 in
theorem c14_more (l : Launch) (D : va_G) (dA : Nat → ClassId) (B : Nat) (Z : State → Prop) (hZ : Stab B Z) (F : va_W) (pk ba r sz nx pl kd : Nat) (bo : Option Nat) (h1 : sz < 1000000) (h2 : nx < 1000000) :
    Ct (S := Unit) l D dA B Z yX14_more cX14_more 1 (some .boolean) 1 0 0 [.ref pk] ([(pk, .inr (11, [.ref ba, .int (nI sz), .int (nI nx), .int (nI pl), .int (nI kd), va_rf bo, .ref r]))] ++ F) (fun _ => True) (fun _ => some (.int (bZ (decide (nx < sz))))) (fun _ => [(pk, .inr (11, [.ref ba, .int (nI sz), .int (nI nx), .int (nI pl), .int (nI kd), va_rf bo, .ref r]))] ++ F) := by
  refine Ct.mk2 (by decide) (Nat.le_of_ble_eq_true rfl) hZ ?_
  intro p e R s m args below meth c ls Q C hr hlocks hin hQ hl h
  have C0 := C
  obtain ⟨hx, hb, hml, hown, hts, -⟩ := C0
  have hl : lv_has ls 1 [(0, .ref pk)] := hl
  refine lv_aload_n hx hb dX14_more_0 rfl (lv_at hl 0 rfl) ?_
  refine o_get C h (RC := RX14) (T := TX14) (N := 7) (List.mem_of_getElem? (i := 0) rfl) rfl in_X14 2 (by decide) q1028 rfl (v := .int (nI nx)) rfl dX14_more_1 ?_
  refine lv_aload_n hx hb dX14_more_4 rfl (lv_at hl 0 rfl) ?_
  refine o_get C h (RC := RX14) (T := TX14) (N := 7) (List.mem_of_getElem? (i := 0) rfl) rfl in_X14 1 (by decide) q1027 rfl (v := .int (nI sz)) rfl dX14_more_5 ?_
  refine n_icmp_ge (tgt := 15) hx hb (by omega) (by omega) dX14_more_8 (by decide) (fun c8 => ?_) (fun c8 => ?_)
  · refine lv_iconst (v := nI 0) hx hb dX14_more_15 (by decide) ?_
    subst hQ
    refine n_top (y := bZ false) rfl ?_
    exact ret_z C hr hlocks h () trivial (by rw [decide_eq_false (show ¬ nx < sz by omega)]) rfl (by omega) (by omega) dX14_more_16
  · refine lv_iconst (v := nI 1) hx hb dX14_more_11 (by decide) ?_
    refine lv_goto (tgt := 16) hx hb dX14_more_12 (by decide) ?_
    subst hQ
    refine n_top (y := bZ true) rfl ?_
    exact ret_z C hr hlocks h () trivial (by rw [decide_eq_true (show nx < sz by omega)]) rfl (by omega) (by omega) dX14_more_16
set_option maxHeartbeats 400000 in
set_option maxRecDepth 100000 in
theorem c14_isPassed (l : Launch) (D : va_G) (dA : Nat → ClassId) (B : Nat) (Z : State → Prop) (hZ : Stab B Z) (F : va_W) (pk ba r sz nx pl kd : Nat) (bo : Option Nat) (h1 : kd < 1000) :
    Ct (S := Unit) l D dA B Z yX14_isPassed cX14_isPassed 1 (some .boolean) 1 0 0 [.ref pk] ([(pk, .inr (11, [.ref ba, .int (nI sz), .int (nI nx), .int (nI pl), .int (nI kd), va_rf bo, .ref r]))] ++ F) (fun _ => True) (fun _ => some (.int (bZ (decide (kd = 10 ∨ kd = 12 ∨ kd = 17 ∨ 40 ≤ kd))))) (fun _ => [(pk, .inr (11, [.ref ba, .int (nI sz), .int (nI nx), .int (nI pl), .int (nI kd), va_rf bo, .ref r]))] ++ F) := by
  refine Ct.mk2 (by decide) (Nat.le_of_ble_eq_true rfl) hZ ?_
  intro p e R s m args below meth c ls Q C hr hlocks hin hQ hl h
  have C0 := C
  obtain ⟨hx, hb, hml, hown, hts, -⟩ := C0
  have hl : lv_has ls 1 [(0, .ref pk)] := hl
  refine lv_aload_n hx hb dX14_isPassed_0 rfl (lv_at hl 0 rfl) ?_
  refine o_get C h (RC := RX14) (T := TX14) (N := 7) (List.mem_of_getElem? (i := 0) rfl) rfl in_X14 4 (by decide) q1030 rfl (v := .int (nI kd)) rfl dX14_isPassed_1 ?_
  refine lv_bipush (v := nI 10) hx hb dX14_isPassed_4 (by decide) ?_
  refine n_icmp_eq (tgt := 36) hx hb (by omega) (by omega) dX14_isPassed_6 (by decide) (fun c6 => ?_) (fun c6 => ?_)
  · refine lv_iconst (v := nI 1) hx hb dX14_isPassed_36 (by decide) ?_
    refine lv_goto (tgt := 41) hx hb dX14_isPassed_37 (by decide) ?_
    subst hQ
    refine n_top (y := bZ true) rfl ?_
    exact ret_z C hr hlocks h () trivial (by rw [decide_eq_true (by omega)]) rfl (by omega) (by omega) dX14_isPassed_41
  · refine lv_aload_n hx hb dX14_isPassed_9 rfl (lv_at hl 0 rfl) ?_
    refine o_get C h (RC := RX14) (T := TX14) (N := 7) (List.mem_of_getElem? (i := 0) rfl) rfl in_X14 4 (by decide) q1030 rfl (v := .int (nI kd)) rfl dX14_isPassed_10 ?_
    refine lv_bipush (v := nI 12) hx hb dX14_isPassed_13 (by decide) ?_
    refine n_icmp_eq (tgt := 36) hx hb (by omega) (by omega) dX14_isPassed_15 (by decide) (fun c15 => ?_) (fun c15 => ?_)
    · refine lv_iconst (v := nI 1) hx hb dX14_isPassed_36 (by decide) ?_
      refine lv_goto (tgt := 41) hx hb dX14_isPassed_37 (by decide) ?_
      subst hQ
      refine n_top (y := bZ true) rfl ?_
      exact ret_z C hr hlocks h () trivial (by rw [decide_eq_true (by omega)]) rfl (by omega) (by omega) dX14_isPassed_41
    · refine lv_aload_n hx hb dX14_isPassed_18 rfl (lv_at hl 0 rfl) ?_
      refine o_get C h (RC := RX14) (T := TX14) (N := 7) (List.mem_of_getElem? (i := 0) rfl) rfl in_X14 4 (by decide) q1030 rfl (v := .int (nI kd)) rfl dX14_isPassed_19 ?_
      refine lv_bipush (v := nI 17) hx hb dX14_isPassed_22 (by decide) ?_
      refine n_icmp_eq (tgt := 36) hx hb (by omega) (by omega) dX14_isPassed_24 (by decide) (fun c24 => ?_) (fun c24 => ?_)
      · refine lv_iconst (v := nI 1) hx hb dX14_isPassed_36 (by decide) ?_
        refine lv_goto (tgt := 41) hx hb dX14_isPassed_37 (by decide) ?_
        subst hQ
        refine n_top (y := bZ true) rfl ?_
        exact ret_z C hr hlocks h () trivial (by rw [decide_eq_true (by omega)]) rfl (by omega) (by omega) dX14_isPassed_41
      · refine lv_aload_n hx hb dX14_isPassed_27 rfl (lv_at hl 0 rfl) ?_
        refine o_get C h (RC := RX14) (T := TX14) (N := 7) (List.mem_of_getElem? (i := 0) rfl) rfl in_X14 4 (by decide) q1030 rfl (v := .int (nI kd)) rfl dX14_isPassed_28 ?_
        refine lv_bipush (v := nI 40) hx hb dX14_isPassed_31 (by decide) ?_
        refine n_icmp_lt (tgt := 40) hx hb (by omega) (by omega) dX14_isPassed_33 (by decide) (fun c33 => ?_) (fun c33 => ?_)
        · refine lv_iconst (v := nI 0) hx hb dX14_isPassed_40 (by decide) ?_
          subst hQ
          refine n_top (y := bZ false) rfl ?_
          exact ret_z C hr hlocks h () trivial (by rw [decide_eq_false (by omega)]) rfl (by omega) (by omega) dX14_isPassed_41
        · refine lv_iconst (v := nI 1) hx hb dX14_isPassed_36 (by decide) ?_
          refine lv_goto (tgt := 41) hx hb dX14_isPassed_37 (by decide) ?_
          subst hQ
          refine n_top (y := bZ true) rfl ?_
          exact ret_z C hr hlocks h () trivial (by rw [decide_eq_true (by omega)]) rfl (by omega) (by omega) dX14_isPassed_41
set_option maxHeartbeats 400000 in
set_option maxRecDepth 100000 in
theorem c14_init (l : Launch) (D : va_G) (dA : Nat → ClassId) (B : Nat) (Z : State → Prop) (hZ : Stab B Z) (F : va_W) (pk ro ba sz r : Nat) (hro : (ro, .inr (1, [.ref ba, .int (nI sz)])) ∈ F) :
    Ct (S := Unit) l D dA B Z yX14_init cX14_init 3 none 2 0 0 [.ref pk, .ref ro, .ref r] ([(pk, .inr (11, [.null, .int 0, .int 0, .int 0, .int 0, .null, .null]))] ++ F) (fun _ => True) (fun _ => none) (fun _ => [(pk, .inr (11, [.ref ba, .int (nI sz), .int 0, .int 0, .int 0, .null, .ref r]))] ++ F) := by
  refine Ct.mk2 (by decide) (Nat.le_of_ble_eq_true rfl) hZ ?_
  intro p e R s m args below meth c ls Q C hr hlocks hin hQ hl h
  have C0 := C
  obtain ⟨hx, hb, hml, hown, hts, -⟩ := C0
  have hl : lv_has ls 3 [(0, .ref pk), (1, .ref ro), (2, .ref r)] := hl
  refine lv_aload_n hx hb dX14_init_0 rfl (lv_at hl 0 rfl) ?_
  refine o_init C h q1025 hl.1 (by decide) (Nat.le_of_ble_eq_true rfl) dX14_init_1 ?_
  refine lv_aload_n hx hb dX14_init_4 rfl (lv_at hl 0 rfl) ?_
  refine lv_aload_n hx hb dX14_init_5 rfl (lv_at hl 1 rfl) ?_
  refine o_get C h (RC := RX2) (T := TX2) (N := 2) (List.mem_append_right _ hro) rfl in_X2 0 (by decide) q185 rfl (v := .ref ba) rfl dX14_init_6 ?_
  refine o_putF C h 0 (RC := RX14) (T := TX14) (N := 7) (ws' := [(pk, .inr (11, [.ref ba, .int 0, .int 0, .int 0, .int 0, .null, .null]))] ++ F) rfl rfl in_X14 tyX14_ok nmX14 0 (by decide) q1026 rfl rfl (hin rfl) rfl (v := .ref ba) rfl rfl (Nat.le_of_ble_eq_true rfl) rfl dX14_init_9 (fun H locs h => ?_)
  refine lv_aload_n hx hb dX14_init_12 rfl (lv_at hl 0 rfl) ?_
  refine lv_aload_n hx hb dX14_init_13 rfl (lv_at hl 1 rfl) ?_
  refine o_get C h (RC := RX2) (T := TX2) (N := 2) (List.mem_append_right _ hro) rfl in_X2 1 (by decide) q189 rfl (v := .int (nI sz)) rfl dX14_init_14 ?_
  refine o_putF C h 0 (RC := RX14) (T := TX14) (N := 7) (ws' := [(pk, .inr (11, [.ref ba, .int (nI sz), .int 0, .int 0, .int 0, .null, .null]))] ++ F) rfl rfl in_X14 tyX14_ok nmX14 1 (by decide) q1027 rfl rfl (hin rfl) rfl (v := .int (nI sz)) rfl rfl (Nat.le_of_ble_eq_true rfl) rfl dX14_init_17 (fun H locs h => ?_)
  refine lv_aload_n hx hb dX14_init_20 rfl (lv_at hl 0 rfl) ?_
  refine lv_aload_n hx hb dX14_init_21 rfl (lv_at hl 2 rfl) ?_
  refine o_putF C h 0 (RC := RX14) (T := TX14) (N := 7) (ws' := [(pk, .inr (11, [.ref ba, .int (nI sz), .int 0, .int 0, .int 0, .null, .ref r]))] ++ F) rfl rfl in_X14 tyX14_ok nmX14 6 (by decide) q1034 rfl rfl (hin rfl) rfl (v := .ref r) rfl rfl (Nat.le_of_ble_eq_true rfl) rfl dX14_init_22 (fun H locs h => ?_)
  subst hQ
  exact ret_v C hr hlocks h () trivial rfl rfl (by omega) (by omega) dX14_init_25
set_option maxHeartbeats 400000 in
set_option maxRecDepth 100000 in
theorem c14_take (l : Launch) (D : va_G) (dA : Nat → ClassId) (B : Nat) (Z : State → Prop) (hZ : Stab B Z) (F : va_W) (pk ba n0 r : Nat) (gb : Nat → Nat) (lw : List Nat) (nx pl kd : Nat) (bo : Option Nat) (hba : (ba, bar dA n0 gb) ∈ F) (hsb : SBis gb n0 lw) (hbt : byt lw) (hn0 : n0 < 400000) (hl4 : lw.length ≤ 4096) (hnl : nx < lw.length) :
    Ct (S := Unit) l D dA B Z yX14_take cX14_take 1 (some .int) 8 0 0 [.ref pk] ([(pk, .inr (11, [.ref ba, .int (nI lw.length), .int (nI nx), .int (nI pl), .int (nI kd), va_rf bo, .ref r]))] ++ F) (fun _ => True) (fun _ => some (.int (nI (gD lw nx)))) (fun _ => [(pk, .inr (11, [.ref ba, .int (nI lw.length), .int (nI (nx + 1)), .int (nI pl), .int (nI kd), va_rf bo, .ref r]))] ++ F) := by
  refine Ct.mk2 (by decide) (Nat.le_of_ble_eq_true rfl) hZ ?_
  intro p e R s m args below meth c ls Q C hr hlocks hin hQ hl h
  have C0 := C
  obtain ⟨hx, hb, hml, hown, hts, -⟩ := C0
  have hl : lv_has ls 1 [(0, .ref pk)] := hl
  have hsl := hsb.1
  have hb1 : gb nx = gD lw nx := hsb.2 nx hnl
  have hb2 : gb nx < 256 := by rw [hb1]; exact byt_gD hbt nx
  refine lv_aload_n hx hb dX14_take_0 rfl (lv_at hl 0 rfl) ?_
  refine o_get C h (RC := RX14) (T := TX14) (N := 7) (List.mem_of_getElem? (i := 0) rfl) rfl in_X14 2 (by decide) q1028 rfl (v := .int (nI nx)) rfl dX14_take_1 ?_
  refine lv_aload_n hx hb dX14_take_4 rfl (lv_at hl 0 rfl) ?_
  refine o_get C h (RC := RX14) (T := TX14) (N := 7) (List.mem_of_getElem? (i := 0) rfl) rfl in_X14 1 (by decide) q1027 rfl (v := .int (nI lw.length)) rfl dX14_take_5 ?_
  refine n_icmp_lt (tgt := 16) hx hb (by omega) (by omega) dX14_take_8 (by decide) (fun c8 => ?_) (fun c8 => by exfalso; omega)
  refine lv_aload_n hx hb dX14_take_16 rfl (lv_at hl 0 rfl) ?_
  refine o_get C h (RC := RX14) (T := TX14) (N := 7) (List.mem_of_getElem? (i := 0) rfl) rfl in_X14 0 (by decide) q1026 rfl (v := .ref ba) rfl dX14_take_17 ?_
  refine lv_aload_n hx hb dX14_take_20 rfl (lv_at hl 0 rfl) ?_
  refine lv_dup hx hb dX14_take_21 rfl ?_
  refine o_get C h (RC := RX14) (T := TX14) (N := 7) (List.mem_of_getElem? (i := 0) rfl) rfl in_X14 2 (by decide) q1028 rfl (v := .int (nI nx)) rfl dX14_take_22 ?_
  refine lv_dup_x1 hx hb dX14_take_25 rfl rfl ?_
  refine lv_iconst (v := nI 1) hx hb dX14_take_26 (by decide) ?_
  refine lv_iadd hx hb dX14_take_27 (n_top (y := nI (nx + 1)) (nI_add nx 1) ?_)
  refine o_put C h 0 (RC := RX14) (T := TX14) (N := 7) (ws' := [(pk, .inr (11, [.ref ba, .int (nI lw.length), .int (nI (nx + 1)), .int (nI pl), .int (nI kd), va_rf bo, .ref r]))] ++ F) rfl rfl in_X14 tyX14_ok nmX14 2 (by decide) q1028 rfl rfl (v := .int (nI (nx + 1))) rfl rfl (Nat.le_of_ble_eq_true rfl) rfl dX14_take_28 (fun H locs h => ?_)
  refine n_bald C h (v := gb nx) (List.mem_append_right _ hba) (show nx < n0 by omega) (by omega) rfl dX14_take_31 ?_
  refine lv_sipush (v := nI 255) hx hb dX14_take_32 (by decide) ?_
  refine lv_iand hx hb dX14_take_35 ?_
  refine n_top (y := nI (gD lw nx)) (((sb_byte _ hb2).1).trans (by rw [hb1])) ?_
  subst hQ
  exact ret_i C hr hlocks h () trivial rfl rfl (by omega) (by omega) dX14_take_36
set_option maxHeartbeats 400000 in
set_option maxRecDepth 100000 in
theorem c14_takeX (l : Launch) (D : va_G) (dA : Nat → ClassId) (B : Nat) (Z : State → Prop) (hZ : Stab B Z) (F : va_W) (pk ba n0 r : Nat) (gb : Nat → Nat) (lw : List Nat) (nx pl kd : Nat) (bo : Option Nat) (hlt : l.stackTraces = false) (hzx : ZX B Z) (hba : (ba, bar dA n0 gb) ∈ F) (hsb : SBis gb n0 lw) (hbt : byt lw) (hn0 : n0 < 400000) (hl4 : lw.length ≤ 4096) (hnx : nx ≤ 100000) (hnl : lw.length ≤ nx) :
    CtX (S := Unit) (SX := Nat × (Nat → Value)) l D dA B Z yX14_take cX14_take 1 (some .int) 8 1 7 [.ref pk] ([(pk, .inr (11, [.ref ba, .int (nI lw.length), .int (nI nx), .int (nI pl), .int (nI kd), va_rf bo, .ref r]))] ++ F) (fun _ => False) (fun _ => none) (fun _ => [(pk, .inr (11, [.ref ba, .int (nI lw.length), .int (nI nx), .int (nI pl), .int (nI kd), va_rf bo, .ref r]))] ++ F) (fun _ => True) (fun u => u.1) (fun _ => "SignetRing$Fault") (fun u => [(pk, .inr (11, [.ref ba, .int (nI lw.length), .int (nI nx), .int (nI pl), .int (nI kd), va_rf bo, .ref r]))] ++ (F ++ [(u.1, .inr (10, fts u.2 (-1 - nI pl)))])) := by
  refine CtX.mk2 (by decide) (Nat.le_of_ble_eq_true rfl) hZ ?_
  intro p e R s m args below meth c ls Q C hr hlocks hin hex hQ hl h
  have C0 := C
  obtain ⟨hx, hb, hml, hown, hts, -⟩ := C0
  have hl : lv_has ls 1 [(0, .ref pk)] := hl
  have hsl := hsb.1
  refine lv_aload_n hx hb dX14_take_0 rfl (lv_at hl 0 rfl) ?_
  refine o_get C h (RC := RX14) (T := TX14) (N := 7) (List.mem_of_getElem? (i := 0) rfl) rfl in_X14 2 (by decide) q1028 rfl (v := .int (nI nx)) rfl dX14_take_1 ?_
  refine lv_aload_n hx hb dX14_take_4 rfl (lv_at hl 0 rfl) ?_
  refine o_get C h (RC := RX14) (T := TX14) (N := 7) (List.mem_of_getElem? (i := 0) rfl) rfl in_X14 1 (by decide) q1027 rfl (v := .int (nI lw.length)) rfl dX14_take_5 ?_
  refine n_icmp_lt (tgt := 16) hx hb (by omega) (by omega) dX14_take_8 (by decide) (fun c8 => by exfalso; omega) (fun c8 => ?_)
  refine lv_aload_n hx hb dX14_take_11 rfl (lv_at hl 0 rfl) ?_
  refine call_VR (As := []) (rest := []) (n := 0) C h (c14_fault l D dA B Z hZ _ pk ba lw.length nx pl kd r bo hlt hzx (List.mem_of_getElem? (i := 0) rfl)) (lw_V q1063 q1064 q1065 q162 q1066) (by decide +kernel) (o_recv C h (RC := RX14) (T := TX14) (N := 7) (List.mem_of_getElem? (i := 0) rfl) rfl) (by decide) (by decide) rfl hl rfl (Nat.le_of_ble_eq_true rfl) dX14_take_12 (by omega) (fun u9 H locs _ h => ?_)
  obtain ⟨q9, x9⟩ := u9
  have h : Wd D B s ([(q9, .inr (10, fts x9 (-1 - nI pl)))] ++ ([(pk, .inr (11, [.ref ba, .int (nI lw.length), .int (nI nx), .int (nI pl), .int (nI kd), va_rf bo, .ref r]))] ++ F)) H locs := h
  have h : Wd D B s ([(q9, .inr (10, fts x9 (-1 - nI pl))), (pk, .inr (11, [.ref ba, .int (nI lw.length), .int (nI nx), .int (nI pl), .int (nI kd), va_rf bo, .ref r]))] ++ F) H locs := h
  subst hQ
  have h : Wd D B s ([(pk, .inr (11, [.ref ba, .int (nI lw.length), .int (nI nx), .int (nI pl), .int (nI kd), va_rf bo, .ref r]))] ++ (F ++ [(q9, .inr (10, fts x9 (-1 - nI pl)))])) H locs := Wd.toLast h
  exact x_athrow C hex hlocks h (List.mem_append_right _ (List.mem_append_right _ List.mem_cons_self)) rfl (q9, x9) rfl rfl trivial rfl (by omega) (by omega) dX14_take_15

theorem n_app8 {a b : Nat} (ha : a ≤ 65536) (hb : b < 256) : nI (a * 256) ||| nI b = nI (a * 256 + b) := by
  rw [Int32.or_comm]; exact n_orN (k := 8) hb (by omega)

set_option maxHeartbeats 400000 in
set_option maxRecDepth 100000 in
theorem c14_takeN (l : Launch) (D : va_G) (dA : Nat → ClassId) (B : Nat) (Z : State → Prop) (hZ : Stab B Z) (F : va_W) (pk ba n0 r : Nat) (gb : Nat → Nat) (lw : List Nat) (nx pl kd : Nat) (bo : Option Nat) (n : Nat) (hba : (ba, bar dA n0 gb) ∈ F) (hsb : SBis gb n0 lw) (hbt : byt lw) (hn0 : n0 < 400000) (hl4 : lw.length ≤ 4096) (hn : n ≤ 4) (hnl : nx + n ≤ lw.length) (hn2 : num (sl (gD lw) nx n) ≤ 65536) :
    Ct (S := Unit) l D dA B Z yX14_take_2 cX14_take_2 4 (some .int) 9 0 0 [.ref pk, .int (nI n)] ([(pk, .inr (11, [.ref ba, .int (nI lw.length), .int (nI nx), .int (nI pl), .int (nI kd), va_rf bo, .ref r]))] ++ F) (fun _ => True) (fun _ => some (.int (nI (num (sl (gD lw) nx n))))) (fun _ => [(pk, .inr (11, [.ref ba, .int (nI lw.length), .int (nI (nx + n)), .int (nI pl), .int (nI kd), va_rf bo, .ref r]))] ++ F) := by
  refine Ct.mk2 (by decide) (Nat.le_of_ble_eq_true rfl) hZ ?_
  intro p e R s m args below meth c ls Q C hr hlocks hin hQ hl h
  have C0 := C
  obtain ⟨hx, hb, hml, hown, hts, -⟩ := C0
  have hl : lv_has ls 4 [(0, .ref pk), (1, .int (nI n))] := hl
  have hsl := hsb.1
  refine lv_iconst (v := nI 0) hx hb dX14_take_2_0 (by decide) ?_
  refine lv_istore_n (lv' := [(2, .int (nI 0)), (0, .ref pk), (1, .int (nI n))]) hx hb dX14_take_2_1 rfl hl (by decide) rfl (fun ls hl => ?_)
  refine lv_iconst (v := nI 0) hx hb dX14_take_2_2 (by decide) ?_
  refine lv_istore_n (lv' := [(3, .int (nI 0)), (2, .int (nI 0)), (0, .ref pk), (1, .int (nI n))]) hx hb dX14_take_2_3 rfl hl (by decide) rfl (fun ls hl => ?_)
  have h : Wd D B s ([(pk, .inr (11, [.ref ba, .int (nI lw.length), .int (nI (nx + 0)), .int (nI pl), .int (nI kd), va_rf bo, .ref r]))] ++ F) s.heap [] := h
  have loop : ∀ (nn : Nat) (i v : Nat), (i ≤ n) → (nx + i ≤ lw.length) → (v = num (sl (gD lw) nx i)) → (v ≤ 65536) → n - i < nn → ∀ (H : Heap) (locs : List Loc), Wd D B s ([(pk, .inr (11, [.ref ba, .int (nI lw.length), .int (nI (nx + i)), .int (nI pl), .int (nI kd), va_rf bo, .ref r]))] ++ F) H locs → ∀ (ls : Array Slot), lv_has ls 4 [(3, .int (nI i)), (2, .int (nI v)), (0, .ref pk), (1, .int (nI n))] → W p l e R s m args below meth c H locs 0 0 Q (F0 m 4 ls []) := by
    intro nn
    induction nn with
    | zero => intro i v  hi0 hi1 hi2 hi3 hme; exact absurd hme (Nat.not_lt_zero _)
    | succ nn ih =>
      intro i v  hi0 hi1 hi2 hi3 hme H locs h ls hl
      have hbk := byt_gD hbt (nx + i)
      refine lv_iload_n hx hb dX14_take_2_4 rfl (lv_at hl 0 rfl) ?_
      refine lv_iload_n hx hb dX14_take_2_5 rfl (lv_at hl 3 rfl) ?_
      refine n_icmp_ge (tgt := 40) hx hb (by omega) (by omega) dX14_take_2_6 (by decide) (fun c6 => ?_) (fun c6 => ?_)
      · refine lv_iload_n hx hb dX14_take_2_40 rfl (lv_at hl 1 rfl) ?_
        subst hQ
        have hie : i = n := by omega
        rw [hie] at h
        exact ret_i C hr hlocks h () trivial (by rw [hi2, hie]) rfl (by omega) (by omega) dX14_take_2_41
      · refine lv_iload_n hx hb dX14_take_2_9 rfl (lv_at hl 1 rfl) ?_
        refine lv_bipush (v := nI 8) hx hb dX14_take_2_10 (by decide) ?_
        refine n_ishl hx hb dX14_take_2_12 (n_top (y := nI (v * 256)) (pk_shlN _ 8 (by decide) (by omega)) ?_)
        refine lv_aload_n hx hb dX14_take_2_13 rfl (lv_at hl 2 rfl) ?_
        refine call_VR (As := []) (rest := [.int (nI (v * 256))]) (n := 0) C h (c14_take l D dA B Z hZ F pk ba n0 r gb lw (nx + i) pl kd bo hba hsb hbt hn0 hl4 (by omega)) (lw_V q1059 q1061 qs8 q162 q1062) (by decide +kernel) (o_recv C h (RC := RX14) (T := TX14) (N := 7) (List.mem_of_getElem? (i := 0) rfl) rfl) (by decide) (by decide) rfl hl rfl (Nat.le_of_ble_eq_true rfl) dX14_take_2_14 (by omega) (fun _ H locs _ h => ?_)
        have h : Wd D B s ([(pk, .inr (11, [.ref ba, .int (nI lw.length), .int (nI (nx + i + 1)), .int (nI pl), .int (nI kd), va_rf bo, .ref r]))] ++ F) H locs := h
        refine lv_ior hx hb dX14_take_2_17 ?_
        refine n_top (y := nI (v * 256 + gD lw (nx + i))) (n_app8 hi3 hbk) ?_
        have hv2 : v * 256 + gD lw (nx + i) = num (sl (gD lw) nx (i + 1)) := by rw [sl_succ, num_snoc, ← hi2]
        refine lv_istore_n (lv' := [(2, .int (nI (v * 256 + gD lw (nx + i)))), (3, .int (nI i)), (0, .ref pk), (1, .int (nI n))]) hx hb dX14_take_2_18 rfl hl (by decide) rfl (fun ls hl => ?_)
        refine lv_iload_n hx hb dX14_take_2_19 rfl (lv_at hl 0 rfl) ?_
        refine n_if_lt (tgt := 29) hx hb (by omega) dX14_take_2_20 (by decide) ?_
        refine lv_iload_n hx hb dX14_take_2_23 rfl (lv_at hl 0 rfl) ?_
        refine lv_ldc hx hb hown (hts _ q1074) dX14_take_2_24 ?_
        refine n_top (y := nI 65536) (by decide) ?_
        refine n_icmp_le (tgt := 34) hx hb (by omega) (by omega) dX14_take_2_26 (by decide) (fun c26 => ?_) (fun c26 => by exfalso; have hpp := num_pre (g := gD lw) (a := nx) (show i + 1 ≤ n by omega); rw [← hv2] at hpp; omega)
        refine lv_iinc (v := nI (i + 1)) (lv' := [(3, .int (nI (i + 1))), (2, .int (nI (v * 256 + gD lw (nx + i)))), (0, .ref pk), (1, .int (nI n))]) hx hb dX14_take_2_34 hl (k := 1) rfl (nI_add i 1) (by decide) rfl (fun ls hl => ?_)
        refine lv_goto (tgt := 4) hx hb dX14_take_2_37 (by decide) ?_
        exact ih (i + 1) _ (by omega) (by omega) hv2 c26 (by omega) _ _ h _ (lv_sub hl [0, 1, 2, 3] rfl)
  exact loop _ 0 0 (by omega) (by omega) rfl (by omega) (Nat.lt_succ_self _) _ _ h _ (lv_sub hl [0, 1, 2, 3] rfl)
set_option maxHeartbeats 400000 in
set_option maxRecDepth 100000 in
theorem c14_takeNX (l : Launch) (D : va_G) (dA : Nat → ClassId) (B : Nat) (Z : State → Prop) (hZ : Stab B Z) (F : va_W) (pk ba n0 r : Nat) (gb : Nat → Nat) (lw : List Nat) (nx pl kd : Nat) (bo : Option Nat) (n : Nat) (hlt : l.stackTraces = false) (hzx : ZX B Z) (hba : (ba, bar dA n0 gb) ∈ F) (hsb : SBis gb n0 lw) (hbt : byt lw) (hn0 : n0 < 400000) (hl4 : lw.length ≤ 4096) (hn : n ≤ 4) (hnx : nx ≤ lw.length) (hnl : lw.length < nx + n ∨ 65536 < num (sl (gD lw) nx n)) :
    CtX (S := Unit) (SX := Nat × (Nat → Value) × Nat) l D dA B Z yX14_take_2 cX14_take_2 4 (some .int) 9 1 7 [.ref pk, .int (nI n)] ([(pk, .inr (11, [.ref ba, .int (nI lw.length), .int (nI nx), .int (nI pl), .int (nI kd), va_rf bo, .ref r]))] ++ F) (fun _ => False) (fun _ => none) (fun _ => [(pk, .inr (11, [.ref ba, .int (nI lw.length), .int (nI nx), .int (nI pl), .int (nI kd), va_rf bo, .ref r]))] ++ F) (fun u => u.2.2 ≤ lw.length) (fun u => u.1) (fun _ => "SignetRing$Fault") (fun u => [(pk, .inr (11, [.ref ba, .int (nI lw.length), .int (nI u.2.2), .int (nI pl), .int (nI kd), va_rf bo, .ref r]))] ++ (F ++ [(u.1, .inr (10, fts u.2.1 (-1 - nI pl)))])) := by
  refine CtX.mk2 (by decide) (Nat.le_of_ble_eq_true rfl) hZ ?_
  intro p e R s m args below meth c ls Q C hr hlocks hin hex hQ hl h
  have C0 := C
  obtain ⟨hx, hb, hml, hown, hts, -⟩ := C0
  have hl : lv_has ls 4 [(0, .ref pk), (1, .int (nI n))] := hl
  have hsl := hsb.1
  refine lv_iconst (v := nI 0) hx hb dX14_take_2_0 (by decide) ?_
  refine lv_istore_n (lv' := [(2, .int (nI 0)), (0, .ref pk), (1, .int (nI n))]) hx hb dX14_take_2_1 rfl hl (by decide) rfl (fun ls hl => ?_)
  refine lv_iconst (v := nI 0) hx hb dX14_take_2_2 (by decide) ?_
  refine lv_istore_n (lv' := [(3, .int (nI 0)), (2, .int (nI 0)), (0, .ref pk), (1, .int (nI n))]) hx hb dX14_take_2_3 rfl hl (by decide) rfl (fun ls hl => ?_)
  have h : Wd D B s ([(pk, .inr (11, [.ref ba, .int (nI lw.length), .int (nI (nx + 0)), .int (nI pl), .int (nI kd), va_rf bo, .ref r]))] ++ F) s.heap [] := h
  have loop : ∀ (nn : Nat) (i v : Nat), (i ≤ n) → (nx + i ≤ lw.length) → (v = num (sl (gD lw) nx i)) → (v ≤ 65536) → n - i < nn → ∀ (H : Heap) (locs : List Loc), Wd D B s ([(pk, .inr (11, [.ref ba, .int (nI lw.length), .int (nI (nx + i)), .int (nI pl), .int (nI kd), va_rf bo, .ref r]))] ++ F) H locs → ∀ (ls : Array Slot), lv_has ls 4 [(3, .int (nI i)), (2, .int (nI v)), (0, .ref pk), (1, .int (nI n))] → W p l e R s m args below meth c H locs 0 0 Q (F0 m 4 ls []) := by
    intro nn
    induction nn with
    | zero => intro i v  hi0 hi1 hi2 hi3 hme; exact absurd hme (Nat.not_lt_zero _)
    | succ nn ih =>
      intro i v  hi0 hi1 hi2 hi3 hme H locs h ls hl
      have hbk := byt_gD hbt (nx + i)
      refine lv_iload_n hx hb dX14_take_2_4 rfl (lv_at hl 0 rfl) ?_
      refine lv_iload_n hx hb dX14_take_2_5 rfl (lv_at hl 3 rfl) ?_
      refine n_icmp_ge (tgt := 40) hx hb (by omega) (by omega) dX14_take_2_6 (by decide) (fun c6 => ?_) (fun c6 => ?_)
      · refine lv_iload_n hx hb dX14_take_2_40 rfl (lv_at hl 1 rfl) ?_
        subst hQ
        have hie : i = n := by omega
        subst hie
        rcases hnl with hnl | hnl
        · omega
        · rw [← hi2] at hnl; omega
      · refine lv_iload_n hx hb dX14_take_2_9 rfl (lv_at hl 1 rfl) ?_
        refine lv_bipush (v := nI 8) hx hb dX14_take_2_10 (by decide) ?_
        refine n_ishl hx hb dX14_take_2_12 (n_top (y := nI (v * 256)) (pk_shlN _ 8 (by decide) (by omega)) ?_)
        refine lv_aload_n hx hb dX14_take_2_13 rfl (lv_at hl 2 rfl) ?_
        by_cases hc14 : nx + i < lw.length
        · refine call_VR (As := []) (rest := [.int (nI (v * 256))]) (n := 0) C h (c14_take l D dA B Z hZ F pk ba n0 r gb lw (nx + i) pl kd bo hba hsb hbt hn0 hl4 (by omega)) (lw_V q1059 q1061 qs8 q162 q1062) (by decide +kernel) (o_recv C h (RC := RX14) (T := TX14) (N := 7) (List.mem_of_getElem? (i := 0) rfl) rfl) (by decide) (by decide) rfl hl rfl (Nat.le_of_ble_eq_true rfl) dX14_take_2_14 (by omega) (fun _ H locs _ h => ?_)
          have h : Wd D B s ([(pk, .inr (11, [.ref ba, .int (nI lw.length), .int (nI (nx + i + 1)), .int (nI pl), .int (nI kd), va_rf bo, .ref r]))] ++ F) H locs := h
          refine lv_ior hx hb dX14_take_2_17 ?_
          refine n_top (y := nI (v * 256 + gD lw (nx + i))) (n_app8 hi3 hbk) ?_
          have hv2 : v * 256 + gD lw (nx + i) = num (sl (gD lw) nx (i + 1)) := by rw [sl_succ, num_snoc, ← hi2]
          refine lv_istore_n (lv' := [(2, .int (nI (v * 256 + gD lw (nx + i)))), (3, .int (nI i)), (0, .ref pk), (1, .int (nI n))]) hx hb dX14_take_2_18 rfl hl (by decide) rfl (fun ls hl => ?_)
          refine lv_iload_n hx hb dX14_take_2_19 rfl (lv_at hl 0 rfl) ?_
          refine n_if_lt (tgt := 29) hx hb (by omega) dX14_take_2_20 (by decide) ?_
          refine lv_iload_n hx hb dX14_take_2_23 rfl (lv_at hl 0 rfl) ?_
          refine lv_ldc hx hb hown (hts _ q1074) dX14_take_2_24 ?_
          refine n_top (y := nI 65536) (by decide) ?_
          refine n_icmp_le (tgt := 34) hx hb (by omega) (by omega) dX14_take_2_26 (by decide) (fun c26 => ?_) (fun c26 => ?_)
          · refine lv_iinc (v := nI (i + 1)) (lv' := [(3, .int (nI (i + 1))), (2, .int (nI (v * 256 + gD lw (nx + i)))), (0, .ref pk), (1, .int (nI n))]) hx hb dX14_take_2_34 hl (k := 1) rfl (nI_add i 1) (by decide) rfl (fun ls hl => ?_)
            refine lv_goto (tgt := 4) hx hb dX14_take_2_37 (by decide) ?_
            exact ih (i + 1) _ (by omega) (by omega) hv2 c26 (by omega) _ _ h _ (lv_sub hl [0, 1, 2, 3] rfl)
          · refine lv_aload_n hx hb dX14_take_2_29 rfl (lv_at hl 2 rfl) ?_
            refine call_VR (As := []) (rest := []) (n := 0) C h (c14_fault l D dA B Z hZ _ pk ba lw.length (nx + i + 1) pl kd r bo hlt hzx (List.mem_of_getElem? (i := 0) rfl)) (lw_V q1063 q1064 q1065 q162 q1066) (by decide +kernel) (o_recv C h (RC := RX14) (T := TX14) (N := 7) (List.mem_of_getElem? (i := 0) rfl) rfl) (by decide) (by decide) rfl hl rfl (Nat.le_of_ble_eq_true rfl) dX14_take_2_30 (by omega) (fun u9 H locs _ h => ?_)
            obtain ⟨q9, x9⟩ := u9
            have h : Wd D B s ([(q9, .inr (10, fts x9 (-1 - nI pl)))] ++ ([(pk, .inr (11, [.ref ba, .int (nI lw.length), .int (nI (nx + i + 1)), .int (nI pl), .int (nI kd), va_rf bo, .ref r]))] ++ F)) H locs := h
            have h : Wd D B s ([(q9, .inr (10, fts x9 (-1 - nI pl))), (pk, .inr (11, [.ref ba, .int (nI lw.length), .int (nI (nx + i + 1)), .int (nI pl), .int (nI kd), va_rf bo, .ref r]))] ++ F) H locs := h
            subst hQ
            have h : Wd D B s ([(pk, .inr (11, [.ref ba, .int (nI lw.length), .int (nI (nx + i + 1)), .int (nI pl), .int (nI kd), va_rf bo, .ref r]))] ++ (F ++ [(q9, .inr (10, fts x9 (-1 - nI pl)))])) H locs := Wd.toLast h
            exact x_athrow C hex hlocks h (List.mem_append_right _ (List.mem_append_right _ List.mem_cons_self)) rfl (q9, x9, nx + i + 1) rfl rfl (show nx + i + 1 ≤ lw.length by omega) rfl (by omega) (by omega) dX14_take_2_33
        · refine call_VX (As := []) (rest := [.int (nI (v * 256))]) (n := 0) C h (c14_takeX l D dA B Z hZ F pk ba n0 r gb lw (nx + i) pl kd bo hlt hzx hba hsb hbt hn0 hl4 (by omega) (by omega)) (lw_V q1059 q1061 qs8 q162 q1062) (by decide +kernel) (o_recv C h (RC := RX14) (T := TX14) (N := 7) (List.mem_of_getElem? (i := 0) rfl) rfl) (by decide) (by decide) rfl hl rfl (Nat.le_of_ble_eq_true rfl) dX14_take_2_14 (by omega) (fun ux ce9 H locs hux h hce9 hcv9 hcl9 => ?_) (fun _ H locs hu h => ?_)
          · obtain ⟨q9, x9⟩ := ux
            have h : Wd D B s ([(pk, .inr (11, [.ref ba, .int (nI lw.length), .int (nI (nx + i)), .int (nI pl), .int (nI kd), va_rf bo, .ref r]))] ++ (F ++ [(q9, .inr (10, fts x9 (-1 - nI pl)))])) H locs := h
            subst hQ
            exact thr_out C hex hlocks h (q9, x9, nx + i) rfl rfl (show nx + i ≤ lw.length by omega) rfl hce9 hcv9 hcl9 (by omega) (by omega)
          exact hu.elim
  exact loop _ 0 0 (by omega) (by omega) rfl (by omega) (Nat.lt_succ_self _) _ _ h _ (lv_sub hl [0, 1, 2, 3] rfl)
set_option maxHeartbeats 400000 in
set_option maxRecDepth 100000 in
theorem c14_put (l : Launch) (D : va_G) (dA : Nat → ClassId) (B : Nat) (Z : State → Prop) (hZ : Stab B Z) (F : va_W) (pk ba n0 r : Nat) (gb : Nat → Nat) (lw : List Nat) (nx pl kd : Nat) (bo : Option Nat) (n b cap : Nat) (g : Nat → Nat) (lr : List Nat) (hba : (ba, bar dA n0 gb) ∈ F) (hsb : SBis gb n0 lw) (hbt : byt lw) (hn0 : n0 < 400000) (hl4 : lw.length ≤ 4096) (hnx : nx ≤ lw.length) (hn : n < 200000) (hsr : SBis g cap lr) (hcap : 64 ≤ cap) (hlr : lr.length < 200000) (hcm : cap < 500000) (hnl : nx + n ≤ lw.length) :
    Ct (S := Nat × (Nat → Nat) × va_W) l D dA B Z yX14_put cX14_put 3 none 8 (rC cap (lr ++ sliceL lw nx n).length) (rS cap (lr ++ sliceL lw nx n).length) [.ref pk, .ref r, .int (nI n)] ([(pk, .inr (11, [.ref ba, .int (nI lw.length), .int (nI nx), .int (nI pl), .int (nI kd), va_rf bo, .ref r])), (r, .inr (1, [.ref b, .int (nI lr.length)])), (b, bar dA cap g)] ++ F) (fun u => SBis u.2.1 (gro cap (lr ++ sliceL lw nx n).length) (lr ++ sliceL lw nx n)) (fun _ => none) (fun u => [(pk, .inr (11, [.ref ba, .int (nI lw.length), .int (nI (nx + n)), .int (nI pl), .int (nI kd), va_rf bo, .ref r])), (r, .inr (1, [.ref u.1, .int (nI ((lr ++ sliceL lw nx n).length))])), (u.1, bar dA (gro cap (lr ++ sliceL lw nx n).length) u.2.1)] ++ (F ++ u.2.2)) := by
  refine Ct.mk2 (by decide) (Nat.le_of_ble_eq_true rfl) hZ ?_
  intro p e R s m args below meth c ls Q C hr hlocks hin hQ hl h
  have C0 := C
  obtain ⟨hx, hb, hml, hown, hts, -⟩ := C0
  have hl : lv_has ls 3 [(0, .ref pk), (1, .ref r), (2, .int (nI n))] := hl
  have hsl := hsb.1
  have e7 : sl gb nx (nx + n - nx) = sliceL lw nx n := by rw [Nat.add_sub_cancel_left, ← sl_slice lw hnl]; exact sl_congr (fun j hj => hsb.2 _ (by omega))
  have e8 : (lr ++ sliceL lw nx n).length = (lr ++ sl gb nx (nx + n - nx)).length := by rw [e7]
  refine lv_iload_n hx hb dX14_put_0 rfl (lv_at hl 2 rfl) ?_
  refine lv_aload_n hx hb dX14_put_1 rfl (lv_at hl 0 rfl) ?_
  refine o_get C h (RC := RX14) (T := TX14) (N := 7) (List.mem_of_getElem? (i := 0) rfl) rfl in_X14 1 (by decide) q1027 rfl (v := .int (nI lw.length)) rfl dX14_put_2 ?_
  refine lv_aload_n hx hb dX14_put_5 rfl (lv_at hl 0 rfl) ?_
  refine o_get C h (RC := RX14) (T := TX14) (N := 7) (List.mem_of_getElem? (i := 0) rfl) rfl in_X14 2 (by decide) q1028 rfl (v := .int (nI nx)) rfl dX14_put_6 ?_
  refine lv_isub hx hb dX14_put_9 (n_top (y := nI (lw.length - nx)) (pk_sub (by omega)) ?_)
  refine n_icmp_le (tgt := 18) hx hb (by omega) (by omega) dX14_put_10 (by decide) (fun c10 => ?_) (fun c10 => by exfalso; omega)
  refine lv_aload_n hx hb dX14_put_18 rfl (lv_at hl 1 rfl) ?_
  refine lv_aload_n hx hb dX14_put_19 rfl (lv_at hl 0 rfl) ?_
  refine o_get C h (RC := RX14) (T := TX14) (N := 7) (List.mem_of_getElem? (i := 0) rfl) rfl in_X14 0 (by decide) q1026 rfl (v := .ref ba) rfl dX14_put_20 ?_
  refine lv_aload_n hx hb dX14_put_23 rfl (lv_at hl 0 rfl) ?_
  refine o_get C h (RC := RX14) (T := TX14) (N := 7) (List.mem_of_getElem? (i := 0) rfl) rfl in_X14 2 (by decide) q1028 rfl (v := .int (nI nx)) rfl dX14_put_24 ?_
  refine lv_aload_n hx hb dX14_put_27 rfl (lv_at hl 0 rfl) ?_
  refine o_get C h (RC := RX14) (T := TX14) (N := 7) (List.mem_of_getElem? (i := 0) rfl) rfl in_X14 2 (by decide) q1028 rfl (v := .int (nI nx)) rfl dX14_put_28 ?_
  refine lv_iload_n hx hb dX14_put_31 rfl (lv_at hl 2 rfl) ?_
  refine lv_iadd hx hb dX14_put_32 (n_top (y := nI (nx + n)) (nI_add nx n) ?_)
  have h : Wd D B s ([(r, .inr (1, [.ref b, .int (nI lr.length)])), (b, bar dA cap g), (pk, .inr (11, [.ref ba, .int (nI lw.length), .int (nI nx), .int (nI pl), .int (nI kd), va_rf bo, .ref r]))] ++ F) s.heap [] := h.perm [1, 2, 0] rfl rfl
  refine call_VR (As := [.ref ba, .int (nI nx), .int (nI (nx + n))]) (rest := []) (n := 3) C h (c2_putA l D dA B Z hZ ([(pk, .inr (11, [.ref ba, .int (nI lw.length), .int (nI nx), .int (nI pl), .int (nI kd), va_rf bo, .ref r]))] ++ F) r b cap g lr ba n0 nx (nx + n) gb hsr hcap (List.mem_append_right _ hba) (by omega) (by omega) (by omega) (by omega) (by omega) (fun j hj => by rw [hsb.2 j (by omega)]; exact byt_gD hbt j)) (lw_V q1079 q558 q559 q130 q560) (by decide +kernel) (o_recv C h (RC := RX2) (T := TX2) (N := 2) (List.mem_of_getElem? (i := 0) rfl) rfl) (by decide) (by decide) rfl hl rfl (Nat.le_of_ble_eq_true rfl) dX14_put_33 (by rw [e8]; omega) (fun u3 H locs hu3 h => ?_)
  obtain ⟨b3, g3, E3⟩ := u3
  dsimp only at hu3
  rw [e7] at hu3 h
  have h : Wd D B s ([(r, .inr (1, [.ref b3, .int (nI ((lr ++ sliceL lw nx n).length))])), (b3, bar dA (gro cap (lr ++ sliceL lw nx n).length) g3), (pk, .inr (11, [.ref ba, .int (nI lw.length), .int (nI nx), .int (nI pl), .int (nI kd), va_rf bo, .ref r]))] ++ (F ++ E3)) H locs := h
  refine lv_aload_n hx hb dX14_put_36 rfl (lv_at hl 0 rfl) ?_
  refine lv_dup hx hb dX14_put_37 rfl ?_
  refine o_get C h (RC := RX14) (T := TX14) (N := 7) (List.mem_of_getElem? (i := 2) rfl) rfl in_X14 2 (by decide) q1028 rfl (v := .int (nI nx)) rfl dX14_put_38 ?_
  refine lv_iload_n hx hb dX14_put_41 rfl (lv_at hl 2 rfl) ?_
  refine lv_iadd hx hb dX14_put_42 (n_top (y := nI (nx + n)) (nI_add nx n) ?_)
  refine o_put C h 2 (RC := RX14) (T := TX14) (N := 7) (ws' := [(r, .inr (1, [.ref b3, .int (nI ((lr ++ sliceL lw nx n).length))])), (b3, bar dA (gro cap (lr ++ sliceL lw nx n).length) g3), (pk, .inr (11, [.ref ba, .int (nI lw.length), .int (nI (nx + n)), .int (nI pl), .int (nI kd), va_rf bo, .ref r]))] ++ (F ++ E3)) rfl rfl in_X14 tyX14_ok nmX14 2 (by decide) q1028 rfl rfl (v := .int (nI (nx + n))) rfl rfl (Nat.le_of_ble_eq_true rfl) rfl dX14_put_43 (fun H locs h => ?_)
  subst hQ
  have h : Wd D B s ([(pk, .inr (11, [.ref ba, .int (nI lw.length), .int (nI (nx + n)), .int (nI pl), .int (nI kd), va_rf bo, .ref r])), (r, .inr (1, [.ref b3, .int (nI ((lr ++ sliceL lw nx n).length))])), (b3, bar dA (gro cap (lr ++ sliceL lw nx n).length) g3)] ++ (F ++ E3)) H locs := h.perm [2, 0, 1] rfl rfl
  exact ret_v C hr hlocks h (b3, g3, E3) hu3 rfl rfl (by rw [e8]; omega) (by rw [e8]; omega) dX14_put_46
set_option maxHeartbeats 400000 in
set_option maxRecDepth 100000 in
theorem c14_putX (l : Launch) (D : va_G) (dA : Nat → ClassId) (B : Nat) (Z : State → Prop) (hZ : Stab B Z) (F : va_W) (pk ba n0 r : Nat) (gb : Nat → Nat) (lw : List Nat) (nx pl kd : Nat) (bo : Option Nat) (n b cap : Nat) (g : Nat → Nat) (lr : List Nat) (hlt : l.stackTraces = false) (hzx : ZX B Z) (hba : (ba, bar dA n0 gb) ∈ F) (hsb : SBis gb n0 lw) (hbt : byt lw) (hn0 : n0 < 400000) (hl4 : lw.length ≤ 4096) (hnx : nx ≤ lw.length) (hn : n < 200000) (hsr : SBis g cap lr) (hcap : 64 ≤ cap) (hlr : lr.length < 200000) (hcm : cap < 500000) (hnl : lw.length - nx < n) :
    CtX (S := Unit) (SX := Nat × (Nat → Value)) l D dA B Z yX14_put cX14_put 3 none 8 1 7 [.ref pk, .ref r, .int (nI n)] ([(pk, .inr (11, [.ref ba, .int (nI lw.length), .int (nI nx), .int (nI pl), .int (nI kd), va_rf bo, .ref r])), (r, .inr (1, [.ref b, .int (nI lr.length)])), (b, bar dA cap g)] ++ F) (fun _ => False) (fun _ => none) (fun _ => [(pk, .inr (11, [.ref ba, .int (nI lw.length), .int (nI nx), .int (nI pl), .int (nI kd), va_rf bo, .ref r])), (r, .inr (1, [.ref b, .int (nI lr.length)])), (b, bar dA cap g)] ++ F) (fun _ => True) (fun u => u.1) (fun _ => "SignetRing$Fault") (fun u => [(pk, .inr (11, [.ref ba, .int (nI lw.length), .int (nI nx), .int (nI pl), .int (nI kd), va_rf bo, .ref r])), (r, .inr (1, [.ref b, .int (nI lr.length)])), (b, bar dA cap g)] ++ (F ++ [(u.1, .inr (10, fts u.2 (-1 - nI pl)))])) := by
  refine CtX.mk2 (by decide) (Nat.le_of_ble_eq_true rfl) hZ ?_
  intro p e R s m args below meth c ls Q C hr hlocks hin hex hQ hl h
  have C0 := C
  obtain ⟨hx, hb, hml, hown, hts, -⟩ := C0
  have hl : lv_has ls 3 [(0, .ref pk), (1, .ref r), (2, .int (nI n))] := hl
  have hsl := hsb.1
  refine lv_iload_n hx hb dX14_put_0 rfl (lv_at hl 2 rfl) ?_
  refine lv_aload_n hx hb dX14_put_1 rfl (lv_at hl 0 rfl) ?_
  refine o_get C h (RC := RX14) (T := TX14) (N := 7) (List.mem_of_getElem? (i := 0) rfl) rfl in_X14 1 (by decide) q1027 rfl (v := .int (nI lw.length)) rfl dX14_put_2 ?_
  refine lv_aload_n hx hb dX14_put_5 rfl (lv_at hl 0 rfl) ?_
  refine o_get C h (RC := RX14) (T := TX14) (N := 7) (List.mem_of_getElem? (i := 0) rfl) rfl in_X14 2 (by decide) q1028 rfl (v := .int (nI nx)) rfl dX14_put_6 ?_
  refine lv_isub hx hb dX14_put_9 (n_top (y := nI (lw.length - nx)) (pk_sub (by omega)) ?_)
  refine n_icmp_le (tgt := 18) hx hb (by omega) (by omega) dX14_put_10 (by decide) (fun c10 => by exfalso; omega) (fun c10 => ?_)
  refine lv_aload_n hx hb dX14_put_13 rfl (lv_at hl 0 rfl) ?_
  refine call_VR (As := []) (rest := []) (n := 0) C h (c14_fault l D dA B Z hZ _ pk ba lw.length nx pl kd r bo hlt hzx (List.mem_of_getElem? (i := 0) rfl)) (lw_V q1063 q1064 q1065 q162 q1066) (by decide +kernel) (o_recv C h (RC := RX14) (T := TX14) (N := 7) (List.mem_of_getElem? (i := 0) rfl) rfl) (by decide) (by decide) rfl hl rfl (Nat.le_of_ble_eq_true rfl) dX14_put_14 (by omega) (fun u9 H locs _ h => ?_)
  obtain ⟨q9, x9⟩ := u9
  have h : Wd D B s ([(q9, .inr (10, fts x9 (-1 - nI pl)))] ++ ([(pk, .inr (11, [.ref ba, .int (nI lw.length), .int (nI nx), .int (nI pl), .int (nI kd), va_rf bo, .ref r])), (r, .inr (1, [.ref b, .int (nI lr.length)])), (b, bar dA cap g)] ++ F)) H locs := h
  have h : Wd D B s ([(q9, .inr (10, fts x9 (-1 - nI pl))), (pk, .inr (11, [.ref ba, .int (nI lw.length), .int (nI nx), .int (nI pl), .int (nI kd), va_rf bo, .ref r])), (r, .inr (1, [.ref b, .int (nI lr.length)])), (b, bar dA cap g)] ++ F) H locs := h
  subst hQ
  have h : Wd D B s ([(pk, .inr (11, [.ref ba, .int (nI lw.length), .int (nI nx), .int (nI pl), .int (nI kd), va_rf bo, .ref r])), (r, .inr (1, [.ref b, .int (nI lr.length)])), (b, bar dA cap g)] ++ (F ++ [(q9, .inr (10, fts x9 (-1 - nI pl)))])) H locs := Wd.toLast h
  exact x_athrow C hex hlocks h (List.mem_append_right _ (List.mem_append_right _ List.mem_cons_self)) rfl (q9, x9) rfl rfl trivial rfl (by omega) (by omega) dX14_put_17
