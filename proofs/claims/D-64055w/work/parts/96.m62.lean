set_option maxRecDepth 100000

theorem sb_small : ∀ k, k < 128 → nI k = sb_b k := by decide +kernel
theorem sb_is {z k : Nat} (hz : z < 256) (hk : k < 128) : sb_b z = nI k ↔ z = k := by
  rw [sb_small k hk]
  exact ⟨fun q => sb_inj hz (by omega) q, fun q => by rw [q]⟩

set_option maxHeartbeats 400000 in
set_option maxRecDepth 100000 in
theorem c17_isOurs (l : Launch) (D : va_G) (dA : Nat → ClassId) (B : Nat) (Z : State → Prop) (hZ : Stab B Z) (ws : va_W) (a : Nat) (la : List Nat) (hm : (a, bal dA la) ∈ ws) (h1 : la.length < 1000000) (hA : byt la) (h3 : 0 < la.length) :
    Ct (S := Unit) l D dA B Z yX17_isOurs cX17_isOurs 1 (some .boolean) 1 0 0 [.ref a] (ws) (fun _ => True) (fun _ => some (.int (bZ (oursL la)))) (fun _ => ws) := by
  refine Ct.mk2 (by decide) (Nat.le_of_ble_eq_true rfl) hZ ?_
  intro p e R s m args below meth c ls Q C hr hlocks hin hQ hl h
  have C0 := C
  obtain ⟨hx, hb, hml, hown, hts, -⟩ := C0
  have hl : lv_has ls 1 [(0, .ref a)] := hl
  refine lv_aload_n hx hb dX17_isOurs_0 rfl (lv_at hl 0 rfl) ?_
  refine lv_iconst (v := nI 0) hx hb dX17_isOurs_1 (by decide) ?_
  refine n_bald C h (v := (gD la) 0) (hm) (show 0 < la.length by omega) (by omega) rfl dX17_isOurs_2 ?_
  refine lv_iconst (v := nI 4) hx hb dX17_isOurs_3 (by decide) ?_
  refine lv_icmp_ne (tgt := 39) hx hb dX17_isOurs_4 (by decide) (fun c4 => ?_) (fun c4 => ?_)
  · have d4 : ¬ gD la 0 = 4 := fun z => c4 ((sb_is (byt_gD hA 0) (by decide)).mpr z)
    refine lv_iconst (v := nI 0) hx hb dX17_isOurs_39 (by decide) ?_
    subst hQ
    have hfin : oursL la = false := by simp [oursL, d4]
    refine n_top (y := bZ false) rfl ?_
    exact ret_z C hr hlocks h () trivial (by rw [hfin]) rfl (by omega) (by omega) dX17_isOurs_40
  · have d4 : gD la 0 = 4 := (sb_is (byt_gD hA 0) (by decide)).mp c4
    refine lv_aload_n hx hb dX17_isOurs_7 rfl (lv_at hl 0 rfl) ?_
    refine n_balen C h (hm) dX17_isOurs_8 ?_
    refine lv_iconst (v := nI 4) hx hb dX17_isOurs_9 (by decide) ?_
    refine n_icmp_lt (tgt := 35) hx hb (by omega) (by omega) dX17_isOurs_10 (by decide) (fun c10 => ?_) (fun c10 => ?_)
    · refine lv_iconst (v := nI 1) hx hb dX17_isOurs_35 (by decide) ?_
      refine lv_goto (tgt := 40) hx hb dX17_isOurs_36 (by decide) ?_
      subst hQ
      have hfin : oursL la = true := by simp [oursL, d4, c10]
      refine n_top (y := bZ true) rfl ?_
      exact ret_z C hr hlocks h () trivial (by rw [hfin]) rfl (by omega) (by omega) dX17_isOurs_40
    · have d10 : ¬ la.length < 4 := by omega
      refine lv_aload_n hx hb dX17_isOurs_13 rfl (lv_at hl 0 rfl) ?_
      refine lv_iconst (v := nI 2) hx hb dX17_isOurs_14 (by decide) ?_
      refine n_bald C h (v := (gD la) 2) (hm) (show 2 < la.length by omega) (by omega) rfl dX17_isOurs_15 ?_
      refine lv_iconst (v := nI 1) hx hb dX17_isOurs_16 (by decide) ?_
      refine lv_icmp_ne (tgt := 39) hx hb dX17_isOurs_17 (by decide) (fun c17 => ?_) (fun c17 => ?_)
      · have d17 : ¬ gD la 2 = 1 := fun z => c17 ((sb_is (byt_gD hA 2) (by decide)).mpr z)
        refine lv_iconst (v := nI 0) hx hb dX17_isOurs_39 (by decide) ?_
        subst hQ
        have hfin : oursL la = false := by simp [oursL, d4, d10, d17]
        refine n_top (y := bZ false) rfl ?_
        exact ret_z C hr hlocks h () trivial (by rw [hfin]) rfl (by omega) (by omega) dX17_isOurs_40
      · have d17 : gD la 2 = 1 := (sb_is (byt_gD hA 2) (by decide)).mp c17
        refine lv_aload_n hx hb dX17_isOurs_20 rfl (lv_at hl 0 rfl) ?_
        refine lv_iconst (v := nI 3) hx hb dX17_isOurs_21 (by decide) ?_
        refine n_bald C h (v := (gD la) 3) (hm) (show 3 < la.length by omega) (by omega) rfl dX17_isOurs_22 ?_
        refine lv_iconst (v := nI 2) hx hb dX17_isOurs_23 (by decide) ?_
        refine lv_icmp_eq (tgt := 35) hx hb dX17_isOurs_24 (by decide) (fun c24 => ?_) (fun c24 => ?_)
        · have d24 : gD la 3 = 2 := (sb_is (byt_gD hA 3) (by decide)).mp c24
          refine lv_iconst (v := nI 1) hx hb dX17_isOurs_35 (by decide) ?_
          refine lv_goto (tgt := 40) hx hb dX17_isOurs_36 (by decide) ?_
          subst hQ
          have hfin : oursL la = true := by simp [oursL, d4, d10, d17, d24]
          refine n_top (y := bZ true) rfl ?_
          exact ret_z C hr hlocks h () trivial (by rw [hfin]) rfl (by omega) (by omega) dX17_isOurs_40
        · have d24 : ¬ gD la 3 = 2 := fun z => c24 ((sb_is (byt_gD hA 3) (by decide)).mpr z)
          refine lv_aload_n hx hb dX17_isOurs_27 rfl (lv_at hl 0 rfl) ?_
          refine lv_iconst (v := nI 3) hx hb dX17_isOurs_28 (by decide) ?_
          refine n_bald C h (v := (gD la) 3) (hm) (show 3 < la.length by omega) (by omega) rfl dX17_isOurs_29 ?_
          refine lv_bipush (v := nI 8) hx hb dX17_isOurs_30 (by decide) ?_
          refine lv_icmp_ne (tgt := 39) hx hb dX17_isOurs_32 (by decide) (fun c32 => ?_) (fun c32 => ?_)
          · have d32 : ¬ gD la 3 = 8 := fun z => c32 ((sb_is (byt_gD hA 3) (by decide)).mpr z)
            refine lv_iconst (v := nI 0) hx hb dX17_isOurs_39 (by decide) ?_
            subst hQ
            have hfin : oursL la = false := by simp [oursL, d4, d10, d17, d24, d32]
            refine n_top (y := bZ false) rfl ?_
            exact ret_z C hr hlocks h () trivial (by rw [hfin]) rfl (by omega) (by omega) dX17_isOurs_40
          · have d32 : gD la 3 = 8 := (sb_is (byt_gD hA 3) (by decide)).mp c32
            refine lv_iconst (v := nI 1) hx hb dX17_isOurs_35 (by decide) ?_
            refine lv_goto (tgt := 40) hx hb dX17_isOurs_36 (by decide) ?_
            subst hQ
            have hfin : oursL la = true := by simp [oursL, d4, d10, d17, d24, d32]
            refine n_top (y := bZ true) rfl ?_
            exact ret_z C hr hlocks h () trivial (by rw [hfin]) rfl (by omega) (by omega) dX17_isOurs_40
set_option maxHeartbeats 400000 in
set_option maxRecDepth 100000 in
theorem c18_seal (l : Launch) (D : va_G) (dA : Nat → ClassId) (B : Nat) (Z : State → Prop) (hZ : Stab B Z) (F : va_W) (k9 se tx sz : Nat)  :
    Ct (S := Unit) l D dA B Z yX18_seal cX18_seal 1 (some ((.object "SignetRing$Seal"))) 1 0 0 [.ref k9] ([(k9, .inr (15, [.ref se, .ref tx, .int (nI sz)]))] ++ F) (fun _ => True) (fun _ => some (.ref se)) (fun _ => [(k9, .inr (15, [.ref se, .ref tx, .int (nI sz)]))] ++ F) := by
  refine Ct.mk2 (by decide) (Nat.le_of_ble_eq_true rfl) hZ ?_
  intro p e R s m args below meth c ls Q C hr hlocks hin hQ hl h
  have C0 := C
  obtain ⟨hx, hb, hml, hown, hts, -⟩ := C0
  have hl : lv_has ls 1 [(0, .ref k9)] := hl
  refine lv_aload_n hx hb dX18_seal_0 rfl (lv_at hl 0 rfl) ?_
  refine o_get C h (RC := RX18) (T := TX18) (N := 3) (List.mem_of_getElem? (i := 0) rfl) rfl in_X18 0 (by decide) q1476 rfl (v := .ref se) rfl dX18_seal_1 ?_
  subst hQ
  exact ret_a C hr (Or.inl ⟨_, rfl⟩) hlocks h () trivial (Or.inr ⟨_, rfl⟩) rfl rfl (by omega) (by omega) dX18_seal_4
set_option maxHeartbeats 400000 in
set_option maxRecDepth 100000 in
theorem c18_text (l : Launch) (D : va_G) (dA : Nat → ClassId) (B : Nat) (Z : State → Prop) (hZ : Stab B Z) (F : va_W) (k9 se tx sz : Nat)  :
    Ct (S := Unit) l D dA B Z yX18_text cX18_text 1 (some ((.array .byte))) 1 0 0 [.ref k9] ([(k9, .inr (15, [.ref se, .ref tx, .int (nI sz)]))] ++ F) (fun _ => True) (fun _ => some (.ref tx)) (fun _ => [(k9, .inr (15, [.ref se, .ref tx, .int (nI sz)]))] ++ F) := by
  refine Ct.mk2 (by decide) (Nat.le_of_ble_eq_true rfl) hZ ?_
  intro p e R s m args below meth c ls Q C hr hlocks hin hQ hl h
  have C0 := C
  obtain ⟨hx, hb, hml, hown, hts, -⟩ := C0
  have hl : lv_has ls 1 [(0, .ref k9)] := hl
  refine lv_aload_n hx hb dX18_text_0 rfl (lv_at hl 0 rfl) ?_
  refine o_get C h (RC := RX18) (T := TX18) (N := 3) (List.mem_of_getElem? (i := 0) rfl) rfl in_X18 1 (by decide) q1477 rfl (v := .ref tx) rfl dX18_text_1 ?_
  subst hQ
  exact ret_a C hr (Or.inr ⟨_, rfl⟩) hlocks h () trivial (Or.inr ⟨_, rfl⟩) rfl rfl (by omega) (by omega) dX18_text_4
set_option maxHeartbeats 400000 in
set_option maxRecDepth 100000 in
theorem c18_size (l : Launch) (D : va_G) (dA : Nat → ClassId) (B : Nat) (Z : State → Prop) (hZ : Stab B Z) (F : va_W) (k9 se tx sz : Nat)  :
    Ct (S := Unit) l D dA B Z yX18_size cX18_size 1 (some .int) 1 0 0 [.ref k9] ([(k9, .inr (15, [.ref se, .ref tx, .int (nI sz)]))] ++ F) (fun _ => True) (fun _ => some (.int (nI sz))) (fun _ => [(k9, .inr (15, [.ref se, .ref tx, .int (nI sz)]))] ++ F) := by
  refine Ct.mk2 (by decide) (Nat.le_of_ble_eq_true rfl) hZ ?_
  intro p e R s m args below meth c ls Q C hr hlocks hin hQ hl h
  have C0 := C
  obtain ⟨hx, hb, hml, hown, hts, -⟩ := C0
  have hl : lv_has ls 1 [(0, .ref k9)] := hl
  refine lv_aload_n hx hb dX18_size_0 rfl (lv_at hl 0 rfl) ?_
  refine o_get C h (RC := RX18) (T := TX18) (N := 3) (List.mem_of_getElem? (i := 0) rfl) rfl in_X18 2 (by decide) q1478 rfl (v := .int (nI sz)) rfl dX18_size_1 ?_
  subst hQ
  exact ret_i C hr hlocks h () trivial rfl rfl (by omega) (by omega) dX18_size_4
set_option maxHeartbeats 400000 in
set_option maxRecDepth 100000 in
theorem c18_init (l : Launch) (D : va_G) (dA : Nat → ClassId) (B : Nat) (Z : State → Prop) (hZ : Stab B Z) (F : va_W) (k9 se tx sz : Nat)  :
    Ct (S := Unit) l D dA B Z yX18_init cX18_init 4 none 2 0 0 [.ref k9, .ref se, .ref tx, .int (nI sz)] ([(k9, .inr (15, [.null, .null, .int 0]))] ++ F) (fun _ => True) (fun _ => none) (fun _ => [(k9, .inr (15, [.ref se, .ref tx, .int (nI sz)]))] ++ F) := by
  refine Ct.mk2 (by decide) (Nat.le_of_ble_eq_true rfl) hZ ?_
  intro p e R s m args below meth c ls Q C hr hlocks hin hQ hl h
  have C0 := C
  obtain ⟨hx, hb, hml, hown, hts, -⟩ := C0
  have hl : lv_has ls 4 [(0, .ref k9), (1, .ref se), (2, .ref tx), (3, .int (nI sz))] := hl
  refine lv_aload_n hx hb dX18_init_0 rfl (lv_at hl 0 rfl) ?_
  refine o_init C h q1475 hl.1 (by decide) (Nat.le_of_ble_eq_true rfl) dX18_init_1 ?_
  refine lv_aload_n hx hb dX18_init_4 rfl (lv_at hl 0 rfl) ?_
  refine lv_aload_n hx hb dX18_init_5 rfl (lv_at hl 1 rfl) ?_
  refine o_putF C h 0 (RC := RX18) (T := TX18) (N := 3) (ws' := [(k9, .inr (15, [.ref se, .null, .int 0]))] ++ F) rfl rfl in_X18 tyX18_ok nmX18 0 (by decide) q1476 rfl rfl (hin rfl) rfl (v := .ref se) rfl rfl (Nat.le_of_ble_eq_true rfl) rfl dX18_init_6 (fun H locs h => ?_)
  refine lv_aload_n hx hb dX18_init_9 rfl (lv_at hl 0 rfl) ?_
  refine lv_aload_n hx hb dX18_init_10 rfl (lv_at hl 2 rfl) ?_
  refine o_putF C h 0 (RC := RX18) (T := TX18) (N := 3) (ws' := [(k9, .inr (15, [.ref se, .ref tx, .int 0]))] ++ F) rfl rfl in_X18 tyX18_ok nmX18 1 (by decide) q1477 rfl rfl (hin rfl) rfl (v := .ref tx) rfl rfl (Nat.le_of_ble_eq_true rfl) rfl dX18_init_11 (fun H locs h => ?_)
  refine lv_aload_n hx hb dX18_init_14 rfl (lv_at hl 0 rfl) ?_
  refine lv_iload_n hx hb dX18_init_15 rfl (lv_at hl 3 rfl) ?_
  refine o_putF C h 0 (RC := RX18) (T := TX18) (N := 3) (ws' := [(k9, .inr (15, [.ref se, .ref tx, .int (nI sz)]))] ++ F) rfl rfl in_X18 tyX18_ok nmX18 2 (by decide) q1478 rfl rfl (hin rfl) rfl (v := .int (nI sz)) rfl rfl (Nat.le_of_ble_eq_true rfl) rfl dX18_init_16 (fun H locs h => ?_)
  subst hQ
  exact ret_v C hr hlocks h () trivial rfl rfl (by omega) (by omega) dX18_init_19
