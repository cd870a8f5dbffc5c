set_option maxRecDepth 100000
set_option maxHeartbeats 400000 in
set_option maxRecDepth 100000 in
theorem c7_hashOf (l : Launch) (D : va_G) (dA : Nat → ClassId) (B : Nat) (Z : State → Prop) (hZ : Stab B Z) (h0 : Nat) (ad : Nat → Nat) (M : MS) (F : va_W) (n wh : Nat) (hzR : ∀ U : State, Z U → ∃ t, va_Z "SignetRingModel" "ROUNDS" "[I" (.ref t) (bA B) U U.heap ∧ va_T .int t 64 (fun j => .int (K2 j)) (bA B) U U.heap) (h1 : mI M 20 = nI n) (h2 : n < 29900) (hby : ∀ j, mG M 21 j < 256) (hw : wh < 1000) :
    Ct (S := HU) l D dA B Z yX7_hashOf cX7_hashOf 2 (some .int) 5 0 0 [.ref h0, .int (nI wh)] (mw dA h0 ad M ++ F) (fun u => (∀ j, u.1 j < 256) ∧ u.2.2.2.2.2 = appG (mG M 22) 0 (hash wh (sl (mG M 21) 0 n))) (fun _ => some (.int (nI (hsize wh)))) (fun u => mw dA h0 ad (hM M u) ++ F) := by
  refine Ct.mk2 (by decide) (Nat.le_of_ble_eq_true rfl) hZ ?_
  intro p e R s m args below meth c ls Q C hr hlocks hin hQ hl h
  have C0 := C
  obtain ⟨hx, hb, hml, hown, hts, -⟩ := C0
  have hl : lv_has ls 2 [(0, .ref h0), (1, .int (nI wh))] := hl
  have hb8 : ∀ j, appG (mG M 21) n (pad n) j < 256 := appG_byte hby (fun x hx => pad_byte hx)
  refine lv_iload_n hx hb dX7_hashOf_0 rfl (lv_at hl 1 rfl) ?_
  refine lv_iconst (v := nI 2) hx hb dX7_hashOf_1 (by decide) ?_
  refine n_icmp_ne (tgt := 12) hx hb (by omega) (by omega) dX7_hashOf_2 (by decide) (fun c2 => ?_) (fun c2 => ?_)
  · refine lv_aload_n hx hb dX7_hashOf_12 rfl (lv_at hl 0 rfl) ?_
    refine call_V (As := []) (rest := []) (n := 0) C h (c7_secondHash l D dA B Z hZ h0 ad M F n hzR h1 h2 hby) (lw_V q2292 q2294 qs74 q138 q2295) (by decide +kernel) (ci := 5) rfl rfl mw_mem0 (by decide) (by decide) rfl hl rfl (Nat.le_of_ble_eq_true rfl) dX7_hashOf_13 (by omega) (fun u H locs _ h => ?_)
    rw [hM_two] at h
    refine lv_bipush (v := nI 32) hx hb dX7_hashOf_16 (by decide) ?_
    subst hQ
    exact ret_i C hr hlocks h _ (⟨hb8, by unfold hash; rw [if_neg c2]⟩) (by unfold hsize; rw [if_neg c2]) rfl (by omega) (by omega) dX7_hashOf_18
  · refine lv_aload_n hx hb dX7_hashOf_5 rfl (lv_at hl 0 rfl) ?_
    refine call_V (As := []) (rest := []) (n := 0) C h (c7_firstHash l D dA B Z hZ h0 ad M F n h1 h2 hby) (lw_V q2264 q2266 qs71 q138 q2267) (by decide +kernel) (ci := 5) rfl rfl mw_mem0 (by decide) (by decide) rfl hl rfl (Nat.le_of_ble_eq_true rfl) dX7_hashOf_6 (by omega) (fun u H locs _ h => ?_)
    rw [hM_one] at h
    refine lv_bipush (v := nI 20) hx hb dX7_hashOf_9 (by decide) ?_
    subst hQ
    exact ret_i C hr hlocks h _ (⟨hb8, by unfold hash; rw [if_pos c2]⟩) (by unfold hsize; rw [if_pos c2]) rfl (by omega) (by omega) dX7_hashOf_11
set_option maxHeartbeats 400000 in
set_option maxRecDepth 100000 in
theorem c7_sayKey (l : Launch) (D : va_G) (dA : Nat → ClassId) (B : Nat) (Z : State → Prop) (hZ : Stab B Z) (h0 : Nat) (ad : Nat → Nat) (M : MS) (F : va_W) (a : Nat) (lb : List Nat) (n : Nat) (h1 : mI M 20 = nI n) (hb0 : (a, ial dA lb) ∈ F) (hby : byt lb) (h2 : lb.length ≤ 20000) (h3 : n + 3 + lb.length ≤ 30000) :
    Ct (S := Unit) l D dA B Z yX7_sayKey cX7_sayKey 2 none 3 0 0 [.ref h0, .ref a] (mw dA h0 ad M ++ F) (fun _ => True) (fun _ => none) (fun _ => mw dA h0 ad (apM M 21 20 n (keyMsg lb)) ++ F) := by
  refine Ct.mk2 (by decide) (Nat.le_of_ble_eq_true rfl) hZ ?_
  intro p e R s m args below meth c ls Q C hr hlocks hin hQ hl h
  have C0 := C
  obtain ⟨hx, hb, hml, hown, hts, -⟩ := C0
  have hl : lv_has ls 2 [(0, .ref h0), (1, .ref a)] := hl
  refine lv_aload_n hx hb dX7_sayKey_0 rfl (lv_at hl 0 rfl) ?_
  refine lv_sipush (v := nI 153) hx hb dX7_sayKey_1 (by decide) ?_
  refine call_V (As := [.int (nI 153)]) (rest := []) (n := 1) C h (c7_say l D dA B Z hZ h0 ad M F _ n 153 h1 (by omega) (by decide)) (lw_V q2248 q2250 qs67 q138 q2251) (by decide +kernel) (ci := 5) rfl rfl mw_mem0 (by decide) (by decide) rfl hl rfl (Nat.le_of_ble_eq_true rfl) dX7_sayKey_4 (by omega) (fun _ H locs _ h => ?_)
  refine lv_aload_n hx hb dX7_sayKey_7 rfl (lv_at hl 0 rfl) ?_
  refine lv_aload_n hx hb dX7_sayKey_8 rfl (lv_at hl 1 rfl) ?_
  refine n_alen C h (List.mem_append_right _ hb0) dX7_sayKey_9 ?_
  refine lv_i2l (v := lN lb.length) hx hb dX7_sayKey_10 (nI_l (by omega)) ?_
  refine lv_iconst (v := nI 2) hx hb dX7_sayKey_11 (by decide) ?_
  refine call_V (As := [.long (lN lb.length), .int (nI 2)]) (rest := []) (n := 2) C h (c7_sayNumber l D dA B Z hZ h0 ad (apM M 21 20 n [153]) F lb.length 2 (n + [153].length) rfl (by omega) (by omega) (by simp; omega)) (lw_V q2252 q2254 qs68 q138 q2255) (by decide +kernel) (ci := 5) rfl rfl mw_mem0 (by decide) (by decide) rfl hl rfl (Nat.le_of_ble_eq_true rfl) dX7_sayKey_12 (by omega) (fun _ H locs _ h => ?_)
  rw [apM_app] at h
  refine lv_aload_n hx hb dX7_sayKey_15 rfl (lv_at hl 0 rfl) ?_
  refine lv_aload_n hx hb dX7_sayKey_16 rfl (lv_at hl 1 rfl) ?_
  refine lv_iconst (v := nI 0) hx hb dX7_sayKey_17 (by decide) ?_
  refine lv_aload_n hx hb dX7_sayKey_18 rfl (lv_at hl 1 rfl) ?_
  refine n_alen C h (List.mem_append_right _ hb0) dX7_sayKey_19 ?_
  refine call_V (As := [.ref a, .int (nI 0), .int (nI lb.length)]) (rest := []) (n := 3) C h (c7_sayRow l D dA B Z hZ h0 ad (apM M 21 20 n ([153] ++ be 2 lb.length)) F a lb.length (gD lb) 0 lb.length (n + ([153] ++ be 2 lb.length).length) rfl (fun _ _ => List.mem_append_right _ hb0) (by omega) (by omega) (by omega) (by rw [List.length_append, be_len]; simp; omega) (fun j _ => byt_gD hby j)) (lw_V q2256 q2258 qs69 q138 q2259) (by decide +kernel) (ci := 5) rfl rfl mw_mem0 (by decide) (by decide) rfl hl rfl (Nat.le_of_ble_eq_true rfl) dX7_sayKey_20 (by omega) (fun _ H locs _ h => ?_)
  rw [apM_app, Nat.sub_zero, sl_gD] at h
  subst hQ
  exact ret_v C hr hlocks h () trivial rfl rfl (by omega) (by omega) dX7_sayKey_23
set_option maxHeartbeats 400000 in
set_option maxRecDepth 100000 in
theorem c7_printOf (l : Launch) (D : va_G) (dA : Nat → ClassId) (B : Nat) (Z : State → Prop) (hZ : Stab B Z) (h0 : Nat) (ad : Nat → Nat) (M : MS) (F : va_W) (a : Nat) (lb : List Nat) (hzR : ∀ U : State, Z U → ∃ t, va_Z "SignetRingModel" "ROUNDS" "[I" (.ref t) (bA B) U U.heap ∧ va_T .int t 64 (fun j => .int (K2 j)) (bA B) U U.heap) (hmb : ∀ j, mG M 21 j < 256) (hb0 : (a, ial dA lb) ∈ F) (hby : byt lb) (h2 : lb.length ≤ 20000) :
    Ct (S := Nat × HU) l D dA B Z yX7_printOf cX7_printOf 3 (some ((.array .int))) 6 1 20 [.ref h0, .ref a] (mw dA h0 ad M ++ F) (fun u => (∀ j, u.2.1 j < 256) ∧ u.2.2.2.2.2.2 = appG (mG M 22) 0 (sha1 (keyMsg lb))) (fun u => some (.ref u.1)) (fun u => mw dA h0 ad (hM M u.2) ++ (F ++ [(u.1, ial dA (sha1 (keyMsg lb)))])) := by
  refine Ct.mk2 (by decide) (Nat.le_of_ble_eq_true rfl) hZ ?_
  intro p e R s m args below meth c ls Q C hr hlocks hin hQ hl h
  have C0 := C
  obtain ⟨hx, hb, hml, hown, hts, -⟩ := C0
  have hl : lv_has ls 3 [(0, .ref h0), (1, .ref a)] := hl
  refine lv_aload_n hx hb dX7_printOf_0 rfl (lv_at hl 0 rfl) ?_
  refine lv_iconst (v := nI 0) hx hb dX7_printOf_1 (by decide) ?_
  refine m_pi C h 20 (v := nI 0) (by decide) rfl rfl rfl q1890 rfl rfl dX7_printOf_2 (fun H locs h => ?_)
  refine lv_aload_n hx hb dX7_printOf_5 rfl (lv_at hl 0 rfl) ?_
  refine lv_aload_n hx hb dX7_printOf_6 rfl (lv_at hl 1 rfl) ?_
  refine call_V (As := [.ref a]) (rest := []) (n := 1) C h (c7_sayKey l D dA B Z hZ h0 ad (sI M 20 (nI 0)) F a lb 0 rfl hb0 hby h2 (by omega)) (lw_V q2244 q2246 qs66 q138 q2247) (by decide +kernel) (ci := 5) rfl rfl mw_mem0 (by decide) (by decide) rfl hl rfl (Nat.le_of_ble_eq_true rfl) dX7_printOf_7 (by omega) (fun _ H locs _ h => ?_)
  refine lv_aload_n hx hb dX7_printOf_10 rfl (lv_at hl 0 rfl) ?_
  refine lv_iconst (v := nI 2) hx hb dX7_printOf_11 (by decide) ?_
  refine call_V (As := [.int (nI 2)]) (rest := []) (n := 1) C h (c7_hashOf l D dA B Z hZ h0 ad (apM (sI M 20 (nI 0)) 21 20 0 (keyMsg lb)) F (0 + (keyMsg lb).length) 2 hzR rfl (by simp [keyMsg, be_len]; omega) (show ∀ j, appG (mG M 21) 0 (keyMsg lb) j < 256 from appG_byte hmb (keyMsg_byt hby)) (by decide)) (lw_V q2260 q2262 qs70 q138 q2263) (by decide +kernel) (ci := 5) rfl rfl mw_mem0 (by decide) (by decide) rfl hl rfl (Nat.le_of_ble_eq_true rfl) dX7_printOf_12 (by omega) (fun u H locs hu h => ?_)
  rw [hM_apM, hM_hM, hM_sI, hM_hM] at h
  have hu2 : u.2.2.2.2.2 = appG (mG M 22) 0 (sha1 (keyMsg lb)) := by
    rw [hu.2]
    have e := sl_appG (mG M 21) 0 (keyMsg lb)
    rw [sl_0, List.nil_append] at e
    show appG (mG M 22) 0 (hash 2 (sl (appG (mG M 21) 0 (keyMsg lb)) 0 (0 + (keyMsg lb).length))) = _
    rw [e]; rfl
  refine n_top (y := nI 20) rfl ?_
  refine lv_istore_n (lv' := [(2, .int (nI 20)), (0, .ref h0), (1, .ref a)]) hx hb dX7_printOf_15 rfl hl (by decide) rfl (fun ls hl => ?_)
  refine lv_aload_n hx hb dX7_printOf_16 rfl (lv_at hl 1 rfl) ?_
  refine m_gc C h 22 (by decide) rfl rfl q1892 dX7_printOf_17 ?_
  refine lv_iconst (v := nI 0) hx hb dX7_printOf_20 (by decide) ?_
  refine lv_bipush (v := nI 20) hx hb dX7_printOf_21 (by decide) ?_
  refine call_S (As := [.ref (ad 22), .int (nI 0), .int (nI 20)]) (rest := []) (n := 3) C h (c7_part l D dA B Z hZ _ (ad 22) 32 u.2.2.2.2.2 0 20 (mw_memG (k := 22) (by decide)) (by decide) (by decide)) (lw_S q2208 q2209 q138 q2210) (by decide +kernel) (by decide) (by decide) rfl hl rfl (Nat.le_of_ble_eq_true rfl) dX7_printOf_23 (by omega) (fun q H locs _ h => ?_)
  rw [hu2, sl_app0 (by rw [sha1_len]; decide), List.take_of_length_le (by rw [sha1_len]; decide), List.append_assoc] at h
  subst hQ
  exact ret_a C hr (Or.inr ⟨_, rfl⟩) hlocks h (q, u) (⟨hu.1, hu2⟩) (Or.inr ⟨_, rfl⟩) rfl rfl (by omega) (by omega) dX7_printOf_26
set_option maxHeartbeats 400000 in
set_option maxRecDepth 100000 in
theorem c7_bitsOf (l : Launch) (D : va_G) (dA : Nat → ClassId) (B : Nat) (Z : State → Prop) (hZ : Stab B Z) (ws : va_W) (a n0 : Nat) (g : Nat → Nat) (hm : (a, iar dA n0 g) ∈ ws) (h1 : 0 < n0) (h2 : n0 < 1000000) (h3 : g 0 < 256) :
    Ct (S := Unit) l D dA B Z yX7_bitsOf cX7_bitsOf 3 (some .int) 1 0 0 [.ref a] (ws) (fun _ => True) (fun _ => some (.int (bitsI (g 0) n0))) (fun _ => ws) := by
  refine Ct.mk2 (by decide) (Nat.le_of_ble_eq_true rfl) hZ ?_
  intro p e R s m args below meth c ls Q C hr hlocks hin hQ hl h
  have C0 := C
  obtain ⟨hx, hb, hml, hown, hts, -⟩ := C0
  have hl : lv_has ls 3 [(0, .ref a)] := hl
  refine lv_aload_n hx hb dX7_bitsOf_0 rfl (lv_at hl 0 rfl) ?_
  refine lv_iconst (v := nI 0) hx hb dX7_bitsOf_1 (by decide) ?_
  refine n_iald C h (v := g 0) (hm) (show 0 < n0 by omega) (by omega) rfl dX7_bitsOf_2 ?_
  refine n_if_ne (tgt := 8) hx hb (by omega) dX7_bitsOf_3 (by decide) (fun c3 => ?_) (fun c3 => ?_)
  · refine lv_iconst (v := nI 0) hx hb dX7_bitsOf_8 (by decide) ?_
    refine lv_istore_n (lv' := [(1, .int (nI 0)), (0, .ref a)]) hx hb dX7_bitsOf_9 rfl hl (by decide) rfl (fun ls hl => ?_)
    refine lv_aload_n hx hb dX7_bitsOf_10 rfl (lv_at hl 1 rfl) ?_
    refine lv_iconst (v := nI 0) hx hb dX7_bitsOf_11 (by decide) ?_
    refine n_iald C h (v := g 0) (hm) (show 0 < n0 by omega) (by omega) rfl dX7_bitsOf_12 ?_
    refine lv_istore_n (lv' := [(2, .int (nI (g 0))), (1, .int (nI 0)), (0, .ref a)]) hx hb dX7_bitsOf_13 rfl hl (by decide) rfl (fun ls hl => ?_)
    have loop : ∀ (nn : Nat) (v i : Nat), (v < 256) → (i + blen v = blen (g 0)) → (i ≤ 300) → v < nn → ∀ (H : Heap) (locs : List Loc), Wd D B s (ws) H locs → ∀ (ls : Array Slot), lv_has ls 3 [(2, .int (nI v)), (1, .int (nI i)), (0, .ref a)] → W p l e R s m args below meth c H locs 0 0 Q (F0 m 14 ls []) := by
      intro nn
      induction nn with
      | zero => intro v i  hi0 hi1 hi2 hme; exact absurd hme (Nat.not_lt_zero _)
      | succ nn ih =>
        intro v i  hi0 hi1 hi2 hme H locs h ls hl
        refine lv_iload_n hx hb dX7_bitsOf_14 rfl (lv_at hl 0 rfl) ?_
        refine n_if_le (tgt := 28) hx hb (by omega) dX7_bitsOf_15 (by decide) (fun c15 => ?_) (fun c15 => ?_)
        · refine lv_bipush (v := nI 8) hx hb dX7_bitsOf_28 (by decide) ?_
          refine lv_aload_n hx hb dX7_bitsOf_30 rfl (lv_at hl 2 rfl) ?_
          refine n_alen C h (hm) dX7_bitsOf_31 ?_
          refine lv_imul hx hb dX7_bitsOf_32 (n_top (y := nI (8 * n0)) (pk_mul 8 n0) ?_)
          refine lv_bipush (v := nI 8) hx hb dX7_bitsOf_33 (by decide) ?_
          refine lv_isub hx hb dX7_bitsOf_35 (n_top (y := nI ((8 * n0) - 8)) (pk_sub (by omega)) ?_)
          refine lv_iload_n hx hb dX7_bitsOf_36 rfl (lv_at hl 1 rfl) ?_
          refine lv_iadd hx hb dX7_bitsOf_37 (n_top (y := nI (((8 * n0) - 8) + i)) (nI_add ((8 * n0) - 8) i) ?_)
          subst hQ
          exact ret_i C hr hlocks h () trivial (by
            unfold bitsI
            rw [if_neg c3, ← hi1, c15, blen_0, Nat.add_zero]) rfl (by omega) (by omega) dX7_bitsOf_38
        · refine lv_iinc (v := nI (i + 1)) (lv' := [(1, .int (nI (i + 1))), (2, .int (nI v)), (0, .ref a)]) hx hb dX7_bitsOf_18 hl (k := 1) rfl (nI_add i 1) (by decide) rfl (fun ls hl => ?_)
          refine lv_iload_n hx hb dX7_bitsOf_21 rfl (lv_at hl 1 rfl) ?_
          refine lv_iconst (v := nI 2) hx hb dX7_bitsOf_22 (by decide) ?_
          refine lv_idiv hx hb dX7_bitsOf_23 (by decide) (n_top (y := nI (v / 2)) (pk_div (by omega) (by omega) (by omega)) ?_)
          refine lv_istore_n (lv' := [(2, .int (nI (v / 2))), (1, .int (nI (i + 1))), (0, .ref a)]) hx hb dX7_bitsOf_24 rfl hl (by decide) rfl (fun ls hl => ?_)
          refine lv_goto (tgt := 14) hx hb dX7_bitsOf_25 (by decide) ?_
          exact ih (v / 2) (i + 1) (by omega) (by have := blen_s (v := v) (by omega); omega) (by have := blen_le8 (g 0) h3; have := blen_s (v := v) (by omega); omega) (by omega) _ _ h _ (lv_sub hl [0, 1, 2] rfl)
    exact loop _ _ 0 h3 (by omega) (by omega) (Nat.lt_succ_self _) _ _ h _ (lv_sub hl [0, 1, 2] rfl)
  · refine lv_iconst (v := -1) hx hb dX7_bitsOf_6 (by decide) ?_
    subst hQ
    exact ret_i C hr hlocks h () trivial (by unfold bitsI; rw [if_pos c3]) rfl (by omega) (by omega) dX7_bitsOf_7
set_option maxHeartbeats 400000 in
set_option maxRecDepth 100000 in
theorem c7_isBelow (l : Launch) (D : va_G) (dA : Nat → ClassId) (B : Nat) (Z : State → Prop) (hZ : Stab B Z) (ws : va_W) (a b : Nat) (la lb : List Nat) (hm : (a, ial dA la) ∈ ws) (hm2 : (b, ial dA lb) ∈ ws) (h1 : la.length < 1000000) (h2 : lb.length < 1000000) (hA : byt la) (hB : byt lb) :
    Ct (S := Unit) l D dA B Z yX7_isBelow cX7_isBelow 3 (some .boolean) 1 0 0 [.ref a, .ref b] (ws) (fun _ => True) (fun _ => some (.int (bZ (belowL la lb)))) (fun _ => ws) := by
  refine Ct.mk2 (by decide) (Nat.le_of_ble_eq_true rfl) hZ ?_
  intro p e R s m args below meth c ls Q C hr hlocks hin hQ hl h
  have C0 := C
  obtain ⟨hx, hb, hml, hown, hts, -⟩ := C0
  have hl : lv_has ls 3 [(0, .ref a), (1, .ref b)] := hl
  refine lv_aload_n hx hb dX7_isBelow_0 rfl (lv_at hl 0 rfl) ?_
  refine n_alen C h (hm) dX7_isBelow_1 ?_
  refine lv_aload_n hx hb dX7_isBelow_2 rfl (lv_at hl 1 rfl) ?_
  refine n_alen C h (hm2) dX7_isBelow_3 ?_
  refine n_icmp_eq (tgt := 20) hx hb (by omega) (by omega) dX7_isBelow_4 (by decide) (fun c4 => ?_) (fun c4 => ?_)
  · refine lv_iconst (v := nI 0) hx hb dX7_isBelow_20 (by decide) ?_
    refine lv_istore_n (lv' := [(2, .int (nI 0)), (0, .ref a), (1, .ref b)]) hx hb dX7_isBelow_21 rfl hl (by decide) rfl (fun ls hl => ?_)
    have loop : ∀ (nn : Nat) (i : Nat), (i ≤ la.length) → (lexlt la lb = lexlt (la.drop i) (lb.drop i)) → la.length - i < nn → ∀ (H : Heap) (locs : List Loc), Wd D B s (ws) H locs → ∀ (ls : Array Slot), lv_has ls 3 [(2, .int (nI i)), (0, .ref a), (1, .ref b)] → W p l e R s m args below meth c H locs 0 0 Q (F0 m 22 ls []) := by
      intro nn
      induction nn with
      | zero => intro i  hi0 hi1 hme; exact absurd hme (Nat.not_lt_zero _)
      | succ nn ih =>
        intro i  hi0 hi1 hme H locs h ls hl
        refine lv_iload_n hx hb dX7_isBelow_22 rfl (lv_at hl 0 rfl) ?_
        refine lv_aload_n hx hb dX7_isBelow_23 rfl (lv_at hl 1 rfl) ?_
        refine n_alen C h (hm) dX7_isBelow_24 ?_
        refine n_icmp_ge (tgt := 58) hx hb (by omega) (by omega) dX7_isBelow_25 (by decide) (fun c25 => ?_) (fun c25 => ?_)
        · refine lv_iconst (v := nI 0) hx hb dX7_isBelow_58 (by decide) ?_
          subst hQ
          refine n_top (y := bZ false) rfl ?_
          exact ret_z C hr hlocks h () trivial (by
            unfold belowL; rw [if_pos c4, hi1, List.drop_of_length_le (by omega)]; cases lb.drop i <;> rfl) rfl (by omega) (by omega) dX7_isBelow_59
        · have hda := drop_gD (l := la) (i := i) (by omega)
          have hdb := drop_gD (l := lb) (i := i) (by omega)
          have hba := byt_gD hA i
          have hbb := byt_gD hB i
          refine lv_aload_n hx hb dX7_isBelow_28 rfl (lv_at hl 1 rfl) ?_
          refine lv_iload_n hx hb dX7_isBelow_29 rfl (lv_at hl 0 rfl) ?_
          refine n_iald C h (v := (gD la) i) (hm) (show i < la.length by omega) (by omega) rfl dX7_isBelow_30 ?_
          refine lv_aload_n hx hb dX7_isBelow_31 rfl (lv_at hl 2 rfl) ?_
          refine lv_iload_n hx hb dX7_isBelow_32 rfl (lv_at hl 0 rfl) ?_
          refine n_iald C h (v := (gD lb) i) (hm2) (show i < lb.length by omega) (by omega) rfl dX7_isBelow_33 ?_
          refine n_icmp_eq (tgt := 52) hx hb (by omega) (by omega) dX7_isBelow_34 (by decide) (fun c34 => ?_) (fun c34 => ?_)
          · refine lv_iinc (v := nI (i + 1)) (lv' := [(2, .int (nI (i + 1))), (0, .ref a), (1, .ref b)]) hx hb dX7_isBelow_52 hl (k := 0) rfl (nI_add i 1) (by decide) rfl (fun ls hl => ?_)
            refine lv_goto (tgt := 22) hx hb dX7_isBelow_55 (by decide) ?_
            exact ih (i + 1) (by omega) (by rw [hi1, hda, hdb]; show (if _ = _ then _ else _) = _; rw [if_pos c34]) (by omega) _ _ h _ (lv_sub hl [0, 1, 2] rfl)
          · refine lv_aload_n hx hb dX7_isBelow_37 rfl (lv_at hl 1 rfl) ?_
            refine lv_iload_n hx hb dX7_isBelow_38 rfl (lv_at hl 0 rfl) ?_
            refine n_iald C h (v := (gD la) i) (hm) (show i < la.length by omega) (by omega) rfl dX7_isBelow_39 ?_
            refine lv_aload_n hx hb dX7_isBelow_40 rfl (lv_at hl 2 rfl) ?_
            refine lv_iload_n hx hb dX7_isBelow_41 rfl (lv_at hl 0 rfl) ?_
            refine n_iald C h (v := (gD lb) i) (hm2) (show i < lb.length by omega) (by omega) rfl dX7_isBelow_42 ?_
            refine n_icmp_ge (tgt := 50) hx hb (by omega) (by omega) dX7_isBelow_43 (by decide) (fun c43 => ?_) (fun c43 => ?_)
            · refine lv_iconst (v := nI 0) hx hb dX7_isBelow_50 (by decide) ?_
              subst hQ
              refine n_top (y := bZ false) rfl ?_
              exact ret_z C hr hlocks h () trivial (by
                unfold belowL; rw [if_pos c4, hi1, hda, hdb]
                show some (Value.int (bZ (if _ = _ then _ else _))) = _
                rw [if_neg c34, decide_eq_false (Nat.not_lt.mpr c43)]) rfl (by omega) (by omega) dX7_isBelow_51
            · refine lv_iconst (v := nI 1) hx hb dX7_isBelow_46 (by decide) ?_
              refine lv_goto (tgt := 51) hx hb dX7_isBelow_47 (by decide) ?_
              subst hQ
              refine n_top (y := bZ true) rfl ?_
              exact ret_z C hr hlocks h () trivial (by
                unfold belowL; rw [if_pos c4, hi1, hda, hdb]
                show some (Value.int (bZ (if _ = _ then _ else _))) = _
                rw [if_neg c34, decide_eq_true c43]) rfl (by omega) (by omega) dX7_isBelow_51
    exact loop _ 0 (by omega) rfl (Nat.lt_succ_self _) _ _ h _ (lv_sub hl [0, 1, 2] rfl)
  · refine lv_aload_n hx hb dX7_isBelow_7 rfl (lv_at hl 0 rfl) ?_
    refine n_alen C h (hm) dX7_isBelow_8 ?_
    refine lv_aload_n hx hb dX7_isBelow_9 rfl (lv_at hl 1 rfl) ?_
    refine n_alen C h (hm2) dX7_isBelow_10 ?_
    refine n_icmp_ge (tgt := 18) hx hb (by omega) (by omega) dX7_isBelow_11 (by decide) (fun c11 => ?_) (fun c11 => ?_)
    · refine lv_iconst (v := nI 0) hx hb dX7_isBelow_18 (by decide) ?_
      subst hQ
      refine n_top (y := bZ false) rfl ?_
      exact ret_z C hr hlocks h () trivial (by unfold belowL; rw [if_neg c4, decide_eq_false (Nat.not_lt.mpr c11)]) rfl (by omega) (by omega) dX7_isBelow_19
    · refine lv_iconst (v := nI 1) hx hb dX7_isBelow_14 (by decide) ?_
      refine lv_goto (tgt := 19) hx hb dX7_isBelow_15 (by decide) ?_
      subst hQ
      refine n_top (y := bZ true) rfl ?_
      exact ret_z C hr hlocks h () trivial (by unfold belowL; rw [if_neg c4, decide_eq_true c11]) rfl (by omega) (by omega) dX7_isBelow_19
