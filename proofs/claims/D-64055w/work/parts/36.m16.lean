set_option maxRecDepth 100000
theorem dv_X1 : ∀ j, j < 14 → defaultValue (tyX1 j) = vp_V [.null, .int 0, .null, .null, .null, .null, .null, .null, .null, .null, .null, .null, .null, .null] j := by
  intro j hj
  rcases j with _ | _ | _ | _ | _ | _ | _ | _ | _ | _ | _ | _ | _ | _ | j
  all_goals first | rfl | (exfalso; omega)
theorem dv_X2 : ∀ j, j < 2 → defaultValue (tyX2 j) = vp_V [.null, .int 0] j := by
  intro j hj
  rcases j with _ | _ | j
  all_goals first | rfl | (exfalso; omega)
theorem dv_X4 : ∀ j, j < 5 → defaultValue (tyX4 j) = vp_V [.null, .null, .null, .long 0, .null] j := by
  intro j hj
  rcases j with _ | _ | _ | _ | _ | j
  all_goals first | rfl | (exfalso; omega)
theorem dv_X5 : ∀ j, j < 6 → defaultValue (tyX5 j) = vp_V [.null, .null, .null, .long 0, .null, .null] j := by
  intro j hj
  rcases j with _ | _ | _ | _ | _ | _ | j
  all_goals first | rfl | (exfalso; omega)
theorem dv_X6 : ∀ j, j < 6 → defaultValue (tyX6 j) = vp_V [.null, .null, .null, .null, .int 0, .int 0] j := by
  intro j hj
  rcases j with _ | _ | _ | _ | _ | _ | j
  all_goals first | rfl | (exfalso; omega)
theorem dv_X9 : ∀ j, j < 4 → defaultValue (tyX9 j) = vp_V [.null, .null, .null, .null] j := by
  intro j hj
  rcases j with _ | _ | _ | _ | j
  all_goals first | rfl | (exfalso; omega)
theorem dv_X10 : ∀ j, j < 2 → defaultValue (tyX10 j) = vp_V [.null, .null] j := by
  intro j hj
  rcases j with _ | _ | j
  all_goals first | rfl | (exfalso; omega)
theorem dv_X11 : ∀ j, j < 2 → defaultValue (tyX11 j) = vp_V [.null, .null] j := by
  intro j hj
  rcases j with _ | _ | j
  all_goals first | rfl | (exfalso; omega)
theorem dv_X12 : ∀ j, j < 5 → defaultValue (tyX12 j) = vp_V [.null, .int 0, .int 0, .int 0, .int 0] j := by
  intro j hj
  rcases j with _ | _ | _ | _ | _ | j
  all_goals first | rfl | (exfalso; omega)
theorem dv_X13 : ∀ j, j < 7 → defaultValue (tyX13 j) = vp_V [.null, .null, .null, .null, .null, .int 0, .int 0] j := by
  intro j hj
  rcases j with _ | _ | _ | _ | _ | _ | _ | j
  all_goals first | rfl | (exfalso; omega)
theorem dv_X14 : ∀ j, j < 7 → defaultValue (tyX14 j) = vp_V [.null, .int 0, .int 0, .int 0, .int 0, .null, .null] j := by
  intro j hj
  rcases j with _ | _ | _ | _ | _ | _ | _ | j
  all_goals first | rfl | (exfalso; omega)
theorem dv_X15 : ∀ j, j < 3 → defaultValue (tyX15 j) = vp_V [.null, .int 0, .int (bZ false)] j := by
  intro j hj
  rcases j with _ | _ | _ | j
  all_goals first | rfl | (exfalso; omega)
theorem dv_X16 : ∀ j, j < 6 → defaultValue (tyX16 j) = vp_V [.null, .long 0, .null, .null, .null, .null] j := by
  intro j hj
  rcases j with _ | _ | _ | _ | _ | _ | j
  all_goals first | rfl | (exfalso; omega)
theorem dv_X17 : ∀ j, j < 19 → defaultValue (tyX17 j) = vp_V [.null, .int 0, .int 0, .int 0, .int 0, .null, .long 0, .long 0, .long 0, .null, .null, .int 0, .int 0, .null, .int (bZ false), .int 0, .int (bZ false), .int (bZ false), .int (bZ false)] j := by
  intro j hj
  rcases j with _ | _ | _ | _ | _ | _ | _ | _ | _ | _ | _ | _ | _ | _ | _ | _ | _ | _ | _ | j
  all_goals first | rfl | (exfalso; omega)
theorem dv_X18 : ∀ j, j < 3 → defaultValue (tyX18 j) = vp_V [.null, .null, .int 0] j := by
  intro j hj
  rcases j with _ | _ | _ | j
  all_goals first | rfl | (exfalso; omega)
theorem dv_J2 : ∀ j, j < 3 → defaultValue (tyJ2 j) = vp_V [.int 0, .null, .int 0] j := by
  intro j hj
  rcases j with _ | _ | _ | j
  all_goals first | rfl | (exfalso; omega)
theorem dv_J13 : ∀ j, j < 4 → defaultValue (tyJ13 j) = vp_V [.null, .int 0, .int 0, .int (bZ false)] j := by
  intro j hj
  rcases j with _ | _ | _ | _ | j
  all_goals first | rfl | (exfalso; omega)
theorem dv_J12 : ∀ j, j < 4 → defaultValue (tyJ12 j) = vp_V [.null, .int 0, .int (bZ false), .int 0] j := by
  intro j hj
  rcases j with _ | _ | _ | _ | j
  all_goals first | rfl | (exfalso; omega)
set_option maxHeartbeats 400000 in
set_option maxRecDepth 100000 in
theorem cJ_preCheck (l : Launch) (D : va_G) (dA : Nat → ClassId) (B : Nat) (Z : State → Prop) (hZ : Stab B Z) (ws : va_W) (i n : Nat) (o : Option Nat) (h1 : i < n) (h2 : n < 2147483648) :
    Ct (S := Unit) l D dA B Z yJ4_checkIndex cJ4_checkIndex 3 (some .int) 1 0 0 [.int (nI i), .int (nI n), va_rf o] (ws) (fun _ => True) (fun _ => some (.int (nI i))) (fun _ => ws) := by
  refine Ct.mk2 (by decide) (by cases o <;> exact Nat.le_of_ble_eq_true rfl) hZ ?_
  intro p e R s m args below meth c ls Q C hr hlocks hin hQ hl h
  have C0 := C
  obtain ⟨hx, hb, hml, hown, hts, -⟩ := C0
  have hl : lv_has ls 3 [(0, .int (nI i)), (1, .int (nI n)), (2, va_rf o)] := hl
  refine lv_iload_n hx hb dJ4_checkIndex_0 rfl (lv_at hl 0 rfl) ?_
  refine n_if_lt (tgt := 9) hx hb (by omega) dJ4_checkIndex_1 (by decide) ?_
  refine lv_iload_n hx hb dJ4_checkIndex_4 rfl (lv_at hl 0 rfl) ?_
  refine lv_iload_n hx hb dJ4_checkIndex_5 rfl (lv_at hl 1 rfl) ?_
  refine n_icmp_lt (tgt := 16) hx hb (by omega) (by omega) dJ4_checkIndex_6 (by decide) (fun c6 => ?_) (fun c6 => by exfalso; omega)
  refine lv_iload_n hx hb dJ4_checkIndex_16 rfl (lv_at hl 0 rfl) ?_
  subst hQ
  exact ret_i C hr hlocks h () trivial rfl rfl (by omega) (by omega) dJ4_checkIndex_17
set_option maxHeartbeats 400000 in
set_option maxRecDepth 100000 in
theorem cJ_strCheck (l : Launch) (D : va_G) (dA : Nat → ClassId) (B : Nat) (Z : State → Prop) (hZ : Stab B Z) (ws : va_W) (i n : Nat) (hzs : ZS dA B Z) (h1 : i < n) (h2 : n < 2147483648) :
    Ct (S := Unit) l D dA B Z yJ13_checkIndex cJ13_checkIndex 2 none 2 0 0 [.int (nI i), .int (nI n)] (ws) (fun _ => True) (fun _ => none) (fun _ => ws) := by
  refine Ct.mk2 (by decide) (Nat.le_of_ble_eq_true rfl) hZ ?_
  intro p e R s m args below meth c ls Q C hr hlocks hin hQ hl h
  have C0 := C
  obtain ⟨hx, hb, hml, hown, hts, -⟩ := C0
  have hl : lv_has ls 2 [(0, .int (nI i)), (1, .int (nI n))] := hl
  obtain ⟨oF, hoF9⟩ := hzs.2.1
  refine lv_iload_n hx hb dJ13_checkIndex_0 rfl (lv_at hl 0 rfl) ?_
  refine lv_iload_n hx hb dJ13_checkIndex_1 rfl (lv_at hl 1 rfl) ?_
  refine z_gets C h hoF9 q770 rfl dJ13_checkIndex_2 ?_
  refine call_S (As := [.int (nI i), .int (nI n), va_rf oF]) (rest := []) (n := 3) C h (cJ_preCheck l D dA B Z hZ ws i n oF h1 h2) (lw_S q964 q372 q140 q373) (by decide +kernel) (by decide) (by decide) rfl hl rfl (Nat.le_of_ble_eq_true rfl) dJ13_checkIndex_5 (by omega) (fun _ H locs _ h => ?_)
  refine lv_pop hx hb dJ13_checkIndex_8 rfl ?_
  subst hQ
  exact ret_v C hr hlocks h () trivial rfl rfl (by omega) (by omega) dJ13_checkIndex_9
set_option maxHeartbeats 400000 in
set_option maxRecDepth 100000 in
theorem cJ_coder (l : Launch) (D : va_G) (dA : Nat → ClassId) (B : Nat) (Z : State → Prop) (hZ : Stab B Z) (ws : va_W) (a v : Nat) (lt : List Nat) (hs : StrV dA B Z ws a v lt) (hlb : byt lt) (hll : lt.length < 1000000) (hzs : ZS dA B Z) :
    Ct (S := Unit) l D dA B Z yJ13_coder cJ13_coder 1 (some .byte) 1 0 0 [.ref a] (ws) (fun _ => True) (fun _ => some (.int (nI 0))) (fun _ => ws) := by
  refine Ct.mk2 (by decide) (Nat.le_of_ble_eq_true rfl) hZ ?_
  intro p e R s m args below meth c ls Q C hr hlocks hin hQ hl h
  have C0 := C
  obtain ⟨hx, hb, hml, hown, hts, -⟩ := C0
  have hl : lv_has ls 1 [(0, .ref a)] := hl
  refine z_gets C h hzs.1 q792 rfl dJ13_coder_0 ?_
  refine z_if_eq (tgt := 13) hx hb dJ13_coder_3 (by decide) (fun q => by cases q) (fun _ => ?_)
  refine lv_aload_n hx hb dJ13_coder_6 rfl (lv_at hl 0 rfl) ?_
  refine s_gc C h hs q931 dJ13_coder_7 ?_
  refine lv_goto (tgt := 14) hx hb dJ13_coder_10 (by decide) ?_
  subst hQ
  exact ret_n C hr hlocks h () trivial rfl rfl rfl (by omega) (by omega) dJ13_coder_14
set_option maxHeartbeats 400000 in
set_option maxRecDepth 100000 in
theorem cJ_isL (l : Launch) (D : va_G) (dA : Nat → ClassId) (B : Nat) (Z : State → Prop) (hZ : Stab B Z) (ws : va_W) (a v : Nat) (lt : List Nat) (hs : StrV dA B Z ws a v lt) (hlb : byt lt) (hll : lt.length < 1000000) (hzs : ZS dA B Z) :
    Ct (S := Unit) l D dA B Z yJ13_isLatin1 cJ13_isLatin1 1 (some .boolean) 1 0 0 [.ref a] (ws) (fun _ => True) (fun _ => some (.int (bZ true))) (fun _ => ws) := by
  refine Ct.mk2 (by decide) (Nat.le_of_ble_eq_true rfl) hZ ?_
  intro p e R s m args below meth c ls Q C hr hlocks hin hQ hl h
  have C0 := C
  obtain ⟨hx, hb, hml, hown, hts, -⟩ := C0
  have hl : lv_has ls 1 [(0, .ref a)] := hl
  refine z_gets C h hzs.1 q792 rfl dJ13_isLatin1_0 ?_
  refine z_if_eq (tgt := 17) hx hb dJ13_isLatin1_3 (by decide) (fun q => by cases q) (fun _ => ?_)
  refine lv_aload_n hx hb dJ13_isLatin1_6 rfl (lv_at hl 0 rfl) ?_
  refine s_gc C h hs q931 dJ13_isLatin1_7 ?_
  refine n_if_ne (tgt := 17) hx hb (by omega) dJ13_isLatin1_10 (by decide) (fun c10 => by exfalso; exact absurd rfl c10) (fun c10 => ?_)
  refine lv_iconst (v := nI 1) hx hb dJ13_isLatin1_13 (by decide) ?_
  refine lv_goto (tgt := 18) hx hb dJ13_isLatin1_14 (by decide) ?_
  subst hQ
  refine n_top (y := bZ true) rfl ?_
  exact ret_z C hr hlocks h () trivial rfl rfl (by omega) (by omega) dJ13_isLatin1_18
set_option maxHeartbeats 400000 in
set_option maxRecDepth 100000 in
theorem cJ_len (l : Launch) (D : va_G) (dA : Nat → ClassId) (B : Nat) (Z : State → Prop) (hZ : Stab B Z) (ws : va_W) (a v : Nat) (lt : List Nat) (hs : StrV dA B Z ws a v lt) (hlb : byt lt) (hll : lt.length < 1000000) (hzs : ZS dA B Z) :
    Ct (S := Unit) l D dA B Z yJ13_length cJ13_length 1 (some .int) 2 0 0 [.ref a] (ws) (fun _ => True) (fun _ => some (.int (nI lt.length))) (fun _ => ws) := by
  refine Ct.mk2 (by decide) (Nat.le_of_ble_eq_true rfl) hZ ?_
  intro p e R s m args below meth c ls Q C hr hlocks hin hQ hl h
  have C0 := C
  obtain ⟨hx, hb, hml, hown, hts, -⟩ := C0
  have hl : lv_has ls 1 [(0, .ref a)] := hl
  refine lv_aload_n hx hb dJ13_length_0 rfl (lv_at hl 0 rfl) ?_
  refine s_gv C h hs q930 dJ13_length_1 ?_
  refine s_len C h hs dJ13_length_4 ?_
  refine lv_aload_n hx hb dJ13_length_5 rfl (lv_at hl 0 rfl) ?_
  refine call_VR (As := []) (rest := [.int (nI lt.length)]) (n := 0) C h (cJ_coder l D dA B Z hZ ws a v lt hs hlb hll hzs) (lw_V q788 q789 q790 q156 q791) (by decide +kernel) (s_recv C h hs) (by decide) (by decide) rfl hl rfl (Nat.le_of_ble_eq_true rfl) dJ13_length_6 (by omega) (fun _ H locs _ h => ?_)
  refine n_ishr hx hb dJ13_length_9 ?_
  refine n_top (y := nI lt.length) (shr_z _ (by omega)) ?_
  subst hQ
  exact ret_i C hr hlocks h () trivial rfl rfl (by omega) (by omega) dJ13_length_10
set_option maxHeartbeats 400000 in
set_option maxRecDepth 100000 in
theorem cJ_charL (l : Launch) (D : va_G) (dA : Nat → ClassId) (B : Nat) (Z : State → Prop) (hZ : Stab B Z) (ws : va_W) (i : Nat) (a v : Nat) (lt : List Nat) (hs : StrV dA B Z ws a v lt) (hlb : byt lt) (hll : lt.length < 1000000) (hzs : ZS dA B Z) (hi : i < lt.length) :
    Ct (S := Unit) l D dA B Z yJ15_charAt cJ15_charAt 2 (some .char) 3 0 0 [.ref v, .int (nI i)] (ws) (fun _ => True) (fun _ => some (.int (nI (gD lt i)))) (fun _ => ws) := by
  refine Ct.mk2 (by decide) (Nat.le_of_ble_eq_true rfl) hZ ?_
  intro p e R s m args below meth c ls Q C hr hlocks hin hQ hl h
  have C0 := C
  obtain ⟨hx, hb, hml, hown, hts, -⟩ := C0
  have hl : lv_has ls 2 [(0, .ref v), (1, .int (nI i))] := hl
  refine lv_iload_n hx hb dJ15_charAt_0 rfl (lv_at hl 1 rfl) ?_
  refine lv_aload_n hx hb dJ15_charAt_1 rfl (lv_at hl 0 rfl) ?_
  refine s_len C h hs dJ15_charAt_2 ?_
  refine call_S (As := [.int (nI i), .int (nI lt.length)]) (rest := []) (n := 2) C h (cJ_strCheck l D dA B Z hZ ws i lt.length hzs hi (by omega)) (lw_S q961 q962 q156 q963) (by decide +kernel) (by decide) (by decide) rfl hl rfl (Nat.le_of_ble_eq_true rfl) dJ15_charAt_3 (by omega) (fun _ H locs _ h => ?_)
  refine lv_aload_n hx hb dJ15_charAt_6 rfl (lv_at hl 0 rfl) ?_
  refine lv_iload_n hx hb dJ15_charAt_7 rfl (lv_at hl 1 rfl) ?_
  refine s_bald C h hs (i := i) (by omega) (by omega) dJ15_charAt_8 ?_
  refine lv_sipush (v := nI 255) hx hb dJ15_charAt_9 (by decide) ?_
  refine lv_iand hx hb dJ15_charAt_12 ?_
  refine n_top (y := nI (gD lt i)) ((sb_byte _ (byt_gD hlb i)).1) ?_
  refine lv_i2c (v := ((nI (gD lt i)).toUInt32 % 65536).toInt32) hx hb dJ15_charAt_13 rfl ?_
  refine n_top (y := nI (gD lt i)) ((sb_byte _ (byt_gD hlb i)).2.1) ?_
  subst hQ
  exact ret_n C hr hlocks h () trivial (nar_char _ (byt_gD hlb i)) rfl rfl (by omega) (by omega) dJ15_charAt_14
set_option maxHeartbeats 400000 in
set_option maxRecDepth 100000 in
theorem cJ_charAt (l : Launch) (D : va_G) (dA : Nat → ClassId) (B : Nat) (Z : State → Prop) (hZ : Stab B Z) (ws : va_W) (i : Nat) (a v : Nat) (lt : List Nat) (hs : StrV dA B Z ws a v lt) (hlb : byt lt) (hll : lt.length < 1000000) (hzs : ZS dA B Z) (hi : i < lt.length) :
    Ct (S := Unit) l D dA B Z yJ13_charAt cJ13_charAt 2 (some .char) 4 0 0 [.ref a, .int (nI i)] (ws) (fun _ => True) (fun _ => some (.int (nI (gD lt i)))) (fun _ => ws) := by
  refine Ct.mk2 (by decide) (Nat.le_of_ble_eq_true rfl) hZ ?_
  intro p e R s m args below meth c ls Q C hr hlocks hin hQ hl h
  have C0 := C
  obtain ⟨hx, hb, hml, hown, hts, -⟩ := C0
  have hl : lv_has ls 2 [(0, .ref a), (1, .int (nI i))] := hl
  refine lv_aload_n hx hb dJ13_charAt_0 rfl (lv_at hl 0 rfl) ?_
  refine call_VR (As := []) (rest := []) (n := 0) C h (cJ_isL l D dA B Z hZ ws a v lt hs hlb hll hzs) (lw_V q954 q955 q956 q156 q957) (by decide +kernel) (s_recv C h hs) (by decide) (by decide) rfl hl rfl (Nat.le_of_ble_eq_true rfl) dJ13_charAt_1 (by omega) (fun _ H locs _ h => ?_)
  refine z_if_eq (tgt := 16) hx hb dJ13_charAt_4 (by decide) (fun q => by cases q) (fun _ => ?_)
  refine lv_aload_n hx hb dJ13_charAt_7 rfl (lv_at hl 0 rfl) ?_
  refine s_gv C h hs q930 dJ13_charAt_8 ?_
  refine lv_iload_n hx hb dJ13_charAt_11 rfl (lv_at hl 1 rfl) ?_
  refine call_S (As := [.ref v, .int (nI i)]) (rest := []) (n := 2) C h (cJ_charL l D dA B Z hZ ws i a v lt hs hlb hll hzs hi) (lw_S q958 q959 q158 q960) (by decide +kernel) (by decide) (by decide) rfl hl rfl (Nat.le_of_ble_eq_true rfl) dJ13_charAt_12 (by omega) (fun _ H locs _ h => ?_)
  subst hQ
  exact ret_n C hr hlocks h () trivial (nar_char _ (byt_gD hlb i)) rfl rfl (by omega) (by omega) dJ13_charAt_15
