set_option maxRecDepth 100000
set_option maxHeartbeats 400000 in
set_option maxRecDepth 100000 in
theorem c1_userH (l : Launch) (D : va_G) (dA : Nat → ClassId) (B : Nat) (Z : State → Prop) (hZ : Stab B Z) (F : va_W) (e0 mi : Nat) (ka a1 na a3 : Nat) (x : LD) (us : List US) (pk pb sz nx pl kd pm q0 : Nat) (bd : List Nat) (u0 : US) (hk : (ka, .inr (6, [.ref a1, .ref na, .ref x.1, .ref a3])) ∈ F) (hU : ∀ u ∈ us, UserIn dA F u.1 u.2.1 u.2.2.1.1) (hpk : (pk, .inr (11, [.ref pb, .int (nI sz), .int (nI nx), .int (nI pl), .int (nI kd), .ref q0, .ref pm])) ∈ F) (hq0 : (q0, bal dA bd) ∈ F) (hbd : byt bd) (hbl : bd.length ≤ 4096) (hA : LIn dA e0 F x (us.map Prod.fst)) (hf : us.find? (fun u : US => decide (u.2.1 = bd)) = some u0) :
    Ct (S := Unit) l D dA B Z yX1_userOf cX1_userOf 4 (some ((.object "SignetRing$User"))) 8 0 0 [.ref ka, .ref pk] (F) (fun _ => True) (fun _ => some (.ref u0.1)) (fun _ => F) := by
  refine Ct.mk2 (by decide) (Nat.le_of_ble_eq_true rfl) hZ ?_
  intro p e R s m args below meth c ls Q C hr hlocks hin hQ hl h
  have C0 := C
  obtain ⟨hx, hb, hml, hown, hts, -⟩ := C0
  have hl : lv_has ls 4 [(0, .ref ka), (1, .ref pk)] := hl
  obtain ⟨ed9, hcl⟩ := hA.cell
  have hln := hA.len
  rw [List.length_map] at hln
  have hlm : (us.map Prod.fst).length = us.length := by rw [List.length_map]
  have hU9 : ∀ u ∈ us, UserIn dA F u.1 u.2.1 u.2.2.1.1 := fun u hu => (hU u hu).sub (fun b q hq => hq) (fun a fs hq => hq)
  refine lv_aload_n hx hb dX1_userOf_0 rfl (lv_at hl 0 rfl) ?_
  refine lv_aload_n hx hb dX1_userOf_1 rfl (lv_at hl 1 rfl) ?_
  refine o_get C h (RC := RX14) (T := TX14) (N := 7) (hpk) rfl in_X14 5 (by decide) q1033 rfl (v := .ref q0) rfl dX1_userOf_2 ?_
  refine call_VR (As := [.ref q0]) (rest := []) (n := 1) C h (c9_user l D dA B Z hZ _ ka a1 na a3 e0 q0 x us bd (hk) hA hU9 (hq0) hbd hbl) (lw_V q1284 q1285 q1286 q142 q1287) (by decide +kernel) (o_recv C h (RC := RX9) (T := TX9) (N := 4) (hk) rfl) (by decide) (by decide) rfl hl rfl (Nat.le_of_ble_eq_true rfl) dX1_userOf_5 (by omega) (fun _ H locs _ h => ?_)
  rw [hf]
  show W p l e R s m args below meth c H locs (0 + 0) (0 + 0) Q (F0 m 8 ls [.ref u0.1])
  refine lv_astore_n (lv' := [(2, .ref u0.1), (0, .ref ka), (1, .ref pk)]) hx hb dX1_userOf_8 rfl hl (by decide) rfl (fun ls hl => ?_)
  refine lv_aload_n hx hb dX1_userOf_9 rfl (lv_at hl 0 rfl) ?_
  refine lv_ifnull hx hb dX1_userOf_10 ?_
  refine lv_aload_n hx hb dX1_userOf_13 rfl (lv_at hl 0 rfl) ?_
  subst hQ
  exact ret_a C hr (Or.inl ⟨_, rfl⟩) hlocks h () trivial (Or.inr ⟨_, rfl⟩) rfl rfl (by omega) (by omega) dX1_userOf_14
set_option maxHeartbeats 400000 in
set_option maxRecDepth 100000 in
theorem c1_userN (l : Launch) (D : va_G) (dA : Nat → ClassId) (B : Nat) (Z : State → Prop) (hZ : Stab B Z) (F : va_W) (e0 mi : Nat) (ka a1 na a3 : Nat) (x : LD) (us : List US) (pk pb sz nx pl kd pm q0 : Nat) (bd : List Nat) (hzs : ZS dA B Z) (hza : ZA B e0 mi Z) (hk : (ka, .inr (6, [.ref a1, .ref na, .ref x.1, .ref a3])) ∈ F) (hU : ∀ u ∈ us, UserIn dA F u.1 u.2.1 u.2.2.1.1) (hpk : (pk, .inr (11, [.ref pb, .int (nI sz), .int (nI nx), .int (nI pl), .int (nI kd), .ref q0, .ref pm])) ∈ F) (hq0 : (q0, bal dA bd) ∈ F) (hbd : byt bd) (hbl : bd.length ≤ 4096) (hAL : ALis x.2.2 (us.map Prod.fst)) (hf : us.find? (fun u : US => decide (u.2.1 = bd)) = none) (hb2 : bd.length ≤ 200) (hu8 : us.length < 8) :
    Ct (S := Nat × Nat × Int32 × Option (Nat × Nat × (Nat → Option Nat)) × va_W) l D dA B Z yX1_userOf cX1_userOf 4 (some ((.object "SignetRing$User"))) 8 3 (2 * us.length + 16) [.ref ka, .ref pk] ((lW dA e0 x us.length ++ F)) (fun u => ALis u.2.2.2.1 (us.map Prod.fst ++ [u.1]) ∧ u.2.2.2.1 ≠ none) (fun u => some (.ref u.1)) (fun u => lW dA e0 (x.1, u.2.2.1, u.2.2.2.1) (us.length + 1) ++ ([(u.1, .inr (7, [.ref u.2.1, .ref q0])), (u.2.1, .inr (16, [.int (nI 0), .ref e0, .int (nI 0)]))] ++ (F ++ u.2.2.2.2))) := by
  refine Ct.mk2 (by decide) (Nat.le_of_ble_eq_true rfl) hZ ?_
  intro p e R s m args below meth c ls Q C hr hlocks hin hQ hl h
  have C0 := C
  obtain ⟨hx, hb, hml, hown, hts, -⟩ := C0
  have hl : lv_has ls 4 [(0, .ref ka), (1, .ref pk)] := hl
  have hA : LIn dA e0 (lW dA e0 x us.length ++ F) x (us.map Prod.fst) := ⟨by rw [List.length_map]; exact fun z hz => List.mem_append_left _ hz, hAL⟩
  obtain ⟨ed9, hcl⟩ := hA.cell
  have hln := hA.len
  rw [List.length_map] at hln
  have hlm : (us.map Prod.fst).length = us.length := by rw [List.length_map]
  have hU9 : ∀ u ∈ us, UserIn dA (lW dA e0 x us.length ++ F) u.1 u.2.1 u.2.2.1.1 := fun u hu => (hU u hu).sub (fun b q hq => List.mem_append_right _ hq) (fun a fs hq => List.mem_append_right _ hq)
  refine lv_aload_n hx hb dX1_userOf_0 rfl (lv_at hl 0 rfl) ?_
  refine lv_aload_n hx hb dX1_userOf_1 rfl (lv_at hl 1 rfl) ?_
  refine o_get C h (RC := RX14) (T := TX14) (N := 7) (List.mem_append_right _ hpk) rfl in_X14 5 (by decide) q1033 rfl (v := .ref q0) rfl dX1_userOf_2 ?_
  refine call_VR (As := [.ref q0]) (rest := []) (n := 1) C h (c9_user l D dA B Z hZ _ ka a1 na a3 e0 q0 x us bd (List.mem_append_right _ hk) hA hU9 (List.mem_append_right _ hq0) hbd hbl) (lw_V q1284 q1285 q1286 q142 q1287) (by decide +kernel) (o_recv C h (RC := RX9) (T := TX9) (N := 4) (List.mem_append_right _ hk) rfl) (by decide) (by decide) rfl hl rfl (Nat.le_of_ble_eq_true rfl) dX1_userOf_5 (by omega) (fun _ H locs _ h => ?_)
  rw [hf]
  show W p l e R s m args below meth c H locs (0 + 0) (0 + 0) Q (F0 m 8 ls [.null])
  refine lv_astore_nN (lv' := [(2, .null), (0, .ref ka), (1, .ref pk)]) hx hb dX1_userOf_8 rfl hl (by decide) rfl (fun ls hl => ?_)
  refine lv_aload_nN hx hb dX1_userOf_9 rfl (lv_at hl 0 rfl) ?_
  refine lv_ifnullN (tgt := 15) hx hb dX1_userOf_10 (by decide) ?_
  refine lv_aload_n hx hb dX1_userOf_15 rfl (lv_at hl 2 rfl) ?_
  refine o_get C h (RC := RX14) (T := TX14) (N := 7) (List.mem_append_right _ hpk) rfl in_X14 5 (by decide) q1033 rfl (v := .ref q0) rfl dX1_userOf_16 ?_
  refine n_balen C h (List.mem_append_right _ hq0) dX1_userOf_19 ?_
  refine lv_sipush (v := nI 200) hx hb dX1_userOf_20 (by decide) ?_
  refine n_icmp_gt (tgt := 38) hx hb (by omega) (by omega) dX1_userOf_23 (by decide) (fun c23 => by exfalso; omega) (fun c23 => ?_)
  refine lv_aload_n hx hb dX1_userOf_26 rfl (lv_at hl 1 rfl) ?_
  refine o_get C h (RC := RX9) (T := TX9) (N := 4) (List.mem_append_right _ hk) rfl in_X9 2 (by decide) q399 rfl (v := .ref x.1) rfl dX1_userOf_27 ?_
  refine call_VR (As := []) (rest := []) (n := 0) C h (cA_size l D dA B Z hZ _ e0 x _ hA) (lw_V q360 q361 q362 q133 q363) (by decide +kernel) (o_recv C h (RC := RJ2) (T := TJ2) (N := 3) (hcl) rfl) (by decide) (by decide) rfl hl rfl (Nat.le_of_ble_eq_true rfl) dX1_userOf_30 (by omega) (fun _ H locs _ h => ?_)
  refine n_top (y := nI us.length) (by rw [List.length_map]) ?_
  refine lv_bipush (v := nI 8) hx hb dX1_userOf_33 (by decide) ?_
  refine n_icmp_ne (tgt := 43) hx hb (by omega) (by omega) dX1_userOf_35 (by decide) (fun c35 => ?_) (fun c35 => by exfalso; omega)
  refine o_new C h (RC := RX10) (T := TX10) (N := 2) (ci := 7) (fs := [.null, .null]) rfl in_X10 tyX10_ok q1289 q504 q147 dv_X10 (by omega) (by omega) dX1_userOf_43 (fun o1 H h => ?_)
  have h := Wd.toFront h
  have h : Wd D B s ([(o1, .inr (7, [.null, .null]))] ++ (lW dA e0 x us.length ++ F)) H locs := h
  refine lv_dup hx hb dX1_userOf_46 rfl ?_
  refine lv_aload_n hx hb dX1_userOf_47 rfl (lv_at hl 2 rfl) ?_
  refine o_get C h (RC := RX14) (T := TX14) (N := 7) (List.mem_append_right _ (List.mem_append_right _ hpk)) rfl in_X14 5 (by decide) q1033 rfl (v := .ref q0) rfl dX1_userOf_48 ?_
  refine call_I (As := [.ref q0]) (rest := [.ref o1]) (n := 1) C h (c10_init l D dA B Z hZ (lW dA e0 x us.length ++ F) o1 q0 e0 mi hzs hza) (lw_meth q507) q147 q1290 q506 rfl (by decide +kernel) (by decide) (by decide) rfl hl rfl (Nat.le_of_ble_eq_true rfl) dX1_userOf_51 (by omega) (fun a4 H locs _ h => ?_)
  have h : Wd D B s ([(o1, .inr (7, [.ref a4, .ref q0])), (a4, .inr (16, [.int (nI 0), .ref e0, .int (nI 0)]))] ++ (lW dA e0 x us.length ++ F)) H locs := h
  refine lv_astore_n (lv' := [(3, .ref o1), (2, .null), (0, .ref ka), (1, .ref pk)]) hx hb dX1_userOf_54 rfl hl (by decide) rfl (fun ls hl => ?_)
  refine lv_aload_n hx hb dX1_userOf_55 rfl (lv_at hl 2 rfl) ?_
  refine o_get C h (RC := RX9) (T := TX9) (N := 4) (List.mem_append_right _ (List.mem_append_right _ hk)) rfl in_X9 2 (by decide) q399 rfl (v := .ref x.1) rfl dX1_userOf_56 ?_
  refine lv_aload_n hx hb dX1_userOf_59 rfl (lv_at hl 0 rfl) ?_
  have h : Wd D B s (lW dA e0 x (us.map Prod.fst).length ++ ([(o1, .inr (7, [.ref a4, .ref q0])), (a4, .inr (16, [.int (nI 0), .ref e0, .int (nI 0)]))] ++ F)) H locs := by rw [List.length_map]; exact h.permL (perm_add (fun g f p0 p1 p2 => by (try simp only [p0, p1, p2]) <;> omega))
  obtain ⟨ed8, hcl8⟩ := lW_cell dA e0 x (us.map Prod.fst).length
  refine call_VR (As := [.ref o1]) (rest := []) (n := 1) C h (cA_add l D dA B Z hZ ([(o1, .inr (7, [.ref a4, .ref q0])), (a4, .inr (16, [.int (nI 0), .ref e0, .int (nI 0)]))] ++ F) e0 mi x (us.map Prod.fst) o1 [.ref a4, .ref q0] 7 _ rfl q2628 hzs hza (List.mem_of_getElem? (i := 0) rfl) hAL (by rw [List.length_map]; omega) (fun z hz => by
    obtain ⟨y, hy, e⟩ := List.mem_map.mp hz
    rw [← e]
    obtain ⟨_, _, hc, _⟩ := hU y hy
    exact ⟨_, List.mem_append_right _ hc⟩)) (lw_V q548 q518 q519 q133 q520) (by decide +kernel) (o_recv C h (RC := RJ2) (T := TJ2) (N := 3) (List.mem_append_left _ hcl8) rfl) (by decide) (by decide) rfl hl rfl (Nat.le_of_ble_eq_true rfl) dX1_userOf_60 (by omega) (fun u9 H locs hu9 h => ?_)
  obtain ⟨mo9, o9, E9⟩ := u9
  dsimp only at h hu9
  have h : Wd D B s (lW dA e0 (x.1, mo9, o9) (us.length + 1) ++ ([(o1, .inr (7, [.ref a4, .ref q0])), (a4, .inr (16, [.int (nI 0), .ref e0, .int (nI 0)]))] ++ (F ++ E9))) H locs := by rw [List.length_append, List.length_map, List.append_assoc] at h; exact h
  refine lv_pop hx hb dX1_userOf_63 rfl ?_
  refine lv_aload_n hx hb dX1_userOf_64 rfl (lv_at hl 0 rfl) ?_
  subst hQ
  exact ret_a C hr (Or.inl ⟨_, rfl⟩) hlocks h (o1, a4, mo9, o9, E9) hu9 (Or.inr ⟨_, rfl⟩) rfl rfl (by omega) (by omega) dX1_userOf_65
set_option maxHeartbeats 400000 in
set_option maxRecDepth 100000 in
theorem c1_userX (l : Launch) (D : va_G) (dA : Nat → ClassId) (B : Nat) (Z : State → Prop) (hZ : Stab B Z) (F : va_W) (e0 mi : Nat) (ka a1 na a3 : Nat) (x : LD) (us : List US) (pk pb sz nx pl kd pm q0 : Nat) (bd : List Nat) (hlt : l.stackTraces = false) (hzx : ZX B Z) (hk : (ka, .inr (6, [.ref a1, .ref na, .ref x.1, .ref a3])) ∈ F) (hU : ∀ u ∈ us, UserIn dA F u.1 u.2.1 u.2.2.1.1) (hpk : (pk, .inr (11, [.ref pb, .int (nI sz), .int (nI nx), .int (nI pl), .int (nI kd), .ref q0, .ref pm])) ∈ F) (hq0 : (q0, bal dA bd) ∈ F) (hbd : byt bd) (hbl : bd.length ≤ 4096) (hA : LIn dA e0 F x (us.map Prod.fst)) (hf : us.find? (fun u : US => decide (u.2.1 = bd)) = none) (hbad : 200 < bd.length ∨ us.length = 8) :
    CtX (S := Unit) (SX := Nat × (Nat → Value)) l D dA B Z yX1_userOf cX1_userOf 4 (some ((.object "SignetRing$User"))) 8 1 7 [.ref ka, .ref pk] (F) (fun _ => False) (fun _ => some .null) (fun _ => F) (fun _ => True) (fun u => u.1) (fun _ => "SignetRing$Fault") (fun u => [(u.1, .inr (10, fts u.2 (-1 - nI pl)))] ++ (F)) := by
  refine CtX.mk2 (by decide) (Nat.le_of_ble_eq_true rfl) hZ ?_
  intro p e R s m args below meth c ls Q C hr hlocks hin hex hQ hl h
  have C0 := C
  obtain ⟨hx, hb, hml, hown, hts, -⟩ := C0
  have hl : lv_has ls 4 [(0, .ref ka), (1, .ref pk)] := hl
  obtain ⟨ed9, hcl⟩ := hA.cell
  have hln := hA.len
  rw [List.length_map] at hln
  have hlm : (us.map Prod.fst).length = us.length := by rw [List.length_map]
  have hU9 : ∀ u ∈ us, UserIn dA F u.1 u.2.1 u.2.2.1.1 := fun u hu => (hU u hu).sub (fun b q hq => hq) (fun a fs hq => hq)
  refine lv_aload_n hx hb dX1_userOf_0 rfl (lv_at hl 0 rfl) ?_
  refine lv_aload_n hx hb dX1_userOf_1 rfl (lv_at hl 1 rfl) ?_
  refine o_get C h (RC := RX14) (T := TX14) (N := 7) (hpk) rfl in_X14 5 (by decide) q1033 rfl (v := .ref q0) rfl dX1_userOf_2 ?_
  refine call_VR (As := [.ref q0]) (rest := []) (n := 1) C h (c9_user l D dA B Z hZ _ ka a1 na a3 e0 q0 x us bd (hk) hA hU9 (hq0) hbd hbl) (lw_V q1284 q1285 q1286 q142 q1287) (by decide +kernel) (o_recv C h (RC := RX9) (T := TX9) (N := 4) (hk) rfl) (by decide) (by decide) rfl hl rfl (Nat.le_of_ble_eq_true rfl) dX1_userOf_5 (by omega) (fun _ H locs _ h => ?_)
  rw [hf]
  show W p l e R s m args below meth c H locs (0 + 0) (0 + 0) Q (F0 m 8 ls [.null])
  refine lv_astore_nN (lv' := [(2, .null), (0, .ref ka), (1, .ref pk)]) hx hb dX1_userOf_8 rfl hl (by decide) rfl (fun ls hl => ?_)
  refine lv_aload_nN hx hb dX1_userOf_9 rfl (lv_at hl 0 rfl) ?_
  refine lv_ifnullN (tgt := 15) hx hb dX1_userOf_10 (by decide) ?_
  refine lv_aload_n hx hb dX1_userOf_15 rfl (lv_at hl 2 rfl) ?_
  refine o_get C h (RC := RX14) (T := TX14) (N := 7) (hpk) rfl in_X14 5 (by decide) q1033 rfl (v := .ref q0) rfl dX1_userOf_16 ?_
  refine n_balen C h (hq0) dX1_userOf_19 ?_
  refine lv_sipush (v := nI 200) hx hb dX1_userOf_20 (by decide) ?_
  refine n_icmp_gt (tgt := 38) hx hb (by omega) (by omega) dX1_userOf_23 (by decide) (fun c23 => ?_) (fun c23 => ?_)
  · refine lv_aload_n hx hb dX1_userOf_38 rfl (lv_at hl 2 rfl) ?_
    refine call_VR (As := []) (rest := []) (n := 0) C h (c14_fault l D dA B Z hZ _ pk pb sz nx pl kd pm (some q0) hlt hzx (hpk)) (lw_V q1088 q1064 q1065 q162 q1066) (by decide +kernel) (o_recv C h (RC := RX14) (T := TX14) (N := 7) (hpk) rfl) (by decide) (by decide) rfl hl rfl (Nat.le_of_ble_eq_true rfl) dX1_userOf_39 (by omega) (fun u9 H locs _ h => ?_)
    obtain ⟨q9, x9⟩ := u9
    have h : Wd D B s ([(q9, .inr (10, fts x9 (-1 - nI pl)))] ++ F) H locs := h
    subst hQ
    exact x_athrow C hex hlocks h (List.mem_of_getElem? (i := 0) rfl) rfl (q9, x9) rfl rfl trivial rfl (by omega) (by omega) dX1_userOf_42
  · refine lv_aload_n hx hb dX1_userOf_26 rfl (lv_at hl 1 rfl) ?_
    refine o_get C h (RC := RX9) (T := TX9) (N := 4) (hk) rfl in_X9 2 (by decide) q399 rfl (v := .ref x.1) rfl dX1_userOf_27 ?_
    refine call_VR (As := []) (rest := []) (n := 0) C h (cA_size l D dA B Z hZ _ e0 x _ hA) (lw_V q360 q361 q362 q133 q363) (by decide +kernel) (o_recv C h (RC := RJ2) (T := TJ2) (N := 3) (hcl) rfl) (by decide) (by decide) rfl hl rfl (Nat.le_of_ble_eq_true rfl) dX1_userOf_30 (by omega) (fun _ H locs _ h => ?_)
    refine n_top (y := nI us.length) (by rw [List.length_map]) ?_
    refine lv_bipush (v := nI 8) hx hb dX1_userOf_33 (by decide) ?_
    refine n_icmp_ne (tgt := 43) hx hb (by omega) (by omega) dX1_userOf_35 (by decide) (fun c35 => by exfalso; omega) (fun c35 => ?_)
    refine lv_aload_n hx hb dX1_userOf_38 rfl (lv_at hl 2 rfl) ?_
    refine call_VR (As := []) (rest := []) (n := 0) C h (c14_fault l D dA B Z hZ _ pk pb sz nx pl kd pm (some q0) hlt hzx (hpk)) (lw_V q1088 q1064 q1065 q162 q1066) (by decide +kernel) (o_recv C h (RC := RX14) (T := TX14) (N := 7) (hpk) rfl) (by decide) (by decide) rfl hl rfl (Nat.le_of_ble_eq_true rfl) dX1_userOf_39 (by omega) (fun u9 H locs _ h => ?_)
    obtain ⟨q9, x9⟩ := u9
    have h : Wd D B s ([(q9, .inr (10, fts x9 (-1 - nI pl)))] ++ F) H locs := h
    subst hQ
    exact x_athrow C hex hlocks h (List.mem_of_getElem? (i := 0) rfl) rfl (q9, x9) rfl rfl trivial rfl (by omega) (by omega) dX1_userOf_42
set_option maxHeartbeats 400000 in
set_option maxRecDepth 100000 in
theorem c1_partH (l : Launch) (D : va_G) (dA : Nat → ClassId) (B : Nat) (Z : State → Prop) (hZ : Stab B Z) (O F : va_W) (e0 mi : Nat) (ka a1 na a2 : Nat) (x : LD) (ps : List PTt) (n : NBr) (pk : Nat) (y0 : PTt) (hk : (ka, .inr (6, [.ref a1, .ref na, .ref a2, .ref x.1])) ∈ O ++ F) (hn : NumIn dA F n) (hP : ∀ y ∈ ps, NumIn dA F y.2.1 ∧ (y.1, .inr (8, [.ref y.2.2.1.1, .ref y.2.1.1])) ∈ (([(y0.1, .inr (8, [.ref y0.2.2.1.1, .ref y0.2.1.1]))] ++ (O ++ F)))) (hA0 : LIn dA e0 (O ++ F) x (ps.map Prod.fst)) (hf : ps.find? (ptHas (sha1 (keyMsg n.2.1))) = some y0) :
    Ct (S := NBr × va_W) l D dA B Z yX1_partOf cX1_partOf 5 (some ((.object "SignetRing$Part"))) 8 2 26 [.ref ka, .ref n.1, .ref pk] (([(y0.1, .inr (8, [.ref y0.2.2.1.1, .ref y0.2.1.1]))] ++ (O ++ F))) (fun u => u.1.2 = (y0.2.1.2.1, withO y0.2.1.2.2 n.2.2) ∧ NumIn dA (F ++ u.2) u.1) (fun _ => some (.ref y0.1)) (fun u => [(y0.1, .inr (8, [.ref y0.2.2.1.1, .ref u.1.1]))] ++ (O ++ (F ++ u.2))) := by
  refine Ct.mk2 (by decide) (Nat.le_of_ble_eq_true rfl) hZ ?_
  intro p e R s m args below meth c ls Q C hr hlocks hin hQ hl h
  have C0 := C
  obtain ⟨hx, hb, hml, hown, hts, -⟩ := C0
  have hl : lv_has ls 5 [(0, .ref ka), (1, .ref n.1), (2, .ref pk)] := hl
  have hA : LIn dA e0 ([(y0.1, .inr (8, [.ref y0.2.2.1.1, .ref y0.2.1.1]))] ++ (O ++ F)) x (ps.map Prod.fst) := hA0.sub (fun z hz => List.mem_append_right _ (hA0.1 z hz))
  have hkN := (hP y0 (List.mem_of_find?_eq_some hf)).1
  have hn0 := hn
  obtain ⟨⟨hkbn, hkln, hkon, hksn⟩, ban, ann, aen, apn, san, hnmn, hban, hann, haen, hapn, hsan⟩ := hn
  try dsimp only at hkbn hkln hkon hksn hnmn hban hann haen hapn hsan
  obtain ⟨ed9, hcl⟩ := hA.cell
  have hln := hA.len
  rw [List.length_map] at hln
  have hlm : (ps.map Prod.fst).length = ps.length := by rw [List.length_map]
  have hP9 : ∀ y ∈ ps, NumIn dA ([(y0.1, .inr (8, [.ref y0.2.2.1.1, .ref y0.2.1.1]))] ++ (O ++ F)) y.2.1 ∧ (y.1, .inr (8, [.ref y.2.2.1.1, .ref y.2.1.1])) ∈ ([(y0.1, .inr (8, [.ref y0.2.2.1.1, .ref y0.2.1.1]))] ++ (O ++ F)) := fun y hy => ⟨(hP y hy).1.sub (fun b q hq => List.mem_append_right _ (List.mem_append_right _ hq)) (fun a fs hq => List.mem_append_right _ (List.mem_append_right _ hq)), (hP y hy).2⟩
  refine lv_aload_n hx hb dX1_partOf_0 rfl (lv_at hl 0 rfl) ?_
  refine lv_aload_n hx hb dX1_partOf_1 rfl (lv_at hl 1 rfl) ?_
  refine o_get C h (RC := RX16) (T := TX16) (N := 6) (List.mem_append_right _ (List.mem_append_right _ hnmn)) rfl in_X16 4 (by decide) q1156 rfl (v := .ref apn) rfl dX1_partOf_2 ?_
  refine call_VR (As := [.ref apn]) (rest := []) (n := 1) C h (c9_part l D dA B Z hZ _ ka a1 na a2 e0 apn x ps (sha1 (keyMsg n.2.1)) (List.mem_append_right _ hk) hA hP9 (List.mem_append_right _ (List.mem_append_right _ hapn)) (sha1_byt _) (by rw [sha1_len]; decide)) (lw_V q1274 q1275 q1276 q142 q1277) (by decide +kernel) (o_recv C h (RC := RX9) (T := TX9) (N := 4) (List.mem_append_right _ hk) rfl) (by decide) (by decide) rfl hl rfl (Nat.le_of_ble_eq_true rfl) dX1_partOf_5 (by omega) (fun _ H locs _ h => ?_)
  rw [hf]
  show W p l e R s m args below meth c H locs (0 + 0) (0 + 0) Q (F0 m 8 ls [.ref y0.1])
  refine lv_astore_n (lv' := [(3, .ref y0.1), (0, .ref ka), (1, .ref n.1), (2, .ref pk)]) hx hb dX1_partOf_8 rfl hl (by decide) rfl (fun ls hl => ?_)
  refine lv_aload_n hx hb dX1_partOf_9 rfl (lv_at hl 0 rfl) ?_
  refine lv_ifnull hx hb dX1_partOf_10 ?_
  refine lv_aload_n hx hb dX1_partOf_13 rfl (lv_at hl 0 rfl) ?_
  refine lv_aload_n hx hb dX1_partOf_14 rfl (lv_at hl 0 rfl) ?_
  refine o_get C h (RC := RX11) (T := TX11) (N := 2) (List.mem_of_getElem? (i := 0) rfl) rfl in_X11 1 (by decide) q542 rfl (v := .ref y0.2.1.1) rfl dX1_partOf_15 ?_
  refine lv_aload_n hx hb dX1_partOf_18 rfl (lv_at hl 2 rfl) ?_
  refine o_get C h (RC := RX16) (T := TX16) (N := 6) (List.mem_append_right _ (List.mem_append_right _ hnmn)) rfl in_X16 5 (by decide) q1158 rfl (v := va_rf san) rfl dX1_partOf_19 ?_
  have hnk := hkN
  obtain ⟨_, _, _, _, _, _, hnk, _⟩ := hnk
  have h : Wd D B s (([(y0.1, .inr (8, [.ref y0.2.2.1.1, .ref y0.2.1.1]))] ++ O) ++ F) H locs := h
  refine call_VR (As := [va_rf san]) (rest := [.ref y0.1]) (n := 1) C h (cW_with l D dA B Z hZ ([(y0.1, .inr (8, [.ref y0.2.2.1.1, .ref y0.2.1.1]))] ++ O) F y0.2.1 san n.2.2 hkN hsan hksn) (lw_V q1263 q1264 q1265 q164 q1266) (by decide +kernel) (o_recv C h (RC := RX16) (T := TX16) (N := 6) (List.mem_append_right _ hnk) rfl) (by decide) (by decide) rfl hl rfl (Nat.le_of_ble_eq_true rfl) dX1_partOf_22 (by omega) (fun u9 H locs hu9 h => ?_)
  obtain ⟨n9, E9⟩ := u9
  obtain ⟨e91, hn9⟩ := hu9
  dsimp only at e91 hn9 h
  have h : Wd D B s ([(y0.1, .inr (8, [.ref y0.2.2.1.1, .ref y0.2.1.1]))] ++ (O ++ (F ++ E9))) H locs := h
  show W p l e R s m args below meth c H locs (0 + 0 + 2) (0 + 0 + 26) Q (F0 m 25 ls [.ref n9.1, .ref y0.1])
  refine o_put C h 0 (RC := RX11) (T := TX11) (N := 2) (ws' := [(y0.1, .inr (8, [.ref y0.2.2.1.1, .ref n9.1]))] ++ (O ++ (F ++ E9))) rfl rfl in_X11 tyX11_ok nmX11 1 (by decide) q542 rfl rfl (v := .ref n9.1) rfl rfl (Nat.le_of_ble_eq_true rfl) rfl dX1_partOf_25 (fun H locs h => ?_)
  refine lv_aload_n hx hb dX1_partOf_28 rfl (lv_at hl 0 rfl) ?_
  subst hQ
  exact ret_a C hr (Or.inl ⟨_, rfl⟩) hlocks h (n9, E9) (⟨e91, hn9⟩) (Or.inr ⟨_, rfl⟩) rfl rfl (by omega) (by omega) dX1_partOf_29
set_option maxHeartbeats 400000 in
set_option maxRecDepth 100000 in
theorem c1_partN (l : Launch) (D : va_G) (dA : Nat → ClassId) (B : Nat) (Z : State → Prop) (hZ : Stab B Z) (F : va_W) (e0 mi : Nat) (ka a1 na a2 : Nat) (x : LD) (ps : List PTt) (n : NBr) (pk pb sz nx pl kd pm : Nat) (bo : Option Nat) (hzs : ZS dA B Z) (hza : ZA B e0 mi Z) (hk : (ka, .inr (6, [.ref a1, .ref na, .ref a2, .ref x.1])) ∈ F) (hn : NumIn dA F n) (hP : ∀ y ∈ ps, NumIn dA F y.2.1 ∧ (y.1, .inr (8, [.ref y.2.2.1.1, .ref y.2.1.1])) ∈ (F)) (hAL : ALis x.2.2 (ps.map Prod.fst)) (hf : ps.find? (ptHas (sha1 (keyMsg n.2.1))) = none) (hu8 : ps.length < 8) :
    Ct (S := Nat × Nat × Int32 × Option (Nat × Nat × (Nat → Option Nat)) × va_W) l D dA B Z yX1_partOf cX1_partOf 5 (some ((.object "SignetRing$Part"))) 8 3 (2 * ps.length + 16) [.ref ka, .ref n.1, .ref pk] ((lW dA e0 x ps.length ++ F)) (fun u => ALis u.2.2.2.1 (ps.map Prod.fst ++ [u.1]) ∧ u.2.2.2.1 ≠ none) (fun u => some (.ref u.1)) (fun u => lW dA e0 (x.1, u.2.2.1, u.2.2.2.1) (ps.length + 1) ++ ([(u.1, .inr (8, [.ref u.2.1, .ref n.1])), (u.2.1, .inr (16, [.int (nI 0), .ref e0, .int (nI 0)]))] ++ (F ++ u.2.2.2.2))) := by
  refine Ct.mk2 (by decide) (Nat.le_of_ble_eq_true rfl) hZ ?_
  intro p e R s m args below meth c ls Q C hr hlocks hin hQ hl h
  have C0 := C
  obtain ⟨hx, hb, hml, hown, hts, -⟩ := C0
  have hl : lv_has ls 5 [(0, .ref ka), (1, .ref n.1), (2, .ref pk)] := hl
  have hA : LIn dA e0 (lW dA e0 x ps.length ++ F) x (ps.map Prod.fst) := ⟨by rw [List.length_map]; exact fun z hz => List.mem_append_left _ hz, hAL⟩
  have hn0 := hn
  obtain ⟨⟨hkbn, hkln, hkon, hksn⟩, ban, ann, aen, apn, san, hnmn, hban, hann, haen, hapn, hsan⟩ := hn
  try dsimp only at hkbn hkln hkon hksn hnmn hban hann haen hapn hsan
  obtain ⟨ed9, hcl⟩ := hA.cell
  have hln := hA.len
  rw [List.length_map] at hln
  have hlm : (ps.map Prod.fst).length = ps.length := by rw [List.length_map]
  have hP9 : ∀ y ∈ ps, NumIn dA (lW dA e0 x ps.length ++ F) y.2.1 ∧ (y.1, .inr (8, [.ref y.2.2.1.1, .ref y.2.1.1])) ∈ (lW dA e0 x ps.length ++ F) := fun y hy => ⟨(hP y hy).1.sub (fun b q hq => List.mem_append_right _ hq) (fun a fs hq => List.mem_append_right _ hq), List.mem_append_right _ ((hP y hy).2)⟩
  refine lv_aload_n hx hb dX1_partOf_0 rfl (lv_at hl 0 rfl) ?_
  refine lv_aload_n hx hb dX1_partOf_1 rfl (lv_at hl 1 rfl) ?_
  refine o_get C h (RC := RX16) (T := TX16) (N := 6) (List.mem_append_right _ hnmn) rfl in_X16 4 (by decide) q1156 rfl (v := .ref apn) rfl dX1_partOf_2 ?_
  refine call_VR (As := [.ref apn]) (rest := []) (n := 1) C h (c9_part l D dA B Z hZ _ ka a1 na a2 e0 apn x ps (sha1 (keyMsg n.2.1)) (List.mem_append_right _ hk) hA hP9 (List.mem_append_right _ hapn) (sha1_byt _) (by rw [sha1_len]; decide)) (lw_V q1274 q1275 q1276 q142 q1277) (by decide +kernel) (o_recv C h (RC := RX9) (T := TX9) (N := 4) (List.mem_append_right _ hk) rfl) (by decide) (by decide) rfl hl rfl (Nat.le_of_ble_eq_true rfl) dX1_partOf_5 (by omega) (fun _ H locs _ h => ?_)
  rw [hf]
  show W p l e R s m args below meth c H locs (0 + 0) (0 + 0) Q (F0 m 8 ls [.null])
  refine lv_astore_nN (lv' := [(3, .null), (0, .ref ka), (1, .ref n.1), (2, .ref pk)]) hx hb dX1_partOf_8 rfl hl (by decide) rfl (fun ls hl => ?_)
  refine lv_aload_nN hx hb dX1_partOf_9 rfl (lv_at hl 0 rfl) ?_
  refine lv_ifnullN (tgt := 30) hx hb dX1_partOf_10 (by decide) ?_
  refine lv_aload_n hx hb dX1_partOf_30 rfl (lv_at hl 1 rfl) ?_
  refine o_get C h (RC := RX9) (T := TX9) (N := 4) (List.mem_append_right _ hk) rfl in_X9 3 (by decide) q401 rfl (v := .ref x.1) rfl dX1_partOf_31 ?_
  refine call_VR (As := []) (rest := []) (n := 0) C h (cA_size l D dA B Z hZ _ e0 x _ hA) (lw_V q360 q361 q362 q133 q363) (by decide +kernel) (o_recv C h (RC := RJ2) (T := TJ2) (N := 3) (hcl) rfl) (by decide) (by decide) rfl hl rfl (Nat.le_of_ble_eq_true rfl) dX1_partOf_34 (by omega) (fun _ H locs _ h => ?_)
  refine n_top (y := nI ps.length) (by rw [List.length_map]) ?_
  refine lv_bipush (v := nI 8) hx hb dX1_partOf_37 (by decide) ?_
  refine n_icmp_ne (tgt := 47) hx hb (by omega) (by omega) dX1_partOf_39 (by decide) (fun c39 => ?_) (fun c39 => by exfalso; omega)
  refine o_new C h (RC := RX11) (T := TX11) (N := 2) (ci := 8) (fs := [.null, .null]) rfl in_X11 tyX11_ok q1279 q535 q148 dv_X11 (by omega) (by omega) dX1_partOf_47 (fun o1 H h => ?_)
  have h := Wd.toFront h
  have h : Wd D B s ([(o1, .inr (8, [.null, .null]))] ++ (lW dA e0 x ps.length ++ F)) H locs := h
  refine lv_dup hx hb dX1_partOf_50 rfl ?_
  refine lv_aload_n hx hb dX1_partOf_51 rfl (lv_at hl 2 rfl) ?_
  refine call_I (As := [.ref n.1]) (rest := [.ref o1]) (n := 1) C h (c11_init l D dA B Z hZ (lW dA e0 x ps.length ++ F) o1 n.1 e0 mi hzs hza) (lw_meth q538) q148 q1280 q537 rfl (by decide +kernel) (by decide) (by decide) rfl hl rfl (Nat.le_of_ble_eq_true rfl) dX1_partOf_52 (by omega) (fun a4 H locs _ h => ?_)
  have h : Wd D B s ([(o1, .inr (8, [.ref a4, .ref n.1])), (a4, .inr (16, [.int (nI 0), .ref e0, .int (nI 0)]))] ++ (lW dA e0 x ps.length ++ F)) H locs := h
  refine lv_astore (lv' := [(4, .ref o1), (3, .null), (0, .ref ka), (1, .ref n.1), (2, .ref pk)]) hx hb dX1_partOf_55 hl (by decide) rfl (fun ls hl => ?_)
  refine lv_aload_n hx hb dX1_partOf_57 rfl (lv_at hl 2 rfl) ?_
  refine o_get C h (RC := RX9) (T := TX9) (N := 4) (List.mem_append_right _ (List.mem_append_right _ hk)) rfl in_X9 3 (by decide) q401 rfl (v := .ref x.1) rfl dX1_partOf_58 ?_
  refine lv_aload hx hb dX1_partOf_61 (lv_at hl 0 rfl) ?_
  have h : Wd D B s (lW dA e0 x (ps.map Prod.fst).length ++ ([(o1, .inr (8, [.ref a4, .ref n.1])), (a4, .inr (16, [.int (nI 0), .ref e0, .int (nI 0)]))] ++ F)) H locs := by rw [List.length_map]; exact h.permL (perm_add (fun g f p0 p1 p2 => by (try simp only [p0, p1, p2]) <;> omega))
  obtain ⟨ed8, hcl8⟩ := lW_cell dA e0 x (ps.map Prod.fst).length
  refine call_VR (As := [.ref o1]) (rest := []) (n := 1) C h (cA_add l D dA B Z hZ ([(o1, .inr (8, [.ref a4, .ref n.1])), (a4, .inr (16, [.int (nI 0), .ref e0, .int (nI 0)]))] ++ F) e0 mi x (ps.map Prod.fst) o1 [.ref a4, .ref n.1] 8 _ rfl q2629 hzs hza (List.mem_of_getElem? (i := 0) rfl) hAL (by rw [List.length_map]; omega) (fun z hz => by
    obtain ⟨y, hy, e⟩ := List.mem_map.mp hz
    rw [← e]
    exact ⟨_, List.mem_append_right _ (hP y hy).2⟩)) (lw_V q548 q518 q519 q133 q520) (by decide +kernel) (o_recv C h (RC := RJ2) (T := TJ2) (N := 3) (List.mem_append_left _ hcl8) rfl) (by decide) (by decide) rfl hl rfl (Nat.le_of_ble_eq_true rfl) dX1_partOf_63 (by omega) (fun u9 H locs hu9 h => ?_)
  obtain ⟨mo9, o9, E9⟩ := u9
  dsimp only at h hu9
  have h : Wd D B s (lW dA e0 (x.1, mo9, o9) (ps.length + 1) ++ ([(o1, .inr (8, [.ref a4, .ref n.1])), (a4, .inr (16, [.int (nI 0), .ref e0, .int (nI 0)]))] ++ (F ++ E9))) H locs := by rw [List.length_append, List.length_map, List.append_assoc] at h; exact h
  refine lv_pop hx hb dX1_partOf_66 rfl ?_
  refine lv_aload hx hb dX1_partOf_67 (lv_at hl 0 rfl) ?_
  subst hQ
  exact ret_a C hr (Or.inl ⟨_, rfl⟩) hlocks h (o1, a4, mo9, o9, E9) hu9 (Or.inr ⟨_, rfl⟩) rfl rfl (by omega) (by omega) dX1_partOf_69
set_option maxHeartbeats 400000 in
set_option maxRecDepth 100000 in
theorem c1_partX (l : Launch) (D : va_G) (dA : Nat → ClassId) (B : Nat) (Z : State → Prop) (hZ : Stab B Z) (F : va_W) (e0 mi : Nat) (ka a1 na a2 : Nat) (x : LD) (ps : List PTt) (n : NBr) (pk pb sz nx pl kd pm : Nat) (bo : Option Nat) (hlt : l.stackTraces = false) (hzx : ZX B Z) (hk : (ka, .inr (6, [.ref a1, .ref na, .ref a2, .ref x.1])) ∈ F) (hn : NumIn dA F n) (hP : ∀ y ∈ ps, NumIn dA F y.2.1 ∧ (y.1, .inr (8, [.ref y.2.2.1.1, .ref y.2.1.1])) ∈ (F)) (hpk : (pk, .inr (11, [.ref pb, .int (nI sz), .int (nI nx), .int (nI pl), .int (nI kd), va_rf bo, .ref pm])) ∈ F) (hA : LIn dA e0 F x (ps.map Prod.fst)) (hf : ps.find? (ptHas (sha1 (keyMsg n.2.1))) = none) (hbad : ps.length = 8) :
    CtX (S := Unit) (SX := Nat × (Nat → Value)) l D dA B Z yX1_partOf cX1_partOf 5 (some ((.object "SignetRing$Part"))) 8 1 7 [.ref ka, .ref n.1, .ref pk] (F) (fun _ => False) (fun _ => some .null) (fun _ => F) (fun _ => True) (fun u => u.1) (fun _ => "SignetRing$Fault") (fun u => [(u.1, .inr (10, fts u.2 (-1 - nI pl)))] ++ (F)) := by
  refine CtX.mk2 (by decide) (Nat.le_of_ble_eq_true rfl) hZ ?_
  intro p e R s m args below meth c ls Q C hr hlocks hin hex hQ hl h
  have C0 := C
  obtain ⟨hx, hb, hml, hown, hts, -⟩ := C0
  have hl : lv_has ls 5 [(0, .ref ka), (1, .ref n.1), (2, .ref pk)] := hl
  have hn0 := hn
  obtain ⟨⟨hkbn, hkln, hkon, hksn⟩, ban, ann, aen, apn, san, hnmn, hban, hann, haen, hapn, hsan⟩ := hn
  try dsimp only at hkbn hkln hkon hksn hnmn hban hann haen hapn hsan
  obtain ⟨ed9, hcl⟩ := hA.cell
  have hln := hA.len
  rw [List.length_map] at hln
  have hlm : (ps.map Prod.fst).length = ps.length := by rw [List.length_map]
  have hP9 : ∀ y ∈ ps, NumIn dA F y.2.1 ∧ (y.1, .inr (8, [.ref y.2.2.1.1, .ref y.2.1.1])) ∈ F := fun y hy => ⟨(hP y hy).1.sub (fun b q hq => hq) (fun a fs hq => hq), (hP y hy).2⟩
  refine lv_aload_n hx hb dX1_partOf_0 rfl (lv_at hl 0 rfl) ?_
  refine lv_aload_n hx hb dX1_partOf_1 rfl (lv_at hl 1 rfl) ?_
  refine o_get C h (RC := RX16) (T := TX16) (N := 6) (hnmn) rfl in_X16 4 (by decide) q1156 rfl (v := .ref apn) rfl dX1_partOf_2 ?_
  refine call_VR (As := [.ref apn]) (rest := []) (n := 1) C h (c9_part l D dA B Z hZ _ ka a1 na a2 e0 apn x ps (sha1 (keyMsg n.2.1)) (hk) hA hP9 (hapn) (sha1_byt _) (by rw [sha1_len]; decide)) (lw_V q1274 q1275 q1276 q142 q1277) (by decide +kernel) (o_recv C h (RC := RX9) (T := TX9) (N := 4) (hk) rfl) (by decide) (by decide) rfl hl rfl (Nat.le_of_ble_eq_true rfl) dX1_partOf_5 (by omega) (fun _ H locs _ h => ?_)
  rw [hf]
  show W p l e R s m args below meth c H locs (0 + 0) (0 + 0) Q (F0 m 8 ls [.null])
  refine lv_astore_nN (lv' := [(3, .null), (0, .ref ka), (1, .ref n.1), (2, .ref pk)]) hx hb dX1_partOf_8 rfl hl (by decide) rfl (fun ls hl => ?_)
  refine lv_aload_nN hx hb dX1_partOf_9 rfl (lv_at hl 0 rfl) ?_
  refine lv_ifnullN (tgt := 30) hx hb dX1_partOf_10 (by decide) ?_
  refine lv_aload_n hx hb dX1_partOf_30 rfl (lv_at hl 1 rfl) ?_
  refine o_get C h (RC := RX9) (T := TX9) (N := 4) (hk) rfl in_X9 3 (by decide) q401 rfl (v := .ref x.1) rfl dX1_partOf_31 ?_
  refine call_VR (As := []) (rest := []) (n := 0) C h (cA_size l D dA B Z hZ _ e0 x _ hA) (lw_V q360 q361 q362 q133 q363) (by decide +kernel) (o_recv C h (RC := RJ2) (T := TJ2) (N := 3) (hcl) rfl) (by decide) (by decide) rfl hl rfl (Nat.le_of_ble_eq_true rfl) dX1_partOf_34 (by omega) (fun _ H locs _ h => ?_)
  refine n_top (y := nI ps.length) (by rw [List.length_map]) ?_
  refine lv_bipush (v := nI 8) hx hb dX1_partOf_37 (by decide) ?_
  refine n_icmp_ne (tgt := 47) hx hb (by omega) (by omega) dX1_partOf_39 (by decide) (fun c39 => by exfalso; omega) (fun c39 => ?_)
  refine lv_aload_n hx hb dX1_partOf_42 rfl (lv_at hl 3 rfl) ?_
  refine call_VR (As := []) (rest := []) (n := 0) C h (c14_fault l D dA B Z hZ _ pk pb sz nx pl kd pm bo hlt hzx (hpk)) (lw_V q1088 q1064 q1065 q162 q1066) (by decide +kernel) (o_recv C h (RC := RX14) (T := TX14) (N := 7) (hpk) rfl) (by decide) (by decide) rfl hl rfl (Nat.le_of_ble_eq_true rfl) dX1_partOf_43 (by omega) (fun u9 H locs _ h => ?_)
  obtain ⟨q9, x9⟩ := u9
  have h : Wd D B s ([(q9, .inr (10, fts x9 (-1 - nI pl)))] ++ F) H locs := h
  subst hQ
  exact x_athrow C hex hlocks h (List.mem_of_getElem? (i := 0) rfl) rfl (q9, x9) rfl rfl trivial rfl (by omega) (by omega) dX1_partOf_46
set_option maxHeartbeats 400000 in
set_option maxRecDepth 100000 in
theorem c1_sealZ (l : Launch) (D : va_G) (dA : Nat → ClassId) (B : Nat) (Z : State → Prop) (hZ : Stab B Z) (F : va_W) (pk pb sz nx pl kd pm q0 : Nat) (bd : List Nat) (hpk : (pk, .inr (11, [.ref pb, .int (nI sz), .int (nI nx), .int (nI pl), .int (nI kd), .ref q0, .ref pm])) ∈ F) (hq0 : (q0, bal dA bd) ∈ F) (hbd : byt bd) (hbl : bd.length ≤ 4096) (h0 : 0 < bd.length) (hou : oursL bd = false) :
    Ct (S := Unit) l D dA B Z yX1_sealOf cX1_sealOf 2 (some ((.object "SignetRing$Seal"))) 8 0 0 [.ref pk] (F) (fun _ => True) (fun _ => some .null) (fun _ => F) := by
  refine Ct.mk2 (by decide) (Nat.le_of_ble_eq_true rfl) hZ ?_
  intro p e R s m args below meth c ls Q C hr hlocks hin hQ hl h
  have C0 := C
  obtain ⟨hx, hb, hml, hown, hts, -⟩ := C0
  have hl : lv_has ls 2 [(0, .ref pk)] := hl
  refine lv_aload_n hx hb dX1_sealOf_0 rfl (lv_at hl 0 rfl) ?_
  refine o_get C h (RC := RX14) (T := TX14) (N := 7) (hpk) rfl in_X14 5 (by decide) q1033 rfl (v := .ref q0) rfl dX1_sealOf_1 ?_
  refine n_balen C h (hq0) dX1_sealOf_4 ?_
  refine n_if_ne (tgt := 13) hx hb (by omega) dX1_sealOf_5 (by decide) (fun c5 => ?_) (fun c5 => by exfalso; omega)
  refine lv_aload_n hx hb dX1_sealOf_13 rfl (lv_at hl 0 rfl) ?_
  refine o_get C h (RC := RX14) (T := TX14) (N := 7) (hpk) rfl in_X14 5 (by decide) q1033 rfl (v := .ref q0) rfl dX1_sealOf_14 ?_
  refine call_S (As := [.ref q0]) (rest := []) (n := 1) C h (c17_isOurs l D dA B Z hZ _ q0 bd hq0 (by omega) hbd (by omega)) (lw_S q1294 q1295 q165 q1296) (by decide +kernel) (by decide) (by decide) rfl hl rfl (Nat.le_of_ble_eq_true rfl) dX1_sealOf_17 (by omega) (fun _ H locs _ h => ?_)
  refine z_if_ne (tgt := 25) hx hb dX1_sealOf_20 (by decide) (fun c20 => by exfalso; rw [hou] at c20; cases c20) (fun c20 => ?_)
  refine lv_null hx hb dX1_sealOf_23 ?_
  subst hQ
  exact ret_a C hr (Or.inl ⟨_, rfl⟩) hlocks h () trivial (Or.inl rfl) rfl rfl (by omega) (by omega) dX1_sealOf_24
set_option maxHeartbeats 400000 in
set_option maxRecDepth 100000 in
theorem c1_sealY (l : Launch) (D : va_G) (dA : Nat → ClassId) (B : Nat) (Z : State → Prop) (hZ : Stab B Z) (F : va_W) (pk pb sz nx pl kd pm q0 : Nat) (bd : List Nat) (hpk : (pk, .inr (11, [.ref pb, .int (nI sz), .int (nI nx), .int (nI pl), .int (nI kd), .ref q0, .ref pm])) ∈ F) (hq0 : (q0, bal dA bd) ∈ F) (hbd : byt bd) (hbl : bd.length ≤ 4096) (h0 : 0 < bd.length) (hou : oursL bd = true) (hok : sealOk bd = true) :
    Ct (S := Nat × va_W) l D dA B Z yX1_sealOf cX1_sealOf 2 (some ((.object "SignetRing$Seal"))) 8 (bd.length / 2 + 3) (5 * bd.length + 22) [.ref pk] (F) (fun u => SealIn dA ([(q0, bal dA bd)] ++ u.2) (u.1, bd) 0 ∧ ∀ y, (u.1, y) ∈ F → False) (fun u => some (.ref u.1)) (fun u => F ++ u.2) := by
  refine Ct.mk2 (by decide) (Nat.le_of_ble_eq_true rfl) hZ ?_
  intro p e R s m args below meth c ls Q C hr hlocks hin hQ hl h
  have C0 := C
  obtain ⟨hx, hb, hml, hown, hts, -⟩ := C0
  have hl : lv_has ls 2 [(0, .ref pk)] := hl
  refine lv_aload_n hx hb dX1_sealOf_0 rfl (lv_at hl 0 rfl) ?_
  refine o_get C h (RC := RX14) (T := TX14) (N := 7) (hpk) rfl in_X14 5 (by decide) q1033 rfl (v := .ref q0) rfl dX1_sealOf_1 ?_
  refine n_balen C h (hq0) dX1_sealOf_4 ?_
  refine n_if_ne (tgt := 13) hx hb (by omega) dX1_sealOf_5 (by decide) (fun c5 => ?_) (fun c5 => by exfalso; omega)
  refine lv_aload_n hx hb dX1_sealOf_13 rfl (lv_at hl 0 rfl) ?_
  refine o_get C h (RC := RX14) (T := TX14) (N := 7) (hpk) rfl in_X14 5 (by decide) q1033 rfl (v := .ref q0) rfl dX1_sealOf_14 ?_
  refine call_S (As := [.ref q0]) (rest := []) (n := 1) C h (c17_isOurs l D dA B Z hZ _ q0 bd hq0 (by omega) hbd (by omega)) (lw_S q1294 q1295 q165 q1296) (by decide +kernel) (by decide) (by decide) rfl hl rfl (Nat.le_of_ble_eq_true rfl) dX1_sealOf_17 (by omega) (fun _ H locs _ h => ?_)
  refine z_if_ne (tgt := 25) hx hb dX1_sealOf_20 (by decide) (fun c20 => ?_) (fun c20 => by exfalso; rw [hou] at c20; cases c20)
  refine o_new C h (RC := RX17) (T := TX17) (N := 19) (ci := 14) (fs := [.null, .int 0, .int 0, .int 0, .int 0, .null, .long 0, .long 0, .long 0, .null, .null, .int 0, .int 0, .null, .int (bZ false), .int 0, .int (bZ false), .int (bZ false), .int (bZ false)]) rfl in_X17 tyX17_ok q1297 q1298 q165 dv_X17 (by omega) (by omega) dX1_sealOf_25 (fun o1 H h => ?_)
  have h := Wd.toFront h
  have h : Wd D B s ([(o1, .inr (14, [.null, .int 0, .int 0, .int 0, .int 0, .null, .long 0, .long 0, .long 0, .null, .null, .int 0, .int 0, .null, .int (bZ false), .int 0, .int (bZ false), .int (bZ false), .int (bZ false)]))] ++ F) H locs := h
  refine lv_dup hx hb dX1_sealOf_28 rfl ?_
  refine lv_aload_n hx hb dX1_sealOf_29 rfl (lv_at hl 0 rfl) ?_
  refine o_get C h (RC := RX14) (T := TX14) (N := 7) (List.mem_append_right _ hpk) rfl in_X14 5 (by decide) q1033 rfl (v := .ref q0) rfl dX1_sealOf_30 ?_
  refine call_I (As := [.ref q0]) (rest := [.ref o1]) (n := 1) C h (c17_init l D dA B Z hZ F o1 q0) (lw_meth q1301) q165 q1299 q1300 rfl (by decide +kernel) (by decide) (by decide) rfl hl rfl (Nat.le_of_ble_eq_true rfl) dX1_sealOf_33 (by omega) (fun _ H locs _ h => ?_)
  have h : Wd D B s ((slC o1 q0 0 0 0 0 none nt0 none none none 0 ++ F)) H locs := h
  refine lv_astore_n (lv' := [(1, .ref o1), (0, .ref pk)]) hx hb dX1_sealOf_36 rfl hl (by decide) rfl (fun ls hl => ?_)
  refine lv_aload_n hx hb dX1_sealOf_37 rfl (lv_at hl 0 rfl) ?_
  refine call_VR (As := []) (rest := []) (n := 0) C h (c17_read l D dA B Z hZ F o1 q0 bd hq0 hbd (by omega) (by omega)) (lw_V q1377 q1378 q1379 q165 q1380) (by decide +kernel) (o_recv C h (RC := RX17) (T := TX17) (N := 19) (List.mem_append_left _ List.mem_cons_self) rfl) (by decide) (by decide) rfl hl rfl (Nat.le_of_ble_eq_true rfl) dX1_sealOf_38 (by omega) (fun u9 H locs hu9 h => ?_)
  obtain ⟨fs9, E9⟩ := u9
  dsimp only at hu9 h
  have h : Wd D B s (([(o1, .inr (14, fs9))] ++ (F ++ E9))) H locs := h
  refine z_if_ne (tgt := 49) hx hb dX1_sealOf_41 (by decide) (fun c41 => ?_) (fun c41 => by exfalso; rw [hok] at c41; cases c41)
  refine lv_aload_n hx hb dX1_sealOf_49 rfl (lv_at hl 0 rfl) ?_
  subst hQ
  have hfr : ∀ y, (o1, y) ∈ F → False := fun y hy => Wd.fresh1 (ws := F ++ E9) h (List.mem_append_left _ hy)
  have h : Wd D B s (F ++ ([(o1, .inr (14, fs9))] ++ E9)) H locs := h.permL (perm_add (fun g f p0 p1 p2 => by (try simp only [p0, p1, p2]) <;> omega))
  have hms : ∀ z ∈ [(o1, .inr (14, fs9))] ++ ([(q0, bal dA bd)] ++ E9), z ∈ [(q0, bal dA bd)] ++ ([(o1, .inr (14, fs9))] ++ E9) := by
    intro z hz
    rcases List.mem_append.mp hz with q | q
    · exact List.mem_append_right _ (List.mem_append_left _ q)
    · rcases List.mem_append.mp q with q | q
      · exact List.mem_append_left _ q
      · exact List.mem_append_right _ (List.mem_append_right _ q)
  exact ret_a C hr (Or.inl ⟨_, rfl⟩) hlocks h (o1, ([(o1, .inr (14, fs9))] ++ E9)) (⟨(hu9 c41).sub (fun b q hq => hms _ hq) (fun a fs hq => hms _ hq), hfr⟩) (Or.inr ⟨_, rfl⟩) rfl rfl (by omega) (by omega) dX1_sealOf_50
set_option maxHeartbeats 400000 in
set_option maxRecDepth 100000 in
theorem c1_sealX (l : Launch) (D : va_G) (dA : Nat → ClassId) (B : Nat) (Z : State → Prop) (hZ : Stab B Z) (F : va_W) (pk pb sz nx pl kd pm q0 : Nat) (bd : List Nat) (hlt : l.stackTraces = false) (hzx : ZX B Z) (hpk : (pk, .inr (11, [.ref pb, .int (nI sz), .int (nI nx), .int (nI pl), .int (nI kd), .ref q0, .ref pm])) ∈ F) (hq0 : (q0, bal dA bd) ∈ F) (hbd : byt bd) (hbl : bd.length ≤ 4096) (hbad : bd.length = 0 ∨ (oursL bd = true ∧ sealOk bd = false)) :
    CtX (S := Unit) (SX := Nat × va_W) l D dA B Z yX1_sealOf cX1_sealOf 2 (some ((.object "SignetRing$Seal"))) 8 (bd.length / 2 + 4) (5 * bd.length + 29) [.ref pk] (F) (fun _ => False) (fun _ => some .null) (fun _ => F) (fun u => FaultIn u.2 u.1 (-1 - nI pl)) (fun u => u.1) (fun _ => "SignetRing$Fault") (fun u => F ++ u.2) := by
  refine CtX.mk2 (by decide) (Nat.le_of_ble_eq_true rfl) hZ ?_
  intro p e R s m args below meth c ls Q C hr hlocks hin hex hQ hl h
  have C0 := C
  obtain ⟨hx, hb, hml, hown, hts, -⟩ := C0
  have hl : lv_has ls 2 [(0, .ref pk)] := hl
  refine lv_aload_n hx hb dX1_sealOf_0 rfl (lv_at hl 0 rfl) ?_
  refine o_get C h (RC := RX14) (T := TX14) (N := 7) (hpk) rfl in_X14 5 (by decide) q1033 rfl (v := .ref q0) rfl dX1_sealOf_1 ?_
  refine n_balen C h (hq0) dX1_sealOf_4 ?_
  refine n_if_ne (tgt := 13) hx hb (by omega) dX1_sealOf_5 (by decide) (fun c5 => ?_) (fun c5 => ?_)
  · refine lv_aload_n hx hb dX1_sealOf_13 rfl (lv_at hl 0 rfl) ?_
    refine o_get C h (RC := RX14) (T := TX14) (N := 7) (hpk) rfl in_X14 5 (by decide) q1033 rfl (v := .ref q0) rfl dX1_sealOf_14 ?_
    refine call_S (As := [.ref q0]) (rest := []) (n := 1) C h (c17_isOurs l D dA B Z hZ _ q0 bd hq0 (by omega) hbd (by omega)) (lw_S q1294 q1295 q165 q1296) (by decide +kernel) (by decide) (by decide) rfl hl rfl (Nat.le_of_ble_eq_true rfl) dX1_sealOf_17 (by omega) (fun _ H locs _ h => ?_)
    refine z_if_ne (tgt := 25) hx hb dX1_sealOf_20 (by decide) (fun c20 => ?_) (fun c20 => by exfalso; rcases hbad with q | q; exact absurd q c5; rw [q.1] at c20; cases c20)
    refine o_new C h (RC := RX17) (T := TX17) (N := 19) (ci := 14) (fs := [.null, .int 0, .int 0, .int 0, .int 0, .null, .long 0, .long 0, .long 0, .null, .null, .int 0, .int 0, .null, .int (bZ false), .int 0, .int (bZ false), .int (bZ false), .int (bZ false)]) rfl in_X17 tyX17_ok q1297 q1298 q165 dv_X17 (by omega) (by omega) dX1_sealOf_25 (fun o1 H h => ?_)
    have h := Wd.toFront h
    have h : Wd D B s ([(o1, .inr (14, [.null, .int 0, .int 0, .int 0, .int 0, .null, .long 0, .long 0, .long 0, .null, .null, .int 0, .int 0, .null, .int (bZ false), .int 0, .int (bZ false), .int (bZ false), .int (bZ false)]))] ++ F) H locs := h
    refine lv_dup hx hb dX1_sealOf_28 rfl ?_
    refine lv_aload_n hx hb dX1_sealOf_29 rfl (lv_at hl 0 rfl) ?_
    refine o_get C h (RC := RX14) (T := TX14) (N := 7) (List.mem_append_right _ hpk) rfl in_X14 5 (by decide) q1033 rfl (v := .ref q0) rfl dX1_sealOf_30 ?_
    refine call_I (As := [.ref q0]) (rest := [.ref o1]) (n := 1) C h (c17_init l D dA B Z hZ F o1 q0) (lw_meth q1301) q165 q1299 q1300 rfl (by decide +kernel) (by decide) (by decide) rfl hl rfl (Nat.le_of_ble_eq_true rfl) dX1_sealOf_33 (by omega) (fun _ H locs _ h => ?_)
    have h : Wd D B s ((slC o1 q0 0 0 0 0 none nt0 none none none 0 ++ F)) H locs := h
    refine lv_astore_n (lv' := [(1, .ref o1), (0, .ref pk)]) hx hb dX1_sealOf_36 rfl hl (by decide) rfl (fun ls hl => ?_)
    refine lv_aload_n hx hb dX1_sealOf_37 rfl (lv_at hl 0 rfl) ?_
    refine call_VR (As := []) (rest := []) (n := 0) C h (c17_read l D dA B Z hZ F o1 q0 bd hq0 hbd (by omega) (by omega)) (lw_V q1377 q1378 q1379 q165 q1380) (by decide +kernel) (o_recv C h (RC := RX17) (T := TX17) (N := 19) (List.mem_append_left _ List.mem_cons_self) rfl) (by decide) (by decide) rfl hl rfl (Nat.le_of_ble_eq_true rfl) dX1_sealOf_38 (by omega) (fun u9 H locs hu9 h => ?_)
    obtain ⟨fs9, E9⟩ := u9
    dsimp only at hu9 h
    have h : Wd D B s (([(o1, .inr (14, fs9))] ++ (F ++ E9))) H locs := h
    refine z_if_ne (tgt := 49) hx hb dX1_sealOf_41 (by decide) (fun c41 => by exfalso; rcases hbad with q | q; exact absurd q c5; rw [q.2] at c41; cases c41) (fun c41 => ?_)
    refine lv_aload_n hx hb dX1_sealOf_44 rfl (lv_at hl 1 rfl) ?_
    refine call_VR (As := []) (rest := []) (n := 0) C h (c14_fault l D dA B Z hZ _ pk pb sz nx pl kd pm (some q0) hlt hzx (List.mem_append_right _ (List.mem_append_left _ hpk))) (lw_V q1088 q1064 q1065 q162 q1066) (by decide +kernel) (o_recv C h (RC := RX14) (T := TX14) (N := 7) (List.mem_append_right _ (List.mem_append_left _ hpk)) rfl) (by decide) (by decide) rfl hl rfl (Nat.le_of_ble_eq_true rfl) dX1_sealOf_45 (by omega) (fun u9 H locs _ h => ?_)
    obtain ⟨q9, x9⟩ := u9
    have h : Wd D B s ([(q9, .inr (10, fts x9 (-1 - nI pl)))] ++ ([(o1, .inr (14, fs9))] ++ (F ++ E9))) H locs := h
    subst hQ
    have h : Wd D B s (F ++ ([(q9, .inr (10, fts x9 (-1 - nI pl)))] ++ ([(o1, .inr (14, fs9))] ++ E9))) H locs := h.permL (perm_add (fun g f p0 p1 p2 => by (try simp only [p0, p1, p2]) <;> omega))
    exact x_athrow C hex hlocks h (List.mem_append_right _ (List.mem_append_left _ List.mem_cons_self)) rfl (q9, [(q9, .inr (10, fts x9 (-1 - nI pl)))] ++ ([(o1, .inr (14, fs9))] ++ E9)) rfl rfl (⟨x9, List.mem_append_left _ List.mem_cons_self⟩) rfl (by omega) (by omega) dX1_sealOf_48
  · refine lv_aload_n hx hb dX1_sealOf_8 rfl (lv_at hl 0 rfl) ?_
    refine call_VR (As := []) (rest := []) (n := 0) C h (c14_fault l D dA B Z hZ _ pk pb sz nx pl kd pm (some q0) hlt hzx (hpk)) (lw_V q1088 q1064 q1065 q162 q1066) (by decide +kernel) (o_recv C h (RC := RX14) (T := TX14) (N := 7) (hpk) rfl) (by decide) (by decide) rfl hl rfl (Nat.le_of_ble_eq_true rfl) dX1_sealOf_9 (by omega) (fun u9 H locs _ h => ?_)
    obtain ⟨q9, x9⟩ := u9
    have h : Wd D B s ([(q9, .inr (10, fts x9 (-1 - nI pl)))] ++ F) H locs := h
    subst hQ
    have h : Wd D B s (F ++ ([(q9, .inr (10, fts x9 (-1 - nI pl)))] ++ [])) H locs := h.permL (perm_add (fun g f p0 p1 p2 => by (try simp only [p0, p1, p2]) <;> omega))
    exact x_athrow C hex hlocks h (List.mem_append_right _ (List.mem_append_left _ List.mem_cons_self)) rfl (q9, [(q9, .inr (10, fts x9 (-1 - nI pl)))] ++ []) rfl rfl (⟨x9, List.mem_append_left _ List.mem_cons_self⟩) rfl (by omega) (by omega) dX1_sealOf_12
