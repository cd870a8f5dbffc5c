set_option maxRecDepth 100000

/-- the array of a list of which one is taken out -/
def rmG (g : Nat → Option Nat) (i n : Nat) : Nat → Option Nat := fun j => if j = n - 1 then none else if i ≤ j ∧ j < n - 1 then g (j + 1) else g j

set_option maxHeartbeats 400000 in
set_option maxRecDepth 100000 in
theorem cJ_toArrZ (l : Launch) (D : va_G) (dA : Nat → ClassId) (B : Nat) (Z : State → Prop) (hZ : Stab B Z) (ws : va_W) (al e0 mi : Nat) (mo : Int32) (hzs : ZS dA B Z) (hza : ZA B e0 mi Z) (hal : (al, .inr (16, [.int mo, .ref e0, .int (nI 0)])) ∈ ws) :
    Ct (S := Nat) l D dA B Z yJ2_toArray cJ2_toArray 1 (some ((.array (.object "java/lang/Object")))) 4 1 0 [.ref al] (ws) (fun _ => True) (fun q => some (.ref q)) (fun q => ws ++ [(q, oar dA 0 (fun _ => none))]) := by
  refine Ct.mk2 (by decide) (Nat.le_of_ble_eq_true rfl) hZ ?_
  intro p e R s m args below meth c ls Q C hr hlocks hin hQ hl h
  have C0 := C
  obtain ⟨hx, hb, hml, hown, hts, -⟩ := C0
  have hl : lv_has ls 1 [(0, .ref al)] := hl
  refine lv_aload_n hx hb dJ2_toArray_0 rfl (lv_at hl 0 rfl) ?_
  refine o_get C h (RC := RJ2) (T := TJ2) (N := 3) (hal) rfl in_J2 1 (by decide) q213 rfl (v := .ref e0) rfl dJ2_toArray_1 ?_
  refine lv_aload_n hx hb dJ2_toArray_4 rfl (lv_at hl 0 rfl) ?_
  refine o_get C h (RC := RJ2) (T := TJ2) (N := 3) (hal) rfl in_J2 2 (by decide) q214 rfl (v := .int (nI 0)) rfl dJ2_toArray_5 ?_
  refine call_S (As := [.ref e0, .int (nI 0)]) (rest := []) (n := 2) C h (cJ_cpOZ l D dA B Z hZ ws e0 mi hzs hza) (lw_S q436 q437 q143 q438) (by decide +kernel) (by decide) (by decide) rfl hl rfl (Nat.le_of_ble_eq_true rfl) dJ2_toArray_8 (by omega) (fun q9 H locs _ h => ?_)
  subst hQ
  exact ret_a C hr (Or.inr ⟨_, rfl⟩) hlocks h q9 trivial (Or.inr ⟨_, rfl⟩) rfl rfl (by omega) (by omega) dJ2_toArray_11
set_option maxHeartbeats 400000 in
set_option maxRecDepth 100000 in
theorem cJ_toArr (l : Launch) (D : va_G) (dA : Nat → ClassId) (B : Nat) (Z : State → Prop) (hZ : Stab B Z) (ws : va_W) (al ed n cap e0 mi : Nat) (mo : Int32) (g : Nat → Option Nat) (ci : Nat) (rC9 : vw_C) (hci : vwCl[ci]? = some rC9) (hca : Cond.castable rC9.1 "java/lang/Object" ∈ lw_tbl) (hzs : ZS dA B Z) (hza : ZA B e0 mi Z) (hal : (al, .inr (16, [.int mo, .ref ed, .int (nI n)])) ∈ ws) (hed : (ed, oar dA cap g) ∈ ws) (hn : n ≤ cap) (hc : cap < 10000) (hel : ∀ j, j < n → ∀ y, g j = some y → ∃ fs, (y, .inr (ci, fs)) ∈ ws) :
    Ct (S := Nat) l D dA B Z yJ2_toArray cJ2_toArray 1 (some ((.array (.object "java/lang/Object")))) 4 1 n [.ref al] (ws) (fun _ => True) (fun q => some (.ref q)) (fun q => ws ++ [(q, oar dA n (va_cpy g (fun _ => none) 0 0 n))]) := by
  refine Ct.mk2 (by decide) (Nat.le_of_ble_eq_true rfl) hZ ?_
  intro p e R s m args below meth c ls Q C hr hlocks hin hQ hl h
  have C0 := C
  obtain ⟨hx, hb, hml, hown, hts, -⟩ := C0
  have hl : lv_has ls 1 [(0, .ref al)] := hl
  have hmin : min cap n = n := by omega
  refine lv_aload_n hx hb dJ2_toArray_0 rfl (lv_at hl 0 rfl) ?_
  refine o_get C h (RC := RJ2) (T := TJ2) (N := 3) (hal) rfl in_J2 1 (by decide) q213 rfl (v := .ref ed) rfl dJ2_toArray_1 ?_
  refine lv_aload_n hx hb dJ2_toArray_4 rfl (lv_at hl 0 rfl) ?_
  refine o_get C h (RC := RJ2) (T := TJ2) (N := 3) (hal) rfl in_J2 2 (by decide) q214 rfl (v := .int (nI n)) rfl dJ2_toArray_5 ?_
  refine call_S (As := [.ref ed, .int (nI n)]) (rest := []) (n := 2) C h (cJ_cpO l D dA B Z hZ ws ed cap n e0 mi g ci rC9 hci hca hzs hza hed (by omega) (by omega) (fun j hj y hy => hel j (by omega) y hy)) (lw_S q436 q437 q143 q438) (by decide +kernel) (by decide) (by decide) rfl hl rfl (Nat.le_of_ble_eq_true rfl) dJ2_toArray_8 (by omega) (fun q9 H locs _ h => ?_)
  rw [hmin] at h
  subst hQ
  exact ret_a C hr (Or.inr ⟨_, rfl⟩) hlocks h q9 trivial (Or.inr ⟨_, rfl⟩) rfl rfl (by omega) (by omega) dJ2_toArray_11
set_option maxHeartbeats 400000 in
set_option maxRecDepth 100000 in
theorem cJ_addAllZ (l : Launch) (D : va_G) (dA : Nat → ClassId) (B : Nat) (Z : State → Prop) (hZ : Stab B Z) (F : va_W) (al a2 e0 mi : Nat) (mo m2 : Int32) (hzs : ZS dA B Z) (hza : ZA B e0 mi Z) (ha2 : (a2, .inr (16, [.int m2, .ref e0, .int (nI 0)])) ∈ F) :
    Ct (S := Nat) l D dA B Z yJ2_addAll cJ2_addAll 6 (some .boolean) 5 1 0 [.ref al, .ref a2] ([(al, .inr (16, [.int mo, .ref e0, .int (nI 0)]))] ++ F) (fun _ => True) (fun _ => some (.int (bZ false))) (fun q => [(al, .inr (16, [.int (mo + nI 1), .ref e0, .int (nI 0)]))] ++ (F ++ [(q, oar dA 0 (fun _ => none))])) := by
  refine Ct.mk2 (by decide) (Nat.le_of_ble_eq_true rfl) hZ ?_
  intro p e R s m args below meth c ls Q C hr hlocks hin hQ hl h
  have C0 := C
  obtain ⟨hx, hb, hml, hown, hts, -⟩ := C0
  have hl : lv_has ls 6 [(0, .ref al), (1, .ref a2)] := hl
  refine lv_aload_n hx hb dJ2_addAll_0 rfl (lv_at hl 1 rfl) ?_
  refine call_TA (rest := []) C h hza (cJ_toArrZ l D dA B Z hZ _ a2 e0 mi m2 hzs hza (List.mem_append_right _ ha2)) (lw_app (a := [.methodLink "java/util/ArrayList" 42 taN, .selects "java/util/ArrayList" taN taA, .instanceMethod taA, .initialized taA.cls]) (fun w9 hw9 => by
    simp only [List.mem_cons, List.not_mem_nil, or_false] at hw9
    rcases hw9 with rfl | rfl | rfl | rfl
    · exact q427
    · exact q431
    · exact q433
    · exact q133) (lw_meth q435)) (List.mem_append_right _ ha2) (by decide) (by decide) hl rfl (Nat.le_of_ble_eq_true rfl) dJ2_addAll_1 (by omega) (fun q9 H locs _ h => ?_)
  have h : Wd D B s ([(al, .inr (16, [.int mo, .ref e0, .int (nI 0)]))] ++ (F ++ [(q9, oar dA 0 (fun _ => none))])) H locs := h
  refine lv_astore_n (lv' := [(2, .ref q9), (0, .ref al), (1, .ref a2)]) hx hb dJ2_addAll_6 rfl hl (by decide) rfl (fun ls hl => ?_)
  refine lv_aload_n hx hb dJ2_addAll_7 rfl (lv_at hl 1 rfl) ?_
  refine lv_dup hx hb dJ2_addAll_8 rfl ?_
  refine o_getS C h (RC := RJ2) (T := TJ2) (N := 3) (List.mem_of_getElem? (i := 0) rfl) rfl in_J2 0 (by decide) q216 q217 (v := .int mo) rfl dJ2_addAll_9 ?_
  refine lv_iconst (v := nI 1) hx hb dJ2_addAll_12 (by decide) ?_
  refine lv_iadd hx hb dJ2_addAll_13 ?_
  refine o_putS C h 0 (RC := RJ2) (T := TJ2) (N := 3) (ws' := [(al, .inr (16, [.int (mo + (nI 1)), .ref e0, .int (nI 0)]))] ++ (F ++ [(q9, oar dA 0 (fun _ => none))])) rfl rfl in_J2 tyJ2_ok nmJ2 0 (by decide) q216 q217 rfl (v := .int (mo + (nI 1))) rfl rfl (Nat.le_of_ble_eq_true rfl) rfl dJ2_addAll_14 (fun H locs h => ?_)
  refine lv_aload_n hx hb dJ2_addAll_17 rfl (lv_at hl 0 rfl) ?_
  refine n_Oalen C h (List.mem_append_right _ (List.mem_append_right _ List.mem_cons_self)) dJ2_addAll_18 ?_
  refine lv_istore_n (lv' := [(3, .int (nI 0)), (2, .ref q9), (0, .ref al), (1, .ref a2)]) hx hb dJ2_addAll_19 rfl hl (by decide) rfl (fun ls hl => ?_)
  refine lv_iload_n hx hb dJ2_addAll_20 rfl (lv_at hl 0 rfl) ?_
  refine n_if_ne (tgt := 26) hx hb (by omega) dJ2_addAll_21 (by decide) (fun c21 => by exfalso; exact c21 rfl) (fun c21 => ?_)
  refine lv_iconst (v := nI 0) hx hb dJ2_addAll_24 (by decide) ?_
  subst hQ
  refine n_top (y := bZ false) rfl ?_
  exact ret_z C hr hlocks h q9 trivial rfl rfl (by omega) (by omega) dJ2_addAll_25
set_option maxHeartbeats 400000 in
set_option maxRecDepth 100000 in
theorem cJ_addAllW (l : Launch) (D : va_G) (dA : Nat → ClassId) (B : Nat) (Z : State → Prop) (hZ : Stab B Z) (F : va_W) (al a2 ed n cap e0 mi : Nat) (mo m2 : Int32) (g : Nat → Option Nat) (ci : Nat) (rC9 : vw_C) (hci : vwCl[ci]? = some rC9) (hca : Cond.castable rC9.1 "java/lang/Object" ∈ lw_tbl) (hzs : ZS dA B Z) (hza : ZA B e0 mi Z) (ha2 : (a2, .inr (16, [.int m2, .ref ed, .int (nI n)])) ∈ F) (hed : (ed, oar dA cap g) ∈ F) (h0 : 0 < n) (hn : n ≤ cap) (hn6 : n < 6000) (hc : cap < 10000) (hel : ∀ j, j < n → ∀ y, g j = some y → ∃ fs, (y, .inr (ci, fs)) ∈ F) :
    Ct (S := Nat × Nat) l D dA B Z yJ2_addAll cJ2_addAll 6 (some .boolean) 5 2 (n + max 10 n) [.ref al, .ref a2] ([(al, .inr (16, [.int mo, .ref e0, .int (nI 0)]))] ++ F) (fun _ => True) (fun _ => some (.int (bZ true))) (fun u => [(al, .inr (16, [.int (mo + nI 1), .ref u.1, .int (nI n)])), (u.1, oar dA (max 10 n) (va_cpy (va_cpy g (fun _ => none) 0 0 n) (fun _ => none) 0 0 n))] ++ (F ++ [(u.2, oar dA n (va_cpy g (fun _ => none) 0 0 n))])) := by
  refine Ct.mk2 (by decide) (Nat.le_of_ble_eq_true rfl) hZ ?_
  intro p e R s m args below meth c ls Q C hr hlocks hin hQ hl h
  have C0 := C
  obtain ⟨hx, hb, hml, hown, hts, -⟩ := C0
  have hl : lv_has ls 6 [(0, .ref al), (1, .ref a2)] := hl
  refine lv_aload_n hx hb dJ2_addAll_0 rfl (lv_at hl 1 rfl) ?_
  refine call_TA (rest := []) C h hza (cJ_toArr l D dA B Z hZ _ a2 ed n cap e0 mi m2 g ci rC9 hci hca hzs hza (List.mem_append_right _ ha2) (List.mem_append_right _ hed) hn (by omega) (fun j hj y hy => by obtain ⟨fs, hfs⟩ := hel j hj y hy; exact ⟨fs, List.mem_append_right _ hfs⟩)) (lw_app (a := [.methodLink "java/util/ArrayList" 42 taN, .selects "java/util/ArrayList" taN taA, .instanceMethod taA, .initialized taA.cls]) (fun w9 hw9 => by
    simp only [List.mem_cons, List.not_mem_nil, or_false] at hw9
    rcases hw9 with rfl | rfl | rfl | rfl
    · exact q427
    · exact q431
    · exact q433
    · exact q133) (lw_meth q435)) (List.mem_append_right _ ha2) (by decide) (by decide) hl rfl (Nat.le_of_ble_eq_true rfl) dJ2_addAll_1 (by omega) (fun q9 H locs _ h => ?_)
  have h : Wd D B s ([(al, .inr (16, [.int mo, .ref e0, .int (nI 0)]))] ++ (F ++ [(q9, oar dA n (va_cpy g (fun _ => none) 0 0 n))])) H locs := h
  refine lv_astore_n (lv' := [(2, .ref q9), (0, .ref al), (1, .ref a2)]) hx hb dJ2_addAll_6 rfl hl (by decide) rfl (fun ls hl => ?_)
  refine lv_aload_n hx hb dJ2_addAll_7 rfl (lv_at hl 1 rfl) ?_
  refine lv_dup hx hb dJ2_addAll_8 rfl ?_
  refine o_getS C h (RC := RJ2) (T := TJ2) (N := 3) (List.mem_of_getElem? (i := 0) rfl) rfl in_J2 0 (by decide) q216 q217 (v := .int mo) rfl dJ2_addAll_9 ?_
  refine lv_iconst (v := nI 1) hx hb dJ2_addAll_12 (by decide) ?_
  refine lv_iadd hx hb dJ2_addAll_13 ?_
  refine o_putS C h 0 (RC := RJ2) (T := TJ2) (N := 3) (ws' := [(al, .inr (16, [.int (mo + (nI 1)), .ref e0, .int (nI 0)]))] ++ (F ++ [(q9, oar dA n (va_cpy g (fun _ => none) 0 0 n))])) rfl rfl in_J2 tyJ2_ok nmJ2 0 (by decide) q216 q217 rfl (v := .int (mo + (nI 1))) rfl rfl (Nat.le_of_ble_eq_true rfl) rfl dJ2_addAll_14 (fun H locs h => ?_)
  refine lv_aload_n hx hb dJ2_addAll_17 rfl (lv_at hl 0 rfl) ?_
  refine n_Oalen C h (List.mem_append_right _ (List.mem_append_right _ List.mem_cons_self)) dJ2_addAll_18 ?_
  refine lv_istore_n (lv' := [(3, .int (nI n)), (2, .ref q9), (0, .ref al), (1, .ref a2)]) hx hb dJ2_addAll_19 rfl hl (by decide) rfl (fun ls hl => ?_)
  refine lv_iload_n hx hb dJ2_addAll_20 rfl (lv_at hl 0 rfl) ?_
  refine n_if_ne (tgt := 26) hx hb (by omega) dJ2_addAll_21 (by decide) (fun c21 => ?_) (fun c21 => by exfalso; omega)
  refine lv_iload_n hx hb dJ2_addAll_26 rfl (lv_at hl 0 rfl) ?_
  refine lv_aload_n hx hb dJ2_addAll_27 rfl (lv_at hl 2 rfl) ?_
  refine o_get C h (RC := RJ2) (T := TJ2) (N := 3) (List.mem_of_getElem? (i := 0) rfl) rfl in_J2 1 (by decide) q213 rfl (v := .ref e0) rfl dJ2_addAll_28 ?_
  refine lv_dup hx hb dJ2_addAll_31 rfl ?_
  refine lv_astore (lv' := [(4, .ref e0), (3, .int (nI n)), (2, .ref q9), (0, .ref al), (1, .ref a2)]) hx hb dJ2_addAll_32 hl (by decide) rfl (fun ls hl => ?_)
  refine z_len0 C h hza dJ2_addAll_34 ?_
  refine lv_aload_n hx hb dJ2_addAll_35 rfl (lv_at hl 3 rfl) ?_
  refine o_get C h (RC := RJ2) (T := TJ2) (N := 3) (List.mem_of_getElem? (i := 0) rfl) rfl in_J2 2 (by decide) q214 rfl (v := .int (nI 0)) rfl dJ2_addAll_36 ?_
  refine lv_dup hx hb dJ2_addAll_39 rfl ?_
  refine lv_istore (lv' := [(5, .int (nI 0)), (4, .ref e0), (3, .int (nI n)), (2, .ref q9), (0, .ref al), (1, .ref a2)]) hx hb dJ2_addAll_40 hl (by decide) rfl (fun ls hl => ?_)
  refine lv_isub hx hb dJ2_addAll_42 (n_top (y := nI 0) (by decide) ?_)
  refine n_icmp_le (tgt := 56) hx hb (by omega) (by omega) dJ2_addAll_43 (by decide) (fun c43 => by exfalso; omega) (fun c43 => ?_)
  refine lv_aload_n hx hb dJ2_addAll_46 rfl (lv_at hl 4 rfl) ?_
  refine lv_iload hx hb dJ2_addAll_47 (lv_at hl 0 rfl) ?_
  refine lv_iload_n hx hb dJ2_addAll_49 rfl (lv_at hl 2 rfl) ?_
  refine lv_iadd hx hb dJ2_addAll_50 (n_top (y := nI (0 + n)) (nI_add 0 n) ?_)
  refine call_VR (As := [.int (nI (0 + n))]) (rest := []) (n := 1) C h (cJ_growZ l D dA B Z hZ (F ++ [(q9, oar dA n (va_cpy g (fun _ => none) 0 0 n))]) al 0 (0 + n) e0 mi (mo + nI 1) hzs hza (by omega)) (lw_V q479 q481 qs0 q133 q482) (by decide +kernel) (o_recv C h (RC := RJ2) (T := TJ2) (N := 3) (List.mem_of_getElem? (i := 0) rfl) rfl) (by decide) (by decide) rfl hl rfl (Nat.le_of_ble_eq_true rfl) dJ2_addAll_51 (by omega) (fun q8 H locs _ h => ?_)
  have h : Wd D B s ([(al, .inr (16, [.int (mo + nI 1), .ref q8, .int (nI 0)])), (q8, oar dA (max 10 (0 + n)) (fun _ => none))] ++ (F ++ [(q9, oar dA n (va_cpy g (fun _ => none) 0 0 n))])) H locs := h
  refine lv_astore (lv' := [(4, .ref q8), (5, .int (nI 0)), (3, .int (nI n)), (2, .ref q9), (0, .ref al), (1, .ref a2)]) hx hb dJ2_addAll_54 hl (by decide) rfl (fun ls hl => ?_)
  refine lv_aload_n hx hb dJ2_addAll_56 rfl (lv_at hl 3 rfl) ?_
  refine lv_iconst (v := nI 0) hx hb dJ2_addAll_57 (by decide) ?_
  refine lv_aload hx hb dJ2_addAll_58 (lv_at hl 0 rfl) ?_
  refine lv_iload hx hb dJ2_addAll_60 (lv_at hl 1 rfl) ?_
  refine lv_iload_n hx hb dJ2_addAll_62 rfl (lv_at hl 2 rfl) ?_
  refine x_copyO C h 1 (n := n) (dp := 0) (sp := 0) (ws' := [(al, .inr (16, [.int (mo + nI 1), .ref q8, .int (nI 0)])), (q8, oar dA (max 10 (0 + n)) (va_cpy (va_cpy g (fun _ => none) 0 0 n) (fun _ => none) 0 0 n))] ++ (F ++ [(q9, oar dA n (va_cpy g (fun _ => none) 0 0 n))])) (List.mem_append_right _ (List.mem_append_right _ List.mem_cons_self)) rfl q495 q478 q477 q145 hci hca (fun i hi y hy => by rw [Nat.zero_add, cpy_lo hi] at hy; obtain ⟨fs, hfs⟩ := hel i hi y hy; exact ⟨fs, List.mem_append_right _ (List.mem_append_left _ hfs)⟩) (by omega) (by omega) (by omega) (by omega) hl.1 (by decide) (Nat.le_of_ble_eq_true rfl) rfl dJ2_addAll_63 (fun H locs h => ?_)
  refine lv_aload_n hx hb dJ2_addAll_66 rfl (lv_at hl 4 rfl) ?_
  refine lv_iload hx hb dJ2_addAll_67 (lv_at hl 1 rfl) ?_
  refine lv_iload_n hx hb dJ2_addAll_69 rfl (lv_at hl 2 rfl) ?_
  refine lv_iadd hx hb dJ2_addAll_70 (n_top (y := nI (0 + n)) (nI_add 0 n) ?_)
  refine o_put C h 0 (RC := RJ2) (T := TJ2) (N := 3) (ws' := [(al, .inr (16, [.int (mo + nI 1), .ref q8, .int (nI (0 + n))])), (q8, oar dA (max 10 (0 + n)) (va_cpy (va_cpy g (fun _ => none) 0 0 n) (fun _ => none) 0 0 n))] ++ (F ++ [(q9, oar dA n (va_cpy g (fun _ => none) 0 0 n))])) rfl rfl in_J2 tyJ2_ok nmJ2 2 (by decide) q214 rfl rfl (v := .int (nI (0 + n))) rfl rfl (Nat.le_of_ble_eq_true rfl) rfl dJ2_addAll_71 (fun H locs h => ?_)
  refine lv_iconst (v := nI 1) hx hb dJ2_addAll_74 (by decide) ?_
  subst hQ
  rw [Nat.zero_add] at h
  refine n_top (y := bZ true) rfl ?_
  exact ret_z C hr hlocks h (q8, q9) trivial rfl rfl (by omega) (by rw [Nat.zero_add]; omega) dJ2_addAll_75
set_option maxHeartbeats 400000 in
set_option maxRecDepth 100000 in
theorem cJ_fastRm (l : Launch) (D : va_G) (dA : Nat → ClassId) (B : Nat) (Z : State → Prop) (hZ : Stab B Z) (F : va_W) (al ed n cap i : Nat) (mo : Int32) (g : Nat → Option Nat) (ci : Nat) (rC9 : vw_C) (hci : vwCl[ci]? = some rC9) (hca : Cond.castable rC9.1 "java/lang/Object" ∈ lw_tbl) (hi : i < n) (hn : n ≤ cap) (hc : cap < 10000) (hel : ∀ j, j < n → ∀ y, g j = some y → ∃ fs, (y, .inr (ci, fs)) ∈ F) :
    Ct (S := Unit) l D dA B Z yJ2_fastRemove cJ2_fastRemove 4 none 2 0 0 [.ref al, .ref ed, .int (nI i)] ([(al, .inr (16, [.int mo, .ref ed, .int (nI n)])), (ed, oar dA cap g)] ++ F) (fun _ => True) (fun _ => none) (fun _ => [(al, .inr (16, [.int (mo + nI 1), .ref ed, .int (nI (n - 1))])), (ed, oar dA cap (rmG g i n))] ++ F) := by
  refine Ct.mk2 (by decide) (Nat.le_of_ble_eq_true rfl) hZ ?_
  intro p e R s m args below meth c ls Q C hr hlocks hin hQ hl h
  have C0 := C
  obtain ⟨hx, hb, hml, hown, hts, -⟩ := C0
  have hl : lv_has ls 4 [(0, .ref al), (1, .ref ed), (2, .int (nI i))] := hl
  refine lv_aload_n hx hb dJ2_fastRemove_0 rfl (lv_at hl 0 rfl) ?_
  refine lv_dup hx hb dJ2_fastRemove_1 rfl ?_
  refine o_getS C h (RC := RJ2) (T := TJ2) (N := 3) (List.mem_of_getElem? (i := 0) rfl) rfl in_J2 0 (by decide) q216 q217 (v := .int mo) rfl dJ2_fastRemove_2 ?_
  refine lv_iconst (v := nI 1) hx hb dJ2_fastRemove_5 (by decide) ?_
  refine lv_iadd hx hb dJ2_fastRemove_6 ?_
  refine o_putS C h 0 (RC := RJ2) (T := TJ2) (N := 3) (ws' := [(al, .inr (16, [.int (mo + (nI 1)), .ref ed, .int (nI n)])), (ed, oar dA cap g)] ++ F) rfl rfl in_J2 tyJ2_ok nmJ2 0 (by decide) q216 q217 rfl (v := .int (mo + (nI 1))) rfl rfl (Nat.le_of_ble_eq_true rfl) rfl dJ2_fastRemove_7 (fun H locs h => ?_)
  refine lv_aload_n hx hb dJ2_fastRemove_10 rfl (lv_at hl 0 rfl) ?_
  refine o_get C h (RC := RJ2) (T := TJ2) (N := 3) (List.mem_of_getElem? (i := 0) rfl) rfl in_J2 2 (by decide) q214 rfl (v := .int (nI n)) rfl dJ2_fastRemove_11 ?_
  refine lv_iconst (v := nI 1) hx hb dJ2_fastRemove_14 (by decide) ?_
  refine lv_isub hx hb dJ2_fastRemove_15 (n_top (y := nI (n - 1)) (pk_sub (by omega)) ?_)
  refine lv_dup hx hb dJ2_fastRemove_16 rfl ?_
  refine lv_istore_n (lv' := [(3, .int (nI (n - 1))), (0, .ref al), (1, .ref ed), (2, .int (nI i))]) hx hb dJ2_fastRemove_17 rfl hl (by decide) rfl (fun ls hl => ?_)
  refine lv_iload_n hx hb dJ2_fastRemove_18 rfl (lv_at hl 3 rfl) ?_
  refine n_icmp_le (tgt := 34) hx hb (by omega) (by omega) dJ2_fastRemove_19 (by decide) (fun c19 => ?_) (fun c19 => ?_)
  · refine lv_aload_n hx hb dJ2_fastRemove_34 rfl (lv_at hl 2 rfl) ?_
    refine lv_aload_n hx hb dJ2_fastRemove_35 rfl (lv_at hl 1 rfl) ?_
    refine lv_iload_n hx hb dJ2_fastRemove_36 rfl (lv_at hl 0 rfl) ?_
    refine lv_dup_x1 hx hb dJ2_fastRemove_37 rfl rfl ?_
    refine o_put C h 0 (RC := RJ2) (T := TJ2) (N := 3) (ws' := [(al, .inr (16, [.int (mo + (nI 1)), .ref ed, .int (nI (n - 1))])), (ed, oar dA cap g)] ++ F) rfl rfl in_J2 tyJ2_ok nmJ2 2 (by decide) q214 rfl rfl (v := .int (nI (n - 1))) rfl rfl (Nat.le_of_ble_eq_true rfl) rfl dJ2_fastRemove_38 (fun H locs h => ?_)
    refine lv_null hx hb dJ2_fastRemove_41 ?_
    refine x_oastN C h 1 (i := n - 1) (ws' := [(al, .inr (16, [.int (mo + (nI 1)), .ref ed, .int (nI (n - 1))])), (ed, oar dA cap (upN g (n - 1) none))] ++ F) rfl (by omega) (by omega) rfl dJ2_fastRemove_42 (fun H locs h => ?_)
    subst hQ
    have h : Wd D B s ([(al, .inr (16, [.int (mo + (nI 1)), .ref ed, .int (nI (n - 1))])), (ed, oar dA cap (rmG g i n))] ++ F) H locs := Wd.same h 1 rfl (oar_same (fun j hj => by
      rw [upN_if]
      unfold rmG
      split
      · rfl
      · split
        · next q1 q2 => first | (exfalso; omega) | (unfold va_cpy; rw [if_pos ⟨by omega, by omega⟩]; congr 1; omega)
        · first | rfl | (unfold va_cpy; rw [if_neg (by omega)]))) rfl
    exact ret_v C hr hlocks h () trivial rfl rfl (by omega) (by omega) dJ2_fastRemove_43
  · refine lv_aload_n hx hb dJ2_fastRemove_22 rfl (lv_at hl 2 rfl) ?_
    refine lv_iload_n hx hb dJ2_fastRemove_23 rfl (lv_at hl 3 rfl) ?_
    refine lv_iconst (v := nI 1) hx hb dJ2_fastRemove_24 (by decide) ?_
    refine lv_iadd hx hb dJ2_fastRemove_25 (n_top (y := nI (i + 1)) (nI_add i 1) ?_)
    refine lv_aload_n hx hb dJ2_fastRemove_26 rfl (lv_at hl 2 rfl) ?_
    refine lv_iload_n hx hb dJ2_fastRemove_27 rfl (lv_at hl 3 rfl) ?_
    refine lv_iload_n hx hb dJ2_fastRemove_28 rfl (lv_at hl 0 rfl) ?_
    refine lv_iload_n hx hb dJ2_fastRemove_29 rfl (lv_at hl 3 rfl) ?_
    refine lv_isub hx hb dJ2_fastRemove_30 (n_top (y := nI ((n - 1) - i)) (pk_sub (by omega)) ?_)
    refine x_copyO C h 1 (n := n - 1 - i) (dp := i) (sp := i + 1) (ws' := [(al, .inr (16, [.int (mo + (nI 1)), .ref ed, .int (nI n)])), (ed, oar dA cap (va_cpy g g (i + 1) i (n - 1 - i)))] ++ F) (List.mem_of_getElem? (i := 1) rfl) rfl q495 q478 q477 q145 hci hca (fun i9 hi9 y hy => by obtain ⟨fs, hfs⟩ := hel _ (by omega) y hy; exact ⟨fs, List.mem_append_right _ hfs⟩) (by omega) (by omega) (by omega) (by omega) hl.1 (by decide) (Nat.le_of_ble_eq_true rfl) rfl dJ2_fastRemove_31 (fun H locs h => ?_)
    refine lv_aload_n hx hb dJ2_fastRemove_34 rfl (lv_at hl 2 rfl) ?_
    refine lv_aload_n hx hb dJ2_fastRemove_35 rfl (lv_at hl 1 rfl) ?_
    refine lv_iload_n hx hb dJ2_fastRemove_36 rfl (lv_at hl 0 rfl) ?_
    refine lv_dup_x1 hx hb dJ2_fastRemove_37 rfl rfl ?_
    refine o_put C h 0 (RC := RJ2) (T := TJ2) (N := 3) (ws' := [(al, .inr (16, [.int (mo + (nI 1)), .ref ed, .int (nI (n - 1))])), (ed, oar dA cap (va_cpy g g (i + 1) i (n - 1 - i)))] ++ F) rfl rfl in_J2 tyJ2_ok nmJ2 2 (by decide) q214 rfl rfl (v := .int (nI (n - 1))) rfl rfl (Nat.le_of_ble_eq_true rfl) rfl dJ2_fastRemove_38 (fun H locs h => ?_)
    refine lv_null hx hb dJ2_fastRemove_41 ?_
    refine x_oastN C h 1 (i := n - 1) (ws' := [(al, .inr (16, [.int (mo + (nI 1)), .ref ed, .int (nI (n - 1))])), (ed, oar dA cap (upN (va_cpy g g (i + 1) i (n - 1 - i)) (n - 1) none))] ++ F) rfl (by omega) (by omega) rfl dJ2_fastRemove_42 (fun H locs h => ?_)
    subst hQ
    have h : Wd D B s ([(al, .inr (16, [.int (mo + (nI 1)), .ref ed, .int (nI (n - 1))])), (ed, oar dA cap (rmG g i n))] ++ F) H locs := Wd.same h 1 rfl (oar_same (fun j hj => by
      rw [upN_if]
      unfold rmG
      split
      · rfl
      · split
        · next q1 q2 => first | (exfalso; omega) | (unfold va_cpy; rw [if_pos ⟨by omega, by omega⟩]; congr 1; omega)
        · first | rfl | (unfold va_cpy; rw [if_neg (by omega)]))) rfl
    exact ret_v C hr hlocks h () trivial rfl rfl (by omega) (by omega) dJ2_fastRemove_43
set_option maxHeartbeats 400000 in
set_option maxRecDepth 100000 in
theorem cJ_remove (l : Launch) (D : va_G) (dA : Nat → ClassId) (B : Nat) (Z : State → Prop) (hZ : Stab B Z) (F : va_W) (al ed n cap i : Nat) (mo : Int32) (g : Nat → Option Nat) (ci : Nat) (rC9 : vw_C) (hci : vwCl[ci]? = some rC9) (hca : Cond.castable rC9.1 "java/lang/Object" ∈ lw_tbl) (a9 : Nat) (hi : i < n) (hn : n ≤ cap) (hc : cap < 10000) (hel : ∀ j, j < n → ∀ y, g j = some y → ∃ fs, (y, .inr (ci, fs)) ∈ F) (ho : g i = some a9) :
    Ct (S := Unit) l D dA B Z yJ2_remove cJ2_remove 4 (some ((.object "java/lang/Object"))) 3 0 0 [.ref al, .int (nI i)] ([(al, .inr (16, [.int mo, .ref ed, .int (nI n)])), (ed, oar dA cap g)] ++ F) (fun _ => True) (fun _ => some (.ref a9)) (fun _ => [(al, .inr (16, [.int (mo + nI 1), .ref ed, .int (nI (n - 1))])), (ed, oar dA cap (rmG g i n))] ++ F) := by
  refine Ct.mk2 (by decide) (Nat.le_of_ble_eq_true rfl) hZ ?_
  intro p e R s m args below meth c ls Q C hr hlocks hin hQ hl h
  have C0 := C
  obtain ⟨hx, hb, hml, hown, hts, -⟩ := C0
  have hl : lv_has ls 4 [(0, .ref al), (1, .int (nI i))] := hl
  refine lv_iload_n hx hb dJ2_remove_0 rfl (lv_at hl 1 rfl) ?_
  refine lv_aload_n hx hb dJ2_remove_1 rfl (lv_at hl 0 rfl) ?_
  refine o_get C h (RC := RJ2) (T := TJ2) (N := 3) (List.mem_of_getElem? (i := 0) rfl) rfl in_J2 2 (by decide) q214 rfl (v := .int (nI n)) rfl dJ2_remove_2 ?_
  refine call_S (As := [.int (nI i), .int (nI n)]) (rest := []) (n := 2) C h (cJ_chk l D dA B Z hZ _ i n hi (by omega)) (lw_S q368 q369 q139 q370) (by decide +kernel) (by decide) (by decide) rfl hl rfl (Nat.le_of_ble_eq_true rfl) dJ2_remove_5 (by omega) (fun _ H locs _ h => ?_)
  refine lv_pop hx hb dJ2_remove_8 rfl ?_
  refine lv_aload_n hx hb dJ2_remove_9 rfl (lv_at hl 0 rfl) ?_
  refine o_get C h (RC := RJ2) (T := TJ2) (N := 3) (List.mem_of_getElem? (i := 0) rfl) rfl in_J2 1 (by decide) q213 rfl (v := .ref ed) rfl dJ2_remove_10 ?_
  refine lv_astore_n (lv' := [(2, .ref ed), (0, .ref al), (1, .int (nI i))]) hx hb dJ2_remove_13 rfl hl (by decide) rfl (fun ls hl => ?_)
  refine lv_aload_n hx hb dJ2_remove_14 rfl (lv_at hl 0 rfl) ?_
  refine lv_iload_n hx hb dJ2_remove_15 rfl (lv_at hl 2 rfl) ?_
  refine n_oald C h (i := i) (o := some a9) (List.mem_of_getElem? (i := 1) rfl) (by omega) (by omega) ho dJ2_remove_16 ?_
  refine lv_astore_n (lv' := [(3, .ref a9), (2, .ref ed), (0, .ref al), (1, .int (nI i))]) hx hb dJ2_remove_17 rfl hl (by decide) rfl (fun ls hl => ?_)
  refine lv_aload_n hx hb dJ2_remove_18 rfl (lv_at hl 2 rfl) ?_
  refine lv_aload_n hx hb dJ2_remove_19 rfl (lv_at hl 1 rfl) ?_
  refine lv_iload_n hx hb dJ2_remove_20 rfl (lv_at hl 3 rfl) ?_
  refine call_VR (As := [.ref ed, .int (nI i)]) (rest := []) (n := 2) C h (cJ_fastRm l D dA B Z hZ F al ed n cap i mo g ci rC9 hci hca hi hn hc hel) (lw_V q1850 q1852 qs42 q133 q1853) (by decide +kernel) (o_recv C h (RC := RJ2) (T := TJ2) (N := 3) (List.mem_of_getElem? (i := 0) rfl) rfl) (by decide) (by decide) rfl hl rfl (Nat.le_of_ble_eq_true rfl) dJ2_remove_21 (by omega) (fun _ H locs _ h => ?_)
  have h : Wd D B s ([(al, .inr (16, [.int (mo + nI 1), .ref ed, .int (nI (n - 1))])), (ed, oar dA cap (rmG g i n))] ++ F) H locs := h
  refine lv_aload_n hx hb dJ2_remove_24 rfl (lv_at hl 0 rfl) ?_
  subst hQ
  exact ret_a C hr (Or.inl ⟨_, rfl⟩) hlocks h () trivial (Or.inr ⟨_, rfl⟩) rfl rfl (by omega) (by omega) dJ2_remove_25
