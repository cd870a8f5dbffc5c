set_option maxRecDepth 100000

theorem colF_t {l : List Nat} {a k n : Nat} (hk : k < n) (h1 : gD l (a + k) = 58) (h2 : gD l (a + k + 1) = 32) : colF l a n = true := by
  unfold colF
  rw [List.any_eq_true]
  exact ⟨k, List.mem_range.mpr hk, by simp [h1, h2]⟩

set_option maxHeartbeats 400000 in
set_option maxRecDepth 100000 in
theorem c12_length (l : Launch) (D : va_G) (dA : Nat → ClassId) (B : Nat) (Z : State → Prop) (hZ : Stab B Z) (F : va_W) (li tx sz nx fr to n0 : Nat) (gt : Nat → Nat) (htx : (tx, bar dA n0 gt) ∈ F) (hgt : ∀ j, j < sz → gt j < 256) (hn0 : n0 < 1000000) (hsz : sz ≤ n0) (hft : fr ≤ to) (hto : to ≤ sz) :
    Ct (S := Unit) l D dA B Z yX12_length cX12_length 1 (some .int) 1 0 0 [.ref li] ([(li, .inr (9, [.ref tx, .int (nI sz), .int (nI nx), .int (nI fr), .int (nI to)]))] ++ F) (fun _ => True) (fun _ => some (.int (nI (to - fr)))) (fun _ => [(li, .inr (9, [.ref tx, .int (nI sz), .int (nI nx), .int (nI fr), .int (nI to)]))] ++ F) := by
  refine Ct.mk2 (by decide) (Nat.le_of_ble_eq_true rfl) hZ ?_
  intro p e R s m args below meth c ls Q C hr hlocks hin hQ hl h
  have C0 := C
  obtain ⟨hx, hb, hml, hown, hts, -⟩ := C0
  have hl : lv_has ls 1 [(0, .ref li)] := hl
  refine lv_aload_n hx hb dX12_length_0 rfl (lv_at hl 0 rfl) ?_
  refine o_get C h (RC := RX12) (T := TX12) (N := 5) (List.mem_of_getElem? (i := 0) rfl) rfl in_X12 4 (by decide) q595 rfl (v := .int (nI to)) rfl dX12_length_1 ?_
  refine lv_aload_n hx hb dX12_length_4 rfl (lv_at hl 0 rfl) ?_
  refine o_get C h (RC := RX12) (T := TX12) (N := 5) (List.mem_of_getElem? (i := 0) rfl) rfl in_X12 3 (by decide) q593 rfl (v := .int (nI fr)) rfl dX12_length_5 ?_
  refine lv_isub hx hb dX12_length_8 (n_top (y := nI (to - fr)) (pk_sub (by omega)) ?_)
  subst hQ
  exact ret_i C hr hlocks h () trivial rfl rfl (by omega) (by omega) dX12_length_9
set_option maxHeartbeats 400000 in
set_option maxRecDepth 100000 in
theorem c12_at (l : Launch) (D : va_G) (dA : Nat → ClassId) (B : Nat) (Z : State → Prop) (hZ : Stab B Z) (F : va_W) (li tx sz nx fr to n0 : Nat) (gt : Nat → Nat) (i : Nat) (htx : (tx, bar dA n0 gt) ∈ F) (hgt : ∀ j, j < sz → gt j < 256) (hn0 : n0 < 1000000) (hsz : sz ≤ n0) (hft : fr ≤ to) (hto : to ≤ sz) (hi : fr + i < sz) :
    Ct (S := Unit) l D dA B Z yX12_at cX12_at 2 (some .int) 1 0 0 [.ref li, .int (nI i)] ([(li, .inr (9, [.ref tx, .int (nI sz), .int (nI nx), .int (nI fr), .int (nI to)]))] ++ F) (fun _ => True) (fun _ => some (.int (nI (gt (fr + i))))) (fun _ => [(li, .inr (9, [.ref tx, .int (nI sz), .int (nI nx), .int (nI fr), .int (nI to)]))] ++ F) := by
  refine Ct.mk2 (by decide) (Nat.le_of_ble_eq_true rfl) hZ ?_
  intro p e R s m args below meth c ls Q C hr hlocks hin hQ hl h
  have C0 := C
  obtain ⟨hx, hb, hml, hown, hts, -⟩ := C0
  have hl : lv_has ls 2 [(0, .ref li), (1, .int (nI i))] := hl
  refine lv_aload_n hx hb dX12_at_0 rfl (lv_at hl 0 rfl) ?_
  refine o_get C h (RC := RX12) (T := TX12) (N := 5) (List.mem_of_getElem? (i := 0) rfl) rfl in_X12 0 (by decide) q589 rfl (v := .ref tx) rfl dX12_at_1 ?_
  refine lv_aload_n hx hb dX12_at_4 rfl (lv_at hl 0 rfl) ?_
  refine o_get C h (RC := RX12) (T := TX12) (N := 5) (List.mem_of_getElem? (i := 0) rfl) rfl in_X12 3 (by decide) q593 rfl (v := .int (nI fr)) rfl dX12_at_5 ?_
  refine lv_iload_n hx hb dX12_at_8 rfl (lv_at hl 1 rfl) ?_
  refine lv_iadd hx hb dX12_at_9 (n_top (y := nI (fr + i)) (nI_add fr i) ?_)
  refine n_bald C h (v := gt (fr + i)) (List.mem_append_right _ htx) (show fr + i < n0 by omega) (by omega) rfl dX12_at_10 ?_
  refine lv_sipush (v := nI 255) hx hb dX12_at_11 (by decide) ?_
  refine lv_iand hx hb dX12_at_14 ?_
  refine n_top (y := nI (gt (fr + i))) ((sb_byte _ (hgt _ (by omega))).1) ?_
  subst hQ
  exact ret_i C hr hlocks h () trivial rfl rfl (by omega) (by omega) dX12_at_15
set_option maxHeartbeats 400000 in
set_option maxRecDepth 100000 in
theorem c12_more (l : Launch) (D : va_G) (dA : Nat → ClassId) (B : Nat) (Z : State → Prop) (hZ : Stab B Z) (F : va_W) (li tx sz nx fr to n0 : Nat) (gt : Nat → Nat) (htx : (tx, bar dA n0 gt) ∈ F) (hgt : ∀ j, j < sz → gt j < 256) (hn0 : n0 < 1000000) (hsz : sz ≤ n0) (hft : fr ≤ to) (hto : to ≤ sz) (hnx : nx < 1000000) :
    Ct (S := Unit) l D dA B Z yX12_more cX12_more 1 (some .boolean) 1 0 0 [.ref li] ([(li, .inr (9, [.ref tx, .int (nI sz), .int (nI nx), .int (nI fr), .int (nI to)]))] ++ F) (fun _ => True) (fun _ => some (.int (bZ (decide (nx < sz))))) (fun _ => [(li, .inr (9, [.ref tx, .int (nI sz), .int (nI nx), .int (nI fr), .int (nI to)]))] ++ F) := by
  refine Ct.mk2 (by decide) (Nat.le_of_ble_eq_true rfl) hZ ?_
  intro p e R s m args below meth c ls Q C hr hlocks hin hQ hl h
  have C0 := C
  obtain ⟨hx, hb, hml, hown, hts, -⟩ := C0
  have hl : lv_has ls 1 [(0, .ref li)] := hl
  refine lv_aload_n hx hb dX12_more_0 rfl (lv_at hl 0 rfl) ?_
  refine o_get C h (RC := RX12) (T := TX12) (N := 5) (List.mem_of_getElem? (i := 0) rfl) rfl in_X12 2 (by decide) q592 rfl (v := .int (nI nx)) rfl dX12_more_1 ?_
  refine lv_aload_n hx hb dX12_more_4 rfl (lv_at hl 0 rfl) ?_
  refine o_get C h (RC := RX12) (T := TX12) (N := 5) (List.mem_of_getElem? (i := 0) rfl) rfl in_X12 1 (by decide) q591 rfl (v := .int (nI sz)) rfl dX12_more_5 ?_
  refine n_icmp_ge (tgt := 15) hx hb (by omega) (by omega) dX12_more_8 (by decide) (fun c8 => ?_) (fun c8 => ?_)
  · refine lv_iconst (v := nI 0) hx hb dX12_more_15 (by decide) ?_
    subst hQ
    refine n_top (y := bZ false) rfl ?_
    exact ret_z C hr hlocks h () trivial (by rw [decide_eq_false (show ¬ nx < sz by omega)]) rfl (by omega) (by omega) dX12_more_16
  · refine lv_iconst (v := nI 1) hx hb dX12_more_11 (by decide) ?_
    refine lv_goto (tgt := 16) hx hb dX12_more_12 (by decide) ?_
    subst hQ
    refine n_top (y := bZ true) rfl ?_
    exact ret_z C hr hlocks h () trivial (by rw [decide_eq_true (show nx < sz by omega)]) rfl (by omega) (by omega) dX12_more_16
set_option maxHeartbeats 400000 in
set_option maxRecDepth 100000 in
theorem c12_init (l : Launch) (D : va_G) (dA : Nat → ClassId) (B : Nat) (Z : State → Prop) (hZ : Stab B Z) (F : va_W) (li tx sz : Nat)  :
    Ct (S := Unit) l D dA B Z yX12_init cX12_init 3 none 2 0 0 [.ref li, .ref tx, .int (nI sz)] ([(li, .inr (9, [.null, .int 0, .int 0, .int 0, .int 0]))] ++ F) (fun _ => True) (fun _ => none) (fun _ => [(li, .inr (9, [.ref tx, .int (nI sz), .int 0, .int 0, .int 0]))] ++ F) := by
  refine Ct.mk2 (by decide) (Nat.le_of_ble_eq_true rfl) hZ ?_
  intro p e R s m args below meth c ls Q C hr hlocks hin hQ hl h
  have C0 := C
  obtain ⟨hx, hb, hml, hown, hts, -⟩ := C0
  have hl : lv_has ls 3 [(0, .ref li), (1, .ref tx), (2, .int (nI sz))] := hl
  refine lv_aload_n hx hb dX12_init_0 rfl (lv_at hl 0 rfl) ?_
  refine o_init C h q588 hl.1 (by decide) (Nat.le_of_ble_eq_true rfl) dX12_init_1 ?_
  refine lv_aload_n hx hb dX12_init_4 rfl (lv_at hl 0 rfl) ?_
  refine lv_aload_n hx hb dX12_init_5 rfl (lv_at hl 1 rfl) ?_
  refine o_putF C h 0 (RC := RX12) (T := TX12) (N := 5) (ws' := [(li, .inr (9, [.ref tx, .int 0, .int 0, .int 0, .int 0]))] ++ F) rfl rfl in_X12 tyX12_ok nmX12 0 (by decide) q589 rfl rfl (hin rfl) rfl (v := .ref tx) rfl rfl (Nat.le_of_ble_eq_true rfl) rfl dX12_init_6 (fun H locs h => ?_)
  refine lv_aload_n hx hb dX12_init_9 rfl (lv_at hl 0 rfl) ?_
  refine lv_iload_n hx hb dX12_init_10 rfl (lv_at hl 2 rfl) ?_
  refine o_putF C h 0 (RC := RX12) (T := TX12) (N := 5) (ws' := [(li, .inr (9, [.ref tx, .int (nI sz), .int 0, .int 0, .int 0]))] ++ F) rfl rfl in_X12 tyX12_ok nmX12 1 (by decide) q591 rfl rfl (hin rfl) rfl (v := .int (nI sz)) rfl rfl (Nat.le_of_ble_eq_true rfl) rfl dX12_init_11 (fun H locs h => ?_)
  subst hQ
  exact ret_v C hr hlocks h () trivial rfl rfl (by omega) (by omega) dX12_init_14
set_option maxHeartbeats 400000 in
set_option maxRecDepth 100000 in
theorem c12_hasColon (l : Launch) (D : va_G) (dA : Nat → ClassId) (B : Nat) (Z : State → Prop) (hZ : Stab B Z) (F : va_W) (li tx sz nx fr to n0 : Nat) (gt : Nat → Nat) (lt : List Nat) (htx : (tx, bar dA n0 gt) ∈ F) (hgt : ∀ j, j < sz → gt j < 256) (hn0 : n0 < 1000000) (hsz : sz ≤ n0) (hft : fr ≤ to) (hto : to ≤ sz) (hlt : ∀ j, j < sz → gt j = gD lt j) :
    Ct (S := Unit) l D dA B Z yX12_hasColon cX12_hasColon 2 (some .boolean) 1 0 0 [.ref li] ([(li, .inr (9, [.ref tx, .int (nI sz), .int (nI nx), .int (nI fr), .int (nI to)]))] ++ F) (fun _ => True) (fun _ => some (.int (bZ (hasColon lt fr to)))) (fun _ => [(li, .inr (9, [.ref tx, .int (nI sz), .int (nI nx), .int (nI fr), .int (nI to)]))] ++ F) := by
  refine Ct.mk2 (by decide) (Nat.le_of_ble_eq_true rfl) hZ ?_
  intro p e R s m args below meth c ls Q C hr hlocks hin hQ hl h
  have C0 := C
  obtain ⟨hx, hb, hml, hown, hts, -⟩ := C0
  have hl : lv_has ls 2 [(0, .ref li)] := hl
  refine lv_aload_n hx hb dX12_hasColon_0 rfl (lv_at hl 0 rfl) ?_
  refine o_get C h (RC := RX12) (T := TX12) (N := 5) (List.mem_of_getElem? (i := 0) rfl) rfl in_X12 3 (by decide) q593 rfl (v := .int (nI fr)) rfl dX12_hasColon_1 ?_
  refine lv_istore_n (lv' := [(1, .int (nI fr)), (0, .ref li)]) hx hb dX12_hasColon_4 rfl hl (by decide) rfl (fun ls hl => ?_)
  have hl : lv_has ls 2 [(1, .int (nI (fr + 0))), (0, .ref li)] := hl
  have loop : ∀ (nn : Nat) (k : Nat), (fr + k ≤ to) → (colF lt fr k = false) → to - (fr + k) < nn → ∀ (H : Heap) (locs : List Loc), Wd D B s ([(li, .inr (9, [.ref tx, .int (nI sz), .int (nI nx), .int (nI fr), .int (nI to)]))] ++ F) H locs → ∀ (ls : Array Slot), lv_has ls 2 [(1, .int (nI (fr + k))), (0, .ref li)] → W p l e R s m args below meth c H locs 0 0 Q (F0 m 5 ls []) := by
    intro nn
    induction nn with
    | zero => intro k  hk0 hk1 hme; exact absurd hme (Nat.not_lt_zero _)
    | succ nn ih =>
      intro k  hk0 hk1 hme H locs h ls hl
      refine lv_iload_n hx hb dX12_hasColon_5 rfl (lv_at hl 0 rfl) ?_
      refine lv_iconst (v := nI 1) hx hb dX12_hasColon_6 (by decide) ?_
      refine lv_iadd hx hb dX12_hasColon_7 (n_top (y := nI (fr + k + 1)) (nI_add (fr + k) 1) ?_)
      refine lv_aload_n hx hb dX12_hasColon_8 rfl (lv_at hl 1 rfl) ?_
      refine o_get C h (RC := RX12) (T := TX12) (N := 5) (List.mem_of_getElem? (i := 0) rfl) rfl in_X12 4 (by decide) q595 rfl (v := .int (nI to)) rfl dX12_hasColon_9 ?_
      refine n_icmp_ge (tgt := 47) hx hb (by omega) (by omega) dX12_hasColon_12 (by decide) (fun c12 => ?_) (fun c12 => ?_)
      · refine lv_iconst (v := nI 0) hx hb dX12_hasColon_47 (by decide) ?_
        subst hQ
        have hfin : hasColon lt fr to = false := by
          unfold hasColon
          cases k with
          | zero => rw [show to - 1 - fr = 0 by omega]; exact hk1
          | succ k2 =>
            rcases Nat.lt_or_ge (to - 1 - fr) (k2 + 1) with q | q
            · rw [show k2 + 1 = (to - 1 - fr) + 1 by omega, colF_s, Bool.or_eq_false_iff] at hk1; exact hk1.1
            · rw [show to - 1 - fr = k2 + 1 by omega]; exact hk1
        refine n_top (y := bZ false) rfl ?_
        exact ret_z C hr hlocks h () trivial (by rw [hfin]) rfl (by omega) (by omega) dX12_hasColon_48
      · refine lv_aload_n hx hb dX12_hasColon_15 rfl (lv_at hl 1 rfl) ?_
        refine o_get C h (RC := RX12) (T := TX12) (N := 5) (List.mem_of_getElem? (i := 0) rfl) rfl in_X12 0 (by decide) q589 rfl (v := .ref tx) rfl dX12_hasColon_16 ?_
        refine lv_iload_n hx hb dX12_hasColon_19 rfl (lv_at hl 0 rfl) ?_
        refine n_bald C h (v := gt (fr + k)) (List.mem_append_right _ htx) (show fr + k < n0 by omega) (by omega) rfl dX12_hasColon_20 ?_
        refine lv_bipush (v := nI 58) hx hb dX12_hasColon_21 (by decide) ?_
        refine lv_icmp_ne (tgt := 41) hx hb dX12_hasColon_23 (by decide) (fun c23 => ?_) (fun c23 => ?_)
        · have d23 : ¬ gD lt (fr + k) = 58 := fun z => c23 ((sb_is (hgt _ (by omega)) (by decide)).mpr ((hlt _ (by omega)).trans z))
          refine lv_iinc (v := nI (fr + k + 1)) (lv' := [(1, .int (nI (fr + k + 1))), (0, .ref li)]) hx hb dX12_hasColon_41 hl (k := 0) rfl (nI_add (fr + k) 1) (by decide) rfl (fun ls hl => ?_)
          refine lv_goto (tgt := 5) hx hb dX12_hasColon_44 (by decide) ?_
          exact ih (k + 1) (by omega) (by rw [colF_s, hk1]; simp [d23]) (by omega) _ _ h _ (lv_sub hl [0, 1] rfl)
        · have d23 : gD lt (fr + k) = 58 := (hlt _ (by omega)).symm.trans ((sb_is (hgt _ (by omega)) (by decide)).mp c23)
          refine lv_aload_n hx hb dX12_hasColon_26 rfl (lv_at hl 1 rfl) ?_
          refine o_get C h (RC := RX12) (T := TX12) (N := 5) (List.mem_of_getElem? (i := 0) rfl) rfl in_X12 0 (by decide) q589 rfl (v := .ref tx) rfl dX12_hasColon_27 ?_
          refine lv_iload_n hx hb dX12_hasColon_30 rfl (lv_at hl 0 rfl) ?_
          refine lv_iconst (v := nI 1) hx hb dX12_hasColon_31 (by decide) ?_
          refine lv_iadd hx hb dX12_hasColon_32 (n_top (y := nI (fr + k + 1)) (nI_add (fr + k) 1) ?_)
          refine n_bald C h (v := gt (fr + k + 1)) (List.mem_append_right _ htx) (show fr + k + 1 < n0 by omega) (by omega) rfl dX12_hasColon_33 ?_
          refine lv_bipush (v := nI 32) hx hb dX12_hasColon_34 (by decide) ?_
          refine lv_icmp_ne (tgt := 41) hx hb dX12_hasColon_36 (by decide) (fun c36 => ?_) (fun c36 => ?_)
          · have d36 : ¬ gD lt (fr + k + 1) = 32 := fun z => c36 ((sb_is (hgt _ (by omega)) (by decide)).mpr ((hlt _ (by omega)).trans z))
            refine lv_iinc (v := nI (fr + k + 1)) (lv' := [(1, .int (nI (fr + k + 1))), (0, .ref li)]) hx hb dX12_hasColon_41 hl (k := 0) rfl (nI_add (fr + k) 1) (by decide) rfl (fun ls hl => ?_)
            refine lv_goto (tgt := 5) hx hb dX12_hasColon_44 (by decide) ?_
            exact ih (k + 1) (by omega) (by rw [colF_s, hk1]; simp [d23, d36]) (by omega) _ _ h _ (lv_sub hl [0, 1] rfl)
          · have d36 : gD lt (fr + k + 1) = 32 := (hlt _ (by omega)).symm.trans ((sb_is (hgt _ (by omega)) (by decide)).mp c36)
            refine lv_iconst (v := nI 1) hx hb dX12_hasColon_39 (by decide) ?_
            subst hQ
            have hfin : hasColon lt fr to = true := colF_t (k := k) (by omega) d23 d36
            refine n_top (y := bZ true) rfl ?_
            exact ret_z C hr hlocks h () trivial (by rw [hfin]) rfl (by omega) (by omega) dX12_hasColon_40
  exact loop _ 0 (by omega) rfl (Nat.lt_succ_self _) _ _ h _ (lv_sub hl [0, 1] rfl)
