set_option maxRecDepth 100000
set_option maxHeartbeats 400000 in
set_option maxRecDepth 100000 in
theorem c12_hadBlank (l : Launch) (D : va_G) (dA : Nat → ClassId) (B : Nat) (Z : State → Prop) (hZ : Stab B Z) (F : va_W) (li tx sz nx fr to n0 : Nat) (gt : Nat → Nat) (lt : List Nat) (htx : (tx, bar dA n0 gt) ∈ F) (hgt : ∀ j, j < sz → gt j < 256) (hn0 : n0 < 1000000) (hsz : sz ≤ n0) (hft : fr ≤ to) (hto : to ≤ sz) (hlt : ∀ j, j < sz → gt j = gD lt j) :
    Ct (S := Unit) l D dA B Z yX12_hadBlank cX12_hadBlank 1 (some .boolean) 1 0 0 [.ref li] ([(li, .inr (9, [.ref tx, .int (nI sz), .int (nI nx), .int (nI fr), .int (nI to)]))] ++ F) (fun _ => True) (fun _ => some (.int (bZ (decide (to < sz) && decide (gD lt to = 32))))) (fun _ => [(li, .inr (9, [.ref tx, .int (nI sz), .int (nI nx), .int (nI fr), .int (nI to)]))] ++ F) := by
  refine Ct.mk2 (by decide) (Nat.le_of_ble_eq_true rfl) hZ ?_
  intro p e R s m args below meth c ls Q C hr hlocks hin hQ hl h
  have C0 := C
  obtain ⟨hx, hb, hml, hown, hts, -⟩ := C0
  have hl : lv_has ls 1 [(0, .ref li)] := hl
  refine lv_aload_n hx hb dX12_hadBlank_0 rfl (lv_at hl 0 rfl) ?_
  refine o_get C h (RC := RX12) (T := TX12) (N := 5) (List.mem_of_getElem? (i := 0) rfl) rfl in_X12 4 (by decide) q595 rfl (v := .int (nI to)) rfl dX12_hadBlank_1 ?_
  refine lv_aload_n hx hb dX12_hadBlank_4 rfl (lv_at hl 0 rfl) ?_
  refine o_get C h (RC := RX12) (T := TX12) (N := 5) (List.mem_of_getElem? (i := 0) rfl) rfl in_X12 1 (by decide) q591 rfl (v := .int (nI sz)) rfl dX12_hadBlank_5 ?_
  refine n_icmp_ge (tgt := 29) hx hb (by omega) (by omega) dX12_hadBlank_8 (by decide) (fun c8 => ?_) (fun c8 => ?_)
  · refine lv_iconst (v := nI 0) hx hb dX12_hadBlank_29 (by decide) ?_
    subst hQ
    refine n_top (y := bZ false) rfl ?_
    exact ret_z C hr hlocks h () trivial (by rw [decide_eq_false (show ¬ to < sz by omega), Bool.false_and]) rfl (by omega) (by omega) dX12_hadBlank_30
  · refine lv_aload_n hx hb dX12_hadBlank_11 rfl (lv_at hl 0 rfl) ?_
    refine o_get C h (RC := RX12) (T := TX12) (N := 5) (List.mem_of_getElem? (i := 0) rfl) rfl in_X12 0 (by decide) q589 rfl (v := .ref tx) rfl dX12_hadBlank_12 ?_
    refine lv_aload_n hx hb dX12_hadBlank_15 rfl (lv_at hl 0 rfl) ?_
    refine o_get C h (RC := RX12) (T := TX12) (N := 5) (List.mem_of_getElem? (i := 0) rfl) rfl in_X12 4 (by decide) q595 rfl (v := .int (nI to)) rfl dX12_hadBlank_16 ?_
    refine n_bald C h (v := gt to) (List.mem_append_right _ htx) (show to < n0 by omega) (by omega) rfl dX12_hadBlank_19 ?_
    refine lv_bipush (v := nI 32) hx hb dX12_hadBlank_20 (by decide) ?_
    refine lv_icmp_ne (tgt := 29) hx hb dX12_hadBlank_22 (by decide) (fun c22 => ?_) (fun c22 => ?_)
    · have d22 : ¬ gD lt to = 32 := fun z => c22 ((sb_is (hgt _ (by omega)) (by decide)).mpr ((hlt _ (by omega)).trans z))
      refine lv_iconst (v := nI 0) hx hb dX12_hadBlank_29 (by decide) ?_
      subst hQ
      refine n_top (y := bZ false) rfl ?_
      exact ret_z C hr hlocks h () trivial (by rw [decide_eq_false d22, Bool.and_false]) rfl (by omega) (by omega) dX12_hadBlank_30
    · have d22 : gD lt to = 32 := (hlt _ (by omega)).symm.trans ((sb_is (hgt _ (by omega)) (by decide)).mp c22)
      refine lv_iconst (v := nI 1) hx hb dX12_hadBlank_25 (by decide) ?_
      refine lv_goto (tgt := 30) hx hb dX12_hadBlank_26 (by decide) ?_
      subst hQ
      refine n_top (y := bZ true) rfl ?_
      exact ret_z C hr hlocks h () trivial (by rw [decide_eq_true (show to < sz by omega), decide_eq_true d22]; rfl) rfl (by omega) (by omega) dX12_hadBlank_30
