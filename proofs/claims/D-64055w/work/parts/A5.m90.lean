set_option maxRecDepth 100000
set_option maxHeartbeats 400000 in
set_option maxRecDepth 100000 in
theorem cJ_range (l : Launch) (D : va_G) (dA : Nat → ClassId) (B : Nat) (Z : State → Prop) (hZ : Stab B Z) (ws : va_W) (n fr to : Nat) (h1 : fr ≤ to) (h2 : to ≤ n) (h3 : n < 1000000) :
    Ct (S := Unit) l D dA B Z yJ5_rangeCheck cJ5_rangeCheck 3 none 1 0 0 [.int (nI n), .int (nI fr), .int (nI to)] (ws) (fun _ => True) (fun _ => none) (fun _ => ws) := by
  refine Ct.mk2 (by decide) (Nat.le_of_ble_eq_true rfl) hZ ?_
  intro p e R s m args below meth c ls Q C hr hlocks hin hQ hl h
  have C0 := C
  obtain ⟨hx, hb, hml, hown, hts, -⟩ := C0
  have hl : lv_has ls 3 [(0, .int (nI n)), (1, .int (nI fr)), (2, .int (nI to))] := hl
  refine lv_iload_n hx hb dJ5_rangeCheck_0 rfl (lv_at hl 1 rfl) ?_
  refine lv_iload_n hx hb dJ5_rangeCheck_1 rfl (lv_at hl 2 rfl) ?_
  refine n_icmp_le (tgt := 46) hx hb (by omega) (by omega) dJ5_rangeCheck_2 (by decide) (fun c2 => ?_) (fun c2 => by exfalso; omega)
  refine lv_iload_n hx hb dJ5_rangeCheck_46 rfl (lv_at hl 1 rfl) ?_
  refine n_if_ge (tgt := 59) hx hb (by omega) dJ5_rangeCheck_47 (by decide) ?_
  refine lv_iload_n hx hb dJ5_rangeCheck_59 rfl (lv_at hl 2 rfl) ?_
  refine lv_iload_n hx hb dJ5_rangeCheck_60 rfl (lv_at hl 0 rfl) ?_
  refine n_icmp_le (tgt := 73) hx hb (by omega) (by omega) dJ5_rangeCheck_61 (by decide) (fun c61 => ?_) (fun c61 => by exfalso; omega)
  subst hQ
  exact ret_v C hr hlocks h () trivial rfl rfl (by omega) (by omega) dJ5_rangeCheck_73
set_option maxHeartbeats 400000 in
set_option maxRecDepth 100000 in
theorem cJ_fillB (l : Launch) (D : va_G) (dA : Nat → ClassId) (B : Nat) (Z : State → Prop) (hZ : Stab B Z) (F : va_W) (a n fr to : Nat) (g : Nat → Nat) (h1 : fr ≤ to) (h2 : to ≤ n) (h3 : n < 1000000) :
    Ct (S := Unit) l D dA B Z yJ5_fill cJ5_fill 5 none 2 0 0 [.ref a, .int (nI fr), .int (nI to), .int (-1)] ([(a, bar dA n g)] ++ F) (fun _ => True) (fun _ => none) (fun _ => [(a, bar dA n (flF g fr to))] ++ F) := by
  refine Ct.mk2 (by decide) (Nat.le_of_ble_eq_true rfl) hZ ?_
  intro p e R s m args below meth c ls Q C hr hlocks hin hQ hl h
  have C0 := C
  obtain ⟨hx, hb, hml, hown, hts, -⟩ := C0
  have hl : lv_has ls 5 [(0, .ref a), (1, .int (nI fr)), (2, .int (nI to)), (3, .int (-1))] := hl
  refine lv_aload_n hx hb dJ5_fill_0 rfl (lv_at hl 0 rfl) ?_
  refine n_balen C h (List.mem_of_getElem? (i := 0) rfl) dJ5_fill_1 ?_
  refine lv_iload_n hx hb dJ5_fill_2 rfl (lv_at hl 1 rfl) ?_
  refine lv_iload_n hx hb dJ5_fill_3 rfl (lv_at hl 2 rfl) ?_
  refine call_S (As := [.int (nI n), .int (nI fr), .int (nI to)]) (rest := []) (n := 3) C h (cJ_range l D dA B Z hZ _ n fr to h1 h2 h3) (lw_S q1558 q1559 q143 q1560) (by decide +kernel) (by decide) (by decide) rfl hl rfl (Nat.le_of_ble_eq_true rfl) dJ5_fill_4 (by omega) (fun _ H locs _ h => ?_)
  refine lv_iload_n hx hb dJ5_fill_7 rfl (lv_at hl 1 rfl) ?_
  refine lv_istore (lv' := [(4, .int (nI fr)), (0, .ref a), (1, .int (nI fr)), (2, .int (nI to)), (3, .int (-1))]) hx hb dJ5_fill_8 hl (by decide) rfl (fun ls hl => ?_)
  have h : Wd D B s ([(a, bar dA n (flF g fr fr))] ++ F) H locs := Wd.same h 0 rfl (bar_same (fun j hj => by unfold flF; rw [if_neg (by omega)])) rfl
  have loop : ∀ (nn : Nat) (i : Nat), (fr ≤ i) → (i ≤ to) → to - i < nn → ∀ (H : Heap) (locs : List Loc), Wd D B s ([(a, bar dA n (flF g fr i))] ++ F) H locs → ∀ (ls : Array Slot), lv_has ls 5 [(4, .int (nI i)), (0, .ref a), (1, .int (nI fr)), (2, .int (nI to)), (3, .int (-1))] → W p l e R s m args below meth c H locs (0 + 0) (0 + 0) Q (F0 m 10 ls []) := by
    intro nn
    induction nn with
    | zero => intro i  hi0 hi1 hme; exact absurd hme (Nat.not_lt_zero _)
    | succ nn ih =>
      intro i  hi0 hi1 hme H locs h ls hl
      refine lv_iload hx hb dJ5_fill_10 (lv_at hl 0 rfl) ?_
      refine lv_iload_n hx hb dJ5_fill_12 rfl (lv_at hl 3 rfl) ?_
      refine n_icmp_ge (tgt := 27) hx hb (by omega) (by omega) dJ5_fill_13 (by decide) (fun c13 => ?_) (fun c13 => ?_)
      · subst hQ
        have hie : i = to := by omega
        rw [hie] at h
        exact ret_v C hr hlocks h () trivial rfl rfl (by omega) (by omega) dJ5_fill_27
      · refine lv_aload_n hx hb dJ5_fill_16 rfl (lv_at hl 1 rfl) ?_
        refine lv_iload hx hb dJ5_fill_17 (lv_at hl 0 rfl) ?_
        refine lv_iload_n hx hb dJ5_fill_19 rfl (lv_at hl 4 rfl) ?_
        refine x_bast C h 0 (v := 255) (ws' := [(a, bar dA n (upN (flF g fr i) i 255))] ++ F) rfl (by omega) (by omega) (by decide) rfl dJ5_fill_20 (fun H locs h => ?_)
        have h : Wd D B s ([(a, bar dA n (flF g fr (i + 1)))] ++ F) H locs := Wd.same h 0 rfl (bar_same (fun j hj => by rw [upN_if]; unfold flF; by_cases q : j = i; rw [if_pos q, if_pos (by omega)]; rw [if_neg q]; by_cases q2 : fr ≤ j ∧ j < i; rw [if_pos q2, if_pos (by omega)]; rw [if_neg q2, if_neg (by omega)])) rfl
        refine lv_iinc (v := nI (i + 1)) (lv' := [(4, .int (nI (i + 1))), (0, .ref a), (1, .int (nI fr)), (2, .int (nI to)), (3, .int (-1))]) hx hb dJ5_fill_21 hl (k := 0) rfl (nI_add i 1) (by decide) rfl (fun ls hl => ?_)
        refine lv_goto (tgt := 10) hx hb dJ5_fill_24 (by decide) ?_
        exact ih (i + 1) (by omega) (by omega) (by omega) _ _ h _ (lv_sub hl [0, 1, 2, 3, 4] rfl)
  exact loop _ fr (by omega) (by omega) (Nat.lt_succ_self _) _ _ h _ (lv_sub hl [0, 1, 2, 3, 4] rfl)
set_option maxHeartbeats 400000 in
set_option maxRecDepth 100000 in
theorem c1_padded (l : Launch) (D : va_G) (dA : Nat → ClassId) (B : Nat) (Z : State → Prop) (hZ : Stab B Z) (F : va_W) (me bs dc ou rg h1 h2 dg pw tk pl pk tx sd : Nat) (sz : Nat) (f1 f2 n hh : Nat) (gd : Nat → Nat) (dl : List Nat) (hzf : ZF B f1 f2 Z) (hme : (me, .inr (0, [.ref bs, .int (nI sz), .ref dc, .ref ou, .ref rg, .ref h1, .ref h2, .ref dg, .ref pw, .ref tk, .ref pl, .ref pk, .ref tx, .ref sd])) ∈ F) (hdg9 : (dg, bar dA 32 gd) ∈ F) (hgd : ∀ j, j < dl.length → gd j = gD dl j) (hdl : dl.length ≤ 32) (hn : 30 + dl.length ≤ n) (hn2 : n < 1000) (hh9 : hh < 1000) :
    Ct (S := Nat) l D dA B Z yX1_padded cX1_padded 7 (some ((.array .byte))) 3 1 n [.ref me, .int (nI hh), .int (nI dl.length), .int (nI n)] (F) (fun _ => True) (fun q => some (.ref q)) (fun q => F ++ [(q, bal dA (padL (frontL hh) dl n))]) := by
  refine Ct.mk2 (by decide) (Nat.le_of_ble_eq_true rfl) hZ ?_
  intro p e R s m args below meth c ls Q C hr hlocks hin hQ hl h
  have C0 := C
  obtain ⟨hx, hb, hml, hown, hts, -⟩ := C0
  have hl : lv_has ls 7 [(0, .ref me), (1, .int (nI hh)), (2, .int (nI dl.length)), (3, .int (nI n))] := hl
  have hfl := frontL_len hh
  have hf1 : (frontL 2).length = 15 := rfl
  have hf2 : (frontL 8).length = 19 := rfl
  refine lv_iload_n hx hb dX1_padded_0 rfl (lv_at hl 1 rfl) ?_
  refine lv_iconst (v := nI 2) hx hb dX1_padded_1 (by decide) ?_
  refine n_icmp_ne (tgt := 11) hx hb (by omega) (by omega) dX1_padded_2 (by decide) (fun c2 => ?_) (fun c2 => ?_)
  · refine z_gets C h hzf.2.1 q1553 rfl dX1_padded_11 ?_
    refine lv_astore (lv' := [(4, .ref f2), (0, .ref me), (1, .int (nI hh)), (2, .int (nI dl.length)), (3, .int (nI n))]) hx hb dX1_padded_14 hl (by decide) rfl (fun ls hl => ?_)
    refine lv_iload_n hx hb dX1_padded_16 rfl (lv_at hl 4 rfl) ?_
    refine lv_iconst (v := nI 3) hx hb dX1_padded_17 (by decide) ?_
    refine lv_isub hx hb dX1_padded_18 (n_top (y := nI (n - 3)) (pk_sub (by omega)) ?_)
    refine lv_aload hx hb dX1_padded_19 (lv_at hl 0 rfl) ?_
    refine z_lenB C h hzf.2 dX1_padded_21 ?_
    refine lv_isub hx hb dX1_padded_22 (n_top (y := nI ((n - 3) - ((frontL 8).length))) (pk_sub (by omega)) ?_)
    refine lv_iload_n hx hb dX1_padded_23 rfl (lv_at hl 3 rfl) ?_
    refine lv_isub hx hb dX1_padded_24 (n_top (y := nI (((n - 3) - ((frontL 8).length)) - dl.length)) (pk_sub (by omega)) ?_)
    refine lv_istore (lv' := [(5, .int (nI (((n - 3) - ((frontL 8).length)) - dl.length))), (4, .ref f2), (0, .ref me), (1, .int (nI hh)), (2, .int (nI dl.length)), (3, .int (nI n))]) hx hb dX1_padded_25 hl (by decide) rfl (fun ls hl => ?_)
    refine lv_iload hx hb dX1_padded_27 (lv_at hl 0 rfl) ?_
    refine lv_bipush (v := nI 8) hx hb dX1_padded_29 (by decide) ?_
    refine n_icmp_ge (tgt := 36) hx hb (by omega) (by omega) dX1_padded_31 (by decide) (fun c31 => ?_) (fun c31 => by exfalso; omega)
    refine lv_iload_n hx hb dX1_padded_36 rfl (lv_at hl 5 rfl) ?_
    refine n_newb C h (n := n) q198 (by omega) (by omega) (by omega) dX1_padded_37 (fun o1 H h => ?_)
    have h := Wd.toFront h
    have h : Wd D B s ([(o1, bar dA n (fun _ => 0))] ++ F) H [] := h
    refine lv_astore (lv' := [(6, .ref o1), (5, .int (nI (((n - 3) - ((frontL 8).length)) - dl.length))), (4, .ref f2), (0, .ref me), (1, .int (nI hh)), (2, .int (nI dl.length)), (3, .int (nI n))]) hx hb dX1_padded_39 hl (by decide) rfl (fun ls hl => ?_)
    refine lv_aload hx hb dX1_padded_41 (lv_at hl 0 rfl) ?_
    refine lv_iconst (v := nI 2) hx hb dX1_padded_43 (by decide) ?_
    refine lv_iconst (v := nI 2) hx hb dX1_padded_44 (by decide) ?_
    refine lv_iload hx hb dX1_padded_45 (lv_at hl 1 rfl) ?_
    refine lv_iadd hx hb dX1_padded_47 (n_top (y := nI (2 + (((n - 3) - ((frontL 8).length)) - dl.length))) (nI_add 2 (((n - 3) - ((frontL 8).length)) - dl.length)) ?_)
    refine lv_iconst (v := -1) hx hb dX1_padded_48 (by decide) ?_
    refine call_S (As := [.ref o1, .int (nI 2), .int (nI (2 + (((n - 3) - ((frontL 8).length)) - dl.length))), .int (-1)]) (rest := []) (n := 4) C h (cJ_fillB l D dA B Z hZ F o1 n 2 (2 + (n - 3 - (frontL 8).length - dl.length)) (fun _ => 0) (by omega) (by omega) (by omega)) (lw_S q1555 q1556 q143 q1557) (by decide +kernel) (by decide) (by decide) rfl hl rfl (Nat.le_of_ble_eq_true rfl) dX1_padded_49 (by omega) (fun _ H locs _ h => ?_)
    have h : Wd D B s ([(o1, bar dA n (flF (fun _ => 0) 2 (2 + (n - 3 - (frontL 8).length - dl.length))))] ++ F) H locs := h
    refine lv_aload hx hb dX1_padded_52 (lv_at hl 0 rfl) ?_
    refine lv_iconst (v := nI 1) hx hb dX1_padded_54 (by decide) ?_
    refine lv_iconst (v := nI 1) hx hb dX1_padded_55 (by decide) ?_
    refine x_bast C h 0 (v := 1) (ws' := [(o1, bar dA n (upN (flF (fun _ => 0) 2 (2 + (n - 3 - (frontL 8).length - dl.length))) 1 1))] ++ F) rfl (by omega) (by omega) (by decide) rfl dX1_padded_56 (fun H locs h => ?_)
    refine lv_aload hx hb dX1_padded_57 (lv_at hl 2 rfl) ?_
    refine lv_iconst (v := nI 0) hx hb dX1_padded_59 (by decide) ?_
    refine lv_aload hx hb dX1_padded_60 (lv_at hl 0 rfl) ?_
    refine lv_iconst (v := nI 3) hx hb dX1_padded_62 (by decide) ?_
    refine lv_iload hx hb dX1_padded_63 (lv_at hl 1 rfl) ?_
    refine lv_iadd hx hb dX1_padded_65 (n_top (y := nI (3 + (((n - 3) - ((frontL 8).length)) - dl.length))) (nI_add 3 (((n - 3) - ((frontL 8).length)) - dl.length)) ?_)
    refine lv_aload hx hb dX1_padded_66 (lv_at hl 2 rfl) ?_
    refine z_lenB C h hzf.2 dX1_padded_68 ?_
    refine z_copyB C h 0 (n := (frontL 8).length) (dp := 3 + (((n - 3) - ((frontL 8).length)) - dl.length)) (ws' := [(o1, bar dA n (va_cpy (gD (frontL 8)) (upN (flF (fun _ => 0) 2 (2 + (n - 3 - (frontL 8).length - dl.length))) 1 1) 0 (3 + (((n - 3) - ((frontL 8).length)) - dl.length)) ((frontL 8).length)))] ++ F) hzf.2 rfl q1252 q478 q477 q145 rfl (by omega) (by decide) (by omega) hl.1 (by decide) (Nat.le_of_ble_eq_true rfl) rfl dX1_padded_69 (fun H locs h => ?_)
    refine lv_aload_n hx hb dX1_padded_72 rfl (lv_at hl 3 rfl) ?_
    refine o_get C h (RC := RX1) (T := TX1) (N := 14) (List.mem_append_right _ hme) rfl in_X1 7 (by decide) q315 rfl (v := .ref dg) rfl dX1_padded_73 ?_
    refine lv_iconst (v := nI 0) hx hb dX1_padded_76 (by decide) ?_
    refine lv_aload hx hb dX1_padded_77 (lv_at hl 0 rfl) ?_
    refine lv_iload_n hx hb dX1_padded_79 rfl (lv_at hl 6 rfl) ?_
    refine lv_iload_n hx hb dX1_padded_80 rfl (lv_at hl 5 rfl) ?_
    refine lv_isub hx hb dX1_padded_81 (n_top (y := nI (n - dl.length)) (pk_sub (by omega)) ?_)
    refine lv_iload_n hx hb dX1_padded_82 rfl (lv_at hl 5 rfl) ?_
    refine x_copyb C h 0 (n := dl.length) (dp := n - dl.length) (sp := 0) (ws' := [(o1, bar dA n (va_cpy gd (va_cpy (gD (frontL 8)) (upN (flF (fun _ => 0) 2 (2 + (n - 3 - (frontL 8).length - dl.length))) 1 1) 0 (3 + (((n - 3) - ((frontL 8).length)) - dl.length)) ((frontL 8).length)) 0 (n - dl.length) dl.length))] ++ F) (List.mem_append_right _ hdg9) rfl q1252 q478 q477 q145 (by omega) (by omega) (by omega) (by omega) hl.1 (by decide) (Nat.le_of_ble_eq_true rfl) rfl dX1_padded_83 (fun H locs h => ?_)
    refine lv_aload hx hb dX1_padded_86 (lv_at hl 0 rfl) ?_
    subst hQ
    have hLe : frontL hh = (frontL 8) := by unfold frontL; rw [if_neg (show ¬ hh = 2 by omega), if_neg (by decide)]
    have h : Wd D B s ([(o1, bar dA n (gD (padL (frontL 8) dl n)))] ++ F) H locs := Wd.same h 0 rfl (bar_same (fun j hj => pad_eq (lf := n - 3 - (frontL 8).length - dl.length) (by omega) hgd hj)) rfl
    have h : Wd D B s (F ++ [(o1, bal dA (padL (frontL hh) dl n))]) H locs := by
      rw [hLe]
      show Wd D B s (F ++ [(o1, bar dA (padL (frontL 8) dl n).length (gD (padL (frontL 8) dl n)))]) H locs
      rw [show (padL (frontL 8) dl n).length = n from sl_len _ _ _]
      exact h.permL (perm_add (fun g f p0 p1 p2 => by (try simp only [p0, p1, p2]) <;> omega))
    exact ret_a C hr (Or.inr ⟨_, rfl⟩) hlocks h o1 trivial (Or.inr ⟨_, rfl⟩) rfl rfl (by omega) (by omega) dX1_padded_88
  · refine z_gets C h hzf.1.1 q1551 rfl dX1_padded_5 ?_
    refine lv_goto (tgt := 14) hx hb dX1_padded_8 (by decide) ?_
    refine lv_astore (lv' := [(4, .ref f1), (0, .ref me), (1, .int (nI hh)), (2, .int (nI dl.length)), (3, .int (nI n))]) hx hb dX1_padded_14 hl (by decide) rfl (fun ls hl => ?_)
    refine lv_iload_n hx hb dX1_padded_16 rfl (lv_at hl 4 rfl) ?_
    refine lv_iconst (v := nI 3) hx hb dX1_padded_17 (by decide) ?_
    refine lv_isub hx hb dX1_padded_18 (n_top (y := nI (n - 3)) (pk_sub (by omega)) ?_)
    refine lv_aload hx hb dX1_padded_19 (lv_at hl 0 rfl) ?_
    refine z_lenB C h hzf.1 dX1_padded_21 ?_
    refine lv_isub hx hb dX1_padded_22 (n_top (y := nI ((n - 3) - ((frontL 2).length))) (pk_sub (by omega)) ?_)
    refine lv_iload_n hx hb dX1_padded_23 rfl (lv_at hl 3 rfl) ?_
    refine lv_isub hx hb dX1_padded_24 (n_top (y := nI (((n - 3) - ((frontL 2).length)) - dl.length)) (pk_sub (by omega)) ?_)
    refine lv_istore (lv' := [(5, .int (nI (((n - 3) - ((frontL 2).length)) - dl.length))), (4, .ref f1), (0, .ref me), (1, .int (nI hh)), (2, .int (nI dl.length)), (3, .int (nI n))]) hx hb dX1_padded_25 hl (by decide) rfl (fun ls hl => ?_)
    refine lv_iload hx hb dX1_padded_27 (lv_at hl 0 rfl) ?_
    refine lv_bipush (v := nI 8) hx hb dX1_padded_29 (by decide) ?_
    refine n_icmp_ge (tgt := 36) hx hb (by omega) (by omega) dX1_padded_31 (by decide) (fun c31 => ?_) (fun c31 => by exfalso; omega)
    refine lv_iload_n hx hb dX1_padded_36 rfl (lv_at hl 5 rfl) ?_
    refine n_newb C h (n := n) q198 (by omega) (by omega) (by omega) dX1_padded_37 (fun o2 H h => ?_)
    have h := Wd.toFront h
    have h : Wd D B s ([(o2, bar dA n (fun _ => 0))] ++ F) H [] := h
    refine lv_astore (lv' := [(6, .ref o2), (5, .int (nI (((n - 3) - ((frontL 2).length)) - dl.length))), (4, .ref f1), (0, .ref me), (1, .int (nI hh)), (2, .int (nI dl.length)), (3, .int (nI n))]) hx hb dX1_padded_39 hl (by decide) rfl (fun ls hl => ?_)
    refine lv_aload hx hb dX1_padded_41 (lv_at hl 0 rfl) ?_
    refine lv_iconst (v := nI 2) hx hb dX1_padded_43 (by decide) ?_
    refine lv_iconst (v := nI 2) hx hb dX1_padded_44 (by decide) ?_
    refine lv_iload hx hb dX1_padded_45 (lv_at hl 1 rfl) ?_
    refine lv_iadd hx hb dX1_padded_47 (n_top (y := nI (2 + (((n - 3) - ((frontL 2).length)) - dl.length))) (nI_add 2 (((n - 3) - ((frontL 2).length)) - dl.length)) ?_)
    refine lv_iconst (v := -1) hx hb dX1_padded_48 (by decide) ?_
    refine call_S (As := [.ref o2, .int (nI 2), .int (nI (2 + (((n - 3) - ((frontL 2).length)) - dl.length))), .int (-1)]) (rest := []) (n := 4) C h (cJ_fillB l D dA B Z hZ F o2 n 2 (2 + (n - 3 - (frontL 2).length - dl.length)) (fun _ => 0) (by omega) (by omega) (by omega)) (lw_S q1555 q1556 q143 q1557) (by decide +kernel) (by decide) (by decide) rfl hl rfl (Nat.le_of_ble_eq_true rfl) dX1_padded_49 (by omega) (fun _ H locs _ h => ?_)
    have h : Wd D B s ([(o2, bar dA n (flF (fun _ => 0) 2 (2 + (n - 3 - (frontL 2).length - dl.length))))] ++ F) H locs := h
    refine lv_aload hx hb dX1_padded_52 (lv_at hl 0 rfl) ?_
    refine lv_iconst (v := nI 1) hx hb dX1_padded_54 (by decide) ?_
    refine lv_iconst (v := nI 1) hx hb dX1_padded_55 (by decide) ?_
    refine x_bast C h 0 (v := 1) (ws' := [(o2, bar dA n (upN (flF (fun _ => 0) 2 (2 + (n - 3 - (frontL 2).length - dl.length))) 1 1))] ++ F) rfl (by omega) (by omega) (by decide) rfl dX1_padded_56 (fun H locs h => ?_)
    refine lv_aload hx hb dX1_padded_57 (lv_at hl 2 rfl) ?_
    refine lv_iconst (v := nI 0) hx hb dX1_padded_59 (by decide) ?_
    refine lv_aload hx hb dX1_padded_60 (lv_at hl 0 rfl) ?_
    refine lv_iconst (v := nI 3) hx hb dX1_padded_62 (by decide) ?_
    refine lv_iload hx hb dX1_padded_63 (lv_at hl 1 rfl) ?_
    refine lv_iadd hx hb dX1_padded_65 (n_top (y := nI (3 + (((n - 3) - ((frontL 2).length)) - dl.length))) (nI_add 3 (((n - 3) - ((frontL 2).length)) - dl.length)) ?_)
    refine lv_aload hx hb dX1_padded_66 (lv_at hl 2 rfl) ?_
    refine z_lenB C h hzf.1 dX1_padded_68 ?_
    refine z_copyB C h 0 (n := (frontL 2).length) (dp := 3 + (((n - 3) - ((frontL 2).length)) - dl.length)) (ws' := [(o2, bar dA n (va_cpy (gD (frontL 2)) (upN (flF (fun _ => 0) 2 (2 + (n - 3 - (frontL 2).length - dl.length))) 1 1) 0 (3 + (((n - 3) - ((frontL 2).length)) - dl.length)) ((frontL 2).length)))] ++ F) hzf.1 rfl q1252 q478 q477 q145 rfl (by omega) (by decide) (by omega) hl.1 (by decide) (Nat.le_of_ble_eq_true rfl) rfl dX1_padded_69 (fun H locs h => ?_)
    refine lv_aload_n hx hb dX1_padded_72 rfl (lv_at hl 3 rfl) ?_
    refine o_get C h (RC := RX1) (T := TX1) (N := 14) (List.mem_append_right _ hme) rfl in_X1 7 (by decide) q315 rfl (v := .ref dg) rfl dX1_padded_73 ?_
    refine lv_iconst (v := nI 0) hx hb dX1_padded_76 (by decide) ?_
    refine lv_aload hx hb dX1_padded_77 (lv_at hl 0 rfl) ?_
    refine lv_iload_n hx hb dX1_padded_79 rfl (lv_at hl 6 rfl) ?_
    refine lv_iload_n hx hb dX1_padded_80 rfl (lv_at hl 5 rfl) ?_
    refine lv_isub hx hb dX1_padded_81 (n_top (y := nI (n - dl.length)) (pk_sub (by omega)) ?_)
    refine lv_iload_n hx hb dX1_padded_82 rfl (lv_at hl 5 rfl) ?_
    refine x_copyb C h 0 (n := dl.length) (dp := n - dl.length) (sp := 0) (ws' := [(o2, bar dA n (va_cpy gd (va_cpy (gD (frontL 2)) (upN (flF (fun _ => 0) 2 (2 + (n - 3 - (frontL 2).length - dl.length))) 1 1) 0 (3 + (((n - 3) - ((frontL 2).length)) - dl.length)) ((frontL 2).length)) 0 (n - dl.length) dl.length))] ++ F) (List.mem_append_right _ hdg9) rfl q1252 q478 q477 q145 (by omega) (by omega) (by omega) (by omega) hl.1 (by decide) (Nat.le_of_ble_eq_true rfl) rfl dX1_padded_83 (fun H locs h => ?_)
    refine lv_aload hx hb dX1_padded_86 (lv_at hl 0 rfl) ?_
    subst hQ
    have hLe : frontL hh = (frontL 2) := by rw [show hh = 2 by omega]
    have h : Wd D B s ([(o2, bar dA n (gD (padL (frontL 2) dl n)))] ++ F) H locs := Wd.same h 0 rfl (bar_same (fun j hj => pad_eq (lf := n - 3 - (frontL 2).length - dl.length) (by omega) hgd hj)) rfl
    have h : Wd D B s (F ++ [(o2, bal dA (padL (frontL hh) dl n))]) H locs := by
      rw [hLe]
      show Wd D B s (F ++ [(o2, bar dA (padL (frontL 2) dl n).length (gD (padL (frontL 2) dl n)))]) H locs
      rw [show (padL (frontL 2) dl n).length = n from sl_len _ _ _]
      exact h.permL (perm_add (fun g f p0 p1 p2 => by (try simp only [p0, p1, p2]) <;> omega))
    exact ret_a C hr (Or.inr ⟨_, rfl⟩) hlocks h o2 trivial (Or.inr ⟨_, rfl⟩) rfl rfl (by omega) (by omega) dX1_padded_88
