set_option maxRecDepth 100000
set_option maxHeartbeats 400000 in
set_option maxRecDepth 100000 in
theorem c12_fault (l : Launch) (D : va_G) (dA : Nat → ClassId) (B : Nat) (Z : State → Prop) (hZ : Stab B Z) (ws : va_W) (li k : Nat) (hlt : l.stackTraces = false) (hzx : ZX B Z) :
    Ct (S := Nat × (Nat → Value)) l D dA B Z yX12_fault cX12_fault 2 (some ((.object "SignetRing$Fault"))) 7 1 7 [.ref li, .int (nI k)] (ws) (fun _ => True) (fun u => some (.ref u.1)) (fun u => [(u.1, .inr (10, fts u.2 (-100000 - nI k)))] ++ ws) := by
  refine Ct.mk2 (by decide) (Nat.le_of_ble_eq_true rfl) hZ ?_
  intro p e R s m args below meth c ls Q C hr hlocks hin hQ hl h
  have C0 := C
  obtain ⟨hx, hb, hml, hown, hts, -⟩ := C0
  have hl : lv_has ls 2 [(0, .ref li), (1, .int (nI k))] := hl
  refine o_newB C h (RC := RX13) (T := TX13) (N := 7) (ci := 10) (fs := ftc0) rfl in_X13 tyX13_ok q616 q617 q153 dv_X13 (by omega) (by omega) dX12_fault_0 (fun o1 H hfr h => ?_)
  have h : Wd D B s ([(o1, .inr (10, ftc0))] ++ ws) H [] := Wd.toFront h
  refine lv_dup hx hb dX12_fault_3 rfl ?_
  refine lv_ldc hx hb hown (hts _ q660) dX12_fault_4 ?_
  refine lv_iload_n hx hb dX12_fault_6 rfl (lv_at hl 1 rfl) ?_
  refine lv_isub hx hb dX12_fault_7 ?_
  refine call_IF (t := (-100000) - (nI k)) (rest := [.ref o1]) C hlt hzx h hfr q661 (by decide) hl (Nat.le_of_ble_eq_true rfl) dX12_fault_8 (by omega) (fun x2 H locs h => ?_)
  have h : Wd D B s ([(o1, .inr (10, fts x2 ((-100000) - (nI k))))] ++ ws) H locs := h
  subst hQ
  exact ret_a C hr (Or.inl ⟨_, rfl⟩) hlocks h (o1, x2) trivial (Or.inr ⟨_, rfl⟩) rfl rfl (by omega) (by omega) dX12_fault_11
set_option maxHeartbeats 400000 in
set_option maxRecDepth 100000 in
theorem c14_fault (l : Launch) (D : va_G) (dA : Nat → ClassId) (B : Nat) (Z : State → Prop) (hZ : Stab B Z) (ws : va_W) (pk ba sz nx pl kd md : Nat) (bo : Option Nat) (hlt : l.stackTraces = false) (hzx : ZX B Z) (hpk : (pk, .inr (11, [.ref ba, .int (nI sz), .int (nI nx), .int (nI pl), .int (nI kd), va_rf bo, .ref md])) ∈ ws) :
    Ct (S := Nat × (Nat → Value)) l D dA B Z yX14_fault cX14_fault 1 (some ((.object "SignetRing$Fault"))) 7 1 7 [.ref pk] (ws) (fun _ => True) (fun u => some (.ref u.1)) (fun u => [(u.1, .inr (10, fts u.2 (-1 - nI pl)))] ++ ws) := by
  refine Ct.mk2 (by decide) (Nat.le_of_ble_eq_true rfl) hZ ?_
  intro p e R s m args below meth c ls Q C hr hlocks hin hQ hl h
  have C0 := C
  obtain ⟨hx, hb, hml, hown, hts, -⟩ := C0
  have hl : lv_has ls 1 [(0, .ref pk)] := hl
  refine o_newB C h (RC := RX13) (T := TX13) (N := 7) (ci := 10) (fs := ftc0) rfl in_X13 tyX13_ok q1067 q617 q153 dv_X13 (by omega) (by omega) dX14_fault_0 (fun o1 H hfr h => ?_)
  have h := Wd.toFront h
  have h : Wd D B s ([(o1, .inr (10, ftc0))] ++ ws) H [] := h
  refine lv_dup hx hb dX14_fault_3 rfl ?_
  refine lv_iconst (v := -1) hx hb dX14_fault_4 (by decide) ?_
  refine lv_aload_n hx hb dX14_fault_5 rfl (lv_at hl 0 rfl) ?_
  refine o_get C h (RC := RX14) (T := TX14) (N := 7) (List.mem_append_right _ hpk) rfl in_X14 3 (by decide) q1029 rfl (v := .int (nI pl)) rfl dX14_fault_6 ?_
  refine lv_isub hx hb dX14_fault_9 ?_
  refine call_IF (t := (-1) - (nI pl)) (rest := [.ref o1]) C hlt hzx h hfr q1068 (by decide) hl (Nat.le_of_ble_eq_true rfl) dX14_fault_10 (by omega) (fun x2 H locs h => ?_)
  have h : Wd D B s ([(o1, .inr (10, fts x2 ((-1) - (nI pl))))] ++ ws) H locs := h
  subst hQ
  exact ret_a C hr (Or.inl ⟨_, rfl⟩) hlocks h (o1, x2) trivial (Or.inr ⟨_, rfl⟩) rfl rfl (by omega) (by omega) dX14_fault_13

theorem failLn_0 (n f t p : Nat) : failLn (0, n, f, t) p = (-100000 - nI p, n, f, t) := by
  unfold failLn; rw [failT_0]
theorem lineS_g {l : List Nat} {n f t : Nat} (h : n < l.length) : lineS l (0, n, f, t) = (true, (0, eolL l n + 1, n, stripL l n (eolL l n))) := by
  unfold lineS; rw [if_pos rfl, if_neg (show ¬ l.length ≤ n by omega)]
theorem lineS_x {l : List Nat} {n f t : Nat} (h : l.length ≤ n) : lineS l (0, n, f, t) = (false, (-100000 - nI l.length, n, f, t)) := by
  unfold lineS; rw [if_pos rfl, if_pos h]; rfl
theorem eol_strip {l : List Nat} {n : Nat} (h : n < l.length) : n ≤ stripL l n (eolL l n) ∧ stripL l n (eolL l n) ≤ l.length ∧ eolL l n + 1 ≤ l.length + 1 ∧ n < eolL l n + 1 ∧ stripL l n (eolL l n) < eolL l n + 1 := by
  have a1 := eolL_ge l (l.length - n + 1) n (by omega)
  have a2 := stripL_le l n (eolL l n)
  omega

set_option maxHeartbeats 400000 in
set_option maxRecDepth 100000 in
theorem c12_line (l : Launch) (D : va_G) (dA : Nat → ClassId) (B : Nat) (Z : State → Prop) (hZ : Stab B Z) (F : va_W) (li tx n0 : Nat) (gt : Nat → Nat) (lt : List Nat) (nx fr to : Nat) (htx : (tx, bar dA n0 gt) ∈ F) (hsb : SBis gt n0 lt) (hbt : byt lt) (hn0 : n0 < 1000000) (hl4 : lt.length ≤ 4096) (hnl : nx < lt.length) :
    Ct (S := Unit) l D dA B Z yX12_line cX12_line 1 none 8 0 0 [.ref li] ([(li, .inr (9, [.ref tx, .int (nI lt.length), .int (nI nx), .int (nI fr), .int (nI to)]))] ++ F) (fun _ => True) (fun _ => none) (fun _ => [(li, .inr (9, [.ref tx, .int (nI lt.length), .int (nI (eolL lt nx + 1)), .int (nI nx), .int (nI (stripL lt nx (eolL lt nx)))]))] ++ F) := by
  refine Ct.mk2 (by decide) (Nat.le_of_ble_eq_true rfl) hZ ?_
  intro p e R s m args below meth c ls Q C hr hlocks hin hQ hl h
  have C0 := C
  obtain ⟨hx, hb, hml, hown, hts, -⟩ := C0
  have hl : lv_has ls 1 [(0, .ref li)] := hl
  have hsl := hsb.1
  refine lv_aload_n hx hb dX12_line_0 rfl (lv_at hl 0 rfl) ?_
  refine o_get C h (RC := RX12) (T := TX12) (N := 5) (List.mem_of_getElem? (i := 0) rfl) rfl in_X12 2 (by decide) q592 rfl (v := .int (nI nx)) rfl dX12_line_1 ?_
  refine lv_aload_n hx hb dX12_line_4 rfl (lv_at hl 0 rfl) ?_
  refine o_get C h (RC := RX12) (T := TX12) (N := 5) (List.mem_of_getElem? (i := 0) rfl) rfl in_X12 1 (by decide) q591 rfl (v := .int (nI lt.length)) rfl dX12_line_5 ?_
  refine n_icmp_lt (tgt := 20) hx hb (by omega) (by omega) dX12_line_8 (by decide) (fun c8 => ?_) (fun c8 => by exfalso; omega)
  have hb1 : ∀ j, j < lt.length → gt j = gD lt j := hsb.2
  refine lv_aload_n hx hb dX12_line_20 rfl (lv_at hl 0 rfl) ?_
  refine lv_aload_n hx hb dX12_line_21 rfl (lv_at hl 0 rfl) ?_
  refine o_get C h (RC := RX12) (T := TX12) (N := 5) (List.mem_of_getElem? (i := 0) rfl) rfl in_X12 2 (by decide) q592 rfl (v := .int (nI nx)) rfl dX12_line_22 ?_
  refine o_put C h 0 (RC := RX12) (T := TX12) (N := 5) (ws' := [(li, .inr (9, [.ref tx, .int (nI lt.length), .int (nI nx), .int (nI nx), .int (nI to)]))] ++ F) rfl rfl in_X12 tyX12_ok nmX12 3 (by decide) q593 rfl rfl (v := .int (nI nx)) rfl rfl (Nat.le_of_ble_eq_true rfl) rfl dX12_line_25 (fun H locs h => ?_)
  have loop : ∀ (nn : Nat) (t : Nat), (nx ≤ t) → (t ≤ lt.length) → (eolL lt nx = eolL lt t) → lt.length - t < nn → ∀ (H : Heap) (locs : List Loc), Wd D B s ([(li, .inr (9, [.ref tx, .int (nI lt.length), .int (nI t), .int (nI nx), .int (nI to)]))] ++ F) H locs → ∀ (ls : Array Slot), lv_has ls 1 [(0, .ref li)] → W p l e R s m args below meth c H locs 0 0 Q (F0 m 28 ls []) := by
    intro nn
    induction nn with
    | zero => intro t  hi0 hi1 hi2 hme; exact absurd hme (Nat.not_lt_zero _)
    | succ nn ih =>
      intro t  hi0 hi1 hi2 hme H locs h ls hl
      refine lv_aload_n hx hb dX12_line_28 rfl (lv_at hl 0 rfl) ?_
      refine o_get C h (RC := RX12) (T := TX12) (N := 5) (List.mem_of_getElem? (i := 0) rfl) rfl in_X12 2 (by decide) q592 rfl (v := .int (nI t)) rfl dX12_line_29 ?_
      refine lv_aload_n hx hb dX12_line_32 rfl (lv_at hl 0 rfl) ?_
      refine o_get C h (RC := RX12) (T := TX12) (N := 5) (List.mem_of_getElem? (i := 0) rfl) rfl in_X12 1 (by decide) q591 rfl (v := .int (nI lt.length)) rfl dX12_line_33 ?_
      refine n_icmp_ge (tgt := 66) hx hb (by omega) (by omega) dX12_line_36 (by decide) (fun c36 => ?_) (fun c36 => ?_)
      · have hex9 : eolL lt nx = t := by rw [hi2]; exact eolL_e (by first | exact Or.inr d50 | exact Or.inl (by omega))
        have hle9 : nx ≤ t := hi0
        have hle8 : t ≤ lt.length := hi1
        refine lv_aload_n hx hb dX12_line_66 rfl (lv_at hl 0 rfl) ?_
        refine lv_aload_n hx hb dX12_line_67 rfl (lv_at hl 0 rfl) ?_
        refine o_get C h (RC := RX12) (T := TX12) (N := 5) (List.mem_of_getElem? (i := 0) rfl) rfl in_X12 2 (by decide) q592 rfl (v := .int (nI t)) rfl dX12_line_68 ?_
        refine o_put C h 0 (RC := RX12) (T := TX12) (N := 5) (ws' := [(li, .inr (9, [.ref tx, .int (nI lt.length), .int (nI t), .int (nI nx), .int (nI t)]))] ++ F) rfl rfl in_X12 tyX12_ok nmX12 4 (by decide) q595 rfl rfl (v := .int (nI t)) rfl rfl (Nat.le_of_ble_eq_true rfl) rfl dX12_line_71 (fun H locs h => ?_)
        refine lv_aload_n hx hb dX12_line_74 rfl (lv_at hl 0 rfl) ?_
        refine lv_dup hx hb dX12_line_75 rfl ?_
        refine o_get C h (RC := RX12) (T := TX12) (N := 5) (List.mem_of_getElem? (i := 0) rfl) rfl in_X12 2 (by decide) q592 rfl (v := .int (nI t)) rfl dX12_line_76 ?_
        refine lv_iconst (v := nI 1) hx hb dX12_line_79 (by decide) ?_
        refine lv_iadd hx hb dX12_line_80 (n_top (y := nI (t + 1)) (nI_add t 1) ?_)
        refine o_put C h 0 (RC := RX12) (T := TX12) (N := 5) (ws' := [(li, .inr (9, [.ref tx, .int (nI lt.length), .int (nI (t + 1)), .int (nI nx), .int (nI t)]))] ++ F) rfl rfl in_X12 tyX12_ok nmX12 2 (by decide) q592 rfl rfl (v := .int (nI (t + 1))) rfl rfl (Nat.le_of_ble_eq_true rfl) rfl dX12_line_81 (fun H locs h => ?_)
        have h : Wd D B s ([(li, .inr (9, [.ref tx, .int (nI lt.length), .int (nI (eolL lt nx + 1)), .int (nI nx), .int (nI t)]))] ++ F) H locs := by rw [hex9]; exact h
        have loopS : ∀ (nnS : Nat) (t : Nat), (nx ≤ t) → (t ≤ lt.length) → (stripL lt nx (eolL lt nx) = stripL lt nx t) → t < nnS → ∀ (H : Heap) (locs : List Loc), Wd D B s ([(li, .inr (9, [.ref tx, .int (nI lt.length), .int (nI (eolL lt nx + 1)), .int (nI nx), .int (nI t)]))] ++ F) H locs → ∀ (ls : Array Slot), lv_has ls 1 [(0, .ref li)] → W p l e R s m args below meth c H locs 0 0 Q (F0 m 84 ls []) := by
          intro nnS
          induction nnS with
          | zero => intro t  hj0 hj1 hj2 hme; exact absurd hme (Nat.not_lt_zero _)
          | succ nnS ihS =>
            intro t  hj0 hj1 hj2 hme H locs h ls hl
            refine lv_aload_n hx hb dX12_line_84 rfl (lv_at hl 0 rfl) ?_
            refine o_get C h (RC := RX12) (T := TX12) (N := 5) (List.mem_of_getElem? (i := 0) rfl) rfl in_X12 4 (by decide) q595 rfl (v := .int (nI t)) rfl dX12_line_85 ?_
            refine lv_aload_n hx hb dX12_line_88 rfl (lv_at hl 0 rfl) ?_
            refine o_get C h (RC := RX12) (T := TX12) (N := 5) (List.mem_of_getElem? (i := 0) rfl) rfl in_X12 3 (by decide) q593 rfl (v := .int (nI nx)) rfl dX12_line_89 ?_
            refine n_icmp_le (tgt := 156) hx hb (by omega) (by omega) dX12_line_92 (by decide) (fun c92 => ?_) (fun c92 => ?_)
            · subst hQ
              have hst : t ≤ nx ∨ isBl (gD lt (t - 1)) = false := by first | exact Or.inl (by omega) | exact Or.inr (by unfold isBl; rw [decide_eq_false d108, decide_eq_false d124, decide_eq_false d140]; rfl)
              exact ret_v C hr hlocks h () trivial rfl (by rw [hj2, stripL_e hst]) (by omega) (by omega) dX12_line_156
            · refine lv_aload_n hx hb dX12_line_95 rfl (lv_at hl 0 rfl) ?_
              refine o_get C h (RC := RX12) (T := TX12) (N := 5) (List.mem_of_getElem? (i := 0) rfl) rfl in_X12 0 (by decide) q589 rfl (v := .ref tx) rfl dX12_line_96 ?_
              refine lv_aload_n hx hb dX12_line_99 rfl (lv_at hl 0 rfl) ?_
              refine o_get C h (RC := RX12) (T := TX12) (N := 5) (List.mem_of_getElem? (i := 0) rfl) rfl in_X12 4 (by decide) q595 rfl (v := .int (nI t)) rfl dX12_line_100 ?_
              refine lv_iconst (v := nI 1) hx hb dX12_line_103 (by decide) ?_
              refine lv_isub hx hb dX12_line_104 (n_top (y := nI (t - 1)) (pk_sub (by omega)) ?_)
              refine n_bald C h (v := gt (t - 1)) (List.mem_append_right _ htx) (show t - 1 < n0 by omega) (by omega) rfl dX12_line_105 ?_
              refine lv_bipush (v := nI 9) hx hb dX12_line_106 (by decide) ?_
              refine lv_icmp_eq (tgt := 143) hx hb dX12_line_108 (by decide) (fun c108 => ?_) (fun c108 => ?_)
              · have d108 : gD lt (t - 1) = 9 := (hb1 _ (by omega)).symm.trans ((sb_is (by rw [hb1 _ (by omega)]; exact byt_gD hbt _) (by decide)).mp c108)
                refine lv_aload_n hx hb dX12_line_143 rfl (lv_at hl 0 rfl) ?_
                refine lv_dup hx hb dX12_line_144 rfl ?_
                refine o_get C h (RC := RX12) (T := TX12) (N := 5) (List.mem_of_getElem? (i := 0) rfl) rfl in_X12 4 (by decide) q595 rfl (v := .int (nI t)) rfl dX12_line_145 ?_
                refine lv_iconst (v := nI 1) hx hb dX12_line_148 (by decide) ?_
                refine lv_isub hx hb dX12_line_149 (n_top (y := nI (t - 1)) (pk_sub (by omega)) ?_)
                refine o_put C h 0 (RC := RX12) (T := TX12) (N := 5) (ws' := [(li, .inr (9, [.ref tx, .int (nI lt.length), .int (nI (eolL lt nx + 1)), .int (nI nx), .int (nI (t - 1))]))] ++ F) rfl rfl in_X12 tyX12_ok nmX12 4 (by decide) q595 rfl rfl (v := .int (nI (t - 1))) rfl rfl (Nat.le_of_ble_eq_true rfl) rfl dX12_line_150 (fun H locs h => ?_)
                refine lv_goto (tgt := 84) hx hb dX12_line_153 (by decide) ?_
                exact ihS (t - 1) (by omega) (by omega) (by rw [hj2]; exact stripL_s (by omega) (by unfold isBl; first | (rw [d108]; rfl) | (rw [d124]; rfl) | (rw [d140]; rfl))) (by omega) _ _ h _ (lv_sub hl [0] rfl)
              · have d108 : gD lt (t - 1) ≠ 9 := fun z => c108 ((sb_is (by rw [hb1 _ (by omega)]; exact byt_gD hbt _) (by decide)).mpr ((hb1 _ (by omega)).trans z))
                refine lv_aload_n hx hb dX12_line_111 rfl (lv_at hl 0 rfl) ?_
                refine o_get C h (RC := RX12) (T := TX12) (N := 5) (List.mem_of_getElem? (i := 0) rfl) rfl in_X12 0 (by decide) q589 rfl (v := .ref tx) rfl dX12_line_112 ?_
                refine lv_aload_n hx hb dX12_line_115 rfl (lv_at hl 0 rfl) ?_
                refine o_get C h (RC := RX12) (T := TX12) (N := 5) (List.mem_of_getElem? (i := 0) rfl) rfl in_X12 4 (by decide) q595 rfl (v := .int (nI t)) rfl dX12_line_116 ?_
                refine lv_iconst (v := nI 1) hx hb dX12_line_119 (by decide) ?_
                refine lv_isub hx hb dX12_line_120 (n_top (y := nI (t - 1)) (pk_sub (by omega)) ?_)
                refine n_bald C h (v := gt (t - 1)) (List.mem_append_right _ htx) (show t - 1 < n0 by omega) (by omega) rfl dX12_line_121 ?_
                refine lv_bipush (v := nI 13) hx hb dX12_line_122 (by decide) ?_
                refine lv_icmp_eq (tgt := 143) hx hb dX12_line_124 (by decide) (fun c124 => ?_) (fun c124 => ?_)
                · have d124 : gD lt (t - 1) = 13 := (hb1 _ (by omega)).symm.trans ((sb_is (by rw [hb1 _ (by omega)]; exact byt_gD hbt _) (by decide)).mp c124)
                  refine lv_aload_n hx hb dX12_line_143 rfl (lv_at hl 0 rfl) ?_
                  refine lv_dup hx hb dX12_line_144 rfl ?_
                  refine o_get C h (RC := RX12) (T := TX12) (N := 5) (List.mem_of_getElem? (i := 0) rfl) rfl in_X12 4 (by decide) q595 rfl (v := .int (nI t)) rfl dX12_line_145 ?_
                  refine lv_iconst (v := nI 1) hx hb dX12_line_148 (by decide) ?_
                  refine lv_isub hx hb dX12_line_149 (n_top (y := nI (t - 1)) (pk_sub (by omega)) ?_)
                  refine o_put C h 0 (RC := RX12) (T := TX12) (N := 5) (ws' := [(li, .inr (9, [.ref tx, .int (nI lt.length), .int (nI (eolL lt nx + 1)), .int (nI nx), .int (nI (t - 1))]))] ++ F) rfl rfl in_X12 tyX12_ok nmX12 4 (by decide) q595 rfl rfl (v := .int (nI (t - 1))) rfl rfl (Nat.le_of_ble_eq_true rfl) rfl dX12_line_150 (fun H locs h => ?_)
                  refine lv_goto (tgt := 84) hx hb dX12_line_153 (by decide) ?_
                  exact ihS (t - 1) (by omega) (by omega) (by rw [hj2]; exact stripL_s (by omega) (by unfold isBl; first | (rw [d108]; rfl) | (rw [d124]; rfl) | (rw [d140]; rfl))) (by omega) _ _ h _ (lv_sub hl [0] rfl)
                · have d124 : gD lt (t - 1) ≠ 13 := fun z => c124 ((sb_is (by rw [hb1 _ (by omega)]; exact byt_gD hbt _) (by decide)).mpr ((hb1 _ (by omega)).trans z))
                  refine lv_aload_n hx hb dX12_line_127 rfl (lv_at hl 0 rfl) ?_
                  refine o_get C h (RC := RX12) (T := TX12) (N := 5) (List.mem_of_getElem? (i := 0) rfl) rfl in_X12 0 (by decide) q589 rfl (v := .ref tx) rfl dX12_line_128 ?_
                  refine lv_aload_n hx hb dX12_line_131 rfl (lv_at hl 0 rfl) ?_
                  refine o_get C h (RC := RX12) (T := TX12) (N := 5) (List.mem_of_getElem? (i := 0) rfl) rfl in_X12 4 (by decide) q595 rfl (v := .int (nI t)) rfl dX12_line_132 ?_
                  refine lv_iconst (v := nI 1) hx hb dX12_line_135 (by decide) ?_
                  refine lv_isub hx hb dX12_line_136 (n_top (y := nI (t - 1)) (pk_sub (by omega)) ?_)
                  refine n_bald C h (v := gt (t - 1)) (List.mem_append_right _ htx) (show t - 1 < n0 by omega) (by omega) rfl dX12_line_137 ?_
                  refine lv_bipush (v := nI 32) hx hb dX12_line_138 (by decide) ?_
                  refine lv_icmp_ne (tgt := 156) hx hb dX12_line_140 (by decide) (fun c140 => ?_) (fun c140 => ?_)
                  · have d140 : gD lt (t - 1) ≠ 32 := fun z => c140 ((sb_is (by rw [hb1 _ (by omega)]; exact byt_gD hbt _) (by decide)).mpr ((hb1 _ (by omega)).trans z))
                    subst hQ
                    have hst : t ≤ nx ∨ isBl (gD lt (t - 1)) = false := by first | exact Or.inl (by omega) | exact Or.inr (by unfold isBl; rw [decide_eq_false d108, decide_eq_false d124, decide_eq_false d140]; rfl)
                    exact ret_v C hr hlocks h () trivial rfl (by rw [hj2, stripL_e hst]) (by omega) (by omega) dX12_line_156
                  · have d140 : gD lt (t - 1) = 32 := (hb1 _ (by omega)).symm.trans ((sb_is (by rw [hb1 _ (by omega)]; exact byt_gD hbt _) (by decide)).mp c140)
                    refine lv_aload_n hx hb dX12_line_143 rfl (lv_at hl 0 rfl) ?_
                    refine lv_dup hx hb dX12_line_144 rfl ?_
                    refine o_get C h (RC := RX12) (T := TX12) (N := 5) (List.mem_of_getElem? (i := 0) rfl) rfl in_X12 4 (by decide) q595 rfl (v := .int (nI t)) rfl dX12_line_145 ?_
                    refine lv_iconst (v := nI 1) hx hb dX12_line_148 (by decide) ?_
                    refine lv_isub hx hb dX12_line_149 (n_top (y := nI (t - 1)) (pk_sub (by omega)) ?_)
                    refine o_put C h 0 (RC := RX12) (T := TX12) (N := 5) (ws' := [(li, .inr (9, [.ref tx, .int (nI lt.length), .int (nI (eolL lt nx + 1)), .int (nI nx), .int (nI (t - 1))]))] ++ F) rfl rfl in_X12 tyX12_ok nmX12 4 (by decide) q595 rfl rfl (v := .int (nI (t - 1))) rfl rfl (Nat.le_of_ble_eq_true rfl) rfl dX12_line_150 (fun H locs h => ?_)
                    refine lv_goto (tgt := 84) hx hb dX12_line_153 (by decide) ?_
                    exact ihS (t - 1) (by omega) (by omega) (by rw [hj2]; exact stripL_s (by omega) (by unfold isBl; first | (rw [d108]; rfl) | (rw [d124]; rfl) | (rw [d140]; rfl))) (by omega) _ _ h _ (lv_sub hl [0] rfl)
        exact loopS _ _ hle9 hle8 (by rw [hex9]) (Nat.lt_succ_self _) _ _ h _ (lv_sub hl [0] rfl)
      · refine lv_aload_n hx hb dX12_line_39 rfl (lv_at hl 0 rfl) ?_
        refine o_get C h (RC := RX12) (T := TX12) (N := 5) (List.mem_of_getElem? (i := 0) rfl) rfl in_X12 0 (by decide) q589 rfl (v := .ref tx) rfl dX12_line_40 ?_
        refine lv_aload_n hx hb dX12_line_43 rfl (lv_at hl 0 rfl) ?_
        refine o_get C h (RC := RX12) (T := TX12) (N := 5) (List.mem_of_getElem? (i := 0) rfl) rfl in_X12 2 (by decide) q592 rfl (v := .int (nI t)) rfl dX12_line_44 ?_
        refine n_bald C h (v := gt t) (List.mem_append_right _ htx) (show t < n0 by omega) (by omega) rfl dX12_line_47 ?_
        refine lv_bipush (v := nI 10) hx hb dX12_line_48 (by decide) ?_
        refine lv_icmp_eq (tgt := 66) hx hb dX12_line_50 (by decide) (fun c50 => ?_) (fun c50 => ?_)
        · have d50 : gD lt (t) = 10 := (hb1 _ (by omega)).symm.trans ((sb_is (by rw [hb1 _ (by omega)]; exact byt_gD hbt _) (by decide)).mp c50)
          have hex9 : eolL lt nx = t := by rw [hi2]; exact eolL_e (by first | exact Or.inr d50 | exact Or.inl (by omega))
          have hle9 : nx ≤ t := hi0
          have hle8 : t ≤ lt.length := hi1
          refine lv_aload_n hx hb dX12_line_66 rfl (lv_at hl 0 rfl) ?_
          refine lv_aload_n hx hb dX12_line_67 rfl (lv_at hl 0 rfl) ?_
          refine o_get C h (RC := RX12) (T := TX12) (N := 5) (List.mem_of_getElem? (i := 0) rfl) rfl in_X12 2 (by decide) q592 rfl (v := .int (nI t)) rfl dX12_line_68 ?_
          refine o_put C h 0 (RC := RX12) (T := TX12) (N := 5) (ws' := [(li, .inr (9, [.ref tx, .int (nI lt.length), .int (nI t), .int (nI nx), .int (nI t)]))] ++ F) rfl rfl in_X12 tyX12_ok nmX12 4 (by decide) q595 rfl rfl (v := .int (nI t)) rfl rfl (Nat.le_of_ble_eq_true rfl) rfl dX12_line_71 (fun H locs h => ?_)
          refine lv_aload_n hx hb dX12_line_74 rfl (lv_at hl 0 rfl) ?_
          refine lv_dup hx hb dX12_line_75 rfl ?_
          refine o_get C h (RC := RX12) (T := TX12) (N := 5) (List.mem_of_getElem? (i := 0) rfl) rfl in_X12 2 (by decide) q592 rfl (v := .int (nI t)) rfl dX12_line_76 ?_
          refine lv_iconst (v := nI 1) hx hb dX12_line_79 (by decide) ?_
          refine lv_iadd hx hb dX12_line_80 (n_top (y := nI (t + 1)) (nI_add t 1) ?_)
          refine o_put C h 0 (RC := RX12) (T := TX12) (N := 5) (ws' := [(li, .inr (9, [.ref tx, .int (nI lt.length), .int (nI (t + 1)), .int (nI nx), .int (nI t)]))] ++ F) rfl rfl in_X12 tyX12_ok nmX12 2 (by decide) q592 rfl rfl (v := .int (nI (t + 1))) rfl rfl (Nat.le_of_ble_eq_true rfl) rfl dX12_line_81 (fun H locs h => ?_)
          have h : Wd D B s ([(li, .inr (9, [.ref tx, .int (nI lt.length), .int (nI (eolL lt nx + 1)), .int (nI nx), .int (nI t)]))] ++ F) H locs := by rw [hex9]; exact h
          have loopS : ∀ (nnS : Nat) (t : Nat), (nx ≤ t) → (t ≤ lt.length) → (stripL lt nx (eolL lt nx) = stripL lt nx t) → t < nnS → ∀ (H : Heap) (locs : List Loc), Wd D B s ([(li, .inr (9, [.ref tx, .int (nI lt.length), .int (nI (eolL lt nx + 1)), .int (nI nx), .int (nI t)]))] ++ F) H locs → ∀ (ls : Array Slot), lv_has ls 1 [(0, .ref li)] → W p l e R s m args below meth c H locs 0 0 Q (F0 m 84 ls []) := by
            intro nnS
            induction nnS with
            | zero => intro t  hj0 hj1 hj2 hme; exact absurd hme (Nat.not_lt_zero _)
            | succ nnS ihS =>
              intro t  hj0 hj1 hj2 hme H locs h ls hl
              refine lv_aload_n hx hb dX12_line_84 rfl (lv_at hl 0 rfl) ?_
              refine o_get C h (RC := RX12) (T := TX12) (N := 5) (List.mem_of_getElem? (i := 0) rfl) rfl in_X12 4 (by decide) q595 rfl (v := .int (nI t)) rfl dX12_line_85 ?_
              refine lv_aload_n hx hb dX12_line_88 rfl (lv_at hl 0 rfl) ?_
              refine o_get C h (RC := RX12) (T := TX12) (N := 5) (List.mem_of_getElem? (i := 0) rfl) rfl in_X12 3 (by decide) q593 rfl (v := .int (nI nx)) rfl dX12_line_89 ?_
              refine n_icmp_le (tgt := 156) hx hb (by omega) (by omega) dX12_line_92 (by decide) (fun c92 => ?_) (fun c92 => ?_)
              · subst hQ
                have hst : t ≤ nx ∨ isBl (gD lt (t - 1)) = false := by first | exact Or.inl (by omega) | exact Or.inr (by unfold isBl; rw [decide_eq_false d108, decide_eq_false d124, decide_eq_false d140]; rfl)
                exact ret_v C hr hlocks h () trivial rfl (by rw [hj2, stripL_e hst]) (by omega) (by omega) dX12_line_156
              · refine lv_aload_n hx hb dX12_line_95 rfl (lv_at hl 0 rfl) ?_
                refine o_get C h (RC := RX12) (T := TX12) (N := 5) (List.mem_of_getElem? (i := 0) rfl) rfl in_X12 0 (by decide) q589 rfl (v := .ref tx) rfl dX12_line_96 ?_
                refine lv_aload_n hx hb dX12_line_99 rfl (lv_at hl 0 rfl) ?_
                refine o_get C h (RC := RX12) (T := TX12) (N := 5) (List.mem_of_getElem? (i := 0) rfl) rfl in_X12 4 (by decide) q595 rfl (v := .int (nI t)) rfl dX12_line_100 ?_
                refine lv_iconst (v := nI 1) hx hb dX12_line_103 (by decide) ?_
                refine lv_isub hx hb dX12_line_104 (n_top (y := nI (t - 1)) (pk_sub (by omega)) ?_)
                refine n_bald C h (v := gt (t - 1)) (List.mem_append_right _ htx) (show t - 1 < n0 by omega) (by omega) rfl dX12_line_105 ?_
                refine lv_bipush (v := nI 9) hx hb dX12_line_106 (by decide) ?_
                refine lv_icmp_eq (tgt := 143) hx hb dX12_line_108 (by decide) (fun c108 => ?_) (fun c108 => ?_)
                · have d108 : gD lt (t - 1) = 9 := (hb1 _ (by omega)).symm.trans ((sb_is (by rw [hb1 _ (by omega)]; exact byt_gD hbt _) (by decide)).mp c108)
                  refine lv_aload_n hx hb dX12_line_143 rfl (lv_at hl 0 rfl) ?_
                  refine lv_dup hx hb dX12_line_144 rfl ?_
                  refine o_get C h (RC := RX12) (T := TX12) (N := 5) (List.mem_of_getElem? (i := 0) rfl) rfl in_X12 4 (by decide) q595 rfl (v := .int (nI t)) rfl dX12_line_145 ?_
                  refine lv_iconst (v := nI 1) hx hb dX12_line_148 (by decide) ?_
                  refine lv_isub hx hb dX12_line_149 (n_top (y := nI (t - 1)) (pk_sub (by omega)) ?_)
                  refine o_put C h 0 (RC := RX12) (T := TX12) (N := 5) (ws' := [(li, .inr (9, [.ref tx, .int (nI lt.length), .int (nI (eolL lt nx + 1)), .int (nI nx), .int (nI (t - 1))]))] ++ F) rfl rfl in_X12 tyX12_ok nmX12 4 (by decide) q595 rfl rfl (v := .int (nI (t - 1))) rfl rfl (Nat.le_of_ble_eq_true rfl) rfl dX12_line_150 (fun H locs h => ?_)
                  refine lv_goto (tgt := 84) hx hb dX12_line_153 (by decide) ?_
                  exact ihS (t - 1) (by omega) (by omega) (by rw [hj2]; exact stripL_s (by omega) (by unfold isBl; first | (rw [d108]; rfl) | (rw [d124]; rfl) | (rw [d140]; rfl))) (by omega) _ _ h _ (lv_sub hl [0] rfl)
                · have d108 : gD lt (t - 1) ≠ 9 := fun z => c108 ((sb_is (by rw [hb1 _ (by omega)]; exact byt_gD hbt _) (by decide)).mpr ((hb1 _ (by omega)).trans z))
                  refine lv_aload_n hx hb dX12_line_111 rfl (lv_at hl 0 rfl) ?_
                  refine o_get C h (RC := RX12) (T := TX12) (N := 5) (List.mem_of_getElem? (i := 0) rfl) rfl in_X12 0 (by decide) q589 rfl (v := .ref tx) rfl dX12_line_112 ?_
                  refine lv_aload_n hx hb dX12_line_115 rfl (lv_at hl 0 rfl) ?_
                  refine o_get C h (RC := RX12) (T := TX12) (N := 5) (List.mem_of_getElem? (i := 0) rfl) rfl in_X12 4 (by decide) q595 rfl (v := .int (nI t)) rfl dX12_line_116 ?_
                  refine lv_iconst (v := nI 1) hx hb dX12_line_119 (by decide) ?_
                  refine lv_isub hx hb dX12_line_120 (n_top (y := nI (t - 1)) (pk_sub (by omega)) ?_)
                  refine n_bald C h (v := gt (t - 1)) (List.mem_append_right _ htx) (show t - 1 < n0 by omega) (by omega) rfl dX12_line_121 ?_
                  refine lv_bipush (v := nI 13) hx hb dX12_line_122 (by decide) ?_
                  refine lv_icmp_eq (tgt := 143) hx hb dX12_line_124 (by decide) (fun c124 => ?_) (fun c124 => ?_)
                  · have d124 : gD lt (t - 1) = 13 := (hb1 _ (by omega)).symm.trans ((sb_is (by rw [hb1 _ (by omega)]; exact byt_gD hbt _) (by decide)).mp c124)
                    refine lv_aload_n hx hb dX12_line_143 rfl (lv_at hl 0 rfl) ?_
                    refine lv_dup hx hb dX12_line_144 rfl ?_
                    refine o_get C h (RC := RX12) (T := TX12) (N := 5) (List.mem_of_getElem? (i := 0) rfl) rfl in_X12 4 (by decide) q595 rfl (v := .int (nI t)) rfl dX12_line_145 ?_
                    refine lv_iconst (v := nI 1) hx hb dX12_line_148 (by decide) ?_
                    refine lv_isub hx hb dX12_line_149 (n_top (y := nI (t - 1)) (pk_sub (by omega)) ?_)
                    refine o_put C h 0 (RC := RX12) (T := TX12) (N := 5) (ws' := [(li, .inr (9, [.ref tx, .int (nI lt.length), .int (nI (eolL lt nx + 1)), .int (nI nx), .int (nI (t - 1))]))] ++ F) rfl rfl in_X12 tyX12_ok nmX12 4 (by decide) q595 rfl rfl (v := .int (nI (t - 1))) rfl rfl (Nat.le_of_ble_eq_true rfl) rfl dX12_line_150 (fun H locs h => ?_)
                    refine lv_goto (tgt := 84) hx hb dX12_line_153 (by decide) ?_
                    exact ihS (t - 1) (by omega) (by omega) (by rw [hj2]; exact stripL_s (by omega) (by unfold isBl; first | (rw [d108]; rfl) | (rw [d124]; rfl) | (rw [d140]; rfl))) (by omega) _ _ h _ (lv_sub hl [0] rfl)
                  · have d124 : gD lt (t - 1) ≠ 13 := fun z => c124 ((sb_is (by rw [hb1 _ (by omega)]; exact byt_gD hbt _) (by decide)).mpr ((hb1 _ (by omega)).trans z))
                    refine lv_aload_n hx hb dX12_line_127 rfl (lv_at hl 0 rfl) ?_
                    refine o_get C h (RC := RX12) (T := TX12) (N := 5) (List.mem_of_getElem? (i := 0) rfl) rfl in_X12 0 (by decide) q589 rfl (v := .ref tx) rfl dX12_line_128 ?_
                    refine lv_aload_n hx hb dX12_line_131 rfl (lv_at hl 0 rfl) ?_
                    refine o_get C h (RC := RX12) (T := TX12) (N := 5) (List.mem_of_getElem? (i := 0) rfl) rfl in_X12 4 (by decide) q595 rfl (v := .int (nI t)) rfl dX12_line_132 ?_
                    refine lv_iconst (v := nI 1) hx hb dX12_line_135 (by decide) ?_
                    refine lv_isub hx hb dX12_line_136 (n_top (y := nI (t - 1)) (pk_sub (by omega)) ?_)
                    refine n_bald C h (v := gt (t - 1)) (List.mem_append_right _ htx) (show t - 1 < n0 by omega) (by omega) rfl dX12_line_137 ?_
                    refine lv_bipush (v := nI 32) hx hb dX12_line_138 (by decide) ?_
                    refine lv_icmp_ne (tgt := 156) hx hb dX12_line_140 (by decide) (fun c140 => ?_) (fun c140 => ?_)
                    · have d140 : gD lt (t - 1) ≠ 32 := fun z => c140 ((sb_is (by rw [hb1 _ (by omega)]; exact byt_gD hbt _) (by decide)).mpr ((hb1 _ (by omega)).trans z))
                      subst hQ
                      have hst : t ≤ nx ∨ isBl (gD lt (t - 1)) = false := by first | exact Or.inl (by omega) | exact Or.inr (by unfold isBl; rw [decide_eq_false d108, decide_eq_false d124, decide_eq_false d140]; rfl)
                      exact ret_v C hr hlocks h () trivial rfl (by rw [hj2, stripL_e hst]) (by omega) (by omega) dX12_line_156
                    · have d140 : gD lt (t - 1) = 32 := (hb1 _ (by omega)).symm.trans ((sb_is (by rw [hb1 _ (by omega)]; exact byt_gD hbt _) (by decide)).mp c140)
                      refine lv_aload_n hx hb dX12_line_143 rfl (lv_at hl 0 rfl) ?_
                      refine lv_dup hx hb dX12_line_144 rfl ?_
                      refine o_get C h (RC := RX12) (T := TX12) (N := 5) (List.mem_of_getElem? (i := 0) rfl) rfl in_X12 4 (by decide) q595 rfl (v := .int (nI t)) rfl dX12_line_145 ?_
                      refine lv_iconst (v := nI 1) hx hb dX12_line_148 (by decide) ?_
                      refine lv_isub hx hb dX12_line_149 (n_top (y := nI (t - 1)) (pk_sub (by omega)) ?_)
                      refine o_put C h 0 (RC := RX12) (T := TX12) (N := 5) (ws' := [(li, .inr (9, [.ref tx, .int (nI lt.length), .int (nI (eolL lt nx + 1)), .int (nI nx), .int (nI (t - 1))]))] ++ F) rfl rfl in_X12 tyX12_ok nmX12 4 (by decide) q595 rfl rfl (v := .int (nI (t - 1))) rfl rfl (Nat.le_of_ble_eq_true rfl) rfl dX12_line_150 (fun H locs h => ?_)
                      refine lv_goto (tgt := 84) hx hb dX12_line_153 (by decide) ?_
                      exact ihS (t - 1) (by omega) (by omega) (by rw [hj2]; exact stripL_s (by omega) (by unfold isBl; first | (rw [d108]; rfl) | (rw [d124]; rfl) | (rw [d140]; rfl))) (by omega) _ _ h _ (lv_sub hl [0] rfl)
          exact loopS _ _ hle9 hle8 (by rw [hex9]) (Nat.lt_succ_self _) _ _ h _ (lv_sub hl [0] rfl)
        · have d50 : gD lt (t) ≠ 10 := fun z => c50 ((sb_is (by rw [hb1 _ (by omega)]; exact byt_gD hbt _) (by decide)).mpr ((hb1 _ (by omega)).trans z))
          refine lv_aload_n hx hb dX12_line_53 rfl (lv_at hl 0 rfl) ?_
          refine lv_dup hx hb dX12_line_54 rfl ?_
          refine o_get C h (RC := RX12) (T := TX12) (N := 5) (List.mem_of_getElem? (i := 0) rfl) rfl in_X12 2 (by decide) q592 rfl (v := .int (nI t)) rfl dX12_line_55 ?_
          refine lv_iconst (v := nI 1) hx hb dX12_line_58 (by decide) ?_
          refine lv_iadd hx hb dX12_line_59 (n_top (y := nI (t + 1)) (nI_add t 1) ?_)
          refine o_put C h 0 (RC := RX12) (T := TX12) (N := 5) (ws' := [(li, .inr (9, [.ref tx, .int (nI lt.length), .int (nI (t + 1)), .int (nI nx), .int (nI to)]))] ++ F) rfl rfl in_X12 tyX12_ok nmX12 2 (by decide) q592 rfl rfl (v := .int (nI (t + 1))) rfl rfl (Nat.le_of_ble_eq_true rfl) rfl dX12_line_60 (fun H locs h => ?_)
          refine lv_goto (tgt := 28) hx hb dX12_line_63 (by decide) ?_
          exact ih (t + 1) (by omega) (by omega) (by rw [hi2, eolL_s (by omega) d50]) (by omega) _ _ h _ (lv_sub hl [0] rfl)
  exact loop _ _ (Nat.le_refl _) (by omega) rfl (Nat.lt_succ_self _) _ _ h _ (lv_sub hl [0] rfl)
set_option maxHeartbeats 400000 in
set_option maxRecDepth 100000 in
theorem c12_lineX (l : Launch) (D : va_G) (dA : Nat → ClassId) (B : Nat) (Z : State → Prop) (hZ : Stab B Z) (F : va_W) (li tx n0 : Nat) (gt : Nat → Nat) (lt : List Nat) (nx fr to : Nat) (hlt : l.stackTraces = false) (hzx : ZX B Z) (htx : (tx, bar dA n0 gt) ∈ F) (hsb : SBis gt n0 lt) (hbt : byt lt) (hn0 : n0 < 1000000) (hl4 : lt.length ≤ 4096) (hnx : nx ≤ 5000) (hnl : lt.length ≤ nx) :
    CtX (S := Unit) (SX := Nat × (Nat → Value)) l D dA B Z yX12_line cX12_line 1 none 8 1 7 [.ref li] ([(li, .inr (9, [.ref tx, .int (nI lt.length), .int (nI nx), .int (nI fr), .int (nI to)]))] ++ F) (fun _ => False) (fun _ => none) (fun _ => [(li, .inr (9, [.ref tx, .int (nI lt.length), .int (nI nx), .int (nI fr), .int (nI to)]))] ++ F) (fun _ => True) (fun u => u.1) (fun _ => "SignetRing$Fault") (fun u => [(li, .inr (9, [.ref tx, .int (nI lt.length), .int (nI nx), .int (nI fr), .int (nI to)]))] ++ (F ++ [(u.1, .inr (10, fts u.2 (-100000 - nI lt.length)))])) := by
  refine CtX.mk2 (by decide) (Nat.le_of_ble_eq_true rfl) hZ ?_
  intro p e R s m args below meth c ls Q C hr hlocks hin hex hQ hl h
  have C0 := C
  obtain ⟨hx, hb, hml, hown, hts, -⟩ := C0
  have hl : lv_has ls 1 [(0, .ref li)] := hl
  have hsl := hsb.1
  refine lv_aload_n hx hb dX12_line_0 rfl (lv_at hl 0 rfl) ?_
  refine o_get C h (RC := RX12) (T := TX12) (N := 5) (List.mem_of_getElem? (i := 0) rfl) rfl in_X12 2 (by decide) q592 rfl (v := .int (nI nx)) rfl dX12_line_1 ?_
  refine lv_aload_n hx hb dX12_line_4 rfl (lv_at hl 0 rfl) ?_
  refine o_get C h (RC := RX12) (T := TX12) (N := 5) (List.mem_of_getElem? (i := 0) rfl) rfl in_X12 1 (by decide) q591 rfl (v := .int (nI lt.length)) rfl dX12_line_5 ?_
  refine n_icmp_lt (tgt := 20) hx hb (by omega) (by omega) dX12_line_8 (by decide) (fun c8 => by exfalso; omega) (fun c8 => ?_)
  refine lv_aload_n hx hb dX12_line_11 rfl (lv_at hl 0 rfl) ?_
  refine lv_aload_n hx hb dX12_line_12 rfl (lv_at hl 0 rfl) ?_
  refine o_get C h (RC := RX12) (T := TX12) (N := 5) (List.mem_of_getElem? (i := 0) rfl) rfl in_X12 1 (by decide) q591 rfl (v := .int (nI lt.length)) rfl dX12_line_13 ?_
  refine call_VR (As := [.int (nI lt.length)]) (rest := []) (n := 1) C h (c12_fault l D dA B Z hZ _ li lt.length hlt hzx) (lw_V q612 q613 q614 q149 q615) (by decide +kernel) (o_recv C h (RC := RX12) (T := TX12) (N := 5) (List.mem_of_getElem? (i := 0) rfl) rfl) (by decide) (by decide) rfl hl rfl (Nat.le_of_ble_eq_true rfl) dX12_line_16 (by omega) (fun u9 H locs _ h => ?_)
  obtain ⟨q9, x9⟩ := u9
  have h : Wd D B s ([(q9, .inr (10, fts x9 (-100000 - nI lt.length)))] ++ ([(li, .inr (9, [.ref tx, .int (nI lt.length), .int (nI nx), .int (nI fr), .int (nI to)]))] ++ F)) H locs := h
  have h : Wd D B s ([(q9, .inr (10, fts x9 (-100000 - nI lt.length))), (li, .inr (9, [.ref tx, .int (nI lt.length), .int (nI nx), .int (nI fr), .int (nI to)]))] ++ F) H locs := h
  subst hQ
  have h : Wd D B s ([(li, .inr (9, [.ref tx, .int (nI lt.length), .int (nI nx), .int (nI fr), .int (nI to)]))] ++ (F ++ [(q9, .inr (10, fts x9 (-100000 - nI lt.length)))])) H locs := Wd.toLast h
  exact x_athrow C hex hlocks h (List.mem_append_right _ (List.mem_append_right _ List.mem_cons_self)) rfl (q9, x9) rfl rfl trivial rfl (by omega) (by omega) dX12_line_19
