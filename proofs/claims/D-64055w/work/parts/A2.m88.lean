set_option maxRecDepth 100000

theorem memx {x y : Nat × va_E} {A E1 E2 : va_W} (h : x ∈ A ++ E1) : x ∈ A ++ ([y] ++ (E1 ++ E2)) := by
  rcases List.mem_append.mp h with h | h
  · exact List.mem_append_left _ h
  · exact List.mem_append_right _ (List.mem_append_right _ (List.mem_append_left _ h))


theorem vain_md {l : List Nat} (h : sVain l = false) : (sNote l).1 = some (mdN l) := by
  unfold mdN
  cases q : (sNote l).1 with
  | none => unfold sVain at h; rw [q, decide_eq_true rfl, Bool.or_true] at h; cases h
  | some v => rfl

set_option maxHeartbeats 400000 in
set_option maxRecDepth 100000 in
theorem c17_read (l : Launch) (D : va_G) (dA : Nat → ClassId) (B : Nat) (Z : State → Prop) (hZ : Stab B Z) (F : va_W) (se ba : Nat) (lb : List Nat) (hba : (ba, bal dA lb) ∈ F) (hob : byt lb) (hol : lb.length ≤ 4096) (h0l : 0 < lb.length) :
    Ct (S := List Value × va_W) l D dA B Z yX17_read cX17_read 2 (some .boolean) 7 (lb.length / 2 + 2) (5 * lb.length + 3) [.ref se] (slC se ba 0 0 0 0 none nt0 none none none 0 ++ F) (fun u => sealOk lb = true → SealIn dA ([(se, .inr (14, u.1))] ++ ([(ba, bal dA lb)] ++ u.2)) (se, lb) 0) (fun _ => some (.int (bZ (sealOk lb)))) (fun u => [(se, .inr (14, u.1))] ++ (F ++ u.2)) := by
  refine Ct.mk2 (by decide) (Nat.le_of_ble_eq_true rfl) hZ ?_
  intro p e R s m args below meth c ls Q C hr hlocks hin hQ hl h
  have C0 := C
  obtain ⟨hx, hb, hml, hown, hts, -⟩ := C0
  have hl : lv_has ls 2 [(0, .ref se)] := hl
  have hl_sU1 : (sU1 lb).2.1 ≤ lb.length := (oneS_le (Nat.zero_le _)).1
  have hl_sU2 : (sU2 lb).2.1 ≤ lb.length := (oneS_le hl_sU1).1
  have hl_sU3 : (sU3 lb).2.1 ≤ lb.length := (oneS_le hl_sU2).1
  have hl_sU4 : (sU4 lb).2.1 ≤ lb.length := (oneS_le hl_sU3).1
  have hl_x5 : (sX5 lb).1.2.1 ≤ lb.length := notesR_le hob true _ hl_sU4
  have hl_x6 : (sX6 lb).1.2.1 ≤ lb.length := notesR_le hob false _ hl_x5
  have hl_sU7 := someS_ok hob 2 0 0 (sX6 lb).1.2 hl_x6 (by decide)
  have hl_sU8 := numS_ok hob (sU7 lb).2 hl_sU7.2.1
  have hl_8 : (sU8 lb).2.1 ≤ lb.length := hl_sU8.1
  have hnb := sNote_nb hob
  have z3 : ((nt0, (sU4 lb).2) : NS × OU).2.1 = (sU4 lb).2.1 := rfl
  have z7 : (sX5 lb).1.2.1 = (notesR lb true (nt0, (sU4 lb).2)).1.2.1 := rfl
  have z8 : (sX6 lb).1.2.1 = (notesR lb false (sX5 lb).1).1.2.1 := rfl
  have z9 : (sU8 lb).1.length ≤ lb.length := hl_sU8.2.2.1
  have z10 : (sU8 lb).1 = (numS lb (sU7 lb).2).1 := rfl
  have h : Wd D B s ([(se, .inr (14, [.ref ba, .int 0, .int 0, .int 0, .int 0, .null, .long (oL nt0.1), .long (lN nt0.2.1), .long (lN nt0.2.2.1), .null, .null, .int (oI nt0.2.2.2.2.2.2.1), .int (oI nt0.2.2.2.2.2.2.2.1), .null, .int (bZ nt0.2.2.2.2.2.2.2.2.1), .int 0, .int (bZ (nt0.2.2.2.2.2.2.2.2.2 0)), .int (bZ (nt0.2.2.2.2.2.2.2.2.2 1)), .int (bZ (nt0.2.2.2.2.2.2.2.2.2 2))]))] ++ F) s.heap [] := h
  refine o_new C h (RC := RX15) (T := TX15) (N := 3) (ci := 12) (fs := [.null, .int 0, .int (bZ false)]) rfl in_X15 tyX15_ok q1381 q1094 q163 dv_X15 (by omega) (by omega) dX17_read_0 (fun o1 H h => ?_)
  have h := Wd.toFront h
  have h : Wd D B s ([(o1, .inr (12, [.null, .int 0, .int (bZ false)])), (se, .inr (14, [.ref ba, .int 0, .int 0, .int 0, .int 0, .null, .long (oL nt0.1), .long (lN nt0.2.1), .long (lN nt0.2.2.1), .null, .null, .int (oI nt0.2.2.2.2.2.2.1), .int (oI nt0.2.2.2.2.2.2.2.1), .null, .int (bZ nt0.2.2.2.2.2.2.2.2.1), .int 0, .int (bZ (nt0.2.2.2.2.2.2.2.2.2 0)), .int (bZ (nt0.2.2.2.2.2.2.2.2.2 1)), .int (bZ (nt0.2.2.2.2.2.2.2.2.2 2))]))] ++ F) H [] := h
  refine lv_dup hx hb dX17_read_3 rfl ?_
  refine lv_aload_n hx hb dX17_read_4 rfl (lv_at hl 0 rfl) ?_
  refine o_get C h (RC := RX17) (T := TX17) (N := 19) (List.mem_of_getElem? (i := 1) rfl) rfl in_X17 0 (by decide) q1304 rfl (v := .ref ba) rfl dX17_read_5 ?_
  refine call_I (As := [.ref ba]) (rest := [.ref o1]) (n := 1) C h (c15_init l D dA B Z hZ ([(se, .inr (14, [.ref ba, .int 0, .int 0, .int 0, .int 0, .null, .long (oL nt0.1), .long (lN nt0.2.1), .long (lN nt0.2.2.1), .null, .null, .int (oI nt0.2.2.2.2.2.2.1), .int (oI nt0.2.2.2.2.2.2.2.1), .null, .int (bZ nt0.2.2.2.2.2.2.2.2.1), .int 0, .int (bZ (nt0.2.2.2.2.2.2.2.2.2 0)), .int (bZ (nt0.2.2.2.2.2.2.2.2.2 1)), .int (bZ (nt0.2.2.2.2.2.2.2.2.2 2))]))] ++ F) o1 ba) (lw_meth q1097) q163 q1382 q1096 rfl (by decide +kernel) (by decide) (by decide) rfl hl rfl (Nat.le_of_ble_eq_true rfl) dX17_read_8 (by omega) (fun _ H locs _ h => ?_)
  have h : Wd D B s ([(o1, .inr (12, [.ref ba, .int (nI 0), .int (bZ true)])), (se, .inr (14, [.ref ba, .int 0, .int 0, .int 0, .int 0, .null, .long (oL nt0.1), .long (lN nt0.2.1), .long (lN nt0.2.2.1), .null, .null, .int (oI nt0.2.2.2.2.2.2.1), .int (oI nt0.2.2.2.2.2.2.2.1), .null, .int (bZ nt0.2.2.2.2.2.2.2.2.1), .int 0, .int (bZ (nt0.2.2.2.2.2.2.2.2.2 0)), .int (bZ (nt0.2.2.2.2.2.2.2.2.2 1)), .int (bZ (nt0.2.2.2.2.2.2.2.2.2 2))]))] ++ F) H locs := h
  have h : Wd D B s ([(o1, .inr (12, [.ref ba, .int (nI 0), .int (bZ true)])), (se, .inr (14, [.ref ba, .int 0, .int 0, .int 0, .int 0, .null, .long (oL nt0.1), .long (lN nt0.2.1), .long (lN nt0.2.2.1), .null, .null, .int (oI nt0.2.2.2.2.2.2.1), .int (oI nt0.2.2.2.2.2.2.2.1), .null, .int (bZ nt0.2.2.2.2.2.2.2.2.1), .int 0, .int (bZ (nt0.2.2.2.2.2.2.2.2.2 0)), .int (bZ (nt0.2.2.2.2.2.2.2.2.2 1)), .int (bZ (nt0.2.2.2.2.2.2.2.2.2 2))]))] ++ F) H locs := h
  refine lv_astore_n (lv' := [(1, .ref o1), (0, .ref se)]) hx hb dX17_read_11 rfl hl (by decide) rfl (fun ls hl => ?_)
  refine lv_aload_n hx hb dX17_read_12 rfl (lv_at hl 0 rfl) ?_
  refine call_VR (As := []) (rest := []) (n := 0) C h (c15_take l D dA B Z hZ ([(se, .inr (14, [.ref ba, .int 0, .int 0, .int 0, .int 0, .null, .long (oL nt0.1), .long (lN nt0.2.1), .long (lN nt0.2.2.1), .null, .null, .int (oI nt0.2.2.2.2.2.2.1), .int (oI nt0.2.2.2.2.2.2.2.1), .null, .int (bZ nt0.2.2.2.2.2.2.2.2.1), .int 0, .int (bZ (nt0.2.2.2.2.2.2.2.2.2 0)), .int (bZ (nt0.2.2.2.2.2.2.2.2.2 1)), .int (bZ (nt0.2.2.2.2.2.2.2.2.2 2))]))] ++ F) o1 ba lb ((0, true) : OU) (List.mem_append_right _ (hba)) hob (by omega) (Nat.zero_le _)) (lw_V q1383 q1115 q1116 q163 q1117) (by decide +kernel) (o_recv C h (RC := RX15) (T := TX15) (N := 3) (List.mem_of_getElem? (i := 0) rfl) rfl) (by decide) (by decide) rfl hl rfl (Nat.le_of_ble_eq_true rfl) dX17_read_13 (by omega) (fun _ H locs _ h => ?_)
  have h : Wd D B s ([(o1, .inr (12, [.ref ba, .int (nI ((sU1 lb).2.1)), .int (bZ ((sU1 lb).2.2))])), (se, .inr (14, [.ref ba, .int 0, .int 0, .int 0, .int 0, .null, .long (oL nt0.1), .long (lN nt0.2.1), .long (lN nt0.2.2.1), .null, .null, .int (oI nt0.2.2.2.2.2.2.1), .int (oI nt0.2.2.2.2.2.2.2.1), .null, .int (bZ nt0.2.2.2.2.2.2.2.2.1), .int 0, .int (bZ (nt0.2.2.2.2.2.2.2.2.2 0)), .int (bZ (nt0.2.2.2.2.2.2.2.2.2 1)), .int (bZ (nt0.2.2.2.2.2.2.2.2.2 2))]))] ++ F) H locs := h
  refine lv_pop hx hb dX17_read_16 rfl ?_
  refine lv_aload_n hx hb dX17_read_17 rfl (lv_at hl 1 rfl) ?_
  refine lv_aload_n hx hb dX17_read_18 rfl (lv_at hl 0 rfl) ?_
  refine call_VR (As := []) (rest := [.ref se]) (n := 0) C h (c15_take l D dA B Z hZ ([(se, .inr (14, [.ref ba, .int 0, .int 0, .int 0, .int 0, .null, .long (oL nt0.1), .long (lN nt0.2.1), .long (lN nt0.2.2.1), .null, .null, .int (oI nt0.2.2.2.2.2.2.1), .int (oI nt0.2.2.2.2.2.2.2.1), .null, .int (bZ nt0.2.2.2.2.2.2.2.2.1), .int 0, .int (bZ (nt0.2.2.2.2.2.2.2.2.2 0)), .int (bZ (nt0.2.2.2.2.2.2.2.2.2 1)), .int (bZ (nt0.2.2.2.2.2.2.2.2.2 2))]))] ++ F) o1 ba lb (sU1 lb).2 (List.mem_append_right _ (hba)) hob (by omega) hl_sU1) (lw_V q1383 q1115 q1116 q163 q1117) (by decide +kernel) (o_recv C h (RC := RX15) (T := TX15) (N := 3) (List.mem_of_getElem? (i := 0) rfl) rfl) (by decide) (by decide) rfl hl rfl (Nat.le_of_ble_eq_true rfl) dX17_read_19 (by omega) (fun _ H locs _ h => ?_)
  have h : Wd D B s ([(o1, .inr (12, [.ref ba, .int (nI ((sU2 lb).2.1)), .int (bZ ((sU2 lb).2.2))])), (se, .inr (14, [.ref ba, .int 0, .int 0, .int 0, .int 0, .null, .long (oL nt0.1), .long (lN nt0.2.1), .long (lN nt0.2.2.1), .null, .null, .int (oI nt0.2.2.2.2.2.2.1), .int (oI nt0.2.2.2.2.2.2.2.1), .null, .int (bZ nt0.2.2.2.2.2.2.2.2.1), .int 0, .int (bZ (nt0.2.2.2.2.2.2.2.2.2 0)), .int (bZ (nt0.2.2.2.2.2.2.2.2.2 1)), .int (bZ (nt0.2.2.2.2.2.2.2.2.2 2))]))] ++ F) H locs := h
  refine o_put C h 1 (RC := RX17) (T := TX17) (N := 19) (ws' := [(o1, .inr (12, [.ref ba, .int (nI ((sU2 lb).2.1)), .int (bZ ((sU2 lb).2.2))])), (se, .inr (14, [.ref ba, .int (nI ((sU2 lb).1)), .int 0, .int 0, .int 0, .null, .long (oL nt0.1), .long (lN nt0.2.1), .long (lN nt0.2.2.1), .null, .null, .int (oI nt0.2.2.2.2.2.2.1), .int (oI nt0.2.2.2.2.2.2.2.1), .null, .int (bZ nt0.2.2.2.2.2.2.2.2.1), .int 0, .int (bZ (nt0.2.2.2.2.2.2.2.2.2 0)), .int (bZ (nt0.2.2.2.2.2.2.2.2.2 1)), .int (bZ (nt0.2.2.2.2.2.2.2.2.2 2))]))] ++ F) rfl rfl in_X17 tyX17_ok nmX17 1 (by decide) q1307 rfl rfl (v := .int (nI ((sU2 lb).1))) rfl rfl (Nat.le_of_ble_eq_true rfl) rfl dX17_read_22 (fun H locs h => ?_)
  refine lv_aload_n hx hb dX17_read_25 rfl (lv_at hl 0 rfl) ?_
  refine call_VR (As := []) (rest := []) (n := 0) C h (c15_take l D dA B Z hZ ([(se, .inr (14, [.ref ba, .int (nI ((sU2 lb).1)), .int 0, .int 0, .int 0, .null, .long (oL nt0.1), .long (lN nt0.2.1), .long (lN nt0.2.2.1), .null, .null, .int (oI nt0.2.2.2.2.2.2.1), .int (oI nt0.2.2.2.2.2.2.2.1), .null, .int (bZ nt0.2.2.2.2.2.2.2.2.1), .int 0, .int (bZ (nt0.2.2.2.2.2.2.2.2.2 0)), .int (bZ (nt0.2.2.2.2.2.2.2.2.2 1)), .int (bZ (nt0.2.2.2.2.2.2.2.2.2 2))]))] ++ F) o1 ba lb (sU2 lb).2 (List.mem_append_right _ (hba)) hob (by omega) hl_sU2) (lw_V q1383 q1115 q1116 q163 q1117) (by decide +kernel) (o_recv C h (RC := RX15) (T := TX15) (N := 3) (List.mem_of_getElem? (i := 0) rfl) rfl) (by decide) (by decide) rfl hl rfl (Nat.le_of_ble_eq_true rfl) dX17_read_26 (by omega) (fun _ H locs _ h => ?_)
  have h : Wd D B s ([(o1, .inr (12, [.ref ba, .int (nI ((sU3 lb).2.1)), .int (bZ ((sU3 lb).2.2))])), (se, .inr (14, [.ref ba, .int (nI ((sU2 lb).1)), .int 0, .int 0, .int 0, .null, .long (oL nt0.1), .long (lN nt0.2.1), .long (lN nt0.2.2.1), .null, .null, .int (oI nt0.2.2.2.2.2.2.1), .int (oI nt0.2.2.2.2.2.2.2.1), .null, .int (bZ nt0.2.2.2.2.2.2.2.2.1), .int 0, .int (bZ (nt0.2.2.2.2.2.2.2.2.2 0)), .int (bZ (nt0.2.2.2.2.2.2.2.2.2 1)), .int (bZ (nt0.2.2.2.2.2.2.2.2.2 2))]))] ++ F) H locs := h
  refine lv_pop hx hb dX17_read_29 rfl ?_
  refine lv_aload_n hx hb dX17_read_30 rfl (lv_at hl 1 rfl) ?_
  refine lv_aload_n hx hb dX17_read_31 rfl (lv_at hl 0 rfl) ?_
  refine call_VR (As := []) (rest := [.ref se]) (n := 0) C h (c15_take l D dA B Z hZ ([(se, .inr (14, [.ref ba, .int (nI ((sU2 lb).1)), .int 0, .int 0, .int 0, .null, .long (oL nt0.1), .long (lN nt0.2.1), .long (lN nt0.2.2.1), .null, .null, .int (oI nt0.2.2.2.2.2.2.1), .int (oI nt0.2.2.2.2.2.2.2.1), .null, .int (bZ nt0.2.2.2.2.2.2.2.2.1), .int 0, .int (bZ (nt0.2.2.2.2.2.2.2.2.2 0)), .int (bZ (nt0.2.2.2.2.2.2.2.2.2 1)), .int (bZ (nt0.2.2.2.2.2.2.2.2.2 2))]))] ++ F) o1 ba lb (sU3 lb).2 (List.mem_append_right _ (hba)) hob (by omega) hl_sU3) (lw_V q1383 q1115 q1116 q163 q1117) (by decide +kernel) (o_recv C h (RC := RX15) (T := TX15) (N := 3) (List.mem_of_getElem? (i := 0) rfl) rfl) (by decide) (by decide) rfl hl rfl (Nat.le_of_ble_eq_true rfl) dX17_read_32 (by omega) (fun _ H locs _ h => ?_)
  have h : Wd D B s ([(o1, .inr (12, [.ref ba, .int (nI ((sU4 lb).2.1)), .int (bZ ((sU4 lb).2.2))])), (se, .inr (14, [.ref ba, .int (nI ((sU2 lb).1)), .int 0, .int 0, .int 0, .null, .long (oL nt0.1), .long (lN nt0.2.1), .long (lN nt0.2.2.1), .null, .null, .int (oI nt0.2.2.2.2.2.2.1), .int (oI nt0.2.2.2.2.2.2.2.1), .null, .int (bZ nt0.2.2.2.2.2.2.2.2.1), .int 0, .int (bZ (nt0.2.2.2.2.2.2.2.2.2 0)), .int (bZ (nt0.2.2.2.2.2.2.2.2.2 1)), .int (bZ (nt0.2.2.2.2.2.2.2.2.2 2))]))] ++ F) H locs := h
  refine o_put C h 1 (RC := RX17) (T := TX17) (N := 19) (ws' := [(o1, .inr (12, [.ref ba, .int (nI ((sU4 lb).2.1)), .int (bZ ((sU4 lb).2.2))])), (se, .inr (14, [.ref ba, .int (nI ((sU2 lb).1)), .int (nI ((sU4 lb).1)), .int 0, .int 0, .null, .long (oL nt0.1), .long (lN nt0.2.1), .long (lN nt0.2.2.1), .null, .null, .int (oI nt0.2.2.2.2.2.2.1), .int (oI nt0.2.2.2.2.2.2.2.1), .null, .int (bZ nt0.2.2.2.2.2.2.2.2.1), .int 0, .int (bZ (nt0.2.2.2.2.2.2.2.2.2 0)), .int (bZ (nt0.2.2.2.2.2.2.2.2.2 1)), .int (bZ (nt0.2.2.2.2.2.2.2.2.2 2))]))] ++ F) rfl rfl in_X17 tyX17_ok nmX17 2 (by decide) q1309 rfl rfl (v := .int (nI ((sU4 lb).1))) rfl rfl (Nat.le_of_ble_eq_true rfl) rfl dX17_read_35 (fun H locs h => ?_)
  refine lv_aload_n hx hb dX17_read_38 rfl (lv_at hl 1 rfl) ?_
  refine lv_aload_n hx hb dX17_read_39 rfl (lv_at hl 0 rfl) ?_
  refine lv_iconst (v := bZ true) hx hb dX17_read_40 (by decide) ?_
  refine call_VR (As := [.ref o1, .int (bZ true)]) (rest := []) (n := 2) C h (c17_readNotes l D dA B Z hZ F [] se ba o1 (nI ((sU2 lb).1)) (nI ((sU4 lb).1)) 0 0 none 0 lb ((nt0, (sU4 lb).2) : NS × OU) none none none true (hba) hob (by omega) ⟨rfl, rfl, rfl⟩ hl_sU4) (lw_V q1384 q1386 qs12 q165 q1387) (by decide +kernel) (o_recv C h (RC := RX17) (T := TX17) (N := 19) (List.mem_of_getElem? (i := 1) rfl) rfl) (by decide) (by decide) rfl hl rfl (Nat.le_of_ble_eq_true rfl) dX17_read_41 (by
    have z3 : ((nt0, (sU4 lb).2) : NS × OU).2.1 = (sU4 lb).2.1 := rfl
    have z7 : (sX5 lb).1.2.1 = (notesR lb true (nt0, (sU4 lb).2)).1.2.1 := rfl
    have z8 : (sX6 lb).1.2.1 = (notesR lb false (sX5 lb).1).1.2.1 := rfl
    omega) (fun u9 H locs hu h => ?_)
  obtain ⟨ntE5, ouE5, a1, a2, a3, E5⟩ := u9
  dsimp only at hu h
  have h : Wd D B s ([(o1, .inr (12, [.ref ba, .int (nI ouE5.1), .int (bZ ouE5.2)])), (se, .inr (14, [.ref ba, .int (nI ((sU2 lb).1)), .int (nI ((sU4 lb).1)), .int 0, .int 0, .null, .long (oL ntE5.1), .long (lN ntE5.2.1), .long (lN ntE5.2.2.1), va_rf a1, va_rf a2, .int (oI ntE5.2.2.2.2.2.2.1), .int (oI ntE5.2.2.2.2.2.2.2.1), va_rf a3, .int (bZ ntE5.2.2.2.2.2.2.2.2.1), .int 0, .int (bZ (ntE5.2.2.2.2.2.2.2.2.2 0)), .int (bZ (ntE5.2.2.2.2.2.2.2.2.2 1)), .int (bZ (ntE5.2.2.2.2.2.2.2.2.2 2))]))] ++ (F ++ E5)) H locs := h
  refine z_if_ne (tgt := 49) hx hb dX17_read_44 (by decide) (fun c44 => ?_) (fun c44 => ?_)
  · have c44 : (sX5 lb).2 = true := c44
    obtain ⟨e51, e52, hRE5⟩ := hu c44
    rw [e51] at h hRE5
    rw [e52] at h
    have h : Wd D B s ([(o1, .inr (12, [.ref ba, .int (nI ((sX5 lb).1.2.1)), .int (bZ ((sX5 lb).1.2.2))])), (se, .inr (14, [.ref ba, .int (nI ((sU2 lb).1)), .int (nI ((sU4 lb).1)), .int 0, .int 0, .null, .long (oL (sX5 lb).1.1.1), .long (lN (sX5 lb).1.1.2.1), .long (lN (sX5 lb).1.1.2.2.1), va_rf a1, va_rf a2, .int (oI (sX5 lb).1.1.2.2.2.2.2.2.1), .int (oI (sX5 lb).1.1.2.2.2.2.2.2.2.1), va_rf a3, .int (bZ ((sX5 lb).1.1.2.2.2.2.2.2.2.2.1)), .int 0, .int (bZ ((sX5 lb).1.1.2.2.2.2.2.2.2.2.2 0)), .int (bZ ((sX5 lb).1.1.2.2.2.2.2.2.2.2.2 1)), .int (bZ ((sX5 lb).1.1.2.2.2.2.2.2.2.2.2 2))]))] ++ (F ++ E5)) H locs := h
    refine lv_aload_n hx hb dX17_read_49 rfl (lv_at hl 1 rfl) ?_
    refine lv_aload_n hx hb dX17_read_50 rfl (lv_at hl 0 rfl) ?_
    refine o_get C h (RC := RX15) (T := TX15) (N := 3) (List.mem_of_getElem? (i := 0) rfl) rfl in_X15 1 (by decide) q1102 rfl (v := .int (nI ((sX5 lb).1.2.1))) rfl dX17_read_51 ?_
    refine o_put C h 1 (RC := RX17) (T := TX17) (N := 19) (ws' := [(o1, .inr (12, [.ref ba, .int (nI ((sX5 lb).1.2.1)), .int (bZ ((sX5 lb).1.2.2))])), (se, .inr (14, [.ref ba, .int (nI ((sU2 lb).1)), .int (nI ((sU4 lb).1)), .int (nI ((sX5 lb).1.2.1)), .int 0, .null, .long (oL (sX5 lb).1.1.1), .long (lN (sX5 lb).1.1.2.1), .long (lN (sX5 lb).1.1.2.2.1), va_rf a1, va_rf a2, .int (oI (sX5 lb).1.1.2.2.2.2.2.2.1), .int (oI (sX5 lb).1.1.2.2.2.2.2.2.2.1), va_rf a3, .int (bZ ((sX5 lb).1.1.2.2.2.2.2.2.2.2.1)), .int 0, .int (bZ ((sX5 lb).1.1.2.2.2.2.2.2.2.2.2 0)), .int (bZ ((sX5 lb).1.1.2.2.2.2.2.2.2.2.2 1)), .int (bZ ((sX5 lb).1.1.2.2.2.2.2.2.2.2.2 2))]))] ++ (F ++ E5)) rfl rfl in_X17 tyX17_ok nmX17 3 (by decide) q1311 rfl rfl (v := .int (nI ((sX5 lb).1.2.1))) rfl rfl (Nat.le_of_ble_eq_true rfl) rfl dX17_read_54 (fun H locs h => ?_)
    refine lv_aload_n hx hb dX17_read_57 rfl (lv_at hl 1 rfl) ?_
    refine lv_aload_n hx hb dX17_read_58 rfl (lv_at hl 0 rfl) ?_
    refine lv_iconst (v := bZ false) hx hb dX17_read_59 (by decide) ?_
    refine call_VR (As := [.ref o1, .int (bZ false)]) (rest := []) (n := 2) C h (c17_readNotes l D dA B Z hZ (F ++ E5) ([] ++ E5) se ba o1 (nI ((sU2 lb).1)) (nI ((sU4 lb).1)) (nI ((sX5 lb).1.2.1)) 0 none 0 lb (sX5 lb).1 a1 a2 a3 false (List.mem_append_left _ hba) hob (by omega) hRE5 hl_x5) (lw_V q1384 q1386 qs12 q165 q1387) (by decide +kernel) (o_recv C h (RC := RX17) (T := TX17) (N := 19) (List.mem_of_getElem? (i := 1) rfl) rfl) (by decide) (by decide) rfl hl rfl (Nat.le_of_ble_eq_true rfl) dX17_read_60 (by
      have z3 : ((nt0, (sU4 lb).2) : NS × OU).2.1 = (sU4 lb).2.1 := rfl
      have z7 : (sX5 lb).1.2.1 = (notesR lb true (nt0, (sU4 lb).2)).1.2.1 := rfl
      have z8 : (sX6 lb).1.2.1 = (notesR lb false (sX5 lb).1).1.2.1 := rfl
      omega) (fun u9 H locs hu h => ?_)
    obtain ⟨ntE6, ouE6, b1, b2, b3, E6⟩ := u9
    dsimp only at hu h
    have h : Wd D B s ([(o1, .inr (12, [.ref ba, .int (nI ouE6.1), .int (bZ ouE6.2)])), (se, .inr (14, [.ref ba, .int (nI ((sU2 lb).1)), .int (nI ((sU4 lb).1)), .int (nI ((sX5 lb).1.2.1)), .int 0, .null, .long (oL ntE6.1), .long (lN ntE6.2.1), .long (lN ntE6.2.2.1), va_rf b1, va_rf b2, .int (oI ntE6.2.2.2.2.2.2.1), .int (oI ntE6.2.2.2.2.2.2.2.1), va_rf b3, .int (bZ ntE6.2.2.2.2.2.2.2.2.1), .int 0, .int (bZ (ntE6.2.2.2.2.2.2.2.2.2 0)), .int (bZ (ntE6.2.2.2.2.2.2.2.2.2 1)), .int (bZ (ntE6.2.2.2.2.2.2.2.2.2 2))]))] ++ (F ++ (E5 ++ E6))) H locs := by rw [← List.append_assoc F]; exact h
    refine z_if_ne (tgt := 68) hx hb dX17_read_63 (by decide) (fun c63 => ?_) (fun c63 => ?_)
    · have c63 : (sX6 lb).2 = true := c63
      obtain ⟨e61, e62, hRE6⟩ := hu c63
      rw [List.nil_append] at hRE6
      rw [e61] at h hRE6
      rw [e62] at h
      have h : Wd D B s ([(o1, .inr (12, [.ref ba, .int (nI ((sX6 lb).1.2.1)), .int (bZ ((sX6 lb).1.2.2))])), (se, .inr (14, [.ref ba, .int (nI ((sU2 lb).1)), .int (nI ((sU4 lb).1)), .int (nI ((sX5 lb).1.2.1)), .int 0, .null, .long (oL (sNote lb).1), .long (lN (sNote lb).2.1), .long (lN (sNote lb).2.2.1), va_rf b1, va_rf b2, .int (oI (sNote lb).2.2.2.2.2.2.1), .int (oI (sNote lb).2.2.2.2.2.2.2.1), va_rf b3, .int (bZ ((sNote lb).2.2.2.2.2.2.2.2.1)), .int 0, .int (bZ ((sNote lb).2.2.2.2.2.2.2.2.2 0)), .int (bZ ((sNote lb).2.2.2.2.2.2.2.2.2 1)), .int (bZ ((sNote lb).2.2.2.2.2.2.2.2.2 2))]))] ++ (F ++ (E5 ++ E6))) H locs := h
      have hv1 := hnb.1
      refine lv_aload_n hx hb dX17_read_68 rfl (lv_at hl 1 rfl) ?_
      refine lv_dup hx hb dX17_read_69 rfl ?_
      refine o_get C h (RC := RX17) (T := TX17) (N := 19) (List.mem_of_getElem? (i := 1) rfl) rfl in_X17 14 (by decide) q1332 rfl (v := .int (bZ ((sNote lb).2.2.2.2.2.2.2.2.1))) rfl dX17_read_70 ?_
      have jv : ∀ (tjv : Bool), (tjv = decide ((sNote lb).1 = none)) → ∀ (H : Heap) (locs : List Loc), Wd D B s ([(o1, .inr (12, [.ref ba, .int (nI ((sX6 lb).1.2.1)), .int (bZ ((sX6 lb).1.2.2))])), (se, .inr (14, [.ref ba, .int (nI ((sU2 lb).1)), .int (nI ((sU4 lb).1)), .int (nI ((sX5 lb).1.2.1)), .int 0, .null, .long (oL (sNote lb).1), .long (lN (sNote lb).2.1), .long (lN (sNote lb).2.2.1), va_rf b1, va_rf b2, .int (oI (sNote lb).2.2.2.2.2.2.1), .int (oI (sNote lb).2.2.2.2.2.2.2.1), va_rf b3, .int (bZ ((sNote lb).2.2.2.2.2.2.2.2.1)), .int 0, .int (bZ ((sNote lb).2.2.2.2.2.2.2.2.2 0)), .int (bZ ((sNote lb).2.2.2.2.2.2.2.2.2 1)), .int (bZ ((sNote lb).2.2.2.2.2.2.2.2.2 2))]))] ++ (F ++ (E5 ++ E6))) H locs → ∀ (ls : Array Slot), lv_has ls 2 [(1, .ref o1), (0, .ref se)] → W p l e R s m args below meth c H locs (0 + 1 + 0 + 0 + 0 + 0 + 0 + (((sX5 lb).1.2.1 - ((nt0, (sU4 lb).2) : NS × OU).2.1) / 2) + (((sX6 lb).1.2.1 - (sX5 lb).1.2.1) / 2)) (0 + 3 + 0 + 0 + 0 + 0 + 0 + (2 * (lb.length - ((nt0, (sU4 lb).2) : NS × OU).2.1)) + (2 * (lb.length - (sX5 lb).1.2.1))) Q (F0 m 87 ls [.int (bZ tjv), .int (bZ ((sNote lb).2.2.2.2.2.2.2.2.1)), .ref se]) := by
        intro tjv  hjv H locs h ls hl
        refine lv_ior hx hb dX17_read_87 ?_
        refine n_top (y := bZ (sVain lb)) ((bZ_or _ _).trans (by rw [hjv]; rfl)) ?_
        refine o_put C h 1 (RC := RX17) (T := TX17) (N := 19) (ws' := [(o1, .inr (12, [.ref ba, .int (nI ((sX6 lb).1.2.1)), .int (bZ ((sX6 lb).1.2.2))])), (se, .inr (14, [.ref ba, .int (nI ((sU2 lb).1)), .int (nI ((sU4 lb).1)), .int (nI ((sX5 lb).1.2.1)), .int 0, .null, .long (oL (sNote lb).1), .long (lN (sNote lb).2.1), .long (lN (sNote lb).2.2.1), va_rf b1, va_rf b2, .int (oI (sNote lb).2.2.2.2.2.2.1), .int (oI (sNote lb).2.2.2.2.2.2.2.1), va_rf b3, .int (bZ (sVain lb)), .int 0, .int (bZ ((sNote lb).2.2.2.2.2.2.2.2.2 0)), .int (bZ ((sNote lb).2.2.2.2.2.2.2.2.2 1)), .int (bZ ((sNote lb).2.2.2.2.2.2.2.2.2 2))]))] ++ (F ++ (E5 ++ E6))) rfl rfl in_X17 tyX17_ok nmX17 14 (by decide) q1332 rfl rfl (v := .int (bZ (sVain lb))) (bZ_nar _) (bZ_fit _) (Nat.le_of_ble_eq_true rfl) rfl dX17_read_88 (fun H locs h => ?_)
        refine lv_aload_n hx hb dX17_read_91 rfl (lv_at hl 1 rfl) ?_
        refine lv_aload_n hx hb dX17_read_92 rfl (lv_at hl 0 rfl) ?_
        refine lv_iconst (v := nI 2) hx hb dX17_read_93 (by decide) ?_
        refine call_VR (As := [.int (nI 2)]) (rest := [.ref se]) (n := 1) C h (c15_takeN l D dA B Z hZ ([(se, .inr (14, [.ref ba, .int (nI ((sU2 lb).1)), .int (nI ((sU4 lb).1)), .int (nI ((sX5 lb).1.2.1)), .int 0, .null, .long (oL (sNote lb).1), .long (lN (sNote lb).2.1), .long (lN (sNote lb).2.2.1), va_rf b1, va_rf b2, .int (oI (sNote lb).2.2.2.2.2.2.1), .int (oI (sNote lb).2.2.2.2.2.2.2.1), va_rf b3, .int (bZ (sVain lb)), .int 0, .int (bZ ((sNote lb).2.2.2.2.2.2.2.2.2 0)), .int (bZ ((sNote lb).2.2.2.2.2.2.2.2.2 1)), .int (bZ ((sNote lb).2.2.2.2.2.2.2.2.2 2))]))] ++ (F ++ (E5 ++ E6))) o1 ba lb (sX6 lb).1.2 2 (List.mem_append_right _ (List.mem_append_left _ hba)) hob (by omega) hl_x6 (by decide)) (lw_V q1388 q1119 q1120 q163 q1121) (by decide +kernel) (o_recv C h (RC := RX15) (T := TX15) (N := 3) (List.mem_of_getElem? (i := 0) rfl) rfl) (by decide) (by decide) rfl hl rfl (Nat.le_of_ble_eq_true rfl) dX17_read_94 (by omega) (fun _ H locs _ h => ?_)
        have h : Wd D B s ([(o1, .inr (12, [.ref ba, .int (nI ((sU7 lb).2.1)), .int (bZ ((sU7 lb).2.2))])), (se, .inr (14, [.ref ba, .int (nI ((sU2 lb).1)), .int (nI ((sU4 lb).1)), .int (nI ((sX5 lb).1.2.1)), .int 0, .null, .long (oL (sNote lb).1), .long (lN (sNote lb).2.1), .long (lN (sNote lb).2.2.1), va_rf b1, va_rf b2, .int (oI (sNote lb).2.2.2.2.2.2.1), .int (oI (sNote lb).2.2.2.2.2.2.2.1), va_rf b3, .int (bZ (sVain lb)), .int 0, .int (bZ ((sNote lb).2.2.2.2.2.2.2.2.2 0)), .int (bZ ((sNote lb).2.2.2.2.2.2.2.2.2 1)), .int (bZ ((sNote lb).2.2.2.2.2.2.2.2.2 2))]))] ++ (F ++ (E5 ++ E6))) H locs := h
        refine lv_l2i (v := nI ((sU7 lb).1)) hx hb dX17_read_97 (lN_i _) ?_
        refine o_put C h 1 (RC := RX17) (T := TX17) (N := 19) (ws' := [(o1, .inr (12, [.ref ba, .int (nI ((sU7 lb).2.1)), .int (bZ ((sU7 lb).2.2))])), (se, .inr (14, [.ref ba, .int (nI ((sU2 lb).1)), .int (nI ((sU4 lb).1)), .int (nI ((sX5 lb).1.2.1)), .int (nI ((sU7 lb).1)), .null, .long (oL (sNote lb).1), .long (lN (sNote lb).2.1), .long (lN (sNote lb).2.2.1), va_rf b1, va_rf b2, .int (oI (sNote lb).2.2.2.2.2.2.1), .int (oI (sNote lb).2.2.2.2.2.2.2.1), va_rf b3, .int (bZ (sVain lb)), .int 0, .int (bZ ((sNote lb).2.2.2.2.2.2.2.2.2 0)), .int (bZ ((sNote lb).2.2.2.2.2.2.2.2.2 1)), .int (bZ ((sNote lb).2.2.2.2.2.2.2.2.2 2))]))] ++ (F ++ (E5 ++ E6))) rfl rfl in_X17 tyX17_ok nmX17 4 (by decide) q1313 rfl rfl (v := .int (nI ((sU7 lb).1))) rfl rfl (Nat.le_of_ble_eq_true rfl) rfl dX17_read_98 (fun H locs h => ?_)
        refine lv_aload_n hx hb dX17_read_101 rfl (lv_at hl 1 rfl) ?_
        refine lv_aload_n hx hb dX17_read_102 rfl (lv_at hl 0 rfl) ?_
        refine call_VR (As := []) (rest := [.ref se]) (n := 0) C h (c15_number l D dA B Z hZ ([(se, .inr (14, [.ref ba, .int (nI ((sU2 lb).1)), .int (nI ((sU4 lb).1)), .int (nI ((sX5 lb).1.2.1)), .int (nI ((sU7 lb).1)), .null, .long (oL (sNote lb).1), .long (lN (sNote lb).2.1), .long (lN (sNote lb).2.2.1), va_rf b1, va_rf b2, .int (oI (sNote lb).2.2.2.2.2.2.1), .int (oI (sNote lb).2.2.2.2.2.2.2.1), va_rf b3, .int (bZ (sVain lb)), .int 0, .int (bZ ((sNote lb).2.2.2.2.2.2.2.2.2 0)), .int (bZ ((sNote lb).2.2.2.2.2.2.2.2.2 1)), .int (bZ ((sNote lb).2.2.2.2.2.2.2.2.2 2))]))] ++ (F ++ (E5 ++ E6))) o1 ba lb (sU7 lb).2 (List.mem_append_right _ (List.mem_append_left _ hba)) hob (by omega) hl_sU7.2.1) (lw_V q1404 q1124 q1125 q163 q1126) (by decide +kernel) (o_recv C h (RC := RX15) (T := TX15) (N := 3) (List.mem_of_getElem? (i := 0) rfl) rfl) (by decide) (by decide) rfl hl rfl (Nat.le_of_ble_eq_true rfl) dX17_read_103 (by omega) (fun q_n H locs _ h => ?_)
        have h : Wd D B s ([(o1, .inr (12, [.ref ba, .int (nI ((sU8 lb).2.1)), .int (bZ ((sU8 lb).2.2))])), (se, .inr (14, [.ref ba, .int (nI ((sU2 lb).1)), .int (nI ((sU4 lb).1)), .int (nI ((sX5 lb).1.2.1)), .int (nI ((sU7 lb).1)), .null, .long (oL (sNote lb).1), .long (lN (sNote lb).2.1), .long (lN (sNote lb).2.2.1), va_rf b1, va_rf b2, .int (oI (sNote lb).2.2.2.2.2.2.1), .int (oI (sNote lb).2.2.2.2.2.2.2.1), va_rf b3, .int (bZ (sVain lb)), .int 0, .int (bZ ((sNote lb).2.2.2.2.2.2.2.2.2 0)), .int (bZ ((sNote lb).2.2.2.2.2.2.2.2.2 1)), .int (bZ ((sNote lb).2.2.2.2.2.2.2.2.2 2))]))] ++ (F ++ ((E5 ++ E6) ++ [(q_n, bal dA (sNum lb))]))) H locs := by rw [← List.append_assoc F]; exact h
        refine o_put C h 1 (RC := RX17) (T := TX17) (N := 19) (ws' := [(o1, .inr (12, [.ref ba, .int (nI ((sU8 lb).2.1)), .int (bZ ((sU8 lb).2.2))])), (se, .inr (14, [.ref ba, .int (nI ((sU2 lb).1)), .int (nI ((sU4 lb).1)), .int (nI ((sX5 lb).1.2.1)), .int (nI ((sU7 lb).1)), .ref q_n, .long (oL (sNote lb).1), .long (lN (sNote lb).2.1), .long (lN (sNote lb).2.2.1), va_rf b1, va_rf b2, .int (oI (sNote lb).2.2.2.2.2.2.1), .int (oI (sNote lb).2.2.2.2.2.2.2.1), va_rf b3, .int (bZ (sVain lb)), .int 0, .int (bZ ((sNote lb).2.2.2.2.2.2.2.2.2 0)), .int (bZ ((sNote lb).2.2.2.2.2.2.2.2.2 1)), .int (bZ ((sNote lb).2.2.2.2.2.2.2.2.2 2))]))] ++ (F ++ ((E5 ++ E6) ++ [(q_n, bal dA (sNum lb))]))) rfl rfl in_X17 tyX17_ok nmX17 5 (by decide) q1315 rfl rfl (v := .ref q_n) rfl rfl (Nat.le_of_ble_eq_true rfl) rfl dX17_read_106 (fun H locs h => ?_)
        refine lv_aload_n hx hb dX17_read_109 rfl (lv_at hl 0 rfl) ?_
        refine call_VR (As := []) (rest := []) (n := 0) C h (c15_isEnd l D dA B Z hZ ([(se, .inr (14, [.ref ba, .int (nI ((sU2 lb).1)), .int (nI ((sU4 lb).1)), .int (nI ((sX5 lb).1.2.1)), .int (nI ((sU7 lb).1)), .ref q_n, .long (oL (sNote lb).1), .long (lN (sNote lb).2.1), .long (lN (sNote lb).2.2.1), va_rf b1, va_rf b2, .int (oI (sNote lb).2.2.2.2.2.2.1), .int (oI (sNote lb).2.2.2.2.2.2.2.1), va_rf b3, .int (bZ (sVain lb)), .int 0, .int (bZ ((sNote lb).2.2.2.2.2.2.2.2.2 0)), .int (bZ ((sNote lb).2.2.2.2.2.2.2.2.2 1)), .int (bZ ((sNote lb).2.2.2.2.2.2.2.2.2 2))]))] ++ (F ++ ((E5 ++ E6) ++ [(q_n, bal dA (sNum lb))]))) o1 ba lb (sU8 lb).2 (List.mem_append_right _ (List.mem_append_left _ hba)) hob (by omega) hl_8) (lw_V q1405 q1177 q1178 q163 q1179) (by decide +kernel) (o_recv C h (RC := RX15) (T := TX15) (N := 3) (List.mem_of_getElem? (i := 0) rfl) rfl) (by decide) (by decide) rfl hl rfl (Nat.le_of_ble_eq_true rfl) dX17_read_110 (by omega) (fun _ H locs _ h => ?_)
        have h : Wd D B s ([(o1, .inr (12, [.ref ba, .int (nI ((sU8 lb).2.1)), .int (bZ ((sU8 lb).2.2))])), (se, .inr (14, [.ref ba, .int (nI ((sU2 lb).1)), .int (nI ((sU4 lb).1)), .int (nI ((sX5 lb).1.2.1)), .int (nI ((sU7 lb).1)), .ref q_n, .long (oL (sNote lb).1), .long (lN (sNote lb).2.1), .long (lN (sNote lb).2.2.1), va_rf b1, va_rf b2, .int (oI (sNote lb).2.2.2.2.2.2.1), .int (oI (sNote lb).2.2.2.2.2.2.2.1), va_rf b3, .int (bZ (sVain lb)), .int 0, .int (bZ ((sNote lb).2.2.2.2.2.2.2.2.2 0)), .int (bZ ((sNote lb).2.2.2.2.2.2.2.2.2 1)), .int (bZ ((sNote lb).2.2.2.2.2.2.2.2.2 2))]))] ++ (F ++ ((E5 ++ E6) ++ [(q_n, bal dA (sNum lb))]))) H locs := h
        subst hQ
        have h : Wd D B s ([(se, .inr (14, [.ref ba, .int (nI ((sU2 lb).1)), .int (nI ((sU4 lb).1)), .int (nI ((sX5 lb).1.2.1)), .int (nI ((sU7 lb).1)), .ref q_n, .long (oL (sNote lb).1), .long (lN (sNote lb).2.1), .long (lN (sNote lb).2.2.1), va_rf b1, va_rf b2, .int (oI (sNote lb).2.2.2.2.2.2.1), .int (oI (sNote lb).2.2.2.2.2.2.2.1), va_rf b3, .int (bZ (sVain lb)), .int 0, .int (bZ ((sNote lb).2.2.2.2.2.2.2.2.2 0)), .int (bZ ((sNote lb).2.2.2.2.2.2.2.2.2 1)), .int (bZ ((sNote lb).2.2.2.2.2.2.2.2.2 2))])), (o1, .inr (12, [.ref ba, .int (nI ((sU8 lb).2.1)), .int (bZ ((sU8 lb).2.2))]))] ++ (F ++ ((E5 ++ E6) ++ [(q_n, bal dA (sNum lb))]))) H locs := h.perm [1, 0] rfl rfl
        have h : Wd D B s ([(se, .inr (14, [.ref ba, .int (nI ((sU2 lb).1)), .int (nI ((sU4 lb).1)), .int (nI ((sX5 lb).1.2.1)), .int (nI ((sU7 lb).1)), .ref q_n, .long (oL (sNote lb).1), .long (lN (sNote lb).2.1), .long (lN (sNote lb).2.2.1), va_rf b1, va_rf b2, .int (oI (sNote lb).2.2.2.2.2.2.1), .int (oI (sNote lb).2.2.2.2.2.2.2.1), va_rf b3, .int (bZ (sVain lb)), .int 0, .int (bZ ((sNote lb).2.2.2.2.2.2.2.2.2 0)), .int (bZ ((sNote lb).2.2.2.2.2.2.2.2.2 1)), .int (bZ ((sNote lb).2.2.2.2.2.2.2.2.2 2))]))] ++ (F ++ ([(o1, .inr (12, [.ref ba, .int (nI ((sU8 lb).2.1)), .int (bZ ((sU8 lb).2.2))]))] ++ ((E5 ++ E6) ++ [(q_n, bal dA (sNum lb))])))) H locs := h.permL (perm_add (fun g f p0 p1 p2 => by (try simp only [p0, p1, p2]) <;> omega))
        exact ret_z C hr hlocks h ([.ref ba, .int (nI ((sU2 lb).1)), .int (nI ((sU4 lb).1)), .int (nI ((sX5 lb).1.2.1)), .int (nI ((sU7 lb).1)), .ref q_n, .long (oL (sNote lb).1), .long (lN (sNote lb).2.1), .long (lN (sNote lb).2.2.1), va_rf b1, va_rf b2, .int (oI (sNote lb).2.2.2.2.2.2.1), .int (oI (sNote lb).2.2.2.2.2.2.2.1), va_rf b3, .int (bZ (sVain lb)), .int 0, .int (bZ ((sNote lb).2.2.2.2.2.2.2.2.2 0)), .int (bZ ((sNote lb).2.2.2.2.2.2.2.2.2 1)), .int (bZ ((sNote lb).2.2.2.2.2.2.2.2.2 2))], ([(o1, .inr (12, [.ref ba, .int (nI ((sU8 lb).2.1)), .int (bZ ((sU8 lb).2.2))]))] ++ ((E5 ++ E6) ++ [(q_n, bal dA (sNum lb))]))) (fun q => ⟨⟨hob, hol, q, h0l⟩, ba, q_n, b1, b2, b3, _, _, _, List.mem_append_left _ List.mem_cons_self, List.mem_append_right _ (List.mem_append_left _ List.mem_cons_self), List.mem_append_right _ (List.mem_append_right _ (List.mem_append_right _ (List.mem_append_right _ List.mem_cons_self))), (hRE6.1).sub (fun b q hq => List.mem_append_right _ (List.mem_append_right _ (List.mem_append_right _ (List.mem_append_left _ hq)))), (hRE6.2.1).sub (fun b q hq => List.mem_append_right _ (List.mem_append_right _ (List.mem_append_right _ (List.mem_append_left _ hq)))), (hRE6.2.2).sub (fun b q hq => List.mem_append_right _ (List.mem_append_right _ (List.mem_append_right _ (List.mem_append_left _ hq))))⟩) (by unfold sealOk; rw [c44, c63]; rfl) rfl (by omega) (by omega) dX17_read_113
      refine lv_aload_n hx hb dX17_read_73 rfl (lv_at hl 1 rfl) ?_
      refine o_get C h (RC := RX17) (T := TX17) (N := 19) (List.mem_of_getElem? (i := 1) rfl) rfl in_X17 6 (by decide) q1317 rfl (v := .long (oL (sNote lb).1)) rfl dX17_read_74 ?_
      refine lv_lconst (v := lN 0) hx hb dX17_read_77 (by decide) ?_
      refine k_lcmp_ge (tgt := 86) hx hb dX17_read_78 dX17_read_79 (by decide) (fun c78 => ?_) (fun c78 => ?_)
      · refine lv_iconst (v := nI 0) hx hb dX17_read_86 (by decide) ?_
        refine n_top (y := bZ false) rfl ?_
        exact jv false (by rw [decide_eq_false (oL_pos c78)]) _ _ h _ (lv_sub hl [0, 1] rfl)
      · refine lv_iconst (v := nI 1) hx hb dX17_read_82 (by decide) ?_
        refine lv_goto (tgt := 87) hx hb dX17_read_83 (by decide) ?_
        refine n_top (y := bZ true) rfl ?_
        exact jv true (by rw [decide_eq_true (oL_neg hv1 c78)]) _ _ h _ (lv_sub hl [0, 1] rfl)
    · have c63 : (sX6 lb).2 = false := c63
      refine lv_iconst (v := nI 0) hx hb dX17_read_66 (by decide) ?_
      subst hQ
      have h : Wd D B s ([(se, .inr (14, [.ref ba, .int (nI ((sU2 lb).1)), .int (nI ((sU4 lb).1)), .int (nI ((sX5 lb).1.2.1)), .int 0, .null, .long (oL ntE6.1), .long (lN ntE6.2.1), .long (lN ntE6.2.2.1), va_rf b1, va_rf b2, .int (oI ntE6.2.2.2.2.2.2.1), .int (oI ntE6.2.2.2.2.2.2.2.1), va_rf b3, .int (bZ ntE6.2.2.2.2.2.2.2.2.1), .int 0, .int (bZ (ntE6.2.2.2.2.2.2.2.2.2 0)), .int (bZ (ntE6.2.2.2.2.2.2.2.2.2 1)), .int (bZ (ntE6.2.2.2.2.2.2.2.2.2 2))])), (o1, .inr (12, [.ref ba, .int (nI ouE6.1), .int (bZ ouE6.2)]))] ++ (F ++ (E5 ++ E6))) H locs := h.perm [1, 0] rfl rfl
      have h : Wd D B s ([(se, .inr (14, [.ref ba, .int (nI ((sU2 lb).1)), .int (nI ((sU4 lb).1)), .int (nI ((sX5 lb).1.2.1)), .int 0, .null, .long (oL ntE6.1), .long (lN ntE6.2.1), .long (lN ntE6.2.2.1), va_rf b1, va_rf b2, .int (oI ntE6.2.2.2.2.2.2.1), .int (oI ntE6.2.2.2.2.2.2.2.1), va_rf b3, .int (bZ ntE6.2.2.2.2.2.2.2.2.1), .int 0, .int (bZ (ntE6.2.2.2.2.2.2.2.2.2 0)), .int (bZ (ntE6.2.2.2.2.2.2.2.2.2 1)), .int (bZ (ntE6.2.2.2.2.2.2.2.2.2 2))]))] ++ (F ++ ([(o1, .inr (12, [.ref ba, .int (nI ouE6.1), .int (bZ ouE6.2)]))] ++ (E5 ++ E6)))) H locs := h.permL (perm_add (fun g f p0 p1 p2 => by (try simp only [p0, p1, p2]) <;> omega))
      refine n_top (y := bZ false) rfl ?_
      exact ret_z C hr hlocks h ([.ref ba, .int (nI ((sU2 lb).1)), .int (nI ((sU4 lb).1)), .int (nI ((sX5 lb).1.2.1)), .int 0, .null, .long (oL ntE6.1), .long (lN ntE6.2.1), .long (lN ntE6.2.2.1), va_rf b1, va_rf b2, .int (oI ntE6.2.2.2.2.2.2.1), .int (oI ntE6.2.2.2.2.2.2.2.1), va_rf b3, .int (bZ ntE6.2.2.2.2.2.2.2.2.1), .int 0, .int (bZ (ntE6.2.2.2.2.2.2.2.2.2 0)), .int (bZ (ntE6.2.2.2.2.2.2.2.2.2 1)), .int (bZ (ntE6.2.2.2.2.2.2.2.2.2 2))], ([(o1, .inr (12, [.ref ba, .int (nI ouE6.1), .int (bZ ouE6.2)]))] ++ (E5 ++ E6))) (fun q => by unfold sealOk at q; rw [c63, Bool.and_false] at q; cases q) (by unfold sealOk; rw [c63, Bool.and_false]; rfl) rfl (by omega) (by omega) dX17_read_67
  · have c44 : (sX5 lb).2 = false := c44
    refine lv_iconst (v := nI 0) hx hb dX17_read_47 (by decide) ?_
    subst hQ
    have h : Wd D B s ([(se, .inr (14, [.ref ba, .int (nI ((sU2 lb).1)), .int (nI ((sU4 lb).1)), .int 0, .int 0, .null, .long (oL ntE5.1), .long (lN ntE5.2.1), .long (lN ntE5.2.2.1), va_rf a1, va_rf a2, .int (oI ntE5.2.2.2.2.2.2.1), .int (oI ntE5.2.2.2.2.2.2.2.1), va_rf a3, .int (bZ ntE5.2.2.2.2.2.2.2.2.1), .int 0, .int (bZ (ntE5.2.2.2.2.2.2.2.2.2 0)), .int (bZ (ntE5.2.2.2.2.2.2.2.2.2 1)), .int (bZ (ntE5.2.2.2.2.2.2.2.2.2 2))])), (o1, .inr (12, [.ref ba, .int (nI ouE5.1), .int (bZ ouE5.2)]))] ++ (F ++ E5)) H locs := h.perm [1, 0] rfl rfl
    have h : Wd D B s ([(se, .inr (14, [.ref ba, .int (nI ((sU2 lb).1)), .int (nI ((sU4 lb).1)), .int 0, .int 0, .null, .long (oL ntE5.1), .long (lN ntE5.2.1), .long (lN ntE5.2.2.1), va_rf a1, va_rf a2, .int (oI ntE5.2.2.2.2.2.2.1), .int (oI ntE5.2.2.2.2.2.2.2.1), va_rf a3, .int (bZ ntE5.2.2.2.2.2.2.2.2.1), .int 0, .int (bZ (ntE5.2.2.2.2.2.2.2.2.2 0)), .int (bZ (ntE5.2.2.2.2.2.2.2.2.2 1)), .int (bZ (ntE5.2.2.2.2.2.2.2.2.2 2))]))] ++ (F ++ ([(o1, .inr (12, [.ref ba, .int (nI ouE5.1), .int (bZ ouE5.2)]))] ++ E5))) H locs := h.permL (perm_add (fun g f p0 p1 p2 => by (try simp only [p0, p1, p2]) <;> omega))
    refine n_top (y := bZ false) rfl ?_
    exact ret_z C hr hlocks h ([.ref ba, .int (nI ((sU2 lb).1)), .int (nI ((sU4 lb).1)), .int 0, .int 0, .null, .long (oL ntE5.1), .long (lN ntE5.2.1), .long (lN ntE5.2.2.1), va_rf a1, va_rf a2, .int (oI ntE5.2.2.2.2.2.2.1), .int (oI ntE5.2.2.2.2.2.2.2.1), va_rf a3, .int (bZ ntE5.2.2.2.2.2.2.2.2.1), .int 0, .int (bZ (ntE5.2.2.2.2.2.2.2.2.2 0)), .int (bZ (ntE5.2.2.2.2.2.2.2.2.2 1)), .int (bZ (ntE5.2.2.2.2.2.2.2.2.2 2))], ([(o1, .inr (12, [.ref ba, .int (nI ouE5.1), .int (bZ ouE5.2)]))] ++ E5)) (fun q => by unfold sealOk at q; rw [c44] at q; cases q) (by unfold sealOk; rw [c44]; rfl) rfl (by omega) (by omega) dX17_read_48
set_option maxHeartbeats 400000 in
set_option maxRecDepth 100000 in
theorem c17_isEnded (l : Launch) (D : va_G) (dA : Nat → ClassId) (B : Nat) (Z : State → Prop) (hZ : Stab B Z) (ws : va_W) (x : SL) (t : Nat) (hS : SealB dA ws x) (hv : sVain x.2 = false) (ht : t < 4294967296) :
    Ct (S := Unit) l D dA B Z yX17_isEnded cX17_isEnded 3 (some .boolean) 1 0 0 [.ref x.1, .long (lN t)] (ws) (fun _ => True) (fun _ => some (.int (bZ (decide (0 < enN x.2 ∧ mdN x.2 + enN x.2 ≤ t))))) (fun _ => ws) := by
  refine Ct.mk2 (by decide) (Nat.le_of_ble_eq_true rfl) hZ ?_
  intro p e R s m args below meth c ls Q C hr hlocks hin hQ hl h
  have C0 := C
  obtain ⟨hx, hb, hml, hown, hts, -⟩ := C0
  have hl : lv_has ls 3 [(0, .ref x.1), (1, .long (lN t))] := hl
  obtain ⟨tx, ⟨hbbx, hblx, hbox, hb0x⟩, bax, snx, r1x, r2x, r3x, w1x, w2x, w3x, hcex, hbax, hsnx, hr1x, hr2x, hr3x⟩ := hS
  have hnb := sNote_nb hbbx
  have hmd : (sNote x.2).1 = some (mdN x.2) := vain_md hv
  have hm9 := hnb.1 _ hmd
  have he9 : enN x.2 < 4294967296 := hnb.2.1
  rw [hmd] at hcex
  have hcex : (x.1, .inr (14, [.ref bax, .int (nI (sType x.2)), .int (nI (sHash x.2)), .int (nI (sEnd x.2)), .int (nI (sLeft x.2)), .ref snx, .long (lN (mdN x.2)), .long (lN (enN x.2)), .long (lN (sNote x.2).2.2.1), va_rf r1x, va_rf r2x, .int (oI (sNote x.2).2.2.2.2.2.2.1), .int (oI (sNote x.2).2.2.2.2.2.2.2.1), va_rf r3x, .int (bZ (sVain x.2)), .int tx, .int (bZ w1x), .int (bZ w2x), .int (bZ w3x)])) ∈ ws := hcex
  refine lv_aload_n hx hb dX17_isEnded_0 rfl (lv_at hl 0 rfl) ?_
  refine o_get C h (RC := RX17) (T := TX17) (N := 19) (hcex) rfl in_X17 7 (by decide) q1319 rfl (v := .long (lN (enN x.2))) rfl dX17_isEnded_1 ?_
  refine lv_lconst (v := lN 0) hx hb dX17_isEnded_4 (by decide) ?_
  refine n_lcmp_le (tgt := 27) hx hb (by omega) (by omega) dX17_isEnded_5 dX17_isEnded_6 (by decide) (fun c5 => ?_) (fun c5 => ?_)
  · refine lv_iconst (v := nI 0) hx hb dX17_isEnded_27 (by decide) ?_
    subst hQ
    refine n_top (y := bZ false) rfl ?_
    exact ret_z C hr hlocks h () trivial (by rw [decide_eq_false (by omega)]) rfl (by omega) (by omega) dX17_isEnded_28
  · refine lv_aload_n hx hb dX17_isEnded_9 rfl (lv_at hl 0 rfl) ?_
    refine o_get C h (RC := RX17) (T := TX17) (N := 19) (hcex) rfl in_X17 6 (by decide) q1317 rfl (v := .long (lN (mdN x.2))) rfl dX17_isEnded_10 ?_
    refine lv_aload_n hx hb dX17_isEnded_13 rfl (lv_at hl 0 rfl) ?_
    refine o_get C h (RC := RX17) (T := TX17) (N := 19) (hcex) rfl in_X17 7 (by decide) q1319 rfl (v := .long (lN (enN x.2))) rfl dX17_isEnded_14 ?_
    refine lv_ladd hx hb dX17_isEnded_17 (n_topl (y := lN (mdN x.2 + enN x.2)) (lN_add (mdN x.2) (enN x.2)) ?_)
    refine lv_lload_n hx hb dX17_isEnded_18 rfl (lv_at hl 1 rfl) ?_
    refine n_lcmp_gt (tgt := 27) hx hb (by omega) (by omega) dX17_isEnded_19 dX17_isEnded_20 (by decide) (fun c19 => ?_) (fun c19 => ?_)
    · refine lv_iconst (v := nI 0) hx hb dX17_isEnded_27 (by decide) ?_
      subst hQ
      refine n_top (y := bZ false) rfl ?_
      exact ret_z C hr hlocks h () trivial (by rw [decide_eq_false (by omega)]) rfl (by omega) (by omega) dX17_isEnded_28
    · refine lv_iconst (v := nI 1) hx hb dX17_isEnded_23 (by decide) ?_
      refine lv_goto (tgt := 28) hx hb dX17_isEnded_24 (by decide) ?_
      subst hQ
      refine n_top (y := bZ true) rfl ?_
      exact ret_z C hr hlocks h () trivial (by rw [decide_eq_true (by omega)]) rfl (by omega) (by omega) dX17_isEnded_28
