set_option maxRecDepth 100000
set_option maxHeartbeats 400000 in
set_option maxRecDepth 100000 in
theorem c17_take (l : Launch) (D : va_G) (dA : Nat → ClassId) (B : Nat) (Z : State → Prop) (hZ : Stab B Z) (F P : va_W) (se ba : Nat) (ty ha sE le : Int32) (s9 : Option Nat) (nt : NS) (r1 r2 r3 : Option Nat) (tr : Int32) (kd ra : Nat) (sd gr : Bool) (lb : List Nat) (hR : RNb dA P nt r1 r2 r3) (hmP : (ra, bal dA lb) ∈ P) (hkd : kd < 128) (hm : (ra, bal dA lb) ∈ F) (hby : byt lb) (hl5 : lb.length ≤ 5000) :
    Ct (S := Option Nat × Option Nat × Option Nat × va_W) l D dA B Z yX17_take cX17_take 6 (some .boolean) 4 (lb.length / 21) lb.length [.ref se, .int (nI kd), .ref ra, .int (bZ sd), .int (bZ gr)] (slC se ba ty ha sE le s9 nt r1 r2 r3 tr ++ F) (fun u => RNb dA (P ++ u.2.2.2) (noteS nt kd gr sd lb).1 u.1 u.2.1 u.2.2.1) (fun _ => some (.int (bZ (noteS nt kd gr sd lb).2))) (fun u => slC se ba ty ha sE le s9 ((noteS nt kd gr sd lb).1) u.1 u.2.1 u.2.2.1 tr ++ (F ++ u.2.2.2)) := by
  refine Ct.mk2 (by decide) (Nat.le_of_ble_eq_true rfl) hZ ?_
  intro p e R s m args below meth c ls Q C hr hlocks hin hQ hl h
  have C0 := C
  obtain ⟨hx, hb, hml, hown, hts, -⟩ := C0
  have hl : lv_has ls 6 [(0, .ref se), (1, .int (nI kd)), (2, .ref ra), (3, .int (bZ sd)), (4, .int (bZ gr))] := hl
  unfold slC at h
  have h : Wd D B s ([(se, .inr (14, [.ref ba, .int ty, .int ha, .int sE, .int le, va_rf s9, .long (oL nt.1), .long (lN nt.2.1), .long (lN nt.2.2.1), va_rf r1, va_rf r2, .int (oI nt.2.2.2.2.2.2.1), .int (oI nt.2.2.2.2.2.2.2.1), va_rf r3, .int (bZ nt.2.2.2.2.2.2.2.2.1), .int tr, .int (bZ (nt.2.2.2.2.2.2.2.2.2 0)), .int (bZ (nt.2.2.2.2.2.2.2.2.2 1)), .int (bZ (nt.2.2.2.2.2.2.2.2.2 2))]))] ++ F) s.heap [] := h
  have hg0 := byt_gD hby 0
  refine lv_aload_n hx hb dX17_take_0 rfl (lv_at hl 2 rfl) ?_
  refine n_balen C h (List.mem_append_right _ hm) dX17_take_1 ?_
  refine lv_istore (lv' := [(5, .int (nI lb.length)), (0, .ref se), (1, .int (nI kd)), (2, .ref ra), (3, .int (bZ sd)), (4, .int (bZ gr))]) hx hb dX17_take_2 hl (by decide) rfl (fun ls hl => ?_)
  refine lv_iload_n hx hb dX17_take_4 rfl (lv_at hl 2 rfl) ?_
  by_cases n0 : kd = 2 ∨ kd = 3 ∨ kd = 9
  · refine lv_lookup (off := 75) (tgt := 80) hx hb dX17_take_5 (by decide) ((sw17 kd hkd).trans (by rw [if_pos (by omega)])) (by decide) ?_
    refine lv_iload hx hb dX17_take_80 (lv_at hl 0 rfl) ?_
    refine lv_iconst (v := nI 4) hx hb dX17_take_82 (by decide) ?_
    refine n_icmp_eq (tgt := 88) hx hb (by omega) (by omega) dX17_take_83 (by decide) (fun c83 => ?_) (fun c83 => ?_)
    · refine lv_iload_n hx hb dX17_take_88 rfl (lv_at hl 4 rfl) ?_
      refine z_if_eq (tgt := 103) hx hb dX17_take_89 (by decide) (fun c89 => ?_) (fun c89 => ?_)
      · refine lv_iconst (v := nI 1) hx hb dX17_take_103 (by decide) ?_
        subst hQ
        have h : Wd D B s ([(se, .inr (14, [.ref ba, .int ty, .int ha, .int sE, .int le, va_rf s9, .long (oL nt.1), .long (lN nt.2.1), .long (lN nt.2.2.1), va_rf r1, va_rf r2, .int (oI nt.2.2.2.2.2.2.1), .int (oI nt.2.2.2.2.2.2.2.1), va_rf r3, .int (bZ nt.2.2.2.2.2.2.2.2.1), .int tr, .int (bZ (nt.2.2.2.2.2.2.2.2.2 0)), .int (bZ (nt.2.2.2.2.2.2.2.2.2 1)), .int (bZ (nt.2.2.2.2.2.2.2.2.2 2))]))] ++ (F ++ [])) s.heap [] := by rw [List.append_nil]; exact h
        have hfin := show noteS nt kd gr sd lb = _ by unfold noteS; rw [if_pos (by omega), if_pos (by omega)]
        refine n_top (y := bZ true) rfl ?_
        exact ret_z C hr hlocks h (r1, r2, r3, []) (by rw [hfin]; exact ⟨hR.1.up, hR.2.1.up, hR.2.2.up⟩) (by rw [hfin]; try rfl) (by rw [hfin]; unfold slC; dsimp only; first | (cases sd with | false => exact absurd c89 (by decide) | true => (rcases n0 with q | q | q <;> (subst q; rfl))) | (cases sd with | true => exact absurd c89 (by decide) | false => rfl)) (by omega) (by omega) dX17_take_104
      · refine lv_aload_n hx hb dX17_take_92 rfl (lv_at hl 1 rfl) ?_
        refine lv_iload_n hx hb dX17_take_93 rfl (lv_at hl 2 rfl) ?_
        refine lv_aload_n hx hb dX17_take_94 rfl (lv_at hl 3 rfl) ?_
        refine lv_iconst (v := nI 0) hx hb dX17_take_95 (by decide) ?_
        refine lv_iconst (v := nI 4) hx hb dX17_take_96 (by decide) ?_
        refine call_SN (As := [.ref ra, .int (nI 0), .int (nI 4)]) (rest := [.int (nI kd), .ref se]) (n := 3) C h (c1_number l D dA B Z hZ _ ra lb.length (gD lb) 0 4 (List.mem_append_right _ hm) (by omega) (by omega) (fun j _ => byt_gD hby j) (by decide)) (lw_meth q1203) q1398 q1202 q129 (by decide +kernel) (by decide) (by decide) rfl hl rfl (Nat.le_of_ble_eq_true rfl) dX17_take_97 (by omega) (fun _ H locs _ h => ?_)
        rw [show sl (gD lb) 0 4 = lb from by rw [← c83, sl_gD]]
        refine call_VR (As := [.int (nI kd), .long (lN (num lb))]) (rest := []) (n := 2) C h (c17_takeTime l D dA B Z hZ F se ba ty ha sE le s9 nt r1 r2 r3 tr kd (lN (num lb)) (oL nt.1) (lN nt.2.1) (lN nt.2.2.1) (by omega)) (lw_V q1399 q1401 qs14 q165 q1402) (by decide +kernel) (o_recv C h (RC := RX17) (T := TX17) (N := 19) (List.mem_of_getElem? (i := 0) rfl) rfl) (by decide) (by decide) rfl hl rfl (Nat.le_of_ble_eq_true rfl) dX17_take_100 (by omega) (fun _ H locs _ h => ?_)
        have h : Wd D B s ([(se, .inr (14, [.ref ba, .int ty, .int ha, .int sE, .int le, va_rf s9, .long (if kd = 2 then lN (num lb) else oL nt.1), .long (if kd = 3 then lN (num lb) else lN nt.2.1), .long (if kd = 2 ∨ kd = 3 then lN nt.2.2.1 else lN (num lb)), va_rf r1, va_rf r2, .int (oI nt.2.2.2.2.2.2.1), .int (oI nt.2.2.2.2.2.2.2.1), va_rf r3, .int (bZ nt.2.2.2.2.2.2.2.2.1), .int tr, .int (bZ (nt.2.2.2.2.2.2.2.2.2 0)), .int (bZ (nt.2.2.2.2.2.2.2.2.2 1)), .int (bZ (nt.2.2.2.2.2.2.2.2.2 2))]))] ++ F) H locs := h
        refine lv_iconst (v := nI 1) hx hb dX17_take_103 (by decide) ?_
        subst hQ
        have h : Wd D B s ([(se, .inr (14, [.ref ba, .int ty, .int ha, .int sE, .int le, va_rf s9, .long (if kd = 2 then lN (num lb) else oL nt.1), .long (if kd = 3 then lN (num lb) else lN nt.2.1), .long (if kd = 2 ∨ kd = 3 then lN nt.2.2.1 else lN (num lb)), va_rf r1, va_rf r2, .int (oI nt.2.2.2.2.2.2.1), .int (oI nt.2.2.2.2.2.2.2.1), va_rf r3, .int (bZ nt.2.2.2.2.2.2.2.2.1), .int tr, .int (bZ (nt.2.2.2.2.2.2.2.2.2 0)), .int (bZ (nt.2.2.2.2.2.2.2.2.2 1)), .int (bZ (nt.2.2.2.2.2.2.2.2.2 2))]))] ++ (F ++ [])) H locs := by rw [List.append_nil]; exact h
        have hfin := show noteS nt kd gr sd lb = _ by unfold noteS; rw [if_pos (by omega), if_pos (by omega)]
        refine n_top (y := bZ true) rfl ?_
        exact ret_z C hr hlocks h (r1, r2, r3, []) (by rw [hfin]; exact ⟨hR.1.up, hR.2.1.up, hR.2.2.up⟩) (by rw [hfin]; try rfl) (by rw [hfin]; unfold slC; dsimp only; first | (cases sd with | false => exact absurd c89 (by decide) | true => (rcases n0 with q | q | q <;> (subst q; rfl))) | (cases sd with | true => exact absurd c89 (by decide) | false => rfl)) (by omega) (by omega) dX17_take_104
    · refine lv_iconst (v := nI 0) hx hb dX17_take_86 (by decide) ?_
      subst hQ
      have h : Wd D B s ([(se, .inr (14, [.ref ba, .int ty, .int ha, .int sE, .int le, va_rf s9, .long (oL nt.1), .long (lN nt.2.1), .long (lN nt.2.2.1), va_rf r1, va_rf r2, .int (oI nt.2.2.2.2.2.2.1), .int (oI nt.2.2.2.2.2.2.2.1), va_rf r3, .int (bZ nt.2.2.2.2.2.2.2.2.1), .int tr, .int (bZ (nt.2.2.2.2.2.2.2.2.2 0)), .int (bZ (nt.2.2.2.2.2.2.2.2.2 1)), .int (bZ (nt.2.2.2.2.2.2.2.2.2 2))]))] ++ (F ++ [])) s.heap [] := by rw [List.append_nil]; exact h
      have hfin : noteS nt kd gr sd lb = (nt, false) := by unfold noteS; rw [if_pos (by omega), if_neg (by omega)]
      refine n_top (y := bZ false) rfl ?_
      exact ret_z C hr hlocks h (r1, r2, r3, []) (by rw [hfin]; exact hR.up) (by rw [hfin]) (by rw [hfin]; rfl) (by omega) (by omega) dX17_take_87
  · by_cases n1 : kd = 16
    · refine lv_lookup (off := 100) (tgt := 105) hx hb dX17_take_5 (by decide) ((sw17 kd hkd).trans (by rw [if_neg (by omega), if_pos (by omega)])) (by decide) ?_
      refine lv_iload hx hb dX17_take_105 (lv_at hl 0 rfl) ?_
      refine lv_bipush (v := nI 8) hx hb dX17_take_107 (by decide) ?_
      refine n_icmp_eq (tgt := 114) hx hb (by omega) (by omega) dX17_take_109 (by decide) (fun c109 => ?_) (fun c109 => ?_)
      · refine lv_aload_n hx hb dX17_take_114 rfl (lv_at hl 1 rfl) ?_
        refine lv_iload_n hx hb dX17_take_115 rfl (lv_at hl 4 rfl) ?_
        refine z_if_ne (tgt := 126) hx hb dX17_take_116 (by decide) (fun c116 => ?_) (fun c116 => ?_)
        · refine lv_aload_n hx hb dX17_take_126 rfl (lv_at hl 3 rfl) ?_
          refine lv_goto (tgt := 134) hx hb dX17_take_127 (by decide) ?_
          refine o_put C h 0 (RC := RX17) (T := TX17) (N := 19) (ws' := [(se, .inr (14, [.ref ba, .int ty, .int ha, .int sE, .int le, va_rf s9, .long (oL nt.1), .long (lN nt.2.1), .long (lN nt.2.2.1), .ref ra, va_rf r2, .int (oI nt.2.2.2.2.2.2.1), .int (oI nt.2.2.2.2.2.2.2.1), va_rf r3, .int (bZ nt.2.2.2.2.2.2.2.2.1), .int tr, .int (bZ (nt.2.2.2.2.2.2.2.2.2 0)), .int (bZ (nt.2.2.2.2.2.2.2.2.2 1)), .int (bZ (nt.2.2.2.2.2.2.2.2.2 2))]))] ++ F) rfl rfl in_X17 tyX17_ok nmX17 9 (by decide) q1322 rfl rfl (v := .ref ra) rfl rfl (Nat.le_of_ble_eq_true rfl) rfl dX17_take_134 (fun H locs h => ?_)
          refine lv_aload_n hx hb dX17_take_137 rfl (lv_at hl 1 rfl) ?_
          refine lv_dup hx hb dX17_take_138 rfl ?_
          refine o_get C h (RC := RX17) (T := TX17) (N := 19) (List.mem_of_getElem? (i := 0) rfl) rfl in_X17 16 (by decide) q1335 rfl (v := .int (bZ (nt.2.2.2.2.2.2.2.2.2 0))) rfl dX17_take_139 ?_
          refine lv_iload_n hx hb dX17_take_142 rfl (lv_at hl 4 rfl) ?_
          refine lv_ior hx hb dX17_take_143 ?_
          refine n_top (y := bZ (nt.2.2.2.2.2.2.2.2.2 0 || sd)) (bZ_or _ _) ?_
          refine o_put C h 0 (RC := RX17) (T := TX17) (N := 19) (ws' := [(se, .inr (14, [.ref ba, .int ty, .int ha, .int sE, .int le, va_rf s9, .long (oL nt.1), .long (lN nt.2.1), .long (lN nt.2.2.1), .ref ra, va_rf r2, .int (oI nt.2.2.2.2.2.2.1), .int (oI nt.2.2.2.2.2.2.2.1), va_rf r3, .int (bZ nt.2.2.2.2.2.2.2.2.1), .int tr, .int (bZ (nt.2.2.2.2.2.2.2.2.2 0 || sd)), .int (bZ (nt.2.2.2.2.2.2.2.2.2 1)), .int (bZ (nt.2.2.2.2.2.2.2.2.2 2))]))] ++ F) rfl rfl in_X17 tyX17_ok nmX17 16 (by decide) q1335 rfl rfl (v := .int (bZ (nt.2.2.2.2.2.2.2.2.2 0 || sd))) (bZ_nar _) (bZ_fit _) (Nat.le_of_ble_eq_true rfl) rfl dX17_take_144 (fun H locs h => ?_)
          refine lv_iconst (v := nI 1) hx hb dX17_take_147 (by decide) ?_
          subst hQ
          have h : Wd D B s ([(se, .inr (14, [.ref ba, .int ty, .int ha, .int sE, .int le, va_rf s9, .long (oL nt.1), .long (lN nt.2.1), .long (lN nt.2.2.1), .ref ra, va_rf r2, .int (oI nt.2.2.2.2.2.2.1), .int (oI nt.2.2.2.2.2.2.2.1), va_rf r3, .int (bZ nt.2.2.2.2.2.2.2.2.1), .int tr, .int (bZ (nt.2.2.2.2.2.2.2.2.2 0 || sd)), .int (bZ (nt.2.2.2.2.2.2.2.2.2 1)), .int (bZ (nt.2.2.2.2.2.2.2.2.2 2))]))] ++ (F ++ [])) H locs := by rw [List.append_nil]; exact h
          have hfin := show noteS nt kd gr sd lb = _ by unfold noteS; rw [if_neg (by omega), if_pos (by omega), if_pos (by omega), if_pos (by first | (rw [c116]; rfl) | (rw [c123, c116]; rfl) | (rw [c123]; cases sd <;> rfl))]
          refine n_top (y := bZ true) rfl ?_
          exact ret_z C hr hlocks h (some ra, r2, r3, []) (by rw [hfin]; exact ⟨⟨ra, rfl, List.mem_append_left _ hmP⟩, hR.2.1.up, hR.2.2.up⟩) (by rw [hfin]; try rfl) (by rw [hfin]; unfold slC; first | rfl | (dsimp only; rfl)) (by omega) (by omega) dX17_take_148
        · refine lv_aload_n hx hb dX17_take_119 rfl (lv_at hl 1 rfl) ?_
          refine o_get C h (RC := RX17) (T := TX17) (N := 19) (List.mem_of_getElem? (i := 0) rfl) rfl in_X17 16 (by decide) q1335 rfl (v := .int (bZ (nt.2.2.2.2.2.2.2.2.2 0))) rfl dX17_take_120 ?_
          refine z_if_ne (tgt := 130) hx hb dX17_take_123 (by decide) (fun c123 => ?_) (fun c123 => ?_)
          · refine lv_aload_n hx hb dX17_take_130 rfl (lv_at hl 1 rfl) ?_
            refine o_get C h (RC := RX17) (T := TX17) (N := 19) (List.mem_of_getElem? (i := 0) rfl) rfl in_X17 9 (by decide) q1322 rfl (v := va_rf r1) rfl dX17_take_131 ?_
            refine o_put C h 0 (RC := RX17) (T := TX17) (N := 19) (ws' := [(se, .inr (14, [.ref ba, .int ty, .int ha, .int sE, .int le, va_rf s9, .long (oL nt.1), .long (lN nt.2.1), .long (lN nt.2.2.1), va_rf r1, va_rf r2, .int (oI nt.2.2.2.2.2.2.1), .int (oI nt.2.2.2.2.2.2.2.1), va_rf r3, .int (bZ nt.2.2.2.2.2.2.2.2.1), .int tr, .int (bZ (nt.2.2.2.2.2.2.2.2.2 0)), .int (bZ (nt.2.2.2.2.2.2.2.2.2 1)), .int (bZ (nt.2.2.2.2.2.2.2.2.2 2))]))] ++ F) rfl rfl in_X17 tyX17_ok nmX17 9 (by decide) q1322 rfl rfl (v := va_rf r1) (rf_nar _ _) (rf_fit _ _) (Nat.le_of_ble_eq_true rfl) rfl dX17_take_134 (fun H locs h => ?_)
            refine lv_aload_n hx hb dX17_take_137 rfl (lv_at hl 1 rfl) ?_
            refine lv_dup hx hb dX17_take_138 rfl ?_
            refine o_get C h (RC := RX17) (T := TX17) (N := 19) (List.mem_of_getElem? (i := 0) rfl) rfl in_X17 16 (by decide) q1335 rfl (v := .int (bZ (nt.2.2.2.2.2.2.2.2.2 0))) rfl dX17_take_139 ?_
            refine lv_iload_n hx hb dX17_take_142 rfl (lv_at hl 4 rfl) ?_
            refine lv_ior hx hb dX17_take_143 ?_
            refine n_top (y := bZ (nt.2.2.2.2.2.2.2.2.2 0 || sd)) (bZ_or _ _) ?_
            refine o_put C h 0 (RC := RX17) (T := TX17) (N := 19) (ws' := [(se, .inr (14, [.ref ba, .int ty, .int ha, .int sE, .int le, va_rf s9, .long (oL nt.1), .long (lN nt.2.1), .long (lN nt.2.2.1), va_rf r1, va_rf r2, .int (oI nt.2.2.2.2.2.2.1), .int (oI nt.2.2.2.2.2.2.2.1), va_rf r3, .int (bZ nt.2.2.2.2.2.2.2.2.1), .int tr, .int (bZ (nt.2.2.2.2.2.2.2.2.2 0 || sd)), .int (bZ (nt.2.2.2.2.2.2.2.2.2 1)), .int (bZ (nt.2.2.2.2.2.2.2.2.2 2))]))] ++ F) rfl rfl in_X17 tyX17_ok nmX17 16 (by decide) q1335 rfl rfl (v := .int (bZ (nt.2.2.2.2.2.2.2.2.2 0 || sd))) (bZ_nar _) (bZ_fit _) (Nat.le_of_ble_eq_true rfl) rfl dX17_take_144 (fun H locs h => ?_)
            refine lv_iconst (v := nI 1) hx hb dX17_take_147 (by decide) ?_
            subst hQ
            have h : Wd D B s ([(se, .inr (14, [.ref ba, .int ty, .int ha, .int sE, .int le, va_rf s9, .long (oL nt.1), .long (lN nt.2.1), .long (lN nt.2.2.1), va_rf r1, va_rf r2, .int (oI nt.2.2.2.2.2.2.1), .int (oI nt.2.2.2.2.2.2.2.1), va_rf r3, .int (bZ nt.2.2.2.2.2.2.2.2.1), .int tr, .int (bZ (nt.2.2.2.2.2.2.2.2.2 0 || sd)), .int (bZ (nt.2.2.2.2.2.2.2.2.2 1)), .int (bZ (nt.2.2.2.2.2.2.2.2.2 2))]))] ++ (F ++ [])) H locs := by rw [List.append_nil]; exact h
            have hfin := show noteS nt kd gr sd lb = _ by unfold noteS; rw [if_neg (by omega), if_pos (by omega), if_pos (by omega), if_neg (by rw [c116, c123]; decide)]
            refine n_top (y := bZ true) rfl ?_
            exact ret_z C hr hlocks h (r1, r2, r3, []) (by rw [hfin]; exact ⟨hR.1.up, hR.2.1.up, hR.2.2.up⟩) (by rw [hfin]; try rfl) (by rw [hfin]; unfold slC; first | rfl | (dsimp only; rfl)) (by omega) (by omega) dX17_take_148
          · refine lv_aload_n hx hb dX17_take_126 rfl (lv_at hl 3 rfl) ?_
            refine lv_goto (tgt := 134) hx hb dX17_take_127 (by decide) ?_
            refine o_put C h 0 (RC := RX17) (T := TX17) (N := 19) (ws' := [(se, .inr (14, [.ref ba, .int ty, .int ha, .int sE, .int le, va_rf s9, .long (oL nt.1), .long (lN nt.2.1), .long (lN nt.2.2.1), .ref ra, va_rf r2, .int (oI nt.2.2.2.2.2.2.1), .int (oI nt.2.2.2.2.2.2.2.1), va_rf r3, .int (bZ nt.2.2.2.2.2.2.2.2.1), .int tr, .int (bZ (nt.2.2.2.2.2.2.2.2.2 0)), .int (bZ (nt.2.2.2.2.2.2.2.2.2 1)), .int (bZ (nt.2.2.2.2.2.2.2.2.2 2))]))] ++ F) rfl rfl in_X17 tyX17_ok nmX17 9 (by decide) q1322 rfl rfl (v := .ref ra) rfl rfl (Nat.le_of_ble_eq_true rfl) rfl dX17_take_134 (fun H locs h => ?_)
            refine lv_aload_n hx hb dX17_take_137 rfl (lv_at hl 1 rfl) ?_
            refine lv_dup hx hb dX17_take_138 rfl ?_
            refine o_get C h (RC := RX17) (T := TX17) (N := 19) (List.mem_of_getElem? (i := 0) rfl) rfl in_X17 16 (by decide) q1335 rfl (v := .int (bZ (nt.2.2.2.2.2.2.2.2.2 0))) rfl dX17_take_139 ?_
            refine lv_iload_n hx hb dX17_take_142 rfl (lv_at hl 4 rfl) ?_
            refine lv_ior hx hb dX17_take_143 ?_
            refine n_top (y := bZ (nt.2.2.2.2.2.2.2.2.2 0 || sd)) (bZ_or _ _) ?_
            refine o_put C h 0 (RC := RX17) (T := TX17) (N := 19) (ws' := [(se, .inr (14, [.ref ba, .int ty, .int ha, .int sE, .int le, va_rf s9, .long (oL nt.1), .long (lN nt.2.1), .long (lN nt.2.2.1), .ref ra, va_rf r2, .int (oI nt.2.2.2.2.2.2.1), .int (oI nt.2.2.2.2.2.2.2.1), va_rf r3, .int (bZ nt.2.2.2.2.2.2.2.2.1), .int tr, .int (bZ (nt.2.2.2.2.2.2.2.2.2 0 || sd)), .int (bZ (nt.2.2.2.2.2.2.2.2.2 1)), .int (bZ (nt.2.2.2.2.2.2.2.2.2 2))]))] ++ F) rfl rfl in_X17 tyX17_ok nmX17 16 (by decide) q1335 rfl rfl (v := .int (bZ (nt.2.2.2.2.2.2.2.2.2 0 || sd))) (bZ_nar _) (bZ_fit _) (Nat.le_of_ble_eq_true rfl) rfl dX17_take_144 (fun H locs h => ?_)
            refine lv_iconst (v := nI 1) hx hb dX17_take_147 (by decide) ?_
            subst hQ
            have h : Wd D B s ([(se, .inr (14, [.ref ba, .int ty, .int ha, .int sE, .int le, va_rf s9, .long (oL nt.1), .long (lN nt.2.1), .long (lN nt.2.2.1), .ref ra, va_rf r2, .int (oI nt.2.2.2.2.2.2.1), .int (oI nt.2.2.2.2.2.2.2.1), va_rf r3, .int (bZ nt.2.2.2.2.2.2.2.2.1), .int tr, .int (bZ (nt.2.2.2.2.2.2.2.2.2 0 || sd)), .int (bZ (nt.2.2.2.2.2.2.2.2.2 1)), .int (bZ (nt.2.2.2.2.2.2.2.2.2 2))]))] ++ (F ++ [])) H locs := by rw [List.append_nil]; exact h
            have hfin := show noteS nt kd gr sd lb = _ by unfold noteS; rw [if_neg (by omega), if_pos (by omega), if_pos (by omega), if_pos (by first | (rw [c116]; rfl) | (rw [c123, c116]; rfl) | (rw [c123]; cases sd <;> rfl))]
            refine n_top (y := bZ true) rfl ?_
            exact ret_z C hr hlocks h (some ra, r2, r3, []) (by rw [hfin]; exact ⟨⟨ra, rfl, List.mem_append_left _ hmP⟩, hR.2.1.up, hR.2.2.up⟩) (by rw [hfin]; try rfl) (by rw [hfin]; unfold slC; first | rfl | (dsimp only; rfl)) (by omega) (by omega) dX17_take_148
      · refine lv_iconst (v := nI 0) hx hb dX17_take_112 (by decide) ?_
        subst hQ
        have h : Wd D B s ([(se, .inr (14, [.ref ba, .int ty, .int ha, .int sE, .int le, va_rf s9, .long (oL nt.1), .long (lN nt.2.1), .long (lN nt.2.2.1), va_rf r1, va_rf r2, .int (oI nt.2.2.2.2.2.2.1), .int (oI nt.2.2.2.2.2.2.2.1), va_rf r3, .int (bZ nt.2.2.2.2.2.2.2.2.1), .int tr, .int (bZ (nt.2.2.2.2.2.2.2.2.2 0)), .int (bZ (nt.2.2.2.2.2.2.2.2.2 1)), .int (bZ (nt.2.2.2.2.2.2.2.2.2 2))]))] ++ (F ++ [])) s.heap [] := by rw [List.append_nil]; exact h
        have hfin : noteS nt kd gr sd lb = (nt, false) := by unfold noteS; rw [if_neg (by omega), if_pos (by omega), if_neg (by omega)]
        refine n_top (y := bZ false) rfl ?_
        exact ret_z C hr hlocks h (r1, r2, r3, []) (by rw [hfin]; exact hR.up) (by rw [hfin]) (by rw [hfin]; rfl) (by omega) (by omega) dX17_take_113
    · by_cases n2 : kd = 33
      · refine lv_lookup (off := 144) (tgt := 149) hx hb dX17_take_5 (by decide) ((sw17 kd hkd).trans (by rw [if_neg (by omega), if_neg (by omega), if_pos (by omega)])) (by decide) ?_
        refine lv_iload hx hb dX17_take_149 (lv_at hl 0 rfl) ?_
        refine lv_bipush (v := nI 21) hx hb dX17_take_151 (by decide) ?_
        refine n_icmp_ne (tgt := 163) hx hb (by omega) (by omega) dX17_take_153 (by decide) (fun c153 => ?_) (fun c153 => ?_)
        · refine lv_iconst (v := nI 0) hx hb dX17_take_163 (by decide) ?_
          subst hQ
          have h : Wd D B s ([(se, .inr (14, [.ref ba, .int ty, .int ha, .int sE, .int le, va_rf s9, .long (oL nt.1), .long (lN nt.2.1), .long (lN nt.2.2.1), va_rf r1, va_rf r2, .int (oI nt.2.2.2.2.2.2.1), .int (oI nt.2.2.2.2.2.2.2.1), va_rf r3, .int (bZ nt.2.2.2.2.2.2.2.2.1), .int tr, .int (bZ (nt.2.2.2.2.2.2.2.2.2 0)), .int (bZ (nt.2.2.2.2.2.2.2.2.2 1)), .int (bZ (nt.2.2.2.2.2.2.2.2.2 2))]))] ++ (F ++ [])) s.heap [] := by rw [List.append_nil]; exact h
          have hfin : noteS nt kd gr sd lb = (nt, false) := by unfold noteS; rw [if_neg (by omega), if_neg (by omega), if_pos (by omega), if_neg (by omega)]
          refine n_top (y := bZ false) rfl ?_
          exact ret_z C hr hlocks h (r1, r2, r3, []) (by rw [hfin]; exact hR.up) (by rw [hfin]) (by rw [hfin]; rfl) (by omega) (by omega) dX17_take_164
        · refine lv_aload_n hx hb dX17_take_156 rfl (lv_at hl 3 rfl) ?_
          refine lv_iconst (v := nI 0) hx hb dX17_take_157 (by decide) ?_
          refine n_bald C h (v := (gD lb) 0) (List.mem_append_right _ hm) (show 0 < lb.length by omega) (by omega) rfl dX17_take_158 ?_
          refine lv_iconst (v := nI 4) hx hb dX17_take_159 (by decide) ?_
          refine lv_icmp_eq (tgt := 165) hx hb dX17_take_160 (by decide) (fun c160 => ?_) (fun c160 => ?_)
          · have h4 : gD lb 0 = 4 := sb_inj hg0 (by decide) (c160.trans (by decide))
            refine lv_aload_n hx hb dX17_take_165 rfl (lv_at hl 1 rfl) ?_
            refine lv_iload_n hx hb dX17_take_166 rfl (lv_at hl 4 rfl) ?_
            refine z_if_ne (tgt := 177) hx hb dX17_take_167 (by decide) (fun c167 => ?_) (fun c167 => ?_)
            · refine lv_aload_n hx hb dX17_take_177 rfl (lv_at hl 3 rfl) ?_
              refine lv_iconst (v := nI 1) hx hb dX17_take_178 (by decide) ?_
              refine lv_bipush (v := nI 21) hx hb dX17_take_179 (by decide) ?_
              refine call_S (As := [.ref ra, .int (nI 1), .int (nI 21)]) (rest := [.ref se]) (n := 3) C h (cJ_copyRange l D dA B Z hZ _ ra lb.length 1 21 (gD lb) (List.mem_append_right _ hm) (by omega) (by omega) (by omega)) (lw_S q1403 q856 q143 q857) (by decide +kernel) (by decide) (by decide) rfl hl rfl (Nat.le_of_ble_eq_true rfl) dX17_take_181 (by omega) (fun q9 H locs _ h => ?_)
              have h : Wd D B s ([(se, .inr (14, [.ref ba, .int ty, .int ha, .int sE, .int le, va_rf s9, .long (oL nt.1), .long (lN nt.2.1), .long (lN nt.2.2.1), va_rf r1, va_rf r2, .int (oI nt.2.2.2.2.2.2.1), .int (oI nt.2.2.2.2.2.2.2.1), va_rf r3, .int (bZ nt.2.2.2.2.2.2.2.2.1), .int tr, .int (bZ (nt.2.2.2.2.2.2.2.2.2 0)), .int (bZ (nt.2.2.2.2.2.2.2.2.2 1)), .int (bZ (nt.2.2.2.2.2.2.2.2.2 2))]))] ++ (F ++ [(q9, bal dA (sliceL lb 1 20))])) H locs := by
                rw [sliceL_sl (by omega), ← List.append_assoc]; exact h
              refine lv_goto (tgt := 191) hx hb dX17_take_184 (by decide) ?_
              refine o_put C h 0 (RC := RX17) (T := TX17) (N := 19) (ws' := [(se, .inr (14, [.ref ba, .int ty, .int ha, .int sE, .int le, va_rf s9, .long (oL nt.1), .long (lN nt.2.1), .long (lN nt.2.2.1), va_rf r1, .ref q9, .int (oI nt.2.2.2.2.2.2.1), .int (oI nt.2.2.2.2.2.2.2.1), va_rf r3, .int (bZ nt.2.2.2.2.2.2.2.2.1), .int tr, .int (bZ (nt.2.2.2.2.2.2.2.2.2 0)), .int (bZ (nt.2.2.2.2.2.2.2.2.2 1)), .int (bZ (nt.2.2.2.2.2.2.2.2.2 2))]))] ++ (F ++ [(q9, bal dA (sliceL lb 1 20))])) rfl rfl in_X17 tyX17_ok nmX17 10 (by decide) q1324 rfl rfl (v := .ref q9) rfl rfl (Nat.le_of_ble_eq_true rfl) rfl dX17_take_191 (fun H locs h => ?_)
              refine lv_aload_n hx hb dX17_take_194 rfl (lv_at hl 1 rfl) ?_
              refine lv_dup hx hb dX17_take_195 rfl ?_
              refine o_get C h (RC := RX17) (T := TX17) (N := 19) (List.mem_of_getElem? (i := 0) rfl) rfl in_X17 17 (by decide) q1336 rfl (v := .int (bZ (nt.2.2.2.2.2.2.2.2.2 1))) rfl dX17_take_196 ?_
              refine lv_iload_n hx hb dX17_take_199 rfl (lv_at hl 4 rfl) ?_
              refine lv_ior hx hb dX17_take_200 ?_
              refine n_top (y := bZ (nt.2.2.2.2.2.2.2.2.2 1 || sd)) (bZ_or _ _) ?_
              refine o_put C h 0 (RC := RX17) (T := TX17) (N := 19) (ws' := [(se, .inr (14, [.ref ba, .int ty, .int ha, .int sE, .int le, va_rf s9, .long (oL nt.1), .long (lN nt.2.1), .long (lN nt.2.2.1), va_rf r1, .ref q9, .int (oI nt.2.2.2.2.2.2.1), .int (oI nt.2.2.2.2.2.2.2.1), va_rf r3, .int (bZ nt.2.2.2.2.2.2.2.2.1), .int tr, .int (bZ (nt.2.2.2.2.2.2.2.2.2 0)), .int (bZ (nt.2.2.2.2.2.2.2.2.2 1 || sd)), .int (bZ (nt.2.2.2.2.2.2.2.2.2 2))]))] ++ (F ++ [(q9, bal dA (sliceL lb 1 20))])) rfl rfl in_X17 tyX17_ok nmX17 17 (by decide) q1336 rfl rfl (v := .int (bZ (nt.2.2.2.2.2.2.2.2.2 1 || sd))) (bZ_nar _) (bZ_fit _) (Nat.le_of_ble_eq_true rfl) rfl dX17_take_201 (fun H locs h => ?_)
              refine lv_iconst (v := nI 1) hx hb dX17_take_204 (by decide) ?_
              subst hQ
              have hfin := show noteS nt kd gr sd lb = _ by unfold noteS; rw [if_neg (by omega), if_neg (by omega), if_pos (by omega), if_pos (by omega), if_pos (by first | (rw [c167]; rfl) | (rw [c174, c167]; rfl) | (rw [c174]; cases sd <;> rfl))]
              refine n_top (y := bZ true) rfl ?_
              exact ret_z C hr hlocks h (r1, some q9, r3, [(q9, bal dA (sliceL lb 1 20))]) (by rw [hfin]; exact ⟨hR.1.up, ⟨q9, rfl, List.mem_append_right _ List.mem_cons_self⟩, hR.2.2.up⟩) (by rw [hfin]; try rfl) (by rw [hfin]; unfold slC; first | rfl | (dsimp only; rfl)) (by omega) (by omega) dX17_take_205
            · refine lv_aload_n hx hb dX17_take_170 rfl (lv_at hl 1 rfl) ?_
              refine o_get C h (RC := RX17) (T := TX17) (N := 19) (List.mem_of_getElem? (i := 0) rfl) rfl in_X17 17 (by decide) q1336 rfl (v := .int (bZ (nt.2.2.2.2.2.2.2.2.2 1))) rfl dX17_take_171 ?_
              refine z_if_ne (tgt := 187) hx hb dX17_take_174 (by decide) (fun c174 => ?_) (fun c174 => ?_)
              · refine lv_aload_n hx hb dX17_take_187 rfl (lv_at hl 1 rfl) ?_
                refine o_get C h (RC := RX17) (T := TX17) (N := 19) (List.mem_of_getElem? (i := 0) rfl) rfl in_X17 10 (by decide) q1324 rfl (v := va_rf r2) rfl dX17_take_188 ?_
                refine o_put C h 0 (RC := RX17) (T := TX17) (N := 19) (ws' := [(se, .inr (14, [.ref ba, .int ty, .int ha, .int sE, .int le, va_rf s9, .long (oL nt.1), .long (lN nt.2.1), .long (lN nt.2.2.1), va_rf r1, va_rf r2, .int (oI nt.2.2.2.2.2.2.1), .int (oI nt.2.2.2.2.2.2.2.1), va_rf r3, .int (bZ nt.2.2.2.2.2.2.2.2.1), .int tr, .int (bZ (nt.2.2.2.2.2.2.2.2.2 0)), .int (bZ (nt.2.2.2.2.2.2.2.2.2 1)), .int (bZ (nt.2.2.2.2.2.2.2.2.2 2))]))] ++ F) rfl rfl in_X17 tyX17_ok nmX17 10 (by decide) q1324 rfl rfl (v := va_rf r2) (rf_nar _ _) (rf_fit _ _) (Nat.le_of_ble_eq_true rfl) rfl dX17_take_191 (fun H locs h => ?_)
                refine lv_aload_n hx hb dX17_take_194 rfl (lv_at hl 1 rfl) ?_
                refine lv_dup hx hb dX17_take_195 rfl ?_
                refine o_get C h (RC := RX17) (T := TX17) (N := 19) (List.mem_of_getElem? (i := 0) rfl) rfl in_X17 17 (by decide) q1336 rfl (v := .int (bZ (nt.2.2.2.2.2.2.2.2.2 1))) rfl dX17_take_196 ?_
                refine lv_iload_n hx hb dX17_take_199 rfl (lv_at hl 4 rfl) ?_
                refine lv_ior hx hb dX17_take_200 ?_
                refine n_top (y := bZ (nt.2.2.2.2.2.2.2.2.2 1 || sd)) (bZ_or _ _) ?_
                refine o_put C h 0 (RC := RX17) (T := TX17) (N := 19) (ws' := [(se, .inr (14, [.ref ba, .int ty, .int ha, .int sE, .int le, va_rf s9, .long (oL nt.1), .long (lN nt.2.1), .long (lN nt.2.2.1), va_rf r1, va_rf r2, .int (oI nt.2.2.2.2.2.2.1), .int (oI nt.2.2.2.2.2.2.2.1), va_rf r3, .int (bZ nt.2.2.2.2.2.2.2.2.1), .int tr, .int (bZ (nt.2.2.2.2.2.2.2.2.2 0)), .int (bZ (nt.2.2.2.2.2.2.2.2.2 1 || sd)), .int (bZ (nt.2.2.2.2.2.2.2.2.2 2))]))] ++ F) rfl rfl in_X17 tyX17_ok nmX17 17 (by decide) q1336 rfl rfl (v := .int (bZ (nt.2.2.2.2.2.2.2.2.2 1 || sd))) (bZ_nar _) (bZ_fit _) (Nat.le_of_ble_eq_true rfl) rfl dX17_take_201 (fun H locs h => ?_)
                refine lv_iconst (v := nI 1) hx hb dX17_take_204 (by decide) ?_
                subst hQ
                have h : Wd D B s ([(se, .inr (14, [.ref ba, .int ty, .int ha, .int sE, .int le, va_rf s9, .long (oL nt.1), .long (lN nt.2.1), .long (lN nt.2.2.1), va_rf r1, va_rf r2, .int (oI nt.2.2.2.2.2.2.1), .int (oI nt.2.2.2.2.2.2.2.1), va_rf r3, .int (bZ nt.2.2.2.2.2.2.2.2.1), .int tr, .int (bZ (nt.2.2.2.2.2.2.2.2.2 0)), .int (bZ (nt.2.2.2.2.2.2.2.2.2 1 || sd)), .int (bZ (nt.2.2.2.2.2.2.2.2.2 2))]))] ++ (F ++ [])) H locs := by rw [List.append_nil]; exact h
                have hfin := show noteS nt kd gr sd lb = _ by unfold noteS; rw [if_neg (by omega), if_neg (by omega), if_pos (by omega), if_pos (by omega), if_neg (by rw [c167, c174]; decide)]
                refine n_top (y := bZ true) rfl ?_
                exact ret_z C hr hlocks h (r1, r2, r3, []) (by rw [hfin]; exact ⟨hR.1.up, hR.2.1.up, hR.2.2.up⟩) (by rw [hfin]; try rfl) (by rw [hfin]; unfold slC; first | rfl | (dsimp only; rfl)) (by omega) (by omega) dX17_take_205
              · refine lv_aload_n hx hb dX17_take_177 rfl (lv_at hl 3 rfl) ?_
                refine lv_iconst (v := nI 1) hx hb dX17_take_178 (by decide) ?_
                refine lv_bipush (v := nI 21) hx hb dX17_take_179 (by decide) ?_
                refine call_S (As := [.ref ra, .int (nI 1), .int (nI 21)]) (rest := [.ref se]) (n := 3) C h (cJ_copyRange l D dA B Z hZ _ ra lb.length 1 21 (gD lb) (List.mem_append_right _ hm) (by omega) (by omega) (by omega)) (lw_S q1403 q856 q143 q857) (by decide +kernel) (by decide) (by decide) rfl hl rfl (Nat.le_of_ble_eq_true rfl) dX17_take_181 (by omega) (fun q9 H locs _ h => ?_)
                have h : Wd D B s ([(se, .inr (14, [.ref ba, .int ty, .int ha, .int sE, .int le, va_rf s9, .long (oL nt.1), .long (lN nt.2.1), .long (lN nt.2.2.1), va_rf r1, va_rf r2, .int (oI nt.2.2.2.2.2.2.1), .int (oI nt.2.2.2.2.2.2.2.1), va_rf r3, .int (bZ nt.2.2.2.2.2.2.2.2.1), .int tr, .int (bZ (nt.2.2.2.2.2.2.2.2.2 0)), .int (bZ (nt.2.2.2.2.2.2.2.2.2 1)), .int (bZ (nt.2.2.2.2.2.2.2.2.2 2))]))] ++ (F ++ [(q9, bal dA (sliceL lb 1 20))])) H locs := by
                  rw [sliceL_sl (by omega), ← List.append_assoc]; exact h
                refine lv_goto (tgt := 191) hx hb dX17_take_184 (by decide) ?_
                refine o_put C h 0 (RC := RX17) (T := TX17) (N := 19) (ws' := [(se, .inr (14, [.ref ba, .int ty, .int ha, .int sE, .int le, va_rf s9, .long (oL nt.1), .long (lN nt.2.1), .long (lN nt.2.2.1), va_rf r1, .ref q9, .int (oI nt.2.2.2.2.2.2.1), .int (oI nt.2.2.2.2.2.2.2.1), va_rf r3, .int (bZ nt.2.2.2.2.2.2.2.2.1), .int tr, .int (bZ (nt.2.2.2.2.2.2.2.2.2 0)), .int (bZ (nt.2.2.2.2.2.2.2.2.2 1)), .int (bZ (nt.2.2.2.2.2.2.2.2.2 2))]))] ++ (F ++ [(q9, bal dA (sliceL lb 1 20))])) rfl rfl in_X17 tyX17_ok nmX17 10 (by decide) q1324 rfl rfl (v := .ref q9) rfl rfl (Nat.le_of_ble_eq_true rfl) rfl dX17_take_191 (fun H locs h => ?_)
                refine lv_aload_n hx hb dX17_take_194 rfl (lv_at hl 1 rfl) ?_
                refine lv_dup hx hb dX17_take_195 rfl ?_
                refine o_get C h (RC := RX17) (T := TX17) (N := 19) (List.mem_of_getElem? (i := 0) rfl) rfl in_X17 17 (by decide) q1336 rfl (v := .int (bZ (nt.2.2.2.2.2.2.2.2.2 1))) rfl dX17_take_196 ?_
                refine lv_iload_n hx hb dX17_take_199 rfl (lv_at hl 4 rfl) ?_
                refine lv_ior hx hb dX17_take_200 ?_
                refine n_top (y := bZ (nt.2.2.2.2.2.2.2.2.2 1 || sd)) (bZ_or _ _) ?_
                refine o_put C h 0 (RC := RX17) (T := TX17) (N := 19) (ws' := [(se, .inr (14, [.ref ba, .int ty, .int ha, .int sE, .int le, va_rf s9, .long (oL nt.1), .long (lN nt.2.1), .long (lN nt.2.2.1), va_rf r1, .ref q9, .int (oI nt.2.2.2.2.2.2.1), .int (oI nt.2.2.2.2.2.2.2.1), va_rf r3, .int (bZ nt.2.2.2.2.2.2.2.2.1), .int tr, .int (bZ (nt.2.2.2.2.2.2.2.2.2 0)), .int (bZ (nt.2.2.2.2.2.2.2.2.2 1 || sd)), .int (bZ (nt.2.2.2.2.2.2.2.2.2 2))]))] ++ (F ++ [(q9, bal dA (sliceL lb 1 20))])) rfl rfl in_X17 tyX17_ok nmX17 17 (by decide) q1336 rfl rfl (v := .int (bZ (nt.2.2.2.2.2.2.2.2.2 1 || sd))) (bZ_nar _) (bZ_fit _) (Nat.le_of_ble_eq_true rfl) rfl dX17_take_201 (fun H locs h => ?_)
                refine lv_iconst (v := nI 1) hx hb dX17_take_204 (by decide) ?_
                subst hQ
                have hfin := show noteS nt kd gr sd lb = _ by unfold noteS; rw [if_neg (by omega), if_neg (by omega), if_pos (by omega), if_pos (by omega), if_pos (by first | (rw [c167]; rfl) | (rw [c174, c167]; rfl) | (rw [c174]; cases sd <;> rfl))]
                refine n_top (y := bZ true) rfl ?_
                exact ret_z C hr hlocks h (r1, some q9, r3, [(q9, bal dA (sliceL lb 1 20))]) (by rw [hfin]; exact ⟨hR.1.up, ⟨q9, rfl, List.mem_append_right _ List.mem_cons_self⟩, hR.2.2.up⟩) (by rw [hfin]; try rfl) (by rw [hfin]; unfold slC; first | rfl | (dsimp only; rfl)) (by omega) (by omega) dX17_take_205
          · have h4 : ¬ gD lb 0 = 4 := fun q => c160 (by rw [q]; decide)
            refine lv_iconst (v := nI 0) hx hb dX17_take_163 (by decide) ?_
            subst hQ
            have h : Wd D B s ([(se, .inr (14, [.ref ba, .int ty, .int ha, .int sE, .int le, va_rf s9, .long (oL nt.1), .long (lN nt.2.1), .long (lN nt.2.2.1), va_rf r1, va_rf r2, .int (oI nt.2.2.2.2.2.2.1), .int (oI nt.2.2.2.2.2.2.2.1), va_rf r3, .int (bZ nt.2.2.2.2.2.2.2.2.1), .int tr, .int (bZ (nt.2.2.2.2.2.2.2.2.2 0)), .int (bZ (nt.2.2.2.2.2.2.2.2.2 1)), .int (bZ (nt.2.2.2.2.2.2.2.2.2 2))]))] ++ (F ++ [])) s.heap [] := by rw [List.append_nil]; exact h
            have hfin : noteS nt kd gr sd lb = (nt, false) := by unfold noteS; rw [if_neg (by omega), if_neg (by omega), if_pos (by omega), if_neg (by omega)]
            refine n_top (y := bZ false) rfl ?_
            exact ret_z C hr hlocks h (r1, r2, r3, []) (by rw [hfin]; exact hR.up) (by rw [hfin]) (by rw [hfin]; rfl) (by omega) (by omega) dX17_take_164
      · by_cases n3 : kd = 27 ∨ kd = 29
        · refine lv_lookup (off := 201) (tgt := 206) hx hb dX17_take_5 (by decide) ((sw17 kd hkd).trans (by rw [if_neg (by omega), if_neg (by omega), if_neg (by omega), if_pos (by omega)])) (by decide) ?_
          refine lv_iload hx hb dX17_take_206 (lv_at hl 0 rfl) ?_
          refine n_if_ne (tgt := 213) hx hb (by omega) dX17_take_208 (by decide) (fun c208 => ?_) (fun c208 => ?_)
          · refine lv_iload_n hx hb dX17_take_213 rfl (lv_at hl 4 rfl) ?_
            refine z_if_eq (tgt := 234) hx hb dX17_take_214 (by decide) (fun c214 => ?_) (fun c214 => ?_)
            · refine lv_iload_n hx hb dX17_take_234 rfl (lv_at hl 4 rfl) ?_
              refine z_if_eq (tgt := 255) hx hb dX17_take_235 (by decide) (fun c235 => ?_) (fun c235 => ?_)
              · refine lv_iconst (v := nI 1) hx hb dX17_take_255 (by decide) ?_
                subst hQ
                have h : Wd D B s ([(se, .inr (14, [.ref ba, .int ty, .int ha, .int sE, .int le, va_rf s9, .long (oL nt.1), .long (lN nt.2.1), .long (lN nt.2.2.1), va_rf r1, va_rf r2, .int (oI nt.2.2.2.2.2.2.1), .int (oI nt.2.2.2.2.2.2.2.1), va_rf r3, .int (bZ nt.2.2.2.2.2.2.2.2.1), .int tr, .int (bZ (nt.2.2.2.2.2.2.2.2.2 0)), .int (bZ (nt.2.2.2.2.2.2.2.2.2 1)), .int (bZ (nt.2.2.2.2.2.2.2.2.2 2))]))] ++ (F ++ [])) s.heap [] := by rw [List.append_nil]; exact h
                have hfin := show noteS nt kd gr sd lb = _ by unfold noteS; rw [if_neg (by omega), if_neg (by omega), if_neg (by omega), if_pos (by omega), if_pos (by omega)]
                refine n_top (y := bZ true) rfl ?_
                exact ret_z C hr hlocks h (r1, r2, r3, []) (by rw [hfin]; exact ⟨hR.1.up, hR.2.1.up, hR.2.2.up⟩) (by rw [hfin]; try rfl) (by rw [hfin]; unfold slC; dsimp only; cases sd <;> first | (exfalso; first | exact absurd c214 (by decide) | exact absurd c235 (by decide)) | rfl | (rcases n3 with q | q <;> (subst q; first | rfl | (exfalso; omega)))) (by omega) (by omega) dX17_take_256
              · refine lv_iload_n hx hb dX17_take_238 rfl (lv_at hl 2 rfl) ?_
                refine lv_bipush (v := nI 29) hx hb dX17_take_239 (by decide) ?_
                refine n_icmp_ne (tgt := 255) hx hb (by omega) (by omega) dX17_take_241 (by decide) (fun c241 => ?_) (fun c241 => ?_)
                · refine lv_iconst (v := nI 1) hx hb dX17_take_255 (by decide) ?_
                  subst hQ
                  have h : Wd D B s ([(se, .inr (14, [.ref ba, .int ty, .int ha, .int sE, .int le, va_rf s9, .long (oL nt.1), .long (lN nt.2.1), .long (lN nt.2.2.1), va_rf r1, va_rf r2, .int (oI nt.2.2.2.2.2.2.1), .int (oI nt.2.2.2.2.2.2.2.1), va_rf r3, .int (bZ nt.2.2.2.2.2.2.2.2.1), .int tr, .int (bZ (nt.2.2.2.2.2.2.2.2.2 0)), .int (bZ (nt.2.2.2.2.2.2.2.2.2 1)), .int (bZ (nt.2.2.2.2.2.2.2.2.2 2))]))] ++ (F ++ [])) s.heap [] := by rw [List.append_nil]; exact h
                  have hfin := show noteS nt kd gr sd lb = _ by unfold noteS; rw [if_neg (by omega), if_neg (by omega), if_neg (by omega), if_pos (by omega), if_pos (by omega)]
                  refine n_top (y := bZ true) rfl ?_
                  exact ret_z C hr hlocks h (r1, r2, r3, []) (by rw [hfin]; exact ⟨hR.1.up, hR.2.1.up, hR.2.2.up⟩) (by rw [hfin]; try rfl) (by rw [hfin]; unfold slC; dsimp only; cases sd <;> first | (exfalso; first | exact absurd c214 (by decide) | exact absurd c235 (by decide)) | rfl | (rcases n3 with q | q <;> (subst q; first | rfl | (exfalso; omega)))) (by omega) (by omega) dX17_take_256
                · refine lv_aload_n hx hb dX17_take_244 rfl (lv_at hl 1 rfl) ?_
                  refine lv_aload_n hx hb dX17_take_245 rfl (lv_at hl 3 rfl) ?_
                  refine lv_iconst (v := nI 0) hx hb dX17_take_246 (by decide) ?_
                  refine n_bald C h (v := (gD lb) 0) (List.mem_append_right _ hm) (show 0 < lb.length by omega) (by omega) rfl dX17_take_247 ?_
                  refine lv_sipush (v := nI 255) hx hb dX17_take_248 (by decide) ?_
                  refine lv_iand hx hb dX17_take_251 ?_
                  refine n_top (y := nI (gD lb 0)) ((sb_byte _ hg0).1) ?_
                  refine o_put C h 0 (RC := RX17) (T := TX17) (N := 19) (ws' := [(se, .inr (14, [.ref ba, .int ty, .int ha, .int sE, .int le, va_rf s9, .long (oL nt.1), .long (lN nt.2.1), .long (lN nt.2.2.1), va_rf r1, va_rf r2, .int (oI nt.2.2.2.2.2.2.1), .int (nI (gD lb 0)), va_rf r3, .int (bZ nt.2.2.2.2.2.2.2.2.1), .int tr, .int (bZ (nt.2.2.2.2.2.2.2.2.2 0)), .int (bZ (nt.2.2.2.2.2.2.2.2.2 1)), .int (bZ (nt.2.2.2.2.2.2.2.2.2 2))]))] ++ F) rfl rfl in_X17 tyX17_ok nmX17 12 (by decide) q1328 rfl rfl (v := .int (nI (gD lb 0))) rfl rfl (Nat.le_of_ble_eq_true rfl) rfl dX17_take_252 (fun H locs h => ?_)
                  refine lv_iconst (v := nI 1) hx hb dX17_take_255 (by decide) ?_
                  subst hQ
                  have h : Wd D B s ([(se, .inr (14, [.ref ba, .int ty, .int ha, .int sE, .int le, va_rf s9, .long (oL nt.1), .long (lN nt.2.1), .long (lN nt.2.2.1), va_rf r1, va_rf r2, .int (oI nt.2.2.2.2.2.2.1), .int (nI (gD lb 0)), va_rf r3, .int (bZ nt.2.2.2.2.2.2.2.2.1), .int tr, .int (bZ (nt.2.2.2.2.2.2.2.2.2 0)), .int (bZ (nt.2.2.2.2.2.2.2.2.2 1)), .int (bZ (nt.2.2.2.2.2.2.2.2.2 2))]))] ++ (F ++ [])) H locs := by rw [List.append_nil]; exact h
                  have hfin := show noteS nt kd gr sd lb = _ by unfold noteS; rw [if_neg (by omega), if_neg (by omega), if_neg (by omega), if_pos (by omega), if_pos (by omega)]
                  refine n_top (y := bZ true) rfl ?_
                  exact ret_z C hr hlocks h (r1, r2, r3, []) (by rw [hfin]; exact ⟨hR.1.up, hR.2.1.up, hR.2.2.up⟩) (by rw [hfin]; try rfl) (by rw [hfin]; unfold slC; dsimp only; cases sd <;> first | (exfalso; first | exact absurd c214 (by decide) | exact absurd c235 (by decide)) | rfl | (rcases n3 with q | q <;> (subst q; first | rfl | (exfalso; omega)))) (by omega) (by omega) dX17_take_256
            · refine lv_iload_n hx hb dX17_take_217 rfl (lv_at hl 2 rfl) ?_
              refine lv_bipush (v := nI 27) hx hb dX17_take_218 (by decide) ?_
              refine n_icmp_ne (tgt := 234) hx hb (by omega) (by omega) dX17_take_220 (by decide) (fun c220 => ?_) (fun c220 => ?_)
              · refine lv_iload_n hx hb dX17_take_234 rfl (lv_at hl 4 rfl) ?_
                refine z_if_eq (tgt := 255) hx hb dX17_take_235 (by decide) (fun c235 => ?_) (fun c235 => ?_)
                · refine lv_iconst (v := nI 1) hx hb dX17_take_255 (by decide) ?_
                  subst hQ
                  have h : Wd D B s ([(se, .inr (14, [.ref ba, .int ty, .int ha, .int sE, .int le, va_rf s9, .long (oL nt.1), .long (lN nt.2.1), .long (lN nt.2.2.1), va_rf r1, va_rf r2, .int (oI nt.2.2.2.2.2.2.1), .int (oI nt.2.2.2.2.2.2.2.1), va_rf r3, .int (bZ nt.2.2.2.2.2.2.2.2.1), .int tr, .int (bZ (nt.2.2.2.2.2.2.2.2.2 0)), .int (bZ (nt.2.2.2.2.2.2.2.2.2 1)), .int (bZ (nt.2.2.2.2.2.2.2.2.2 2))]))] ++ (F ++ [])) s.heap [] := by rw [List.append_nil]; exact h
                  have hfin := show noteS nt kd gr sd lb = _ by unfold noteS; rw [if_neg (by omega), if_neg (by omega), if_neg (by omega), if_pos (by omega), if_pos (by omega)]
                  refine n_top (y := bZ true) rfl ?_
                  exact ret_z C hr hlocks h (r1, r2, r3, []) (by rw [hfin]; exact ⟨hR.1.up, hR.2.1.up, hR.2.2.up⟩) (by rw [hfin]; try rfl) (by rw [hfin]; unfold slC; dsimp only; cases sd <;> first | (exfalso; first | exact absurd c214 (by decide) | exact absurd c235 (by decide)) | rfl | (rcases n3 with q | q <;> (subst q; first | rfl | (exfalso; omega)))) (by omega) (by omega) dX17_take_256
                · refine lv_iload_n hx hb dX17_take_238 rfl (lv_at hl 2 rfl) ?_
                  refine lv_bipush (v := nI 29) hx hb dX17_take_239 (by decide) ?_
                  refine n_icmp_ne (tgt := 255) hx hb (by omega) (by omega) dX17_take_241 (by decide) (fun c241 => ?_) (fun c241 => ?_)
                  · refine lv_iconst (v := nI 1) hx hb dX17_take_255 (by decide) ?_
                    subst hQ
                    have h : Wd D B s ([(se, .inr (14, [.ref ba, .int ty, .int ha, .int sE, .int le, va_rf s9, .long (oL nt.1), .long (lN nt.2.1), .long (lN nt.2.2.1), va_rf r1, va_rf r2, .int (oI nt.2.2.2.2.2.2.1), .int (oI nt.2.2.2.2.2.2.2.1), va_rf r3, .int (bZ nt.2.2.2.2.2.2.2.2.1), .int tr, .int (bZ (nt.2.2.2.2.2.2.2.2.2 0)), .int (bZ (nt.2.2.2.2.2.2.2.2.2 1)), .int (bZ (nt.2.2.2.2.2.2.2.2.2 2))]))] ++ (F ++ [])) s.heap [] := by rw [List.append_nil]; exact h
                    have hfin := show noteS nt kd gr sd lb = _ by unfold noteS; rw [if_neg (by omega), if_neg (by omega), if_neg (by omega), if_pos (by omega), if_pos (by omega)]
                    refine n_top (y := bZ true) rfl ?_
                    exact ret_z C hr hlocks h (r1, r2, r3, []) (by rw [hfin]; exact ⟨hR.1.up, hR.2.1.up, hR.2.2.up⟩) (by rw [hfin]; try rfl) (by rw [hfin]; unfold slC; dsimp only; cases sd <;> first | (exfalso; first | exact absurd c214 (by decide) | exact absurd c235 (by decide)) | rfl | (rcases n3 with q | q <;> (subst q; first | rfl | (exfalso; omega)))) (by omega) (by omega) dX17_take_256
                  · refine lv_aload_n hx hb dX17_take_244 rfl (lv_at hl 1 rfl) ?_
                    refine lv_aload_n hx hb dX17_take_245 rfl (lv_at hl 3 rfl) ?_
                    refine lv_iconst (v := nI 0) hx hb dX17_take_246 (by decide) ?_
                    refine n_bald C h (v := (gD lb) 0) (List.mem_append_right _ hm) (show 0 < lb.length by omega) (by omega) rfl dX17_take_247 ?_
                    refine lv_sipush (v := nI 255) hx hb dX17_take_248 (by decide) ?_
                    refine lv_iand hx hb dX17_take_251 ?_
                    refine n_top (y := nI (gD lb 0)) ((sb_byte _ hg0).1) ?_
                    refine o_put C h 0 (RC := RX17) (T := TX17) (N := 19) (ws' := [(se, .inr (14, [.ref ba, .int ty, .int ha, .int sE, .int le, va_rf s9, .long (oL nt.1), .long (lN nt.2.1), .long (lN nt.2.2.1), va_rf r1, va_rf r2, .int (oI nt.2.2.2.2.2.2.1), .int (nI (gD lb 0)), va_rf r3, .int (bZ nt.2.2.2.2.2.2.2.2.1), .int tr, .int (bZ (nt.2.2.2.2.2.2.2.2.2 0)), .int (bZ (nt.2.2.2.2.2.2.2.2.2 1)), .int (bZ (nt.2.2.2.2.2.2.2.2.2 2))]))] ++ F) rfl rfl in_X17 tyX17_ok nmX17 12 (by decide) q1328 rfl rfl (v := .int (nI (gD lb 0))) rfl rfl (Nat.le_of_ble_eq_true rfl) rfl dX17_take_252 (fun H locs h => ?_)
                    refine lv_iconst (v := nI 1) hx hb dX17_take_255 (by decide) ?_
                    subst hQ
                    have h : Wd D B s ([(se, .inr (14, [.ref ba, .int ty, .int ha, .int sE, .int le, va_rf s9, .long (oL nt.1), .long (lN nt.2.1), .long (lN nt.2.2.1), va_rf r1, va_rf r2, .int (oI nt.2.2.2.2.2.2.1), .int (nI (gD lb 0)), va_rf r3, .int (bZ nt.2.2.2.2.2.2.2.2.1), .int tr, .int (bZ (nt.2.2.2.2.2.2.2.2.2 0)), .int (bZ (nt.2.2.2.2.2.2.2.2.2 1)), .int (bZ (nt.2.2.2.2.2.2.2.2.2 2))]))] ++ (F ++ [])) H locs := by rw [List.append_nil]; exact h
                    have hfin := show noteS nt kd gr sd lb = _ by unfold noteS; rw [if_neg (by omega), if_neg (by omega), if_neg (by omega), if_pos (by omega), if_pos (by omega)]
                    refine n_top (y := bZ true) rfl ?_
                    exact ret_z C hr hlocks h (r1, r2, r3, []) (by rw [hfin]; exact ⟨hR.1.up, hR.2.1.up, hR.2.2.up⟩) (by rw [hfin]; try rfl) (by rw [hfin]; unfold slC; dsimp only; cases sd <;> first | (exfalso; first | exact absurd c214 (by decide) | exact absurd c235 (by decide)) | rfl | (rcases n3 with q | q <;> (subst q; first | rfl | (exfalso; omega)))) (by omega) (by omega) dX17_take_256
              · refine lv_aload_n hx hb dX17_take_223 rfl (lv_at hl 1 rfl) ?_
                refine lv_aload_n hx hb dX17_take_224 rfl (lv_at hl 3 rfl) ?_
                refine lv_iconst (v := nI 0) hx hb dX17_take_225 (by decide) ?_
                refine n_bald C h (v := (gD lb) 0) (List.mem_append_right _ hm) (show 0 < lb.length by omega) (by omega) rfl dX17_take_226 ?_
                refine lv_sipush (v := nI 255) hx hb dX17_take_227 (by decide) ?_
                refine lv_iand hx hb dX17_take_230 ?_
                refine n_top (y := nI (gD lb 0)) ((sb_byte _ hg0).1) ?_
                refine o_put C h 0 (RC := RX17) (T := TX17) (N := 19) (ws' := [(se, .inr (14, [.ref ba, .int ty, .int ha, .int sE, .int le, va_rf s9, .long (oL nt.1), .long (lN nt.2.1), .long (lN nt.2.2.1), va_rf r1, va_rf r2, .int (nI (gD lb 0)), .int (oI nt.2.2.2.2.2.2.2.1), va_rf r3, .int (bZ nt.2.2.2.2.2.2.2.2.1), .int tr, .int (bZ (nt.2.2.2.2.2.2.2.2.2 0)), .int (bZ (nt.2.2.2.2.2.2.2.2.2 1)), .int (bZ (nt.2.2.2.2.2.2.2.2.2 2))]))] ++ F) rfl rfl in_X17 tyX17_ok nmX17 11 (by decide) q1326 rfl rfl (v := .int (nI (gD lb 0))) rfl rfl (Nat.le_of_ble_eq_true rfl) rfl dX17_take_231 (fun H locs h => ?_)
                refine lv_iload_n hx hb dX17_take_234 rfl (lv_at hl 4 rfl) ?_
                refine z_if_eq (tgt := 255) hx hb dX17_take_235 (by decide) (fun c235 => ?_) (fun c235 => ?_)
                · refine lv_iconst (v := nI 1) hx hb dX17_take_255 (by decide) ?_
                  subst hQ
                  have h : Wd D B s ([(se, .inr (14, [.ref ba, .int ty, .int ha, .int sE, .int le, va_rf s9, .long (oL nt.1), .long (lN nt.2.1), .long (lN nt.2.2.1), va_rf r1, va_rf r2, .int (nI (gD lb 0)), .int (oI nt.2.2.2.2.2.2.2.1), va_rf r3, .int (bZ nt.2.2.2.2.2.2.2.2.1), .int tr, .int (bZ (nt.2.2.2.2.2.2.2.2.2 0)), .int (bZ (nt.2.2.2.2.2.2.2.2.2 1)), .int (bZ (nt.2.2.2.2.2.2.2.2.2 2))]))] ++ (F ++ [])) H locs := by rw [List.append_nil]; exact h
                  have hfin := show noteS nt kd gr sd lb = _ by unfold noteS; rw [if_neg (by omega), if_neg (by omega), if_neg (by omega), if_pos (by omega), if_pos (by omega)]
                  refine n_top (y := bZ true) rfl ?_
                  exact ret_z C hr hlocks h (r1, r2, r3, []) (by rw [hfin]; exact ⟨hR.1.up, hR.2.1.up, hR.2.2.up⟩) (by rw [hfin]; try rfl) (by rw [hfin]; unfold slC; dsimp only; cases sd <;> first | (exfalso; first | exact absurd c214 (by decide) | exact absurd c235 (by decide)) | rfl | (rcases n3 with q | q <;> (subst q; first | rfl | (exfalso; omega)))) (by omega) (by omega) dX17_take_256
                · refine lv_iload_n hx hb dX17_take_238 rfl (lv_at hl 2 rfl) ?_
                  refine lv_bipush (v := nI 29) hx hb dX17_take_239 (by decide) ?_
                  refine n_icmp_ne (tgt := 255) hx hb (by omega) (by omega) dX17_take_241 (by decide) (fun c241 => ?_) (fun c241 => ?_)
                  · refine lv_iconst (v := nI 1) hx hb dX17_take_255 (by decide) ?_
                    subst hQ
                    have h : Wd D B s ([(se, .inr (14, [.ref ba, .int ty, .int ha, .int sE, .int le, va_rf s9, .long (oL nt.1), .long (lN nt.2.1), .long (lN nt.2.2.1), va_rf r1, va_rf r2, .int (nI (gD lb 0)), .int (oI nt.2.2.2.2.2.2.2.1), va_rf r3, .int (bZ nt.2.2.2.2.2.2.2.2.1), .int tr, .int (bZ (nt.2.2.2.2.2.2.2.2.2 0)), .int (bZ (nt.2.2.2.2.2.2.2.2.2 1)), .int (bZ (nt.2.2.2.2.2.2.2.2.2 2))]))] ++ (F ++ [])) H locs := by rw [List.append_nil]; exact h
                    have hfin := show noteS nt kd gr sd lb = _ by unfold noteS; rw [if_neg (by omega), if_neg (by omega), if_neg (by omega), if_pos (by omega), if_pos (by omega)]
                    refine n_top (y := bZ true) rfl ?_
                    exact ret_z C hr hlocks h (r1, r2, r3, []) (by rw [hfin]; exact ⟨hR.1.up, hR.2.1.up, hR.2.2.up⟩) (by rw [hfin]; try rfl) (by rw [hfin]; unfold slC; dsimp only; cases sd <;> first | (exfalso; first | exact absurd c214 (by decide) | exact absurd c235 (by decide)) | rfl | (rcases n3 with q | q <;> (subst q; first | rfl | (exfalso; omega)))) (by omega) (by omega) dX17_take_256
                  · refine lv_aload_n hx hb dX17_take_244 rfl (lv_at hl 1 rfl) ?_
                    refine lv_aload_n hx hb dX17_take_245 rfl (lv_at hl 3 rfl) ?_
                    refine lv_iconst (v := nI 0) hx hb dX17_take_246 (by decide) ?_
                    refine n_bald C h (v := (gD lb) 0) (List.mem_append_right _ hm) (show 0 < lb.length by omega) (by omega) rfl dX17_take_247 ?_
                    refine lv_sipush (v := nI 255) hx hb dX17_take_248 (by decide) ?_
                    refine lv_iand hx hb dX17_take_251 ?_
                    refine n_top (y := nI (gD lb 0)) ((sb_byte _ hg0).1) ?_
                    refine o_put C h 0 (RC := RX17) (T := TX17) (N := 19) (ws' := [(se, .inr (14, [.ref ba, .int ty, .int ha, .int sE, .int le, va_rf s9, .long (oL nt.1), .long (lN nt.2.1), .long (lN nt.2.2.1), va_rf r1, va_rf r2, .int (nI (gD lb 0)), .int (nI (gD lb 0)), va_rf r3, .int (bZ nt.2.2.2.2.2.2.2.2.1), .int tr, .int (bZ (nt.2.2.2.2.2.2.2.2.2 0)), .int (bZ (nt.2.2.2.2.2.2.2.2.2 1)), .int (bZ (nt.2.2.2.2.2.2.2.2.2 2))]))] ++ F) rfl rfl in_X17 tyX17_ok nmX17 12 (by decide) q1328 rfl rfl (v := .int (nI (gD lb 0))) rfl rfl (Nat.le_of_ble_eq_true rfl) rfl dX17_take_252 (fun H locs h => ?_)
                    refine lv_iconst (v := nI 1) hx hb dX17_take_255 (by decide) ?_
                    subst hQ
                    have h : Wd D B s ([(se, .inr (14, [.ref ba, .int ty, .int ha, .int sE, .int le, va_rf s9, .long (oL nt.1), .long (lN nt.2.1), .long (lN nt.2.2.1), va_rf r1, va_rf r2, .int (nI (gD lb 0)), .int (nI (gD lb 0)), va_rf r3, .int (bZ nt.2.2.2.2.2.2.2.2.1), .int tr, .int (bZ (nt.2.2.2.2.2.2.2.2.2 0)), .int (bZ (nt.2.2.2.2.2.2.2.2.2 1)), .int (bZ (nt.2.2.2.2.2.2.2.2.2 2))]))] ++ (F ++ [])) H locs := by rw [List.append_nil]; exact h
                    have hfin := show noteS nt kd gr sd lb = _ by unfold noteS; rw [if_neg (by omega), if_neg (by omega), if_neg (by omega), if_pos (by omega), if_pos (by omega)]
                    refine n_top (y := bZ true) rfl ?_
                    exact ret_z C hr hlocks h (r1, r2, r3, []) (by rw [hfin]; exact ⟨hR.1.up, hR.2.1.up, hR.2.2.up⟩) (by rw [hfin]; try rfl) (by rw [hfin]; unfold slC; dsimp only; cases sd <;> first | (exfalso; first | exact absurd c214 (by decide) | exact absurd c235 (by decide)) | rfl | (rcases n3 with q | q <;> (subst q; first | rfl | (exfalso; omega)))) (by omega) (by omega) dX17_take_256
          · refine lv_iconst (v := nI 0) hx hb dX17_take_211 (by decide) ?_
            subst hQ
            have h : Wd D B s ([(se, .inr (14, [.ref ba, .int ty, .int ha, .int sE, .int le, va_rf s9, .long (oL nt.1), .long (lN nt.2.1), .long (lN nt.2.2.1), va_rf r1, va_rf r2, .int (oI nt.2.2.2.2.2.2.1), .int (oI nt.2.2.2.2.2.2.2.1), va_rf r3, .int (bZ nt.2.2.2.2.2.2.2.2.1), .int tr, .int (bZ (nt.2.2.2.2.2.2.2.2.2 0)), .int (bZ (nt.2.2.2.2.2.2.2.2.2 1)), .int (bZ (nt.2.2.2.2.2.2.2.2.2 2))]))] ++ (F ++ [])) s.heap [] := by rw [List.append_nil]; exact h
            have hfin : noteS nt kd gr sd lb = (nt, false) := by unfold noteS; rw [if_neg (by omega), if_neg (by omega), if_neg (by omega), if_pos (by omega), if_neg (by omega)]
            refine n_top (y := bZ false) rfl ?_
            exact ret_z C hr hlocks h (r1, r2, r3, []) (by rw [hfin]; exact hR.up) (by rw [hfin]) (by rw [hfin]; rfl) (by omega) (by omega) dX17_take_212
        · by_cases n4 : kd = 32
          · refine lv_lookup (off := 252) (tgt := 257) hx hb dX17_take_5 (by decide) ((sw17 kd hkd).trans (by rw [if_neg (by omega), if_neg (by omega), if_neg (by omega), if_neg (by omega), if_pos (by omega)])) (by decide) ?_
            refine lv_aload_n hx hb dX17_take_257 rfl (lv_at hl 1 rfl) ?_
            refine lv_iload_n hx hb dX17_take_258 rfl (lv_at hl 4 rfl) ?_
            refine z_if_ne (tgt := 269) hx hb dX17_take_259 (by decide) (fun c259 => ?_) (fun c259 => ?_)
            · refine lv_aload_n hx hb dX17_take_269 rfl (lv_at hl 3 rfl) ?_
              refine lv_goto (tgt := 277) hx hb dX17_take_270 (by decide) ?_
              refine o_put C h 0 (RC := RX17) (T := TX17) (N := 19) (ws' := [(se, .inr (14, [.ref ba, .int ty, .int ha, .int sE, .int le, va_rf s9, .long (oL nt.1), .long (lN nt.2.1), .long (lN nt.2.2.1), va_rf r1, va_rf r2, .int (oI nt.2.2.2.2.2.2.1), .int (oI nt.2.2.2.2.2.2.2.1), .ref ra, .int (bZ nt.2.2.2.2.2.2.2.2.1), .int tr, .int (bZ (nt.2.2.2.2.2.2.2.2.2 0)), .int (bZ (nt.2.2.2.2.2.2.2.2.2 1)), .int (bZ (nt.2.2.2.2.2.2.2.2.2 2))]))] ++ F) rfl rfl in_X17 tyX17_ok nmX17 13 (by decide) q1330 rfl rfl (v := .ref ra) rfl rfl (Nat.le_of_ble_eq_true rfl) rfl dX17_take_277 (fun H locs h => ?_)
              refine lv_aload_n hx hb dX17_take_280 rfl (lv_at hl 1 rfl) ?_
              refine lv_dup hx hb dX17_take_281 rfl ?_
              refine o_get C h (RC := RX17) (T := TX17) (N := 19) (List.mem_of_getElem? (i := 0) rfl) rfl in_X17 18 (by decide) q1337 rfl (v := .int (bZ (nt.2.2.2.2.2.2.2.2.2 2))) rfl dX17_take_282 ?_
              refine lv_iload_n hx hb dX17_take_285 rfl (lv_at hl 4 rfl) ?_
              refine lv_ior hx hb dX17_take_286 ?_
              refine n_top (y := bZ (nt.2.2.2.2.2.2.2.2.2 2 || sd)) (bZ_or _ _) ?_
              refine o_put C h 0 (RC := RX17) (T := TX17) (N := 19) (ws' := [(se, .inr (14, [.ref ba, .int ty, .int ha, .int sE, .int le, va_rf s9, .long (oL nt.1), .long (lN nt.2.1), .long (lN nt.2.2.1), va_rf r1, va_rf r2, .int (oI nt.2.2.2.2.2.2.1), .int (oI nt.2.2.2.2.2.2.2.1), .ref ra, .int (bZ nt.2.2.2.2.2.2.2.2.1), .int tr, .int (bZ (nt.2.2.2.2.2.2.2.2.2 0)), .int (bZ (nt.2.2.2.2.2.2.2.2.2 1)), .int (bZ (nt.2.2.2.2.2.2.2.2.2 2 || sd))]))] ++ F) rfl rfl in_X17 tyX17_ok nmX17 18 (by decide) q1337 rfl rfl (v := .int (bZ (nt.2.2.2.2.2.2.2.2.2 2 || sd))) (bZ_nar _) (bZ_fit _) (Nat.le_of_ble_eq_true rfl) rfl dX17_take_287 (fun H locs h => ?_)
              refine lv_iconst (v := nI 1) hx hb dX17_take_290 (by decide) ?_
              subst hQ
              have h : Wd D B s ([(se, .inr (14, [.ref ba, .int ty, .int ha, .int sE, .int le, va_rf s9, .long (oL nt.1), .long (lN nt.2.1), .long (lN nt.2.2.1), va_rf r1, va_rf r2, .int (oI nt.2.2.2.2.2.2.1), .int (oI nt.2.2.2.2.2.2.2.1), .ref ra, .int (bZ nt.2.2.2.2.2.2.2.2.1), .int tr, .int (bZ (nt.2.2.2.2.2.2.2.2.2 0)), .int (bZ (nt.2.2.2.2.2.2.2.2.2 1)), .int (bZ (nt.2.2.2.2.2.2.2.2.2 2 || sd))]))] ++ (F ++ [])) H locs := by rw [List.append_nil]; exact h
              have hfin := show noteS nt kd gr sd lb = _ by unfold noteS; rw [if_neg (by omega), if_neg (by omega), if_neg (by omega), if_neg (by omega), if_pos (by omega), if_pos (by first | (rw [c259]; rfl) | (rw [c266, c259]; rfl) | (rw [c266]; cases sd <;> rfl))]
              refine n_top (y := bZ true) rfl ?_
              exact ret_z C hr hlocks h (r1, r2, some ra, []) (by rw [hfin]; exact ⟨hR.1.up, hR.2.1.up, ⟨ra, rfl, List.mem_append_left _ hmP⟩⟩) (by rw [hfin]; try rfl) (by rw [hfin]; unfold slC; first | rfl | (dsimp only; rfl)) (by omega) (by omega) dX17_take_291
            · refine lv_aload_n hx hb dX17_take_262 rfl (lv_at hl 1 rfl) ?_
              refine o_get C h (RC := RX17) (T := TX17) (N := 19) (List.mem_of_getElem? (i := 0) rfl) rfl in_X17 18 (by decide) q1337 rfl (v := .int (bZ (nt.2.2.2.2.2.2.2.2.2 2))) rfl dX17_take_263 ?_
              refine z_if_ne (tgt := 273) hx hb dX17_take_266 (by decide) (fun c266 => ?_) (fun c266 => ?_)
              · refine lv_aload_n hx hb dX17_take_273 rfl (lv_at hl 1 rfl) ?_
                refine o_get C h (RC := RX17) (T := TX17) (N := 19) (List.mem_of_getElem? (i := 0) rfl) rfl in_X17 13 (by decide) q1330 rfl (v := va_rf r3) rfl dX17_take_274 ?_
                refine o_put C h 0 (RC := RX17) (T := TX17) (N := 19) (ws' := [(se, .inr (14, [.ref ba, .int ty, .int ha, .int sE, .int le, va_rf s9, .long (oL nt.1), .long (lN nt.2.1), .long (lN nt.2.2.1), va_rf r1, va_rf r2, .int (oI nt.2.2.2.2.2.2.1), .int (oI nt.2.2.2.2.2.2.2.1), va_rf r3, .int (bZ nt.2.2.2.2.2.2.2.2.1), .int tr, .int (bZ (nt.2.2.2.2.2.2.2.2.2 0)), .int (bZ (nt.2.2.2.2.2.2.2.2.2 1)), .int (bZ (nt.2.2.2.2.2.2.2.2.2 2))]))] ++ F) rfl rfl in_X17 tyX17_ok nmX17 13 (by decide) q1330 rfl rfl (v := va_rf r3) (rf_nar _ _) (rf_fit _ _) (Nat.le_of_ble_eq_true rfl) rfl dX17_take_277 (fun H locs h => ?_)
                refine lv_aload_n hx hb dX17_take_280 rfl (lv_at hl 1 rfl) ?_
                refine lv_dup hx hb dX17_take_281 rfl ?_
                refine o_get C h (RC := RX17) (T := TX17) (N := 19) (List.mem_of_getElem? (i := 0) rfl) rfl in_X17 18 (by decide) q1337 rfl (v := .int (bZ (nt.2.2.2.2.2.2.2.2.2 2))) rfl dX17_take_282 ?_
                refine lv_iload_n hx hb dX17_take_285 rfl (lv_at hl 4 rfl) ?_
                refine lv_ior hx hb dX17_take_286 ?_
                refine n_top (y := bZ (nt.2.2.2.2.2.2.2.2.2 2 || sd)) (bZ_or _ _) ?_
                refine o_put C h 0 (RC := RX17) (T := TX17) (N := 19) (ws' := [(se, .inr (14, [.ref ba, .int ty, .int ha, .int sE, .int le, va_rf s9, .long (oL nt.1), .long (lN nt.2.1), .long (lN nt.2.2.1), va_rf r1, va_rf r2, .int (oI nt.2.2.2.2.2.2.1), .int (oI nt.2.2.2.2.2.2.2.1), va_rf r3, .int (bZ nt.2.2.2.2.2.2.2.2.1), .int tr, .int (bZ (nt.2.2.2.2.2.2.2.2.2 0)), .int (bZ (nt.2.2.2.2.2.2.2.2.2 1)), .int (bZ (nt.2.2.2.2.2.2.2.2.2 2 || sd))]))] ++ F) rfl rfl in_X17 tyX17_ok nmX17 18 (by decide) q1337 rfl rfl (v := .int (bZ (nt.2.2.2.2.2.2.2.2.2 2 || sd))) (bZ_nar _) (bZ_fit _) (Nat.le_of_ble_eq_true rfl) rfl dX17_take_287 (fun H locs h => ?_)
                refine lv_iconst (v := nI 1) hx hb dX17_take_290 (by decide) ?_
                subst hQ
                have h : Wd D B s ([(se, .inr (14, [.ref ba, .int ty, .int ha, .int sE, .int le, va_rf s9, .long (oL nt.1), .long (lN nt.2.1), .long (lN nt.2.2.1), va_rf r1, va_rf r2, .int (oI nt.2.2.2.2.2.2.1), .int (oI nt.2.2.2.2.2.2.2.1), va_rf r3, .int (bZ nt.2.2.2.2.2.2.2.2.1), .int tr, .int (bZ (nt.2.2.2.2.2.2.2.2.2 0)), .int (bZ (nt.2.2.2.2.2.2.2.2.2 1)), .int (bZ (nt.2.2.2.2.2.2.2.2.2 2 || sd))]))] ++ (F ++ [])) H locs := by rw [List.append_nil]; exact h
                have hfin := show noteS nt kd gr sd lb = _ by unfold noteS; rw [if_neg (by omega), if_neg (by omega), if_neg (by omega), if_neg (by omega), if_pos (by omega), if_neg (by rw [c259, c266]; decide)]
                refine n_top (y := bZ true) rfl ?_
                exact ret_z C hr hlocks h (r1, r2, r3, []) (by rw [hfin]; exact ⟨hR.1.up, hR.2.1.up, hR.2.2.up⟩) (by rw [hfin]; try rfl) (by rw [hfin]; unfold slC; first | rfl | (dsimp only; rfl)) (by omega) (by omega) dX17_take_291
              · refine lv_aload_n hx hb dX17_take_269 rfl (lv_at hl 3 rfl) ?_
                refine lv_goto (tgt := 277) hx hb dX17_take_270 (by decide) ?_
                refine o_put C h 0 (RC := RX17) (T := TX17) (N := 19) (ws' := [(se, .inr (14, [.ref ba, .int ty, .int ha, .int sE, .int le, va_rf s9, .long (oL nt.1), .long (lN nt.2.1), .long (lN nt.2.2.1), va_rf r1, va_rf r2, .int (oI nt.2.2.2.2.2.2.1), .int (oI nt.2.2.2.2.2.2.2.1), .ref ra, .int (bZ nt.2.2.2.2.2.2.2.2.1), .int tr, .int (bZ (nt.2.2.2.2.2.2.2.2.2 0)), .int (bZ (nt.2.2.2.2.2.2.2.2.2 1)), .int (bZ (nt.2.2.2.2.2.2.2.2.2 2))]))] ++ F) rfl rfl in_X17 tyX17_ok nmX17 13 (by decide) q1330 rfl rfl (v := .ref ra) rfl rfl (Nat.le_of_ble_eq_true rfl) rfl dX17_take_277 (fun H locs h => ?_)
                refine lv_aload_n hx hb dX17_take_280 rfl (lv_at hl 1 rfl) ?_
                refine lv_dup hx hb dX17_take_281 rfl ?_
                refine o_get C h (RC := RX17) (T := TX17) (N := 19) (List.mem_of_getElem? (i := 0) rfl) rfl in_X17 18 (by decide) q1337 rfl (v := .int (bZ (nt.2.2.2.2.2.2.2.2.2 2))) rfl dX17_take_282 ?_
                refine lv_iload_n hx hb dX17_take_285 rfl (lv_at hl 4 rfl) ?_
                refine lv_ior hx hb dX17_take_286 ?_
                refine n_top (y := bZ (nt.2.2.2.2.2.2.2.2.2 2 || sd)) (bZ_or _ _) ?_
                refine o_put C h 0 (RC := RX17) (T := TX17) (N := 19) (ws' := [(se, .inr (14, [.ref ba, .int ty, .int ha, .int sE, .int le, va_rf s9, .long (oL nt.1), .long (lN nt.2.1), .long (lN nt.2.2.1), va_rf r1, va_rf r2, .int (oI nt.2.2.2.2.2.2.1), .int (oI nt.2.2.2.2.2.2.2.1), .ref ra, .int (bZ nt.2.2.2.2.2.2.2.2.1), .int tr, .int (bZ (nt.2.2.2.2.2.2.2.2.2 0)), .int (bZ (nt.2.2.2.2.2.2.2.2.2 1)), .int (bZ (nt.2.2.2.2.2.2.2.2.2 2 || sd))]))] ++ F) rfl rfl in_X17 tyX17_ok nmX17 18 (by decide) q1337 rfl rfl (v := .int (bZ (nt.2.2.2.2.2.2.2.2.2 2 || sd))) (bZ_nar _) (bZ_fit _) (Nat.le_of_ble_eq_true rfl) rfl dX17_take_287 (fun H locs h => ?_)
                refine lv_iconst (v := nI 1) hx hb dX17_take_290 (by decide) ?_
                subst hQ
                have h : Wd D B s ([(se, .inr (14, [.ref ba, .int ty, .int ha, .int sE, .int le, va_rf s9, .long (oL nt.1), .long (lN nt.2.1), .long (lN nt.2.2.1), va_rf r1, va_rf r2, .int (oI nt.2.2.2.2.2.2.1), .int (oI nt.2.2.2.2.2.2.2.1), .ref ra, .int (bZ nt.2.2.2.2.2.2.2.2.1), .int tr, .int (bZ (nt.2.2.2.2.2.2.2.2.2 0)), .int (bZ (nt.2.2.2.2.2.2.2.2.2 1)), .int (bZ (nt.2.2.2.2.2.2.2.2.2 2 || sd))]))] ++ (F ++ [])) H locs := by rw [List.append_nil]; exact h
                have hfin := show noteS nt kd gr sd lb = _ by unfold noteS; rw [if_neg (by omega), if_neg (by omega), if_neg (by omega), if_neg (by omega), if_pos (by omega), if_pos (by first | (rw [c259]; rfl) | (rw [c266, c259]; rfl) | (rw [c266]; cases sd <;> rfl))]
                refine n_top (y := bZ true) rfl ?_
                exact ret_z C hr hlocks h (r1, r2, some ra, []) (by rw [hfin]; exact ⟨hR.1.up, hR.2.1.up, ⟨ra, rfl, List.mem_append_left _ hmP⟩⟩) (by rw [hfin]; try rfl) (by rw [hfin]; unfold slC; first | rfl | (dsimp only; rfl)) (by omega) (by omega) dX17_take_291
          · refine lv_lookup (off := 287) (tgt := 292) hx hb dX17_take_5 (by decide) ((sw17 kd hkd).trans (by rw [if_neg (by omega), if_neg (by omega), if_neg (by omega), if_neg (by omega), if_neg (by omega)])) (by decide) ?_
            refine lv_aload_n hx hb dX17_take_292 rfl (lv_at hl 1 rfl) ?_
            refine lv_dup hx hb dX17_take_293 rfl ?_
            refine o_get C h (RC := RX17) (T := TX17) (N := 19) (List.mem_of_getElem? (i := 0) rfl) rfl in_X17 14 (by decide) q1332 rfl (v := .int (bZ nt.2.2.2.2.2.2.2.2.1)) rfl dX17_take_294 ?_
            refine lv_iload_n hx hb dX17_take_297 rfl (lv_at hl 4 rfl) ?_
            refine z_if_eq (tgt := 310) hx hb dX17_take_298 (by decide) (fun c298 => ?_) (fun c298 => ?_)
            · refine lv_iconst (v := nI 0) hx hb dX17_take_310 (by decide) ?_
              refine lv_ior hx hb dX17_take_311 ?_
              refine n_top (y := bZ (nt.2.2.2.2.2.2.2.2.1 || sd && gr)) (by first | exact (bZ_or _ true).trans (by simp [*]) | exact (bZ_or _ false).trans (by simp [*])) ?_
              refine o_put C h 0 (RC := RX17) (T := TX17) (N := 19) (ws' := [(se, .inr (14, [.ref ba, .int ty, .int ha, .int sE, .int le, va_rf s9, .long (oL nt.1), .long (lN nt.2.1), .long (lN nt.2.2.1), va_rf r1, va_rf r2, .int (oI nt.2.2.2.2.2.2.1), .int (oI nt.2.2.2.2.2.2.2.1), va_rf r3, .int (bZ (nt.2.2.2.2.2.2.2.2.1 || sd && gr)), .int tr, .int (bZ (nt.2.2.2.2.2.2.2.2.2 0)), .int (bZ (nt.2.2.2.2.2.2.2.2.2 1)), .int (bZ (nt.2.2.2.2.2.2.2.2.2 2))]))] ++ F) rfl rfl in_X17 tyX17_ok nmX17 14 (by decide) q1332 rfl rfl (v := .int (bZ (nt.2.2.2.2.2.2.2.2.1 || sd && gr))) (bZ_nar _) (bZ_fit _) (Nat.le_of_ble_eq_true rfl) rfl dX17_take_312 (fun H locs h => ?_)
              refine lv_iconst (v := nI 1) hx hb dX17_take_315 (by decide) ?_
              subst hQ
              have h : Wd D B s ([(se, .inr (14, [.ref ba, .int ty, .int ha, .int sE, .int le, va_rf s9, .long (oL nt.1), .long (lN nt.2.1), .long (lN nt.2.2.1), va_rf r1, va_rf r2, .int (oI nt.2.2.2.2.2.2.1), .int (oI nt.2.2.2.2.2.2.2.1), va_rf r3, .int (bZ (nt.2.2.2.2.2.2.2.2.1 || sd && gr)), .int tr, .int (bZ (nt.2.2.2.2.2.2.2.2.2 0)), .int (bZ (nt.2.2.2.2.2.2.2.2.2 1)), .int (bZ (nt.2.2.2.2.2.2.2.2.2 2))]))] ++ (F ++ [])) H locs := by rw [List.append_nil]; exact h
              have hfin := show noteS nt kd gr sd lb = _ by unfold noteS; rw [if_neg (by omega), if_neg (by omega), if_neg (by omega), if_neg (by omega), if_neg (by omega)]
              refine n_top (y := bZ true) rfl ?_
              exact ret_z C hr hlocks h (r1, r2, r3, []) (by rw [hfin]; exact ⟨hR.1.up, hR.2.1.up, hR.2.2.up⟩) (by rw [hfin]; try rfl) (by rw [hfin]; unfold slC; first | rfl | (dsimp only; rfl)) (by omega) (by omega) dX17_take_316
            · refine lv_iload hx hb dX17_take_301 (lv_at hl 5 rfl) ?_
              refine z_if_eq (tgt := 310) hx hb dX17_take_303 (by decide) (fun c303 => ?_) (fun c303 => ?_)
              · refine lv_iconst (v := nI 0) hx hb dX17_take_310 (by decide) ?_
                refine lv_ior hx hb dX17_take_311 ?_
                refine n_top (y := bZ (nt.2.2.2.2.2.2.2.2.1 || sd && gr)) (by first | exact (bZ_or _ true).trans (by simp [*]) | exact (bZ_or _ false).trans (by simp [*])) ?_
                refine o_put C h 0 (RC := RX17) (T := TX17) (N := 19) (ws' := [(se, .inr (14, [.ref ba, .int ty, .int ha, .int sE, .int le, va_rf s9, .long (oL nt.1), .long (lN nt.2.1), .long (lN nt.2.2.1), va_rf r1, va_rf r2, .int (oI nt.2.2.2.2.2.2.1), .int (oI nt.2.2.2.2.2.2.2.1), va_rf r3, .int (bZ (nt.2.2.2.2.2.2.2.2.1 || sd && gr)), .int tr, .int (bZ (nt.2.2.2.2.2.2.2.2.2 0)), .int (bZ (nt.2.2.2.2.2.2.2.2.2 1)), .int (bZ (nt.2.2.2.2.2.2.2.2.2 2))]))] ++ F) rfl rfl in_X17 tyX17_ok nmX17 14 (by decide) q1332 rfl rfl (v := .int (bZ (nt.2.2.2.2.2.2.2.2.1 || sd && gr))) (bZ_nar _) (bZ_fit _) (Nat.le_of_ble_eq_true rfl) rfl dX17_take_312 (fun H locs h => ?_)
                refine lv_iconst (v := nI 1) hx hb dX17_take_315 (by decide) ?_
                subst hQ
                have h : Wd D B s ([(se, .inr (14, [.ref ba, .int ty, .int ha, .int sE, .int le, va_rf s9, .long (oL nt.1), .long (lN nt.2.1), .long (lN nt.2.2.1), va_rf r1, va_rf r2, .int (oI nt.2.2.2.2.2.2.1), .int (oI nt.2.2.2.2.2.2.2.1), va_rf r3, .int (bZ (nt.2.2.2.2.2.2.2.2.1 || sd && gr)), .int tr, .int (bZ (nt.2.2.2.2.2.2.2.2.2 0)), .int (bZ (nt.2.2.2.2.2.2.2.2.2 1)), .int (bZ (nt.2.2.2.2.2.2.2.2.2 2))]))] ++ (F ++ [])) H locs := by rw [List.append_nil]; exact h
                have hfin := show noteS nt kd gr sd lb = _ by unfold noteS; rw [if_neg (by omega), if_neg (by omega), if_neg (by omega), if_neg (by omega), if_neg (by omega)]
                refine n_top (y := bZ true) rfl ?_
                exact ret_z C hr hlocks h (r1, r2, r3, []) (by rw [hfin]; exact ⟨hR.1.up, hR.2.1.up, hR.2.2.up⟩) (by rw [hfin]; try rfl) (by rw [hfin]; unfold slC; first | rfl | (dsimp only; rfl)) (by omega) (by omega) dX17_take_316
              · refine lv_iconst (v := nI 1) hx hb dX17_take_306 (by decide) ?_
                refine lv_goto (tgt := 311) hx hb dX17_take_307 (by decide) ?_
                refine lv_ior hx hb dX17_take_311 ?_
                refine n_top (y := bZ (nt.2.2.2.2.2.2.2.2.1 || sd && gr)) (by first | exact (bZ_or _ true).trans (by simp [*]) | exact (bZ_or _ false).trans (by simp [*])) ?_
                refine o_put C h 0 (RC := RX17) (T := TX17) (N := 19) (ws' := [(se, .inr (14, [.ref ba, .int ty, .int ha, .int sE, .int le, va_rf s9, .long (oL nt.1), .long (lN nt.2.1), .long (lN nt.2.2.1), va_rf r1, va_rf r2, .int (oI nt.2.2.2.2.2.2.1), .int (oI nt.2.2.2.2.2.2.2.1), va_rf r3, .int (bZ (nt.2.2.2.2.2.2.2.2.1 || sd && gr)), .int tr, .int (bZ (nt.2.2.2.2.2.2.2.2.2 0)), .int (bZ (nt.2.2.2.2.2.2.2.2.2 1)), .int (bZ (nt.2.2.2.2.2.2.2.2.2 2))]))] ++ F) rfl rfl in_X17 tyX17_ok nmX17 14 (by decide) q1332 rfl rfl (v := .int (bZ (nt.2.2.2.2.2.2.2.2.1 || sd && gr))) (bZ_nar _) (bZ_fit _) (Nat.le_of_ble_eq_true rfl) rfl dX17_take_312 (fun H locs h => ?_)
                refine lv_iconst (v := nI 1) hx hb dX17_take_315 (by decide) ?_
                subst hQ
                have h : Wd D B s ([(se, .inr (14, [.ref ba, .int ty, .int ha, .int sE, .int le, va_rf s9, .long (oL nt.1), .long (lN nt.2.1), .long (lN nt.2.2.1), va_rf r1, va_rf r2, .int (oI nt.2.2.2.2.2.2.1), .int (oI nt.2.2.2.2.2.2.2.1), va_rf r3, .int (bZ (nt.2.2.2.2.2.2.2.2.1 || sd && gr)), .int tr, .int (bZ (nt.2.2.2.2.2.2.2.2.2 0)), .int (bZ (nt.2.2.2.2.2.2.2.2.2 1)), .int (bZ (nt.2.2.2.2.2.2.2.2.2 2))]))] ++ (F ++ [])) H locs := by rw [List.append_nil]; exact h
                have hfin := show noteS nt kd gr sd lb = _ by unfold noteS; rw [if_neg (by omega), if_neg (by omega), if_neg (by omega), if_neg (by omega), if_neg (by omega)]
                refine n_top (y := bZ true) rfl ?_
                exact ret_z C hr hlocks h (r1, r2, r3, []) (by rw [hfin]; exact ⟨hR.1.up, hR.2.1.up, hR.2.2.up⟩) (by rw [hfin]; try rfl) (by rw [hfin]; unfold slC; first | rfl | (dsimp only; rfl)) (by omega) (by omega) dX17_take_316
