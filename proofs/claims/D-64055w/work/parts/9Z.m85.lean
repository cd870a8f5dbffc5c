set_option maxRecDepth 100000

theorem sw17 : ∀ kd, kd < 128 → Op.lookupswitch.offset [(2, 75), (3, 75), (9, 75), (16, 100), (27, 201), (29, 201), (32, 252), (33, 144)] 287 (nI kd).toInt = (if kd = 2 ∨ kd = 3 ∨ kd = 9 then 75 else if kd = 16 then 100 else if kd = 33 then 144 else if kd = 27 ∨ kd = 29 then 201 else if kd = 32 then 252 else 287) := by decide +kernel
def RNb (dA : Nat → ClassId) (F : va_W) (nt : NS) (r1 r2 r3 : Option Nat) : Prop := ROb dA F r1 nt.2.2.2.1 ∧ ROb dA F r2 nt.2.2.2.2.1 ∧ ROb dA F r3 nt.2.2.2.2.2.1
theorem ROb.up {dA : Nat → ClassId} {F E : va_W} {r : Option Nat} {o : Option (List Nat)} (h : ROb dA F r o) : ROb dA (F ++ E) r o := h.sub (fun b q hq => List.mem_append_left _ hq)
theorem RNb.up {dA : Nat → ClassId} {F E : va_W} {nt : NS} {r1 r2 r3 : Option Nat} (h : RNb dA F nt r1 r2 r3) : RNb dA (F ++ E) nt r1 r2 r3 := ⟨h.1.up, h.2.1.up, h.2.2.up⟩
theorem bZ_or (a b : Bool) : bZ a ||| bZ b = bZ (a || b) := by cases a <;> cases b <;> decide
/-- a seal's cell while it is read -/
def slC (se ba : Nat) (ty ha sE le : Int32) (s9 : Option Nat) (nt : NS) (r1 r2 r3 : Option Nat) (t : Int32) : va_W := [(se, .inr (14, [.ref ba, .int ty, .int ha, .int sE, .int le, va_rf s9, .long (oL nt.1), .long (lN nt.2.1), .long (lN nt.2.2.1), va_rf r1, va_rf r2, .int (oI nt.2.2.2.2.2.2.1), .int (oI nt.2.2.2.2.2.2.2.1), va_rf r3, .int (bZ nt.2.2.2.2.2.2.2.2.1), .int t, .int (bZ (nt.2.2.2.2.2.2.2.2.2 0)), .int (bZ (nt.2.2.2.2.2.2.2.2.2 1)), .int (bZ (nt.2.2.2.2.2.2.2.2.2 2))]))]

set_option maxHeartbeats 400000 in
set_option maxRecDepth 100000 in
theorem c17_init (l : Launch) (D : va_G) (dA : Nat → ClassId) (B : Nat) (Z : State → Prop) (hZ : Stab B Z) (F : va_W) (se ba : Nat)  :
    Ct (S := Unit) l D dA B Z yX17_init cX17_init 2 none 2 0 0 [.ref se, .ref ba] ([(se, .inr (14, [.null, .int 0, .int 0, .int 0, .int 0, .null, .long 0, .long 0, .long 0, .null, .null, .int 0, .int 0, .null, .int (bZ false), .int 0, .int (bZ false), .int (bZ false), .int (bZ false)]))] ++ F) (fun _ => True) (fun _ => none) (fun _ => slC se ba 0 0 0 0 none nt0 none none none 0 ++ F) := by
  refine Ct.mk2 (by decide) (Nat.le_of_ble_eq_true rfl) hZ ?_
  intro p e R s m args below meth c ls Q C hr hlocks hin hQ hl h
  have C0 := C
  obtain ⟨hx, hb, hml, hown, hts, -⟩ := C0
  have hl : lv_has ls 2 [(0, .ref se), (1, .ref ba)] := hl
  refine lv_aload_n hx hb dX17_init_0 rfl (lv_at hl 0 rfl) ?_
  refine o_init C h q1302 hl.1 (by decide) (Nat.le_of_ble_eq_true rfl) dX17_init_1 ?_
  refine lv_aload_n hx hb dX17_init_4 rfl (lv_at hl 0 rfl) ?_
  refine lv_ldc2 hx hb hown (hts _ q1303) dX17_init_5 ?_
  refine o_put C h 0 (RC := RX17) (T := TX17) (N := 19) (ws' := [(se, .inr (14, [.null, .int 0, .int 0, .int 0, .int 0, .null, .long (-1), .long 0, .long 0, .null, .null, .int 0, .int 0, .null, .int (bZ false), .int 0, .int (bZ false), .int (bZ false), .int (bZ false)]))] ++ F) rfl rfl in_X17 tyX17_ok nmX17 6 (by decide) q1317 rfl rfl (v := .long (-1)) rfl rfl (Nat.le_of_ble_eq_true rfl) rfl dX17_init_8 (fun H locs h => ?_)
  refine lv_aload_n hx hb dX17_init_11 rfl (lv_at hl 0 rfl) ?_
  refine lv_iconst (v := -1) hx hb dX17_init_12 (by decide) ?_
  refine o_put C h 0 (RC := RX17) (T := TX17) (N := 19) (ws' := [(se, .inr (14, [.null, .int 0, .int 0, .int 0, .int 0, .null, .long (-1), .long 0, .long 0, .null, .null, .int (-1), .int 0, .null, .int (bZ false), .int 0, .int (bZ false), .int (bZ false), .int (bZ false)]))] ++ F) rfl rfl in_X17 tyX17_ok nmX17 11 (by decide) q1326 rfl rfl (v := .int (-1)) rfl rfl (Nat.le_of_ble_eq_true rfl) rfl dX17_init_13 (fun H locs h => ?_)
  refine lv_aload_n hx hb dX17_init_16 rfl (lv_at hl 0 rfl) ?_
  refine lv_iconst (v := -1) hx hb dX17_init_17 (by decide) ?_
  refine o_put C h 0 (RC := RX17) (T := TX17) (N := 19) (ws' := [(se, .inr (14, [.null, .int 0, .int 0, .int 0, .int 0, .null, .long (-1), .long 0, .long 0, .null, .null, .int (-1), .int (-1), .null, .int (bZ false), .int 0, .int (bZ false), .int (bZ false), .int (bZ false)]))] ++ F) rfl rfl in_X17 tyX17_ok nmX17 12 (by decide) q1328 rfl rfl (v := .int (-1)) rfl rfl (Nat.le_of_ble_eq_true rfl) rfl dX17_init_18 (fun H locs h => ?_)
  refine lv_aload_n hx hb dX17_init_21 rfl (lv_at hl 0 rfl) ?_
  refine lv_aload_n hx hb dX17_init_22 rfl (lv_at hl 1 rfl) ?_
  refine o_putF C h 0 (RC := RX17) (T := TX17) (N := 19) (ws' := [(se, .inr (14, [.ref ba, .int 0, .int 0, .int 0, .int 0, .null, .long (-1), .long 0, .long 0, .null, .null, .int (-1), .int (-1), .null, .int (bZ false), .int 0, .int (bZ false), .int (bZ false), .int (bZ false)]))] ++ F) rfl rfl in_X17 tyX17_ok nmX17 0 (by decide) q1304 rfl rfl (hin rfl) rfl (v := .ref ba) rfl rfl (Nat.le_of_ble_eq_true rfl) rfl dX17_init_23 (fun H locs h => ?_)
  subst hQ
  exact ret_v C hr hlocks h () trivial rfl rfl (by omega) (by omega) dX17_init_26
set_option maxHeartbeats 400000 in
set_option maxRecDepth 100000 in
theorem c17_takeTime (l : Launch) (D : va_G) (dA : Nat → ClassId) (B : Nat) (Z : State → Prop) (hZ : Stab B Z) (F : va_W) (se ba : Nat) (ty ha sE le : Int32) (s9 : Option Nat) (nt : NS) (r1 r2 r3 : Option Nat) (tr : Int32) (kd : Nat) (v m1 m2 m3 : Int64) (hkd : kd < 1000) :
    Ct (S := Unit) l D dA B Z yX17_takeTime cX17_takeTime 4 none 1 0 0 [.ref se, .int (nI kd), .long v] ([(se, .inr (14, [.ref ba, .int ty, .int ha, .int sE, .int le, va_rf s9, .long m1, .long m2, .long m3, va_rf r1, va_rf r2, .int (oI nt.2.2.2.2.2.2.1), .int (oI nt.2.2.2.2.2.2.2.1), va_rf r3, .int (bZ nt.2.2.2.2.2.2.2.2.1), .int tr, .int (bZ (nt.2.2.2.2.2.2.2.2.2 0)), .int (bZ (nt.2.2.2.2.2.2.2.2.2 1)), .int (bZ (nt.2.2.2.2.2.2.2.2.2 2))]))] ++ F) (fun _ => True) (fun _ => none) (fun _ => [(se, .inr (14, [.ref ba, .int ty, .int ha, .int sE, .int le, va_rf s9, .long (if kd = 2 then v else m1), .long (if kd = 3 then v else m2), .long (if kd = 2 ∨ kd = 3 then m3 else v), va_rf r1, va_rf r2, .int (oI nt.2.2.2.2.2.2.1), .int (oI nt.2.2.2.2.2.2.2.1), va_rf r3, .int (bZ nt.2.2.2.2.2.2.2.2.1), .int tr, .int (bZ (nt.2.2.2.2.2.2.2.2.2 0)), .int (bZ (nt.2.2.2.2.2.2.2.2.2 1)), .int (bZ (nt.2.2.2.2.2.2.2.2.2 2))]))] ++ F) := by
  refine Ct.mk2 (by decide) (Nat.le_of_ble_eq_true rfl) hZ ?_
  intro p e R s m args below meth c ls Q C hr hlocks hin hQ hl h
  have C0 := C
  obtain ⟨hx, hb, hml, hown, hts, -⟩ := C0
  have hl : lv_has ls 4 [(0, .ref se), (1, .int (nI kd)), (2, .long v)] := hl
  refine lv_iload_n hx hb dX17_takeTime_0 rfl (lv_at hl 1 rfl) ?_
  refine lv_iconst (v := nI 2) hx hb dX17_takeTime_1 (by decide) ?_
  refine n_icmp_ne (tgt := 13) hx hb (by omega) (by omega) dX17_takeTime_2 (by decide) (fun c2 => ?_) (fun c2 => ?_)
  · refine lv_iload_n hx hb dX17_takeTime_13 rfl (lv_at hl 1 rfl) ?_
    refine lv_iconst (v := nI 3) hx hb dX17_takeTime_14 (by decide) ?_
    refine n_icmp_ne (tgt := 26) hx hb (by omega) (by omega) dX17_takeTime_15 (by decide) (fun c15 => ?_) (fun c15 => ?_)
    · refine lv_aload_n hx hb dX17_takeTime_26 rfl (lv_at hl 0 rfl) ?_
      refine lv_lload_n hx hb dX17_takeTime_27 rfl (lv_at hl 2 rfl) ?_
      refine o_put C h 0 (RC := RX17) (T := TX17) (N := 19) (ws' := [(se, .inr (14, [.ref ba, .int ty, .int ha, .int sE, .int le, va_rf s9, .long m1, .long m2, .long v, va_rf r1, va_rf r2, .int (oI nt.2.2.2.2.2.2.1), .int (oI nt.2.2.2.2.2.2.2.1), va_rf r3, .int (bZ nt.2.2.2.2.2.2.2.2.1), .int tr, .int (bZ (nt.2.2.2.2.2.2.2.2.2 0)), .int (bZ (nt.2.2.2.2.2.2.2.2.2 1)), .int (bZ (nt.2.2.2.2.2.2.2.2.2 2))]))] ++ F) rfl rfl in_X17 tyX17_ok nmX17 8 (by decide) q1320 rfl rfl (v := .long v) rfl rfl (Nat.le_of_ble_eq_true rfl) rfl dX17_takeTime_28 (fun H locs h => ?_)
      subst hQ
      exact ret_v C hr hlocks h () trivial rfl (by rw [if_neg (by omega), if_neg (by omega), if_neg (by omega)]) (by omega) (by omega) dX17_takeTime_31
    · refine lv_aload_n hx hb dX17_takeTime_18 rfl (lv_at hl 0 rfl) ?_
      refine lv_lload_n hx hb dX17_takeTime_19 rfl (lv_at hl 2 rfl) ?_
      refine o_put C h 0 (RC := RX17) (T := TX17) (N := 19) (ws' := [(se, .inr (14, [.ref ba, .int ty, .int ha, .int sE, .int le, va_rf s9, .long m1, .long v, .long m3, va_rf r1, va_rf r2, .int (oI nt.2.2.2.2.2.2.1), .int (oI nt.2.2.2.2.2.2.2.1), va_rf r3, .int (bZ nt.2.2.2.2.2.2.2.2.1), .int tr, .int (bZ (nt.2.2.2.2.2.2.2.2.2 0)), .int (bZ (nt.2.2.2.2.2.2.2.2.2 1)), .int (bZ (nt.2.2.2.2.2.2.2.2.2 2))]))] ++ F) rfl rfl in_X17 tyX17_ok nmX17 7 (by decide) q1319 rfl rfl (v := .long v) rfl rfl (Nat.le_of_ble_eq_true rfl) rfl dX17_takeTime_20 (fun H locs h => ?_)
      refine lv_goto (tgt := 31) hx hb dX17_takeTime_23 (by decide) ?_
      subst hQ
      exact ret_v C hr hlocks h () trivial rfl (by rw [if_neg (by omega), if_pos (by omega), if_pos (by omega)]) (by omega) (by omega) dX17_takeTime_31
  · refine lv_aload_n hx hb dX17_takeTime_5 rfl (lv_at hl 0 rfl) ?_
    refine lv_lload_n hx hb dX17_takeTime_6 rfl (lv_at hl 2 rfl) ?_
    refine o_put C h 0 (RC := RX17) (T := TX17) (N := 19) (ws' := [(se, .inr (14, [.ref ba, .int ty, .int ha, .int sE, .int le, va_rf s9, .long v, .long m2, .long m3, va_rf r1, va_rf r2, .int (oI nt.2.2.2.2.2.2.1), .int (oI nt.2.2.2.2.2.2.2.1), va_rf r3, .int (bZ nt.2.2.2.2.2.2.2.2.1), .int tr, .int (bZ (nt.2.2.2.2.2.2.2.2.2 0)), .int (bZ (nt.2.2.2.2.2.2.2.2.2 1)), .int (bZ (nt.2.2.2.2.2.2.2.2.2 2))]))] ++ F) rfl rfl in_X17 tyX17_ok nmX17 6 (by decide) q1317 rfl rfl (v := .long v) rfl rfl (Nat.le_of_ble_eq_true rfl) rfl dX17_takeTime_7 (fun H locs h => ?_)
    refine lv_goto (tgt := 31) hx hb dX17_takeTime_10 (by decide) ?_
    subst hQ
    exact ret_v C hr hlocks h () trivial rfl (by rw [if_pos (by omega), if_neg (by omega), if_pos (by omega)]) (by omega) (by omega) dX17_takeTime_31
