set_option maxRecDepth 100000
set_option maxHeartbeats 400000 in
set_option maxRecDepth 100000 in
theorem c16_withM (l : Launch) (D : va_G) (dA : Nat → ClassId) (B : Nat) (Z : State → Prop) (hZ : Stab B Z) (O F : va_W) (x : NBr) (b : Nat) (lb : List Nat) (hN : NumIn dA F x) (hc9 : x.2.2 = none) (hb9 : (b, bal dA lb) ∈ F) (hB : byt lb) (hL : lb.length ≤ 4096) :
    Ct (S := Nat × va_W) l D dA B Z yX16_with cX16_with 3 (some ((.object "SignetRing$Numbers"))) 3 2 26 [.ref x.1, .ref b] (O ++ F) (fun u => NumIn dA (F ++ u.2) (u.1, x.2.1, some lb)) (fun u => some (.ref u.1)) (fun u => O ++ (F ++ u.2)) := by
  refine Ct.mk2 (by decide) (Nat.le_of_ble_eq_true rfl) hZ ?_
  intro p e R s m args below meth c ls Q C hr hlocks hin hQ hl h
  have C0 := C
  obtain ⟨hx, hb, hml, hown, hts, -⟩ := C0
  have hl : lv_has ls 3 [(0, .ref x.1), (1, .ref b)] := hl
  obtain ⟨⟨hkb, hkl, hko, hks⟩, ba, an, ae, ap, sa, hnm, hba, han, hae, hap, hsa⟩ := hN
  try dsimp only at hkb hkl hko hks hnm hba han hae hap hsa
  have hsa : sa = none := by rw [hc9] at hsa; exact hsa
  have hsl := sha1_len (keyMsg x.2.1)
  refine lv_aload_n hx hb dX16_with_0 rfl (lv_at hl 0 rfl) ?_
  refine o_get C h (RC := RX16) (T := TX16) (N := 6) (List.mem_append_right _ hnm) rfl in_X16 5 (by decide) q1157 rfl (v := va_rf sa) rfl dX16_with_1 ?_
  refine q_ifnonnull (tgt := 11) hx hb dX16_with_4 (by decide) (fun a4 c4 => by exfalso; rw [hsa] at c4; cases c4) (fun c4 => ?_)
  refine lv_aload_n hx hb dX16_with_7 rfl (lv_at hl 1 rfl) ?_
  refine lv_ifnonnull (tgt := 13) hx hb dX16_with_8 (by decide) ?_
  refine o_new C h (RC := RX16) (T := TX16) (N := 6) (ci := 13) (fs := [.null, .long 0, .null, .null, .null, .null]) rfl in_X16 tyX16_ok q1267 q1141 q164 dv_X16 (by omega) (by omega) dX16_with_13 (fun o1 H h => ?_)
  have h := Wd.toFront h
  have h : Wd D B s ([(o1, .inr (13, [.null, .long 0, .null, .null, .null, .null]))] ++ (O ++ F)) H [] := h
  refine lv_dup hx hb dX16_with_16 rfl ?_
  refine lv_aload_n hx hb dX16_with_17 rfl (lv_at hl 0 rfl) ?_
  refine o_get C h (RC := RX16) (T := TX16) (N := 6) (List.mem_append_right _ (List.mem_append_right _ hnm)) rfl in_X16 0 (by decide) q1147 rfl (v := .ref ba) rfl dX16_with_18 ?_
  refine call_I (As := [.ref ba]) (rest := [.ref o1]) (n := 1) C h (c16_init l D dA B Z hZ (O ++ F) o1 ba) (lw_meth q1145) q164 q1268 q1144 rfl (by decide +kernel) (by decide) (by decide) rfl hl rfl (Nat.le_of_ble_eq_true rfl) dX16_with_21 (by omega) (fun u9 H locs _ h => ?_)
  have h : Wd D B s ([(o1, .inr (13, [.ref ba, .long 0, .null, .null, .ref u9, .null])), (u9, bar dA 20 (fun _ => 0))] ++ (O ++ F)) H locs := h
  refine lv_astore_n (lv' := [(2, .ref o1), (0, .ref x.1), (1, .ref b)]) hx hb dX16_with_24 rfl hl (by decide) rfl (fun ls hl => ?_)
  refine lv_aload_n hx hb dX16_with_25 rfl (lv_at hl 0 rfl) ?_
  refine lv_aload_n hx hb dX16_with_26 rfl (lv_at hl 1 rfl) ?_
  refine o_get C h (RC := RX16) (T := TX16) (N := 6) (List.mem_append_right _ (List.mem_append_right _ hnm)) rfl in_X16 1 (by decide) q1149 rfl (v := .long (lN (kMade x.2.1))) rfl dX16_with_27 ?_
  refine o_put C h 0 (RC := RX16) (T := TX16) (N := 6) (ws' := [(o1, .inr (13, [.ref ba, .long (lN (kMade x.2.1)), .null, .null, .ref u9, .null])), (u9, bar dA 20 (fun _ => 0))] ++ (O ++ F)) rfl rfl in_X16 tyX16_ok nmX16 1 (by decide) q1149 rfl rfl (v := .long (lN (kMade x.2.1))) rfl rfl (Nat.le_of_ble_eq_true rfl) rfl dX16_with_30 (fun H locs h => ?_)
  refine lv_aload_n hx hb dX16_with_33 rfl (lv_at hl 0 rfl) ?_
  refine lv_aload_n hx hb dX16_with_34 rfl (lv_at hl 1 rfl) ?_
  refine o_get C h (RC := RX16) (T := TX16) (N := 6) (List.mem_append_right _ (List.mem_append_right _ hnm)) rfl in_X16 2 (by decide) q1151 rfl (v := .ref an) rfl dX16_with_35 ?_
  refine o_put C h 0 (RC := RX16) (T := TX16) (N := 6) (ws' := [(o1, .inr (13, [.ref ba, .long (lN (kMade x.2.1)), .ref an, .null, .ref u9, .null])), (u9, bar dA 20 (fun _ => 0))] ++ (O ++ F)) rfl rfl in_X16 tyX16_ok nmX16 2 (by decide) q1151 rfl rfl (v := .ref an) rfl rfl (Nat.le_of_ble_eq_true rfl) rfl dX16_with_38 (fun H locs h => ?_)
  refine lv_aload_n hx hb dX16_with_41 rfl (lv_at hl 0 rfl) ?_
  refine lv_aload_n hx hb dX16_with_42 rfl (lv_at hl 1 rfl) ?_
  refine o_get C h (RC := RX16) (T := TX16) (N := 6) (List.mem_append_right _ (List.mem_append_right _ hnm)) rfl in_X16 3 (by decide) q1153 rfl (v := .ref ae) rfl dX16_with_43 ?_
  refine o_put C h 0 (RC := RX16) (T := TX16) (N := 6) (ws' := [(o1, .inr (13, [.ref ba, .long (lN (kMade x.2.1)), .ref an, .ref ae, .ref u9, .null])), (u9, bar dA 20 (fun _ => 0))] ++ (O ++ F)) rfl rfl in_X16 tyX16_ok nmX16 3 (by decide) q1153 rfl rfl (v := .ref ae) rfl rfl (Nat.le_of_ble_eq_true rfl) rfl dX16_with_46 (fun H locs h => ?_)
  refine lv_aload_n hx hb dX16_with_49 rfl (lv_at hl 1 rfl) ?_
  refine o_get C h (RC := RX16) (T := TX16) (N := 6) (List.mem_append_right _ (List.mem_append_right _ hnm)) rfl in_X16 4 (by decide) q1155 rfl (v := .ref ap) rfl dX16_with_50 ?_
  refine lv_iconst (v := nI 0) hx hb dX16_with_53 (by decide) ?_
  refine lv_aload_n hx hb dX16_with_54 rfl (lv_at hl 0 rfl) ?_
  refine o_get C h (RC := RX16) (T := TX16) (N := 6) (List.mem_of_getElem? (i := 0) rfl) rfl in_X16 4 (by decide) q1155 rfl (v := .ref u9) rfl dX16_with_55 ?_
  refine lv_iconst (v := nI 0) hx hb dX16_with_58 (by decide) ?_
  refine lv_bipush (v := nI 20) hx hb dX16_with_59 (by decide) ?_
  refine x_copyb C h 1 (n := 20) (dp := 0) (sp := 0) (ws' := [(o1, .inr (13, [.ref ba, .long (lN (kMade x.2.1)), .ref an, .ref ae, .ref u9, .null])), (u9, bar dA 20 (va_cpy (gD (sha1 (keyMsg x.2.1))) (fun _ => 0) 0 0 20))] ++ (O ++ F)) (List.mem_append_right _ (List.mem_append_right _ hap)) rfl q1269 q478 q477 q145 (by omega) (by omega) (by omega) (by omega) hl.1 (by decide) (Nat.le_of_ble_eq_true rfl) rfl dX16_with_61 (fun H locs h => ?_)
  refine lv_aload_n hx hb dX16_with_64 rfl (lv_at hl 0 rfl) ?_
  refine lv_aload_n hx hb dX16_with_65 rfl (lv_at hl 2 rfl) ?_
  refine o_put C h 0 (RC := RX16) (T := TX16) (N := 6) (ws' := [(o1, .inr (13, [.ref ba, .long (lN (kMade x.2.1)), .ref an, .ref ae, .ref u9, .ref b])), (u9, bar dA 20 (va_cpy (gD (sha1 (keyMsg x.2.1))) (fun _ => 0) 0 0 20))] ++ (O ++ F)) rfl rfl in_X16 tyX16_ok nmX16 5 (by decide) q1157 rfl rfl (v := .ref b) rfl rfl (Nat.le_of_ble_eq_true rfl) rfl dX16_with_66 (fun H locs h => ?_)
  refine lv_aload_n hx hb dX16_with_69 rfl (lv_at hl 0 rfl) ?_
  subst hQ
  have h : Wd D B s ([(o1, .inr (13, [.ref ba, .long (lN (kMade x.2.1)), .ref an, .ref ae, .ref u9, .ref b])), (u9, bar dA 20 (gD (sha1 (keyMsg x.2.1))))] ++ (O ++ F)) H locs := Wd.same h 1 rfl (bar_same (fun j hj => by
    show va_cpy (gD (sha1 (keyMsg x.2.1))) (fun _ => 0) 0 0 20 j = _
    exact cpy_lo (by omega))) rfl
  have e20 : bar dA 20 (gD (sha1 (keyMsg x.2.1))) = bal dA (sha1 (keyMsg x.2.1)) := by unfold bal; rw [hsl]
  rw [e20] at h
  have h : Wd D B s (O ++ (F ++ [(o1, .inr (13, [.ref ba, .long (lN (kMade x.2.1)), .ref an, .ref ae, .ref u9, .ref b])), (u9, bal dA (sha1 (keyMsg x.2.1)))])) H locs := h.permL (perm_add (fun g f p0 p1 p2 => by (try simp only [p0, p1, p2]) <;> omega))
  exact ret_a C hr (Or.inl ⟨_, rfl⟩) hlocks h (o1, [(o1, .inr (13, [.ref ba, .long (lN (kMade x.2.1)), .ref an, .ref ae, .ref u9, .ref b])), (u9, bal dA (sha1 (keyMsg x.2.1)))]) (⟨⟨hkb, hkl, hko, fun z hz => (Option.some.inj hz) ▸ ⟨hB, hL⟩⟩, ba, an, ae, u9, some b, List.mem_append_right _ (List.mem_of_getElem? (i := 0) rfl), List.mem_append_left _ hba, List.mem_append_left _ han, List.mem_append_left _ hae, List.mem_append_right _ (List.mem_of_getElem? (i := 1) rfl), b, rfl, List.mem_append_left _ hb9⟩) (Or.inr ⟨_, rfl⟩) rfl rfl (by omega) (by omega) dX16_with_70
