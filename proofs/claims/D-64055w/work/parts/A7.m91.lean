set_option maxRecDepth 100000

theorem sNum_ok {b : List Nat} (h : byt b) : byt (sNum b) ∧ (sNum b).length ≤ b.length := by
  have h4 : (sU4 b).2.1 ≤ b.length := (oneS_le (oneS_le (oneS_le (oneS_le (Nat.zero_le _)).1).1).1).1
  have h5 := notesR_le h true (nt0, (sU4 b).2) h4
  have h6 := notesR_le h false (sX5 b).1 h5
  have h7 := someS_ok h 2 0 0 (sX6 b).1.2 h6 (by decide)
  have h8 := numS_ok h (sU7 b).2 h7.2.1
  exact ⟨h8.2.1, h8.2.2.1⟩
theorem sLeft_lt {b : List Nat} (h : byt b) : sLeft b < 65536 := by
  have h4 : (sU4 b).2.1 ≤ b.length := (oneS_le (oneS_le (oneS_le (oneS_le (Nat.zero_le _)).1).1).1).1
  have h5 := notesR_le h true (nt0, (sU4 b).2) h4
  have h6 := notesR_le h false (sX5 b).1 h5
  exact (someS_ok h 2 0 0 (sX6 b).1.2 h6 (by decide)).1
theorem num_two (a b : Nat) : num [a, b] = 256 * a + b := by
  have e : num [a, b] = num ([a] ++ [b]) := rfl
  rw [e, num_snoc]
  have e2 : num [a] = num ([] ++ [a]) := rfl
  rw [e2, num_snoc]
  show (0 * 256 + a) * 256 + b = _
  omega
theorem num_big {k : List Nat} (h0 : gD k 0 ≠ 0) (hl : 2 ≤ k.length) : 1 < num k := by
  have h1 := num_top h0
  have h2 : 256 ^ 1 ≤ 256 ^ (k.length - 1) := Nat.pow_le_pow_right (by decide) (by omega)
  omega
theorem padL_byt {fr dg : List Nat} (hf : byt fr) (hd : byt dg) (n : Nat) : byt (padL fr dg n) := by
  intro x hx
  unfold padL sl at hx
  obtain ⟨j, _, e⟩ := List.mem_map.mp hx
  rw [← e]
  unfold padF
  split
  · decide
  · split
    · decide
    · split
      · decide
      · split
        · decide
        · split
          · exact byt_gD hf _
          · exact byt_gD hd _
theorem frontL_byt (w : Nat) : byt (frontL w) := by
  unfold frontL
  split
  · intro x hx; revert x hx; decide
  · intro x hx; revert x hx; decide

set_option maxHeartbeats 400000 in
set_option maxRecDepth 100000 in
theorem c1_isTrueH4 (l : Launch) (D : va_G) (dA : Nat → ClassId) (B : Nat) (Z : State → Prop) (hZ : Stab B Z) (F : va_W) (ho st fi bl wo : Nat) (gw : Nat → Int32) (gb : Nat → Nat) (msg : List Nat) (me bs dc ou rg h1 h2 dg tk pl pk tx sd : Nat) (sz : Nat) (po m9 b9 rs pr f1 f2 : Nat) (gd : Nat → Nat) (ps : PS) (x : SL) (t : Int32) (n : NBr)  (hbk : Blk gb msg) (hzf : ZF B f1 f2 Z) (hme : (me, .inr (0, [.ref bs, .int (nI sz), .ref dc, .ref ou, .ref rg, .ref h1, .ref h2, .ref dg, .ref po, .ref tk, .ref pl, .ref pk, .ref tx, .ref sd])) ∈ F) (hS : SealIn dA F x t) (hN : NumIn dA F n) (hml : msg.length < 100000) (hgd0 : ∀ j, gd j < 256) (hsh : sHash x.2 = 2) :
    Ct (S := HS × (Nat → Nat) × PS × va_W) l D dA B Z yX1_isTrue cX1_isTrue 5 (some .boolean) 7 2 256 [.ref me, .ref x.1, .ref ho, .ref n.1] (h4C dA ho st fi bl wo (hs4 msg gw gw gb) ++ ([(dg, bar dA 32 gd)] ++ (pwC dA po m9 b9 rs pr ps ++ F))) (fun u => (∀ j, u.2.1 j < 256) ∧ ∀ j, j < 64 → u.1.2.2.2.2 j < 256) (fun _ => some (.int (bZ (trueS msg x.2 n.2.1)))) (fun u => h4C dA ho st fi bl wo u.1 ++ ([(dg, bar dA 32 u.2.1)] ++ (pwC dA po m9 b9 rs pr u.2.2.1 ++ (F ++ u.2.2.2)))) := by
  refine Ct.mk2 (by decide) (Nat.le_of_ble_eq_true rfl) hZ ?_
  intro p e R s m args below meth c ls Q C hr hlocks hin hQ hl h
  have C0 := C
  obtain ⟨hx, hb, hml, hown, hts, -⟩ := C0
  have hl : lv_has ls 5 [(0, .ref me), (1, .ref x.1), (2, .ref ho), (3, .ref n.1)] := hl
  have h : Wd D B s ([(ho, .inr (2, [.ref st, .ref fi, .ref bl, .long (lN msg.length), .ref wo])), (st, war dA 5 (t5 (hs1 msg (msg.length / 64)))), (wo, war dA 80 gw), (bl, bar dA 64 gb), (dg, bar dA 32 gd), (po, .inr (4, [.ref m9, .ref b9, .ref rs, .ref pr, .int ps.2.2.2.2.1, .int ps.2.2.2.2.2])), (m9, iar dA 66 ps.1), (b9, iar dA 66 ps.2.1), (rs, iar dA 66 ps.2.2.1), (pr, iar dA 134 ps.2.2.2.1)] ++ F) s.heap [] := h
  obtain ⟨⟨hkbn, hkln, hkon, hksn⟩, ban, ann, aen, apn, san, hnmn, hban, hann, haen, hapn, hsan⟩ := hN
  try dsimp only at hkbn hkln hkon hksn hnmn hban hann haen hapn hsan
  have hSB : SealB dA F x := ⟨t, hS⟩
  obtain ⟨⟨hbbx, hblx, hbox, hb0x⟩, bax, snx, r1x, r2x, r3x, w1x, w2x, w3x, hcex, hbax, hsnx, hr1x, hr2x, hr3x⟩ := hS
  have hkk := keyOk_nums hkon hkbn (by omega)
  obtain ⟨hkN1, hkE1, hkN2, hkN3, hkN4, hkN5, hkE2, hkE3, hkE4⟩ := hkk
  have hse := sEnd_le hbbx
  have hsp := sEnd_pos hb0x
  have hnn : byt (sNum x.2) ∧ (sNum x.2).length ≤ x.2.length := sNum_ok hbbx
  have hsh9 : sHash x.2 < 256 := oneS_lt hbbx _
  have hsl9 : sLeft x.2 < 65536 := sLeft_lt hbbx
  obtain ⟨dl, hdl⟩ : ∃ z, z = sha1 (sealMsg msg x.2) := ⟨_, rfl⟩
  have hdlen : dl.length = 20 := by rw [hdl]; exact sha1_len _
  have hdb : byt dl := by rw [hdl]; exact sha1_byt _
  have hash9 : hash (sHash x.2) (sealMsg msg x.2) = dl := by rw [hdl]; unfold hash; rw [if_pos hsh]
  refine lv_aload_n hx hb dX1_isTrue_0 rfl (lv_at hl 2 rfl) ?_
  refine lv_aload_n hx hb dX1_isTrue_1 rfl (lv_at hl 1 rfl) ?_
  refine o_get C h (RC := RX17) (T := TX17) (N := 19) (List.mem_append_right _ hcex) rfl in_X17 0 (by decide) q1306 rfl (v := .ref bax) rfl dX1_isTrue_2 ?_
  refine lv_iconst (v := nI 0) hx hb dX1_isTrue_5 (by decide) ?_
  refine lv_aload_n hx hb dX1_isTrue_6 rfl (lv_at hl 1 rfl) ?_
  refine o_getN C h (RC := RX17) (T := TX17) (N := 19) (List.mem_append_right _ hcex) rfl in_X17 3 (by decide) q1312 rfl (v := .int (nI (sEnd x.2))) rfl dX1_isTrue_7 ?_
  refine call_U (As := [.ref bax, .int (nI 0), .int (nI (sEnd x.2))]) (rest := []) (n := 3) C h (c4_putA l D dA B Z hZ ([(dg, bar dA 32 gd), (po, .inr (4, [.ref m9, .ref b9, .ref rs, .ref pr, .int ps.2.2.2.2.1, .int ps.2.2.2.2.2])), (m9, iar dA 66 ps.1), (b9, iar dA 66 ps.2.1), (rs, iar dA 66 ps.2.2.1), (pr, iar dA 134 ps.2.2.2.1)] ++ F) ho st fi bl wo gw gb (msg) bax (x.2.length) (0) (sEnd x.2) (gD x.2) hbk (List.mem_append_right _ hbax) (by omega) (by omega) (by omega) (by (try simp only [List.length_append, be_len, sl_len, List.length_cons, List.length_nil]) <;> omega) (fun j _ => byt_gD hbbx j)) (lw_U q1231 q1233 q1234 q1232 q134 q1236) rfl (by decide +kernel) (o_recv C h (RC := RX4) (T := TX4) (N := 5) (List.mem_of_getElem? (i := 0) rfl) rfl) (by decide) (by decide) rfl hl rfl (Nat.le_of_ble_eq_true rfl) dX1_isTrue_10 (by omega) (fun u3 H locs hbk_1 h => ?_)
  obtain ⟨gw_1, y_1, gb_1⟩ := u3
  dsimp only at hbk_1
  have h : Wd D B s ([(ho, .inr (2, [.ref st, .ref fi, .ref bl, .long (lN ((msg ++ sl (gD x.2) 0 (sEnd x.2 - 0)).length)), .ref wo])), (st, war dA 5 (t5 (hs1 (msg ++ sl (gD x.2) 0 (sEnd x.2 - 0)) ((msg ++ sl (gD x.2) 0 (sEnd x.2 - 0)).length / 64)))), (wo, war dA 80 gw_1), (bl, bar dA 64 gb_1), (dg, bar dA 32 gd), (po, .inr (4, [.ref m9, .ref b9, .ref rs, .ref pr, .int ps.2.2.2.2.1, .int ps.2.2.2.2.2])), (m9, iar dA 66 ps.1), (b9, iar dA 66 ps.2.1), (rs, iar dA 66 ps.2.2.1), (pr, iar dA 134 ps.2.2.2.1)] ++ F) H locs := h
  refine lv_aload_n hx hb dX1_isTrue_13 rfl (lv_at hl 2 rfl) ?_
  refine lv_iconst (v := nI 4) hx hb dX1_isTrue_14 (by decide) ?_
  refine call_U (As := [.int (nI 4)]) (rest := []) (n := 1) C h (c4_put l D dA B Z hZ ([(dg, bar dA 32 gd), (po, .inr (4, [.ref m9, .ref b9, .ref rs, .ref pr, .int ps.2.2.2.2.1, .int ps.2.2.2.2.2])), (m9, iar dA 66 ps.1), (b9, iar dA 66 ps.2.1), (rs, iar dA 66 ps.2.2.1), (pr, iar dA 134 ps.2.2.2.1)] ++ F) ho st fi bl wo gw_1 gb_1 (msg ++ sl (gD x.2) 0 (sEnd x.2 - 0)) (nI 4) (4) hbk_1 (by (try simp only [List.length_append, be_len, sl_len, List.length_cons, List.length_nil]) <;> omega) (by decide) (by decide)) (lw_U q1190 q1192 q1193 q1191 q134 q1195) rfl (by decide +kernel) (o_recv C h (RC := RX4) (T := TX4) (N := 5) (List.mem_of_getElem? (i := 0) rfl) rfl) (by decide) (by decide) rfl hl rfl (Nat.le_of_ble_eq_true rfl) dX1_isTrue_15 (by omega) (fun u3 H locs hbk_2 h => ?_)
  obtain ⟨gw_2, y_2, gb_2⟩ := u3
  dsimp only at hbk_2
  have h : Wd D B s ([(ho, .inr (2, [.ref st, .ref fi, .ref bl, .long (lN ((msg ++ sl (gD x.2) 0 (sEnd x.2 - 0) ++ [4]).length)), .ref wo])), (st, war dA 5 (t5 (hs1 (msg ++ sl (gD x.2) 0 (sEnd x.2 - 0) ++ [4]) ((msg ++ sl (gD x.2) 0 (sEnd x.2 - 0) ++ [4]).length / 64)))), (wo, war dA 80 gw_2), (bl, bar dA 64 gb_2), (dg, bar dA 32 gd), (po, .inr (4, [.ref m9, .ref b9, .ref rs, .ref pr, .int ps.2.2.2.2.1, .int ps.2.2.2.2.2])), (m9, iar dA 66 ps.1), (b9, iar dA 66 ps.2.1), (rs, iar dA 66 ps.2.2.1), (pr, iar dA 134 ps.2.2.2.1)] ++ F) H locs := h
  refine lv_aload_n hx hb dX1_isTrue_18 rfl (lv_at hl 2 rfl) ?_
  refine lv_sipush (v := nI 255) hx hb dX1_isTrue_19 (by decide) ?_
  refine call_U (As := [.int (nI 255)]) (rest := []) (n := 1) C h (c4_put l D dA B Z hZ ([(dg, bar dA 32 gd), (po, .inr (4, [.ref m9, .ref b9, .ref rs, .ref pr, .int ps.2.2.2.2.1, .int ps.2.2.2.2.2])), (m9, iar dA 66 ps.1), (b9, iar dA 66 ps.2.1), (rs, iar dA 66 ps.2.2.1), (pr, iar dA 134 ps.2.2.2.1)] ++ F) ho st fi bl wo gw_2 gb_2 (msg ++ sl (gD x.2) 0 (sEnd x.2 - 0) ++ [4]) (nI 255) (255) hbk_2 (by (try simp only [List.length_append, be_len, sl_len, List.length_cons, List.length_nil]) <;> omega) (by decide) (by decide)) (lw_U q1190 q1192 q1193 q1191 q134 q1195) rfl (by decide +kernel) (o_recv C h (RC := RX4) (T := TX4) (N := 5) (List.mem_of_getElem? (i := 0) rfl) rfl) (by decide) (by decide) rfl hl rfl (Nat.le_of_ble_eq_true rfl) dX1_isTrue_22 (by omega) (fun u3 H locs hbk_3 h => ?_)
  obtain ⟨gw_3, y_3, gb_3⟩ := u3
  dsimp only at hbk_3
  have h : Wd D B s ([(ho, .inr (2, [.ref st, .ref fi, .ref bl, .long (lN ((msg ++ sl (gD x.2) 0 (sEnd x.2 - 0) ++ [4] ++ [255]).length)), .ref wo])), (st, war dA 5 (t5 (hs1 (msg ++ sl (gD x.2) 0 (sEnd x.2 - 0) ++ [4] ++ [255]) ((msg ++ sl (gD x.2) 0 (sEnd x.2 - 0) ++ [4] ++ [255]).length / 64)))), (wo, war dA 80 gw_3), (bl, bar dA 64 gb_3), (dg, bar dA 32 gd), (po, .inr (4, [.ref m9, .ref b9, .ref rs, .ref pr, .int ps.2.2.2.2.1, .int ps.2.2.2.2.2])), (m9, iar dA 66 ps.1), (b9, iar dA 66 ps.2.1), (rs, iar dA 66 ps.2.2.1), (pr, iar dA 134 ps.2.2.2.1)] ++ F) H locs := h
  refine lv_aload_n hx hb dX1_isTrue_25 rfl (lv_at hl 2 rfl) ?_
  refine lv_aload_n hx hb dX1_isTrue_26 rfl (lv_at hl 1 rfl) ?_
  refine o_getN C h (RC := RX17) (T := TX17) (N := 19) (List.mem_append_right _ hcex) rfl in_X17 3 (by decide) q1312 rfl (v := .int (nI (sEnd x.2))) rfl dX1_isTrue_27 ?_
  refine lv_i2l (v := lN (sEnd x.2)) hx hb dX1_isTrue_30 (nI_l (by omega)) ?_
  refine lv_iconst (v := nI 4) hx hb dX1_isTrue_31 (by decide) ?_
  refine call_U (As := [.long (lN (sEnd x.2)), .int (nI 4)]) (rest := []) (n := 2) C h (c4_number l D dA B Z hZ ([(dg, bar dA 32 gd), (po, .inr (4, [.ref m9, .ref b9, .ref rs, .ref pr, .int ps.2.2.2.2.1, .int ps.2.2.2.2.2])), (m9, iar dA 66 ps.1), (b9, iar dA 66 ps.2.1), (rs, iar dA 66 ps.2.2.1), (pr, iar dA 134 ps.2.2.2.1)] ++ F) ho st fi bl wo gw_3 gb_3 (msg ++ sl (gD x.2) 0 (sEnd x.2 - 0) ++ [4] ++ [255]) (sEnd x.2) 4 hbk_3 (by omega) (by decide) (by (try simp only [List.length_append, be_len, sl_len, List.length_cons, List.length_nil]) <;> omega)) (lw_U q1224 q1226 q1227 q1225 q134 q1229) rfl (by decide +kernel) (o_recv C h (RC := RX4) (T := TX4) (N := 5) (List.mem_of_getElem? (i := 0) rfl) rfl) (by decide) (by decide) rfl hl rfl (Nat.le_of_ble_eq_true rfl) dX1_isTrue_32 (by omega) (fun u3 H locs hbk_4 h => ?_)
  obtain ⟨gw_4, y_4, gb_4⟩ := u3
  dsimp only at hbk_4
  have h : Wd D B s ([(ho, .inr (2, [.ref st, .ref fi, .ref bl, .long (lN ((msg ++ sl (gD x.2) 0 (sEnd x.2 - 0) ++ [4] ++ [255] ++ be 4 (sEnd x.2)).length)), .ref wo])), (st, war dA 5 (t5 (hs1 (msg ++ sl (gD x.2) 0 (sEnd x.2 - 0) ++ [4] ++ [255] ++ be 4 (sEnd x.2)) ((msg ++ sl (gD x.2) 0 (sEnd x.2 - 0) ++ [4] ++ [255] ++ be 4 (sEnd x.2)).length / 64)))), (wo, war dA 80 gw_4), (bl, bar dA 64 gb_4), (dg, bar dA 32 gd), (po, .inr (4, [.ref m9, .ref b9, .ref rs, .ref pr, .int ps.2.2.2.2.1, .int ps.2.2.2.2.2])), (m9, iar dA 66 ps.1), (b9, iar dA 66 ps.2.1), (rs, iar dA 66 ps.2.2.1), (pr, iar dA 134 ps.2.2.2.1)] ++ F) H locs := h
  refine lv_aload_n hx hb dX1_isTrue_35 rfl (lv_at hl 2 rfl) ?_
  refine lv_aload_n hx hb dX1_isTrue_36 rfl (lv_at hl 0 rfl) ?_
  refine o_get C h (RC := RX1) (T := TX1) (N := 14) (List.mem_append_right _ hme) rfl in_X1 7 (by decide) q315 rfl (v := .ref dg) rfl dX1_isTrue_37 ?_
  have e9 : msg ++ sl (gD x.2) 0 (sEnd x.2 - 0) ++ [4] ++ [255] ++ be 4 (sEnd x.2) = sealMsg msg x.2 := by unfold sealMsg; rw [Nat.sub_zero]; simp
  rw [e9] at h hbk_4
  have h : Wd D B s ([(ho, .inr (2, [.ref st, .ref fi, .ref bl, .long (lN ((sealMsg msg x.2).length)), .ref wo])), (st, war dA 5 (t5 (hs1 (sealMsg msg x.2) ((sealMsg msg x.2).length / 64)))), (wo, war dA 80 gw_4), (bl, bar dA 64 gb_4), (dg, bar dA 32 gd), (po, .inr (4, [.ref m9, .ref b9, .ref rs, .ref pr, .int ps.2.2.2.2.1, .int ps.2.2.2.2.2])), (m9, iar dA 66 ps.1), (b9, iar dA 66 ps.2.1), (rs, iar dA 66 ps.2.2.1), (pr, iar dA 134 ps.2.2.2.1)] ++ F) H locs := h
  have hml9 : (sealMsg msg x.2).length < 200000 := by unfold sealMsg; simp only [List.length_append, sl_len, be_len, List.length_cons, List.length_nil]; omega
  refine call_U (As := [.ref dg]) (rest := []) (n := 1) C h (c4_end l D dA B Z hZ ([(po, .inr (4, [.ref m9, .ref b9, .ref rs, .ref pr, .int ps.2.2.2.2.1, .int ps.2.2.2.2.2])), (m9, iar dA 66 ps.1), (b9, iar dA 66 ps.2.1), (rs, iar dA 66 ps.2.2.1), (pr, iar dA 134 ps.2.2.2.1)] ++ F) ho st fi bl wo gw_4 gb_4 (sealMsg msg x.2) dg 32 gd hbk_4 (by omega) (by decide) (by decide)) (lw_U q1237 q1239 q1240 q1238 q134 q1242) rfl (by decide +kernel) (o_recv C h (RC := RX4) (T := TX4) (N := 5) (List.mem_of_getElem? (i := 0) rfl) rfl) (by decide) (by decide) rfl hl rfl (Nat.le_of_ble_eq_true rfl) dX1_isTrue_40 (by omega) (fun u3 H locs hbk_5 h => ?_)
  obtain ⟨gw_5, y_5, gb_5⟩ := u3
  dsimp only at hbk_5
  have h : Wd D B s ([(ho, .inr (2, [.ref st, .ref fi, .ref bl, .long (lN ((padded (sealMsg msg x.2)).length)), .ref wo])), (st, war dA 5 (t5 (hs1 (padded (sealMsg msg x.2)) ((padded (sealMsg msg x.2)).length / 64)))), (wo, war dA 80 gw_5), (bl, bar dA 64 gb_5), (dg, bar dA 32 (mixF 20 (gD (sha1 (sealMsg msg x.2))) gd)), (po, .inr (4, [.ref m9, .ref b9, .ref rs, .ref pr, .int ps.2.2.2.2.1, .int ps.2.2.2.2.2])), (m9, iar dA 66 ps.1), (b9, iar dA 66 ps.2.1), (rs, iar dA 66 ps.2.2.1), (pr, iar dA 134 ps.2.2.2.1)] ++ F) H locs := h
  rw [← hdl] at h
  have h : Wd D B s ([(ho, .inr (2, [.ref st, .ref fi, .ref bl, .long (lN ((padded (sealMsg msg x.2)).length)), .ref wo])), (st, war dA 5 (t5 (hs1 (padded (sealMsg msg x.2)) ((padded (sealMsg msg x.2)).length / 64)))), (wo, war dA 80 gw_5), (bl, bar dA 64 gb_5), (dg, bar dA 32 (mixF 20 (gD dl) gd)), (po, .inr (4, [.ref m9, .ref b9, .ref rs, .ref pr, .int ps.2.2.2.2.1, .int ps.2.2.2.2.2])), (m9, iar dA 66 ps.1), (b9, iar dA 66 ps.2.1), (rs, iar dA 66 ps.2.2.1), (pr, iar dA 134 ps.2.2.2.1)] ++ F) H locs := h
  refine lv_aload_n hx hb dX1_isTrue_43 rfl (lv_at hl 1 rfl) ?_
  refine o_getN C h (RC := RX17) (T := TX17) (N := 19) (List.mem_append_right _ hcex) rfl in_X17 4 (by decide) q1314 rfl (v := .int (nI (sLeft x.2))) rfl dX1_isTrue_44 ?_
  refine lv_aload_n hx hb dX1_isTrue_47 rfl (lv_at hl 0 rfl) ?_
  refine o_get C h (RC := RX1) (T := TX1) (N := 14) (List.mem_append_right _ hme) rfl in_X1 7 (by decide) q315 rfl (v := .ref dg) rfl dX1_isTrue_48 ?_
  refine lv_iconst (v := nI 0) hx hb dX1_isTrue_51 (by decide) ?_
  refine lv_iconst (v := nI 2) hx hb dX1_isTrue_52 (by decide) ?_
  have hgd9 : ∀ j, (mixF 20 (gD dl) gd) j < 256 := fun j => by unfold mixF; split; exact byt_gD hdb j; exact hgd0 j
  have hm0 : (mixF 20 (gD dl) gd) 0 = gD dl 0 := mix_lo (by decide)
  have hm1 : (mixF 20 (gD dl) gd) 1 = gD dl 1 := mix_lo (by decide)
  have hd0 := byt_gD hdb 0
  have hd1 := byt_gD hdb 1
  have hnum : num (sl (mixF 20 (gD dl) gd) 0 2) = 256 * gD dl 0 + gD dl 1 := by
    rw [show sl (mixF 20 (gD dl) gd) 0 2 = [(mixF 20 (gD dl) gd) 0, (mixF 20 (gD dl) gd) 1] from rfl, hm0, hm1]; exact num_two _ _
  refine call_S (As := [.ref dg, .int (nI 0), .int (nI 2)]) (rest := [.int (nI (sLeft x.2))]) (n := 3) C h (c1_number l D dA B Z hZ _ dg 32 (mixF 20 (gD dl) gd) 0 2 (List.mem_of_getElem? (i := 4) rfl) (by decide) (by decide) (fun j _ => hgd9 j) (by decide)) (lw_S q1542 q1202 q129 q1203) (by decide +kernel) (by decide) (by decide) rfl hl rfl (Nat.le_of_ble_eq_true rfl) dX1_isTrue_53 (by omega) (fun _ H locs _ h => ?_)
  rw [hnum]
  refine lv_l2i (v := nI (256 * gD dl 0 + gD dl 1)) hx hb dX1_isTrue_56 (lN_i _) ?_
  refine n_icmp_ne (tgt := 74) hx hb (by omega) (by omega) dX1_isTrue_57 (by decide) (fun c57 => ?_) (fun c57 => ?_)
  · refine lv_iconst (v := nI 0) hx hb dX1_isTrue_74 (by decide) ?_
    subst hQ
    have h : Wd D B s (h4C dA ho st fi bl wo (hs4 (padded (sealMsg msg x.2)) gw_5 gw_5 gb_5) ++ ([(dg, bar dA 32 (mixF 20 (gD dl) gd))] ++ (pwC dA po m9 b9 rs pr ps ++ (F ++ ([]))))) H locs := by rw [List.append_nil]; exact h
    refine n_top (y := bZ false) rfl ?_
    exact ret_z C hr hlocks h (hs4 (padded (sealMsg msg x.2)) gw_5 gw_5 gb_5, mixF 20 (gD dl) gd, ps, []) (⟨hgd9, hbk_5.2⟩) (by unfold trueS; rw [hash9, hkon]; first | (rw [decide_eq_false (show ¬ sLeft x.2 = 256 * gD dl 0 + gD dl 1 by omega)]; simp) | (rw [c71]; simp)) rfl (by omega) (by omega) dX1_isTrue_75
  · refine lv_aload_n hx hb dX1_isTrue_60 rfl (lv_at hl 1 rfl) ?_
    refine o_getN C h (RC := RX17) (T := TX17) (N := 19) (List.mem_append_right _ hcex) rfl in_X17 5 (by decide) q1316 rfl (v := .ref snx) rfl dX1_isTrue_61 ?_
    refine lv_aload_n hx hb dX1_isTrue_64 rfl (lv_at hl 3 rfl) ?_
    refine o_get C h (RC := RX16) (T := TX16) (N := 6) (List.mem_append_right _ hnmn) rfl in_X16 2 (by decide) q1152 rfl (v := .ref ann) rfl dX1_isTrue_65 ?_
    refine call_S (As := [.ref snx, .ref ann]) (rest := []) (n := 2) C h (c1_isBelow l D dA B Z hZ _ snx ann (sNum x.2) (kN n.2.1) (List.mem_append_right _ hsnx) (List.mem_append_right _ hann) (by omega) (by omega) hnn.1 hkN1) (lw_S q1543 q1544 q129 q1545) (by decide +kernel) (by decide) (by decide) rfl hl rfl (Nat.le_of_ble_eq_true rfl) dX1_isTrue_68 (by omega) (fun _ H locs _ h => ?_)
    refine z_if_ne (tgt := 76) hx hb dX1_isTrue_71 (by decide) (fun c71 => ?_) (fun c71 => ?_)
    · refine lv_aload_n hx hb dX1_isTrue_76 rfl (lv_at hl 0 rfl) ?_
      refine lv_aload_n hx hb dX1_isTrue_77 rfl (lv_at hl 1 rfl) ?_
      refine o_get C h (RC := RX17) (T := TX17) (N := 19) (List.mem_append_right _ hcex) rfl in_X17 2 (by decide) q1310 rfl (v := .int (nI (sHash x.2))) rfl dX1_isTrue_78 ?_
      refine lv_aload_n hx hb dX1_isTrue_81 rfl (lv_at hl 2 rfl) ?_
      refine call_U (As := []) (rest := [.int (nI (sHash x.2)), .ref me]) (n := 0) C h (c4_size l D dA B Z hZ ([(dg, bar dA 32 (mixF 20 (gD dl) gd)), (po, .inr (4, [.ref m9, .ref b9, .ref rs, .ref pr, .int ps.2.2.2.2.1, .int ps.2.2.2.2.2])), (m9, iar dA 66 ps.1), (b9, iar dA 66 ps.2.1), (rs, iar dA 66 ps.2.2.1), (pr, iar dA 134 ps.2.2.2.1)] ++ F) ho st fi bl wo gw_5 gb_5 (lN ((padded (sealMsg msg x.2)).length)) (t5 (hs1 (padded (sealMsg msg x.2)) ((padded (sealMsg msg x.2)).length / 64)))) (lw_U q1546 q1248 q1249 q1247 q134 q1251) rfl (by decide +kernel) (o_recv C h (RC := RX4) (T := TX4) (N := 5) (List.mem_of_getElem? (i := 0) rfl) rfl) (by decide) (by decide) rfl hl rfl (Nat.le_of_ble_eq_true rfl) dX1_isTrue_82 (by omega) (fun _ H locs _ h => ?_)
      have h : Wd D B s ([(ho, .inr (2, [.ref st, .ref fi, .ref bl, .long (lN ((padded (sealMsg msg x.2)).length)), .ref wo])), (st, war dA 5 (t5 (hs1 (padded (sealMsg msg x.2)) ((padded (sealMsg msg x.2)).length / 64)))), (wo, war dA 80 gw_5), (bl, bar dA 64 gb_5), (dg, bar dA 32 (mixF 20 (gD dl) gd)), (po, .inr (4, [.ref m9, .ref b9, .ref rs, .ref pr, .int ps.2.2.2.2.1, .int ps.2.2.2.2.2])), (m9, iar dA 66 ps.1), (b9, iar dA 66 ps.2.1), (rs, iar dA 66 ps.2.2.1), (pr, iar dA 134 ps.2.2.2.1)] ++ F) H locs := h
      refine lv_aload_n hx hb dX1_isTrue_85 rfl (lv_at hl 3 rfl) ?_
      refine o_get C h (RC := RX16) (T := TX16) (N := 6) (List.mem_append_right _ hnmn) rfl in_X16 2 (by decide) q1152 rfl (v := .ref ann) rfl dX1_isTrue_86 ?_
      refine n_balen C h (List.mem_append_right _ hann) dX1_isTrue_89 ?_
      have hpd : ∀ j, j < dl.length → (mixF 20 (gD dl) gd) j = gD dl j := fun j hj => mix_lo (by omega)
      have hcp := c1_padded l D dA B Z hZ ([(ho, .inr (2, [.ref st, .ref fi, .ref bl, .long (lN ((padded (sealMsg msg x.2)).length)), .ref wo])), (st, war dA 5 (t5 (hs1 (padded (sealMsg msg x.2)) ((padded (sealMsg msg x.2)).length / 64)))), (wo, war dA 80 gw_5), (bl, bar dA 64 gb_5), (dg, bar dA 32 (mixF 20 (gD dl) gd)), (po, .inr (4, [.ref m9, .ref b9, .ref rs, .ref pr, .int ps.2.2.2.2.1, .int ps.2.2.2.2.2])), (m9, iar dA 66 ps.1), (b9, iar dA 66 ps.2.1), (rs, iar dA 66 ps.2.2.1), (pr, iar dA 134 ps.2.2.2.1)] ++ F) me bs dc ou rg h1 h2 dg po tk pl pk tx sd sz f1 f2 (kN n.2.1).length (sHash x.2) (mixF 20 (gD dl) gd) dl hzf (List.mem_append_right _ hme) (List.mem_of_getElem? (i := 4) rfl) hpd (by omega) (by omega) (by omega) (by omega)
      rw [hdlen] at hcp
      refine call_VR (As := [.int (nI (sHash x.2)), .int (nI 20), .int (nI ((kN n.2.1).length))]) (rest := []) (n := 3) C h hcp (lw_V q1547 q1549 qs22 q129 q1550) (by decide +kernel) (o_recv C h (RC := RX1) (T := TX1) (N := 14) (List.mem_append_right _ hme) rfl) (by decide) (by decide) rfl hl rfl (Nat.le_of_ble_eq_true rfl) dX1_isTrue_90 (by omega) (fun q8 H locs _ h => ?_)
      have h : Wd D B s ([(ho, .inr (2, [.ref st, .ref fi, .ref bl, .long (lN ((padded (sealMsg msg x.2)).length)), .ref wo])), (st, war dA 5 (t5 (hs1 (padded (sealMsg msg x.2)) ((padded (sealMsg msg x.2)).length / 64)))), (wo, war dA 80 gw_5), (bl, bar dA 64 gb_5), (dg, bar dA 32 (mixF 20 (gD dl) gd)), (po, .inr (4, [.ref m9, .ref b9, .ref rs, .ref pr, .int ps.2.2.2.2.1, .int ps.2.2.2.2.2])), (m9, iar dA 66 ps.1), (b9, iar dA 66 ps.2.1), (rs, iar dA 66 ps.2.2.1), (pr, iar dA 134 ps.2.2.2.1)] ++ (F ++ [(q8, bal dA (padL (frontL (sHash x.2)) dl (kN n.2.1).length))])) H locs := by
        rw [← List.append_assoc]; exact h
      refine lv_astore (lv' := [(4, .ref q8), (0, .ref me), (1, .ref x.1), (2, .ref ho), (3, .ref n.1)]) hx hb dX1_isTrue_93 hl (by decide) rfl (fun ls hl => ?_)
      refine lv_aload hx hb dX1_isTrue_95 (lv_at hl 0 rfl) ?_
      refine lv_ifnull hx hb dX1_isTrue_97 ?_
      refine lv_aload_n hx hb dX1_isTrue_100 rfl (lv_at hl 1 rfl) ?_
      refine o_get C h (RC := RX1) (T := TX1) (N := 14) (List.mem_append_right _ (List.mem_append_left _ hme)) rfl in_X1 8 (by decide) q316 rfl (v := .ref po) rfl dX1_isTrue_101 ?_
      refine lv_aload_n hx hb dX1_isTrue_104 rfl (lv_at hl 2 rfl) ?_
      refine o_getN C h (RC := RX17) (T := TX17) (N := 19) (List.mem_append_right _ (List.mem_append_left _ hcex)) rfl in_X17 5 (by decide) q1316 rfl (v := .ref snx) rfl dX1_isTrue_105 ?_
      refine lv_aload_n hx hb dX1_isTrue_108 rfl (lv_at hl 4 rfl) ?_
      refine o_get C h (RC := RX16) (T := TX16) (N := 6) (List.mem_append_right _ (List.mem_append_left _ hnmn)) rfl in_X16 3 (by decide) q1154 rfl (v := .ref aen) rfl dX1_isTrue_109 ?_
      refine lv_aload_n hx hb dX1_isTrue_112 rfl (lv_at hl 4 rfl) ?_
      refine o_get C h (RC := RX16) (T := TX16) (N := 6) (List.mem_append_right _ (List.mem_append_left _ hnmn)) rfl in_X16 2 (by decide) q1152 rfl (v := .ref ann) rfl dX1_isTrue_113 ?_
      obtain ⟨hbn1, hbn2⟩ := belowL_num hnn.1 hkN1 hkN4 c71
      have h : Wd D B s ([(po, .inr (4, [.ref m9, .ref b9, .ref rs, .ref pr, .int ps.2.2.2.2.1, .int ps.2.2.2.2.2])), (m9, iar dA 66 ps.1), (b9, iar dA 66 ps.2.1), (rs, iar dA 66 ps.2.2.1), (pr, iar dA 134 ps.2.2.2.1), (ho, .inr (2, [.ref st, .ref fi, .ref bl, .long (lN ((padded (sealMsg msg x.2)).length)), .ref wo])), (st, war dA 5 (t5 (hs1 (padded (sealMsg msg x.2)) ((padded (sealMsg msg x.2)).length / 64)))), (wo, war dA 80 gw_5), (bl, bar dA 64 gb_5), (dg, bar dA 32 (mixF 20 (gD dl) gd))] ++ (F ++ [(q8, bal dA (padL (frontL (sHash x.2)) dl (kN n.2.1).length))])) H locs := h.perm [5, 6, 7, 8, 9, 0, 1, 2, 3, 4] rfl rfl
      refine call_VR (As := [.ref snx, .ref aen, .ref ann]) (rest := []) (n := 3) C h (c6_raise l D dA B Z hZ ([(ho, .inr (2, [.ref st, .ref fi, .ref bl, .long (lN ((padded (sealMsg msg x.2)).length)), .ref wo])), (st, war dA 5 (t5 (hs1 (padded (sealMsg msg x.2)) ((padded (sealMsg msg x.2)).length / 64)))), (wo, war dA 80 gw_5), (bl, bar dA 64 gb_5), (dg, bar dA 32 (mixF 20 (gD dl) gd))] ++ (F ++ [(q8, bal dA (padL (frontL (sHash x.2)) dl (kN n.2.1).length))])) po m9 b9 rs pr snx aen ann ps.1 ps.2.1 ps.2.2.1 ps.2.2.2.1 ps.2.2.2.2.1 ps.2.2.2.2.2 (sNum x.2) (kE n.2.1) (kN n.2.1) (List.mem_append_right _ (List.mem_append_left _ hsnx)) (List.mem_append_right _ (List.mem_append_left _ haen)) (List.mem_append_right _ (List.mem_append_left _ hann)) hnn.1 hkE1 hkN1 (by omega) hkN3 hbn2 (by omega) hkN4 hbn1 (num_big hkN4 (by omega))) (lw_V q1590 q1591 q1592 q137 q1593) (by decide +kernel) (o_recv C h (RC := RX6) (T := TX6) (N := 6) (List.mem_of_getElem? (i := 0) rfl) rfl) (by decide) (by decide) rfl hl rfl (Nat.le_of_ble_eq_true rfl) dX1_isTrue_116 (by omega) (fun u4 H locs _ h => ?_)
      obtain ⟨gm9, gb9, gr9, gp9, i19, i29, q7⟩ := u4
      have h : Wd D B s ([(po, .inr (4, [.ref m9, .ref b9, .ref rs, .ref pr, .int i19, .int i29])), (m9, iar dA 66 gm9), (b9, iar dA 66 gb9), (rs, iar dA 66 gr9), (pr, iar dA 134 gp9), (ho, .inr (2, [.ref st, .ref fi, .ref bl, .long (lN ((padded (sealMsg msg x.2)).length)), .ref wo])), (st, war dA 5 (t5 (hs1 (padded (sealMsg msg x.2)) ((padded (sealMsg msg x.2)).length / 64)))), (wo, war dA 80 gw_5), (bl, bar dA 64 gb_5), (dg, bar dA 32 (mixF 20 (gD dl) gd))] ++ ((F ++ [(q8, bal dA (padL (frontL (sHash x.2)) dl (kN n.2.1).length))]) ++ [(q7, bal dA (be (kN n.2.1).length (num (sNum x.2) ^ num (kE n.2.1) % num (kN n.2.1))))])) H locs := h
      refine lv_aload hx hb dX1_isTrue_119 (lv_at hl 0 rfl) ?_
      refine call_S (As := [.ref q7, .ref q8]) (rest := []) (n := 2) C h (c1_areAlike l D dA B Z hZ _ q7 q8 _ _ (List.mem_append_right _ (List.mem_append_right _ List.mem_cons_self)) (List.mem_append_right _ (List.mem_append_left _ (List.mem_append_right _ List.mem_cons_self))) (by rw [be_len]; omega) (by rw [show (padL (frontL (sHash x.2)) dl (kN n.2.1).length).length = (kN n.2.1).length from sl_len _ _ _]; omega) (byt_be _ _) (padL_byt (frontL_byt _) hdb _)) (lw_S q1621 q1261 q129 q1262) (by decide +kernel) (by decide) (by decide) rfl hl rfl (Nat.le_of_ble_eq_true rfl) dX1_isTrue_121 (by omega) (fun _ H locs _ h => ?_)
      refine z_if_eq (tgt := 131) hx hb dX1_isTrue_124 (by decide) (fun c124 => ?_) (fun c124 => ?_)
      · refine lv_iconst (v := nI 0) hx hb dX1_isTrue_131 (by decide) ?_
        subst hQ
        have h : Wd D B s ([(ho, .inr (2, [.ref st, .ref fi, .ref bl, .long (lN ((padded (sealMsg msg x.2)).length)), .ref wo])), (st, war dA 5 (t5 (hs1 (padded (sealMsg msg x.2)) ((padded (sealMsg msg x.2)).length / 64)))), (wo, war dA 80 gw_5), (bl, bar dA 64 gb_5), (dg, bar dA 32 (mixF 20 (gD dl) gd)), (po, .inr (4, [.ref m9, .ref b9, .ref rs, .ref pr, .int i19, .int i29])), (m9, iar dA 66 gm9), (b9, iar dA 66 gb9), (rs, iar dA 66 gr9), (pr, iar dA 134 gp9)] ++ ((F ++ [(q8, bal dA (padL (frontL (sHash x.2)) dl (kN n.2.1).length))]) ++ [(q7, bal dA (be (kN n.2.1).length (num (sNum x.2) ^ num (kE n.2.1) % num (kN n.2.1))))])) H locs := h.perm [5, 6, 7, 8, 9, 0, 1, 2, 3, 4] rfl rfl
        have h : Wd D B s (h4C dA ho st fi bl wo (hs4 (padded (sealMsg msg x.2)) gw_5 gw_5 gb_5) ++ ([(dg, bar dA 32 (mixF 20 (gD dl) gd))] ++ (pwC dA po m9 b9 rs pr (gm9, gb9, gr9, gp9, i19, i29) ++ (F ++ ([(q8, bal dA (padL (frontL (sHash x.2)) dl (kN n.2.1).length))] ++ [(q7, bal dA (be (kN n.2.1).length (num (sNum x.2) ^ num (kE n.2.1) % num (kN n.2.1))))]))))) H locs := by rw [← List.append_assoc F]; exact h
        refine n_top (y := bZ false) rfl ?_
        exact ret_z C hr hlocks h (hs4 (padded (sealMsg msg x.2)) gw_5 gw_5 gb_5, mixF 20 (gD dl) gd, (gm9, gb9, gr9, gp9, i19, i29), [(q8, bal dA (padL (frontL (sHash x.2)) dl (kN n.2.1).length))] ++ [(q7, bal dA (be (kN n.2.1).length (num (sNum x.2) ^ num (kE n.2.1) % num (kN n.2.1))))]) (⟨hgd9, hbk_5.2⟩) (by unfold trueS; rw [hash9, c124]; simp) rfl (by omega) (by omega) dX1_isTrue_132
      · refine lv_iconst (v := nI 1) hx hb dX1_isTrue_127 (by decide) ?_
        refine lv_goto (tgt := 132) hx hb dX1_isTrue_128 (by decide) ?_
        subst hQ
        have h : Wd D B s ([(ho, .inr (2, [.ref st, .ref fi, .ref bl, .long (lN ((padded (sealMsg msg x.2)).length)), .ref wo])), (st, war dA 5 (t5 (hs1 (padded (sealMsg msg x.2)) ((padded (sealMsg msg x.2)).length / 64)))), (wo, war dA 80 gw_5), (bl, bar dA 64 gb_5), (dg, bar dA 32 (mixF 20 (gD dl) gd)), (po, .inr (4, [.ref m9, .ref b9, .ref rs, .ref pr, .int i19, .int i29])), (m9, iar dA 66 gm9), (b9, iar dA 66 gb9), (rs, iar dA 66 gr9), (pr, iar dA 134 gp9)] ++ ((F ++ [(q8, bal dA (padL (frontL (sHash x.2)) dl (kN n.2.1).length))]) ++ [(q7, bal dA (be (kN n.2.1).length (num (sNum x.2) ^ num (kE n.2.1) % num (kN n.2.1))))])) H locs := h.perm [5, 6, 7, 8, 9, 0, 1, 2, 3, 4] rfl rfl
        have h : Wd D B s (h4C dA ho st fi bl wo (hs4 (padded (sealMsg msg x.2)) gw_5 gw_5 gb_5) ++ ([(dg, bar dA 32 (mixF 20 (gD dl) gd))] ++ (pwC dA po m9 b9 rs pr (gm9, gb9, gr9, gp9, i19, i29) ++ (F ++ ([(q8, bal dA (padL (frontL (sHash x.2)) dl (kN n.2.1).length))] ++ [(q7, bal dA (be (kN n.2.1).length (num (sNum x.2) ^ num (kE n.2.1) % num (kN n.2.1))))]))))) H locs := by rw [← List.append_assoc F]; exact h
        refine n_top (y := bZ true) rfl ?_
        exact ret_z C hr hlocks h (hs4 (padded (sealMsg msg x.2)) gw_5 gw_5 gb_5, mixF 20 (gD dl) gd, (gm9, gb9, gr9, gp9, i19, i29), [(q8, bal dA (padL (frontL (sHash x.2)) dl (kN n.2.1).length))] ++ [(q7, bal dA (be (kN n.2.1).length (num (sNum x.2) ^ num (kE n.2.1) % num (kN n.2.1))))]) (⟨hgd9, hbk_5.2⟩) (by unfold trueS; rw [hash9, hkon, c71, c124, decide_eq_true (show sLeft x.2 = 256 * gD dl 0 + gD dl 1 by omega), decide_eq_true hsp]; rfl) rfl (by omega) (by omega) dX1_isTrue_132
    · refine lv_iconst (v := nI 0) hx hb dX1_isTrue_74 (by decide) ?_
      subst hQ
      have h : Wd D B s (h4C dA ho st fi bl wo (hs4 (padded (sealMsg msg x.2)) gw_5 gw_5 gb_5) ++ ([(dg, bar dA 32 (mixF 20 (gD dl) gd))] ++ (pwC dA po m9 b9 rs pr ps ++ (F ++ ([]))))) H locs := by rw [List.append_nil]; exact h
      refine n_top (y := bZ false) rfl ?_
      exact ret_z C hr hlocks h (hs4 (padded (sealMsg msg x.2)) gw_5 gw_5 gb_5, mixF 20 (gD dl) gd, ps, []) (⟨hgd9, hbk_5.2⟩) (by unfold trueS; rw [hash9, hkon]; first | (rw [decide_eq_false (show ¬ sLeft x.2 = 256 * gD dl 0 + gD dl 1 by omega)]; simp) | (rw [c71]; simp)) rfl (by omega) (by omega) dX1_isTrue_75
set_option maxHeartbeats 400000 in
set_option maxRecDepth 100000 in
theorem c1_isTrueH5 (l : Launch) (D : va_G) (dA : Nat → ClassId) (B : Nat) (Z : State → Prop) (hZ : Stab B Z) (F : va_W) (ho st fi bl wo ei : Nat) (gw y : Nat → Int32) (gb : Nat → Nat) (msg : List Nat) (me bs dc ou rg h1 h2 dg tk pl pk tx sd : Nat) (sz : Nat) (po m9 b9 rs pr f1 f2 : Nat) (gd : Nat → Nat) (ps : PS) (x : SL) (t : Int32) (n : NBr) (hzA : ∀ U : State, Z U → ∃ t, va_Z "SignetRing$Second" "ADD" "[I" (.ref t) (bA B) U U.heap ∧ va_T .int t 64 (fun j => .int (K2 j)) (bA B) U U.heap) (hbk : Blk gb msg) (hzf : ZF B f1 f2 Z) (hme : (me, .inr (0, [.ref bs, .int (nI sz), .ref dc, .ref ou, .ref rg, .ref h1, .ref h2, .ref dg, .ref po, .ref tk, .ref pl, .ref pk, .ref tx, .ref sd])) ∈ F) (hS : SealIn dA F x t) (hN : NumIn dA F n) (hml : msg.length < 100000) (hgd0 : ∀ j, gd j < 256) (hsh : ¬ sHash x.2 = 2) :
    Ct (S := HS × (Nat → Nat) × PS × va_W) l D dA B Z yX1_isTrue cX1_isTrue 5 (some .boolean) 7 2 256 [.ref me, .ref x.1, .ref ho, .ref n.1] (h5C dA ho st fi bl wo ei (hs5 msg gw y gb) ++ ([(dg, bar dA 32 gd)] ++ (pwC dA po m9 b9 rs pr ps ++ F))) (fun u => (∀ j, u.2.1 j < 256) ∧ ∀ j, j < 64 → u.1.2.2.2.2 j < 256) (fun _ => some (.int (bZ (trueS msg x.2 n.2.1)))) (fun u => h5C dA ho st fi bl wo ei u.1 ++ ([(dg, bar dA 32 u.2.1)] ++ (pwC dA po m9 b9 rs pr u.2.2.1 ++ (F ++ u.2.2.2)))) := by
  refine Ct.mk2 (by decide) (Nat.le_of_ble_eq_true rfl) hZ ?_
  intro p e R s m args below meth c ls Q C hr hlocks hin hQ hl h
  have C0 := C
  obtain ⟨hx, hb, hml, hown, hts, -⟩ := C0
  have hl : lv_has ls 5 [(0, .ref me), (1, .ref x.1), (2, .ref ho), (3, .ref n.1)] := hl
  have h : Wd D B s ([(ho, .inr (3, [.ref st, .ref fi, .ref bl, .long (lN msg.length), .ref wo, .ref ei])), (st, war dA 8 (hs2 msg (msg.length / 64))), (wo, war dA 64 gw), (ei, war dA 8 y), (bl, bar dA 64 gb), (dg, bar dA 32 gd), (po, .inr (4, [.ref m9, .ref b9, .ref rs, .ref pr, .int ps.2.2.2.2.1, .int ps.2.2.2.2.2])), (m9, iar dA 66 ps.1), (b9, iar dA 66 ps.2.1), (rs, iar dA 66 ps.2.2.1), (pr, iar dA 134 ps.2.2.2.1)] ++ F) s.heap [] := h
  obtain ⟨⟨hkbn, hkln, hkon, hksn⟩, ban, ann, aen, apn, san, hnmn, hban, hann, haen, hapn, hsan⟩ := hN
  try dsimp only at hkbn hkln hkon hksn hnmn hban hann haen hapn hsan
  have hSB : SealB dA F x := ⟨t, hS⟩
  obtain ⟨⟨hbbx, hblx, hbox, hb0x⟩, bax, snx, r1x, r2x, r3x, w1x, w2x, w3x, hcex, hbax, hsnx, hr1x, hr2x, hr3x⟩ := hS
  have hkk := keyOk_nums hkon hkbn (by omega)
  obtain ⟨hkN1, hkE1, hkN2, hkN3, hkN4, hkN5, hkE2, hkE3, hkE4⟩ := hkk
  have hse := sEnd_le hbbx
  have hsp := sEnd_pos hb0x
  have hnn : byt (sNum x.2) ∧ (sNum x.2).length ≤ x.2.length := sNum_ok hbbx
  have hsh9 : sHash x.2 < 256 := oneS_lt hbbx _
  have hsl9 : sLeft x.2 < 65536 := sLeft_lt hbbx
  obtain ⟨dl, hdl⟩ : ∃ z, z = sha2 (sealMsg msg x.2) := ⟨_, rfl⟩
  have hdlen : dl.length = 32 := by rw [hdl]; exact sha2_len _
  have hdb : byt dl := by rw [hdl]; exact sha2_byt _
  have hash9 : hash (sHash x.2) (sealMsg msg x.2) = dl := by rw [hdl]; unfold hash; rw [if_neg hsh]
  refine lv_aload_n hx hb dX1_isTrue_0 rfl (lv_at hl 2 rfl) ?_
  refine lv_aload_n hx hb dX1_isTrue_1 rfl (lv_at hl 1 rfl) ?_
  refine o_get C h (RC := RX17) (T := TX17) (N := 19) (List.mem_append_right _ hcex) rfl in_X17 0 (by decide) q1306 rfl (v := .ref bax) rfl dX1_isTrue_2 ?_
  refine lv_iconst (v := nI 0) hx hb dX1_isTrue_5 (by decide) ?_
  refine lv_aload_n hx hb dX1_isTrue_6 rfl (lv_at hl 1 rfl) ?_
  refine o_getN C h (RC := RX17) (T := TX17) (N := 19) (List.mem_append_right _ hcex) rfl in_X17 3 (by decide) q1312 rfl (v := .int (nI (sEnd x.2))) rfl dX1_isTrue_7 ?_
  refine call_U (As := [.ref bax, .int (nI 0), .int (nI (sEnd x.2))]) (rest := []) (n := 3) C h (c5_putA l D dA B Z hZ ([(dg, bar dA 32 gd), (po, .inr (4, [.ref m9, .ref b9, .ref rs, .ref pr, .int ps.2.2.2.2.1, .int ps.2.2.2.2.2])), (m9, iar dA 66 ps.1), (b9, iar dA 66 ps.2.1), (rs, iar dA 66 ps.2.2.1), (pr, iar dA 134 ps.2.2.2.1)] ++ F) ho st fi bl wo ei gw y gb (msg) bax (x.2.length) (0) (sEnd x.2) (gD x.2) hzA hbk (List.mem_append_right _ hbax) (by omega) (by omega) (by omega) (by (try simp only [List.length_append, be_len, sl_len, List.length_cons, List.length_nil]) <;> omega) (fun j _ => byt_gD hbbx j)) (lw_U q1231 q1233 q1235 q1232 q134 q1236) rfl (by decide +kernel) (o_recv C h (RC := RX5) (T := TX5) (N := 6) (List.mem_of_getElem? (i := 0) rfl) rfl) (by decide) (by decide) rfl hl rfl (Nat.le_of_ble_eq_true rfl) dX1_isTrue_10 (by omega) (fun u3 H locs hbk_1 h => ?_)
  obtain ⟨gw_1, y_1, gb_1⟩ := u3
  dsimp only at hbk_1
  have h : Wd D B s ([(ho, .inr (3, [.ref st, .ref fi, .ref bl, .long (lN ((msg ++ sl (gD x.2) 0 (sEnd x.2 - 0)).length)), .ref wo, .ref ei])), (st, war dA 8 (hs2 (msg ++ sl (gD x.2) 0 (sEnd x.2 - 0)) ((msg ++ sl (gD x.2) 0 (sEnd x.2 - 0)).length / 64))), (wo, war dA 64 gw_1), (ei, war dA 8 y_1), (bl, bar dA 64 gb_1), (dg, bar dA 32 gd), (po, .inr (4, [.ref m9, .ref b9, .ref rs, .ref pr, .int ps.2.2.2.2.1, .int ps.2.2.2.2.2])), (m9, iar dA 66 ps.1), (b9, iar dA 66 ps.2.1), (rs, iar dA 66 ps.2.2.1), (pr, iar dA 134 ps.2.2.2.1)] ++ F) H locs := h
  refine lv_aload_n hx hb dX1_isTrue_13 rfl (lv_at hl 2 rfl) ?_
  refine lv_iconst (v := nI 4) hx hb dX1_isTrue_14 (by decide) ?_
  refine call_U (As := [.int (nI 4)]) (rest := []) (n := 1) C h (c5_put l D dA B Z hZ ([(dg, bar dA 32 gd), (po, .inr (4, [.ref m9, .ref b9, .ref rs, .ref pr, .int ps.2.2.2.2.1, .int ps.2.2.2.2.2])), (m9, iar dA 66 ps.1), (b9, iar dA 66 ps.2.1), (rs, iar dA 66 ps.2.2.1), (pr, iar dA 134 ps.2.2.2.1)] ++ F) ho st fi bl wo ei gw_1 y_1 gb_1 (msg ++ sl (gD x.2) 0 (sEnd x.2 - 0)) (nI 4) (4) hzA hbk_1 (by (try simp only [List.length_append, be_len, sl_len, List.length_cons, List.length_nil]) <;> omega) (by decide) (by decide)) (lw_U q1190 q1192 q1194 q1191 q134 q1195) rfl (by decide +kernel) (o_recv C h (RC := RX5) (T := TX5) (N := 6) (List.mem_of_getElem? (i := 0) rfl) rfl) (by decide) (by decide) rfl hl rfl (Nat.le_of_ble_eq_true rfl) dX1_isTrue_15 (by omega) (fun u3 H locs hbk_2 h => ?_)
  obtain ⟨gw_2, y_2, gb_2⟩ := u3
  dsimp only at hbk_2
  have h : Wd D B s ([(ho, .inr (3, [.ref st, .ref fi, .ref bl, .long (lN ((msg ++ sl (gD x.2) 0 (sEnd x.2 - 0) ++ [4]).length)), .ref wo, .ref ei])), (st, war dA 8 (hs2 (msg ++ sl (gD x.2) 0 (sEnd x.2 - 0) ++ [4]) ((msg ++ sl (gD x.2) 0 (sEnd x.2 - 0) ++ [4]).length / 64))), (wo, war dA 64 gw_2), (ei, war dA 8 y_2), (bl, bar dA 64 gb_2), (dg, bar dA 32 gd), (po, .inr (4, [.ref m9, .ref b9, .ref rs, .ref pr, .int ps.2.2.2.2.1, .int ps.2.2.2.2.2])), (m9, iar dA 66 ps.1), (b9, iar dA 66 ps.2.1), (rs, iar dA 66 ps.2.2.1), (pr, iar dA 134 ps.2.2.2.1)] ++ F) H locs := h
  refine lv_aload_n hx hb dX1_isTrue_18 rfl (lv_at hl 2 rfl) ?_
  refine lv_sipush (v := nI 255) hx hb dX1_isTrue_19 (by decide) ?_
  refine call_U (As := [.int (nI 255)]) (rest := []) (n := 1) C h (c5_put l D dA B Z hZ ([(dg, bar dA 32 gd), (po, .inr (4, [.ref m9, .ref b9, .ref rs, .ref pr, .int ps.2.2.2.2.1, .int ps.2.2.2.2.2])), (m9, iar dA 66 ps.1), (b9, iar dA 66 ps.2.1), (rs, iar dA 66 ps.2.2.1), (pr, iar dA 134 ps.2.2.2.1)] ++ F) ho st fi bl wo ei gw_2 y_2 gb_2 (msg ++ sl (gD x.2) 0 (sEnd x.2 - 0) ++ [4]) (nI 255) (255) hzA hbk_2 (by (try simp only [List.length_append, be_len, sl_len, List.length_cons, List.length_nil]) <;> omega) (by decide) (by decide)) (lw_U q1190 q1192 q1194 q1191 q134 q1195) rfl (by decide +kernel) (o_recv C h (RC := RX5) (T := TX5) (N := 6) (List.mem_of_getElem? (i := 0) rfl) rfl) (by decide) (by decide) rfl hl rfl (Nat.le_of_ble_eq_true rfl) dX1_isTrue_22 (by omega) (fun u3 H locs hbk_3 h => ?_)
  obtain ⟨gw_3, y_3, gb_3⟩ := u3
  dsimp only at hbk_3
  have h : Wd D B s ([(ho, .inr (3, [.ref st, .ref fi, .ref bl, .long (lN ((msg ++ sl (gD x.2) 0 (sEnd x.2 - 0) ++ [4] ++ [255]).length)), .ref wo, .ref ei])), (st, war dA 8 (hs2 (msg ++ sl (gD x.2) 0 (sEnd x.2 - 0) ++ [4] ++ [255]) ((msg ++ sl (gD x.2) 0 (sEnd x.2 - 0) ++ [4] ++ [255]).length / 64))), (wo, war dA 64 gw_3), (ei, war dA 8 y_3), (bl, bar dA 64 gb_3), (dg, bar dA 32 gd), (po, .inr (4, [.ref m9, .ref b9, .ref rs, .ref pr, .int ps.2.2.2.2.1, .int ps.2.2.2.2.2])), (m9, iar dA 66 ps.1), (b9, iar dA 66 ps.2.1), (rs, iar dA 66 ps.2.2.1), (pr, iar dA 134 ps.2.2.2.1)] ++ F) H locs := h
  refine lv_aload_n hx hb dX1_isTrue_25 rfl (lv_at hl 2 rfl) ?_
  refine lv_aload_n hx hb dX1_isTrue_26 rfl (lv_at hl 1 rfl) ?_
  refine o_getN C h (RC := RX17) (T := TX17) (N := 19) (List.mem_append_right _ hcex) rfl in_X17 3 (by decide) q1312 rfl (v := .int (nI (sEnd x.2))) rfl dX1_isTrue_27 ?_
  refine lv_i2l (v := lN (sEnd x.2)) hx hb dX1_isTrue_30 (nI_l (by omega)) ?_
  refine lv_iconst (v := nI 4) hx hb dX1_isTrue_31 (by decide) ?_
  refine call_U (As := [.long (lN (sEnd x.2)), .int (nI 4)]) (rest := []) (n := 2) C h (c5_number l D dA B Z hZ ([(dg, bar dA 32 gd), (po, .inr (4, [.ref m9, .ref b9, .ref rs, .ref pr, .int ps.2.2.2.2.1, .int ps.2.2.2.2.2])), (m9, iar dA 66 ps.1), (b9, iar dA 66 ps.2.1), (rs, iar dA 66 ps.2.2.1), (pr, iar dA 134 ps.2.2.2.1)] ++ F) ho st fi bl wo ei gw_3 y_3 gb_3 (msg ++ sl (gD x.2) 0 (sEnd x.2 - 0) ++ [4] ++ [255]) (sEnd x.2) 4 hzA hbk_3 (by omega) (by decide) (by (try simp only [List.length_append, be_len, sl_len, List.length_cons, List.length_nil]) <;> omega)) (lw_U q1224 q1226 q1228 q1225 q134 q1229) rfl (by decide +kernel) (o_recv C h (RC := RX5) (T := TX5) (N := 6) (List.mem_of_getElem? (i := 0) rfl) rfl) (by decide) (by decide) rfl hl rfl (Nat.le_of_ble_eq_true rfl) dX1_isTrue_32 (by omega) (fun u3 H locs hbk_4 h => ?_)
  obtain ⟨gw_4, y_4, gb_4⟩ := u3
  dsimp only at hbk_4
  have h : Wd D B s ([(ho, .inr (3, [.ref st, .ref fi, .ref bl, .long (lN ((msg ++ sl (gD x.2) 0 (sEnd x.2 - 0) ++ [4] ++ [255] ++ be 4 (sEnd x.2)).length)), .ref wo, .ref ei])), (st, war dA 8 (hs2 (msg ++ sl (gD x.2) 0 (sEnd x.2 - 0) ++ [4] ++ [255] ++ be 4 (sEnd x.2)) ((msg ++ sl (gD x.2) 0 (sEnd x.2 - 0) ++ [4] ++ [255] ++ be 4 (sEnd x.2)).length / 64))), (wo, war dA 64 gw_4), (ei, war dA 8 y_4), (bl, bar dA 64 gb_4), (dg, bar dA 32 gd), (po, .inr (4, [.ref m9, .ref b9, .ref rs, .ref pr, .int ps.2.2.2.2.1, .int ps.2.2.2.2.2])), (m9, iar dA 66 ps.1), (b9, iar dA 66 ps.2.1), (rs, iar dA 66 ps.2.2.1), (pr, iar dA 134 ps.2.2.2.1)] ++ F) H locs := h
  refine lv_aload_n hx hb dX1_isTrue_35 rfl (lv_at hl 2 rfl) ?_
  refine lv_aload_n hx hb dX1_isTrue_36 rfl (lv_at hl 0 rfl) ?_
  refine o_get C h (RC := RX1) (T := TX1) (N := 14) (List.mem_append_right _ hme) rfl in_X1 7 (by decide) q315 rfl (v := .ref dg) rfl dX1_isTrue_37 ?_
  have e9 : msg ++ sl (gD x.2) 0 (sEnd x.2 - 0) ++ [4] ++ [255] ++ be 4 (sEnd x.2) = sealMsg msg x.2 := by unfold sealMsg; rw [Nat.sub_zero]; simp
  rw [e9] at h hbk_4
  have h : Wd D B s ([(ho, .inr (3, [.ref st, .ref fi, .ref bl, .long (lN ((sealMsg msg x.2).length)), .ref wo, .ref ei])), (st, war dA 8 (hs2 (sealMsg msg x.2) ((sealMsg msg x.2).length / 64))), (wo, war dA 64 gw_4), (ei, war dA 8 y_4), (bl, bar dA 64 gb_4), (dg, bar dA 32 gd), (po, .inr (4, [.ref m9, .ref b9, .ref rs, .ref pr, .int ps.2.2.2.2.1, .int ps.2.2.2.2.2])), (m9, iar dA 66 ps.1), (b9, iar dA 66 ps.2.1), (rs, iar dA 66 ps.2.2.1), (pr, iar dA 134 ps.2.2.2.1)] ++ F) H locs := h
  have hml9 : (sealMsg msg x.2).length < 200000 := by unfold sealMsg; simp only [List.length_append, sl_len, be_len, List.length_cons, List.length_nil]; omega
  refine call_U (As := [.ref dg]) (rest := []) (n := 1) C h (c5_end l D dA B Z hZ ([(po, .inr (4, [.ref m9, .ref b9, .ref rs, .ref pr, .int ps.2.2.2.2.1, .int ps.2.2.2.2.2])), (m9, iar dA 66 ps.1), (b9, iar dA 66 ps.2.1), (rs, iar dA 66 ps.2.2.1), (pr, iar dA 134 ps.2.2.2.1)] ++ F) ho st fi bl wo ei gw_4 y_4 gb_4 (sealMsg msg x.2) dg 32 gd hzA hbk_4 (by omega) (by decide) (by decide)) (lw_U q1237 q1239 q1241 q1238 q134 q1242) rfl (by decide +kernel) (o_recv C h (RC := RX5) (T := TX5) (N := 6) (List.mem_of_getElem? (i := 0) rfl) rfl) (by decide) (by decide) rfl hl rfl (Nat.le_of_ble_eq_true rfl) dX1_isTrue_40 (by omega) (fun u3 H locs hbk_5 h => ?_)
  obtain ⟨gw_5, y_5, gb_5⟩ := u3
  dsimp only at hbk_5
  have h : Wd D B s ([(ho, .inr (3, [.ref st, .ref fi, .ref bl, .long (lN ((padded (sealMsg msg x.2)).length)), .ref wo, .ref ei])), (st, war dA 8 (hs2 (padded (sealMsg msg x.2)) ((padded (sealMsg msg x.2)).length / 64))), (wo, war dA 64 gw_5), (ei, war dA 8 y_5), (bl, bar dA 64 gb_5), (dg, bar dA 32 (mixF 32 (gD (sha2 (sealMsg msg x.2))) gd)), (po, .inr (4, [.ref m9, .ref b9, .ref rs, .ref pr, .int ps.2.2.2.2.1, .int ps.2.2.2.2.2])), (m9, iar dA 66 ps.1), (b9, iar dA 66 ps.2.1), (rs, iar dA 66 ps.2.2.1), (pr, iar dA 134 ps.2.2.2.1)] ++ F) H locs := h
  rw [← hdl] at h
  have h : Wd D B s ([(ho, .inr (3, [.ref st, .ref fi, .ref bl, .long (lN ((padded (sealMsg msg x.2)).length)), .ref wo, .ref ei])), (st, war dA 8 (hs2 (padded (sealMsg msg x.2)) ((padded (sealMsg msg x.2)).length / 64))), (wo, war dA 64 gw_5), (ei, war dA 8 y_5), (bl, bar dA 64 gb_5), (dg, bar dA 32 (mixF 32 (gD dl) gd)), (po, .inr (4, [.ref m9, .ref b9, .ref rs, .ref pr, .int ps.2.2.2.2.1, .int ps.2.2.2.2.2])), (m9, iar dA 66 ps.1), (b9, iar dA 66 ps.2.1), (rs, iar dA 66 ps.2.2.1), (pr, iar dA 134 ps.2.2.2.1)] ++ F) H locs := h
  refine lv_aload_n hx hb dX1_isTrue_43 rfl (lv_at hl 1 rfl) ?_
  refine o_getN C h (RC := RX17) (T := TX17) (N := 19) (List.mem_append_right _ hcex) rfl in_X17 4 (by decide) q1314 rfl (v := .int (nI (sLeft x.2))) rfl dX1_isTrue_44 ?_
  refine lv_aload_n hx hb dX1_isTrue_47 rfl (lv_at hl 0 rfl) ?_
  refine o_get C h (RC := RX1) (T := TX1) (N := 14) (List.mem_append_right _ hme) rfl in_X1 7 (by decide) q315 rfl (v := .ref dg) rfl dX1_isTrue_48 ?_
  refine lv_iconst (v := nI 0) hx hb dX1_isTrue_51 (by decide) ?_
  refine lv_iconst (v := nI 2) hx hb dX1_isTrue_52 (by decide) ?_
  have hgd9 : ∀ j, (mixF 32 (gD dl) gd) j < 256 := fun j => by unfold mixF; split; exact byt_gD hdb j; exact hgd0 j
  have hm0 : (mixF 32 (gD dl) gd) 0 = gD dl 0 := mix_lo (by decide)
  have hm1 : (mixF 32 (gD dl) gd) 1 = gD dl 1 := mix_lo (by decide)
  have hd0 := byt_gD hdb 0
  have hd1 := byt_gD hdb 1
  have hnum : num (sl (mixF 32 (gD dl) gd) 0 2) = 256 * gD dl 0 + gD dl 1 := by
    rw [show sl (mixF 32 (gD dl) gd) 0 2 = [(mixF 32 (gD dl) gd) 0, (mixF 32 (gD dl) gd) 1] from rfl, hm0, hm1]; exact num_two _ _
  refine call_S (As := [.ref dg, .int (nI 0), .int (nI 2)]) (rest := [.int (nI (sLeft x.2))]) (n := 3) C h (c1_number l D dA B Z hZ _ dg 32 (mixF 32 (gD dl) gd) 0 2 (List.mem_of_getElem? (i := 5) rfl) (by decide) (by decide) (fun j _ => hgd9 j) (by decide)) (lw_S q1542 q1202 q129 q1203) (by decide +kernel) (by decide) (by decide) rfl hl rfl (Nat.le_of_ble_eq_true rfl) dX1_isTrue_53 (by omega) (fun _ H locs _ h => ?_)
  rw [hnum]
  refine lv_l2i (v := nI (256 * gD dl 0 + gD dl 1)) hx hb dX1_isTrue_56 (lN_i _) ?_
  refine n_icmp_ne (tgt := 74) hx hb (by omega) (by omega) dX1_isTrue_57 (by decide) (fun c57 => ?_) (fun c57 => ?_)
  · refine lv_iconst (v := nI 0) hx hb dX1_isTrue_74 (by decide) ?_
    subst hQ
    have h : Wd D B s (h5C dA ho st fi bl wo ei (hs5 (padded (sealMsg msg x.2)) gw_5 y_5 gb_5) ++ ([(dg, bar dA 32 (mixF 32 (gD dl) gd))] ++ (pwC dA po m9 b9 rs pr ps ++ (F ++ ([]))))) H locs := by rw [List.append_nil]; exact h
    refine n_top (y := bZ false) rfl ?_
    exact ret_z C hr hlocks h (hs5 (padded (sealMsg msg x.2)) gw_5 y_5 gb_5, mixF 32 (gD dl) gd, ps, []) (⟨hgd9, hbk_5.2⟩) (by unfold trueS; rw [hash9, hkon]; first | (rw [decide_eq_false (show ¬ sLeft x.2 = 256 * gD dl 0 + gD dl 1 by omega)]; simp) | (rw [c71]; simp)) rfl (by omega) (by omega) dX1_isTrue_75
  · refine lv_aload_n hx hb dX1_isTrue_60 rfl (lv_at hl 1 rfl) ?_
    refine o_getN C h (RC := RX17) (T := TX17) (N := 19) (List.mem_append_right _ hcex) rfl in_X17 5 (by decide) q1316 rfl (v := .ref snx) rfl dX1_isTrue_61 ?_
    refine lv_aload_n hx hb dX1_isTrue_64 rfl (lv_at hl 3 rfl) ?_
    refine o_get C h (RC := RX16) (T := TX16) (N := 6) (List.mem_append_right _ hnmn) rfl in_X16 2 (by decide) q1152 rfl (v := .ref ann) rfl dX1_isTrue_65 ?_
    refine call_S (As := [.ref snx, .ref ann]) (rest := []) (n := 2) C h (c1_isBelow l D dA B Z hZ _ snx ann (sNum x.2) (kN n.2.1) (List.mem_append_right _ hsnx) (List.mem_append_right _ hann) (by omega) (by omega) hnn.1 hkN1) (lw_S q1543 q1544 q129 q1545) (by decide +kernel) (by decide) (by decide) rfl hl rfl (Nat.le_of_ble_eq_true rfl) dX1_isTrue_68 (by omega) (fun _ H locs _ h => ?_)
    refine z_if_ne (tgt := 76) hx hb dX1_isTrue_71 (by decide) (fun c71 => ?_) (fun c71 => ?_)
    · refine lv_aload_n hx hb dX1_isTrue_76 rfl (lv_at hl 0 rfl) ?_
      refine lv_aload_n hx hb dX1_isTrue_77 rfl (lv_at hl 1 rfl) ?_
      refine o_get C h (RC := RX17) (T := TX17) (N := 19) (List.mem_append_right _ hcex) rfl in_X17 2 (by decide) q1310 rfl (v := .int (nI (sHash x.2))) rfl dX1_isTrue_78 ?_
      refine lv_aload_n hx hb dX1_isTrue_81 rfl (lv_at hl 2 rfl) ?_
      refine call_U (As := []) (rest := [.int (nI (sHash x.2)), .ref me]) (n := 0) C h (c5_size l D dA B Z hZ ([(dg, bar dA 32 (mixF 32 (gD dl) gd)), (po, .inr (4, [.ref m9, .ref b9, .ref rs, .ref pr, .int ps.2.2.2.2.1, .int ps.2.2.2.2.2])), (m9, iar dA 66 ps.1), (b9, iar dA 66 ps.2.1), (rs, iar dA 66 ps.2.2.1), (pr, iar dA 134 ps.2.2.2.1)] ++ F) ho st fi bl wo ei gw_5 y_5 gb_5 (lN ((padded (sealMsg msg x.2)).length)) (hs2 (padded (sealMsg msg x.2)) ((padded (sealMsg msg x.2)).length / 64))) (lw_U q1546 q1248 q1250 q1247 q134 q1251) rfl (by decide +kernel) (o_recv C h (RC := RX5) (T := TX5) (N := 6) (List.mem_of_getElem? (i := 0) rfl) rfl) (by decide) (by decide) rfl hl rfl (Nat.le_of_ble_eq_true rfl) dX1_isTrue_82 (by omega) (fun _ H locs _ h => ?_)
      have h : Wd D B s ([(ho, .inr (3, [.ref st, .ref fi, .ref bl, .long (lN ((padded (sealMsg msg x.2)).length)), .ref wo, .ref ei])), (st, war dA 8 (hs2 (padded (sealMsg msg x.2)) ((padded (sealMsg msg x.2)).length / 64))), (wo, war dA 64 gw_5), (ei, war dA 8 y_5), (bl, bar dA 64 gb_5), (dg, bar dA 32 (mixF 32 (gD dl) gd)), (po, .inr (4, [.ref m9, .ref b9, .ref rs, .ref pr, .int ps.2.2.2.2.1, .int ps.2.2.2.2.2])), (m9, iar dA 66 ps.1), (b9, iar dA 66 ps.2.1), (rs, iar dA 66 ps.2.2.1), (pr, iar dA 134 ps.2.2.2.1)] ++ F) H locs := h
      refine lv_aload_n hx hb dX1_isTrue_85 rfl (lv_at hl 3 rfl) ?_
      refine o_get C h (RC := RX16) (T := TX16) (N := 6) (List.mem_append_right _ hnmn) rfl in_X16 2 (by decide) q1152 rfl (v := .ref ann) rfl dX1_isTrue_86 ?_
      refine n_balen C h (List.mem_append_right _ hann) dX1_isTrue_89 ?_
      have hpd : ∀ j, j < dl.length → (mixF 32 (gD dl) gd) j = gD dl j := fun j hj => mix_lo (by omega)
      have hcp := c1_padded l D dA B Z hZ ([(ho, .inr (3, [.ref st, .ref fi, .ref bl, .long (lN ((padded (sealMsg msg x.2)).length)), .ref wo, .ref ei])), (st, war dA 8 (hs2 (padded (sealMsg msg x.2)) ((padded (sealMsg msg x.2)).length / 64))), (wo, war dA 64 gw_5), (ei, war dA 8 y_5), (bl, bar dA 64 gb_5), (dg, bar dA 32 (mixF 32 (gD dl) gd)), (po, .inr (4, [.ref m9, .ref b9, .ref rs, .ref pr, .int ps.2.2.2.2.1, .int ps.2.2.2.2.2])), (m9, iar dA 66 ps.1), (b9, iar dA 66 ps.2.1), (rs, iar dA 66 ps.2.2.1), (pr, iar dA 134 ps.2.2.2.1)] ++ F) me bs dc ou rg h1 h2 dg po tk pl pk tx sd sz f1 f2 (kN n.2.1).length (sHash x.2) (mixF 32 (gD dl) gd) dl hzf (List.mem_append_right _ hme) (List.mem_of_getElem? (i := 5) rfl) hpd (by omega) (by omega) (by omega) (by omega)
      rw [hdlen] at hcp
      refine call_VR (As := [.int (nI (sHash x.2)), .int (nI 32), .int (nI ((kN n.2.1).length))]) (rest := []) (n := 3) C h hcp (lw_V q1547 q1549 qs22 q129 q1550) (by decide +kernel) (o_recv C h (RC := RX1) (T := TX1) (N := 14) (List.mem_append_right _ hme) rfl) (by decide) (by decide) rfl hl rfl (Nat.le_of_ble_eq_true rfl) dX1_isTrue_90 (by omega) (fun q8 H locs _ h => ?_)
      have h : Wd D B s ([(ho, .inr (3, [.ref st, .ref fi, .ref bl, .long (lN ((padded (sealMsg msg x.2)).length)), .ref wo, .ref ei])), (st, war dA 8 (hs2 (padded (sealMsg msg x.2)) ((padded (sealMsg msg x.2)).length / 64))), (wo, war dA 64 gw_5), (ei, war dA 8 y_5), (bl, bar dA 64 gb_5), (dg, bar dA 32 (mixF 32 (gD dl) gd)), (po, .inr (4, [.ref m9, .ref b9, .ref rs, .ref pr, .int ps.2.2.2.2.1, .int ps.2.2.2.2.2])), (m9, iar dA 66 ps.1), (b9, iar dA 66 ps.2.1), (rs, iar dA 66 ps.2.2.1), (pr, iar dA 134 ps.2.2.2.1)] ++ (F ++ [(q8, bal dA (padL (frontL (sHash x.2)) dl (kN n.2.1).length))])) H locs := by
        rw [← List.append_assoc]; exact h
      refine lv_astore (lv' := [(4, .ref q8), (0, .ref me), (1, .ref x.1), (2, .ref ho), (3, .ref n.1)]) hx hb dX1_isTrue_93 hl (by decide) rfl (fun ls hl => ?_)
      refine lv_aload hx hb dX1_isTrue_95 (lv_at hl 0 rfl) ?_
      refine lv_ifnull hx hb dX1_isTrue_97 ?_
      refine lv_aload_n hx hb dX1_isTrue_100 rfl (lv_at hl 1 rfl) ?_
      refine o_get C h (RC := RX1) (T := TX1) (N := 14) (List.mem_append_right _ (List.mem_append_left _ hme)) rfl in_X1 8 (by decide) q316 rfl (v := .ref po) rfl dX1_isTrue_101 ?_
      refine lv_aload_n hx hb dX1_isTrue_104 rfl (lv_at hl 2 rfl) ?_
      refine o_getN C h (RC := RX17) (T := TX17) (N := 19) (List.mem_append_right _ (List.mem_append_left _ hcex)) rfl in_X17 5 (by decide) q1316 rfl (v := .ref snx) rfl dX1_isTrue_105 ?_
      refine lv_aload_n hx hb dX1_isTrue_108 rfl (lv_at hl 4 rfl) ?_
      refine o_get C h (RC := RX16) (T := TX16) (N := 6) (List.mem_append_right _ (List.mem_append_left _ hnmn)) rfl in_X16 3 (by decide) q1154 rfl (v := .ref aen) rfl dX1_isTrue_109 ?_
      refine lv_aload_n hx hb dX1_isTrue_112 rfl (lv_at hl 4 rfl) ?_
      refine o_get C h (RC := RX16) (T := TX16) (N := 6) (List.mem_append_right _ (List.mem_append_left _ hnmn)) rfl in_X16 2 (by decide) q1152 rfl (v := .ref ann) rfl dX1_isTrue_113 ?_
      obtain ⟨hbn1, hbn2⟩ := belowL_num hnn.1 hkN1 hkN4 c71
      have h : Wd D B s ([(po, .inr (4, [.ref m9, .ref b9, .ref rs, .ref pr, .int ps.2.2.2.2.1, .int ps.2.2.2.2.2])), (m9, iar dA 66 ps.1), (b9, iar dA 66 ps.2.1), (rs, iar dA 66 ps.2.2.1), (pr, iar dA 134 ps.2.2.2.1), (ho, .inr (3, [.ref st, .ref fi, .ref bl, .long (lN ((padded (sealMsg msg x.2)).length)), .ref wo, .ref ei])), (st, war dA 8 (hs2 (padded (sealMsg msg x.2)) ((padded (sealMsg msg x.2)).length / 64))), (wo, war dA 64 gw_5), (ei, war dA 8 y_5), (bl, bar dA 64 gb_5), (dg, bar dA 32 (mixF 32 (gD dl) gd))] ++ (F ++ [(q8, bal dA (padL (frontL (sHash x.2)) dl (kN n.2.1).length))])) H locs := h.perm [6, 7, 8, 9, 10, 0, 1, 2, 3, 4, 5] rfl rfl
      refine call_VR (As := [.ref snx, .ref aen, .ref ann]) (rest := []) (n := 3) C h (c6_raise l D dA B Z hZ ([(ho, .inr (3, [.ref st, .ref fi, .ref bl, .long (lN ((padded (sealMsg msg x.2)).length)), .ref wo, .ref ei])), (st, war dA 8 (hs2 (padded (sealMsg msg x.2)) ((padded (sealMsg msg x.2)).length / 64))), (wo, war dA 64 gw_5), (ei, war dA 8 y_5), (bl, bar dA 64 gb_5), (dg, bar dA 32 (mixF 32 (gD dl) gd))] ++ (F ++ [(q8, bal dA (padL (frontL (sHash x.2)) dl (kN n.2.1).length))])) po m9 b9 rs pr snx aen ann ps.1 ps.2.1 ps.2.2.1 ps.2.2.2.1 ps.2.2.2.2.1 ps.2.2.2.2.2 (sNum x.2) (kE n.2.1) (kN n.2.1) (List.mem_append_right _ (List.mem_append_left _ hsnx)) (List.mem_append_right _ (List.mem_append_left _ haen)) (List.mem_append_right _ (List.mem_append_left _ hann)) hnn.1 hkE1 hkN1 (by omega) hkN3 hbn2 (by omega) hkN4 hbn1 (num_big hkN4 (by omega))) (lw_V q1590 q1591 q1592 q137 q1593) (by decide +kernel) (o_recv C h (RC := RX6) (T := TX6) (N := 6) (List.mem_of_getElem? (i := 0) rfl) rfl) (by decide) (by decide) rfl hl rfl (Nat.le_of_ble_eq_true rfl) dX1_isTrue_116 (by omega) (fun u4 H locs _ h => ?_)
      obtain ⟨gm9, gb9, gr9, gp9, i19, i29, q7⟩ := u4
      have h : Wd D B s ([(po, .inr (4, [.ref m9, .ref b9, .ref rs, .ref pr, .int i19, .int i29])), (m9, iar dA 66 gm9), (b9, iar dA 66 gb9), (rs, iar dA 66 gr9), (pr, iar dA 134 gp9), (ho, .inr (3, [.ref st, .ref fi, .ref bl, .long (lN ((padded (sealMsg msg x.2)).length)), .ref wo, .ref ei])), (st, war dA 8 (hs2 (padded (sealMsg msg x.2)) ((padded (sealMsg msg x.2)).length / 64))), (wo, war dA 64 gw_5), (ei, war dA 8 y_5), (bl, bar dA 64 gb_5), (dg, bar dA 32 (mixF 32 (gD dl) gd))] ++ ((F ++ [(q8, bal dA (padL (frontL (sHash x.2)) dl (kN n.2.1).length))]) ++ [(q7, bal dA (be (kN n.2.1).length (num (sNum x.2) ^ num (kE n.2.1) % num (kN n.2.1))))])) H locs := h
      refine lv_aload hx hb dX1_isTrue_119 (lv_at hl 0 rfl) ?_
      refine call_S (As := [.ref q7, .ref q8]) (rest := []) (n := 2) C h (c1_areAlike l D dA B Z hZ _ q7 q8 _ _ (List.mem_append_right _ (List.mem_append_right _ List.mem_cons_self)) (List.mem_append_right _ (List.mem_append_left _ (List.mem_append_right _ List.mem_cons_self))) (by rw [be_len]; omega) (by rw [show (padL (frontL (sHash x.2)) dl (kN n.2.1).length).length = (kN n.2.1).length from sl_len _ _ _]; omega) (byt_be _ _) (padL_byt (frontL_byt _) hdb _)) (lw_S q1621 q1261 q129 q1262) (by decide +kernel) (by decide) (by decide) rfl hl rfl (Nat.le_of_ble_eq_true rfl) dX1_isTrue_121 (by omega) (fun _ H locs _ h => ?_)
      refine z_if_eq (tgt := 131) hx hb dX1_isTrue_124 (by decide) (fun c124 => ?_) (fun c124 => ?_)
      · refine lv_iconst (v := nI 0) hx hb dX1_isTrue_131 (by decide) ?_
        subst hQ
        have h : Wd D B s ([(ho, .inr (3, [.ref st, .ref fi, .ref bl, .long (lN ((padded (sealMsg msg x.2)).length)), .ref wo, .ref ei])), (st, war dA 8 (hs2 (padded (sealMsg msg x.2)) ((padded (sealMsg msg x.2)).length / 64))), (wo, war dA 64 gw_5), (ei, war dA 8 y_5), (bl, bar dA 64 gb_5), (dg, bar dA 32 (mixF 32 (gD dl) gd)), (po, .inr (4, [.ref m9, .ref b9, .ref rs, .ref pr, .int i19, .int i29])), (m9, iar dA 66 gm9), (b9, iar dA 66 gb9), (rs, iar dA 66 gr9), (pr, iar dA 134 gp9)] ++ ((F ++ [(q8, bal dA (padL (frontL (sHash x.2)) dl (kN n.2.1).length))]) ++ [(q7, bal dA (be (kN n.2.1).length (num (sNum x.2) ^ num (kE n.2.1) % num (kN n.2.1))))])) H locs := h.perm [5, 6, 7, 8, 9, 10, 0, 1, 2, 3, 4] rfl rfl
        have h : Wd D B s (h5C dA ho st fi bl wo ei (hs5 (padded (sealMsg msg x.2)) gw_5 y_5 gb_5) ++ ([(dg, bar dA 32 (mixF 32 (gD dl) gd))] ++ (pwC dA po m9 b9 rs pr (gm9, gb9, gr9, gp9, i19, i29) ++ (F ++ ([(q8, bal dA (padL (frontL (sHash x.2)) dl (kN n.2.1).length))] ++ [(q7, bal dA (be (kN n.2.1).length (num (sNum x.2) ^ num (kE n.2.1) % num (kN n.2.1))))]))))) H locs := by rw [← List.append_assoc F]; exact h
        refine n_top (y := bZ false) rfl ?_
        exact ret_z C hr hlocks h (hs5 (padded (sealMsg msg x.2)) gw_5 y_5 gb_5, mixF 32 (gD dl) gd, (gm9, gb9, gr9, gp9, i19, i29), [(q8, bal dA (padL (frontL (sHash x.2)) dl (kN n.2.1).length))] ++ [(q7, bal dA (be (kN n.2.1).length (num (sNum x.2) ^ num (kE n.2.1) % num (kN n.2.1))))]) (⟨hgd9, hbk_5.2⟩) (by unfold trueS; rw [hash9, c124]; simp) rfl (by omega) (by omega) dX1_isTrue_132
      · refine lv_iconst (v := nI 1) hx hb dX1_isTrue_127 (by decide) ?_
        refine lv_goto (tgt := 132) hx hb dX1_isTrue_128 (by decide) ?_
        subst hQ
        have h : Wd D B s ([(ho, .inr (3, [.ref st, .ref fi, .ref bl, .long (lN ((padded (sealMsg msg x.2)).length)), .ref wo, .ref ei])), (st, war dA 8 (hs2 (padded (sealMsg msg x.2)) ((padded (sealMsg msg x.2)).length / 64))), (wo, war dA 64 gw_5), (ei, war dA 8 y_5), (bl, bar dA 64 gb_5), (dg, bar dA 32 (mixF 32 (gD dl) gd)), (po, .inr (4, [.ref m9, .ref b9, .ref rs, .ref pr, .int i19, .int i29])), (m9, iar dA 66 gm9), (b9, iar dA 66 gb9), (rs, iar dA 66 gr9), (pr, iar dA 134 gp9)] ++ ((F ++ [(q8, bal dA (padL (frontL (sHash x.2)) dl (kN n.2.1).length))]) ++ [(q7, bal dA (be (kN n.2.1).length (num (sNum x.2) ^ num (kE n.2.1) % num (kN n.2.1))))])) H locs := h.perm [5, 6, 7, 8, 9, 10, 0, 1, 2, 3, 4] rfl rfl
        have h : Wd D B s (h5C dA ho st fi bl wo ei (hs5 (padded (sealMsg msg x.2)) gw_5 y_5 gb_5) ++ ([(dg, bar dA 32 (mixF 32 (gD dl) gd))] ++ (pwC dA po m9 b9 rs pr (gm9, gb9, gr9, gp9, i19, i29) ++ (F ++ ([(q8, bal dA (padL (frontL (sHash x.2)) dl (kN n.2.1).length))] ++ [(q7, bal dA (be (kN n.2.1).length (num (sNum x.2) ^ num (kE n.2.1) % num (kN n.2.1))))]))))) H locs := by rw [← List.append_assoc F]; exact h
        refine n_top (y := bZ true) rfl ?_
        exact ret_z C hr hlocks h (hs5 (padded (sealMsg msg x.2)) gw_5 y_5 gb_5, mixF 32 (gD dl) gd, (gm9, gb9, gr9, gp9, i19, i29), [(q8, bal dA (padL (frontL (sHash x.2)) dl (kN n.2.1).length))] ++ [(q7, bal dA (be (kN n.2.1).length (num (sNum x.2) ^ num (kE n.2.1) % num (kN n.2.1))))]) (⟨hgd9, hbk_5.2⟩) (by unfold trueS; rw [hash9, hkon, c71, c124, decide_eq_true (show sLeft x.2 = 256 * gD dl 0 + gD dl 1 by omega), decide_eq_true hsp]; rfl) rfl (by omega) (by omega) dX1_isTrue_132
    · refine lv_iconst (v := nI 0) hx hb dX1_isTrue_74 (by decide) ?_
      subst hQ
      have h : Wd D B s (h5C dA ho st fi bl wo ei (hs5 (padded (sealMsg msg x.2)) gw_5 y_5 gb_5) ++ ([(dg, bar dA 32 (mixF 32 (gD dl) gd))] ++ (pwC dA po m9 b9 rs pr ps ++ (F ++ ([]))))) H locs := by rw [List.append_nil]; exact h
      refine n_top (y := bZ false) rfl ?_
      exact ret_z C hr hlocks h (hs5 (padded (sealMsg msg x.2)) gw_5 y_5 gb_5, mixF 32 (gD dl) gd, ps, []) (⟨hgd9, hbk_5.2⟩) (by unfold trueS; rw [hash9, hkon]; first | (rw [decide_eq_false (show ¬ sLeft x.2 = 256 * gD dl 0 + gD dl 1 by omega)]; simp) | (rw [c71]; simp)) rfl (by omega) (by omega) dX1_isTrue_75
