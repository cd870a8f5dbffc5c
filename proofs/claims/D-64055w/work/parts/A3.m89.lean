set_option maxRecDepth 100000
set_option maxHeartbeats 400000 in
set_option maxRecDepth 100000 in
theorem c1_putN4 (l : Launch) (D : va_G) (dA : Nat → ClassId) (B : Nat) (Z : State → Prop) (hZ : Stab B Z) (F : va_W) (ho st fi bl wo : Nat) (gw : Nat → Int32) (gb : Nat → Nat) (msg : List Nat) (x : NBr)  (hbk : Blk gb msg) (hN : NumIn dA F x) (hml : msg.length < 100000) :
    Ct (S := (Nat → Int32) × (Nat → Int32) × (Nat → Nat)) l D dA B Z yX1_put cX1_put 2 none 6 0 0 [.ref ho, .ref x.1] ([(ho, .inr (2, [.ref st, .ref fi, .ref bl, .long (lN msg.length), .ref wo])), (st, war dA 5 (t5 (hs1 msg (msg.length / 64)))), (wo, war dA 80 gw), (bl, bar dA 64 gb)] ++ F) (fun u => Blk u.2.2 (msg ++ keyMsg x.2.1)) (fun _ => none) (fun u => [(ho, .inr (2, [.ref st, .ref fi, .ref bl, .long (lN ((msg ++ keyMsg x.2.1).length)), .ref wo])), (st, war dA 5 (t5 (hs1 (msg ++ keyMsg x.2.1) ((msg ++ keyMsg x.2.1).length / 64)))), (wo, war dA 80 u.1), (bl, bar dA 64 u.2.2)] ++ F) := by
  refine Ct.mk2 (by decide) (Nat.le_of_ble_eq_true rfl) hZ ?_
  intro p e R s m args below meth c ls Q C hr hlocks hin hQ hl h
  have C0 := C
  obtain ⟨hx, hb, hml, hown, hts, -⟩ := C0
  have hl : lv_has ls 2 [(0, .ref ho), (1, .ref x.1)] := hl
  obtain ⟨⟨hkb, hkl, hko, hks⟩, ba, an, ae, ap, sa, hnm, hba, han, hae, hap, hsa⟩ := hN
  try dsimp only at hkb hkl hko hks hnm hba han hae hap hsa
  refine lv_aload_n hx hb dX1_put_0 rfl (lv_at hl 0 rfl) ?_
  refine lv_sipush (v := nI 153) hx hb dX1_put_1 (by decide) ?_
  refine call_U (As := [.int (nI 153)]) (rest := []) (n := 1) C h (c4_put l D dA B Z hZ F ho st fi bl wo gw gb (msg) (nI 153) (153) hbk (by (try simp only [List.length_append, be_len, sl_len, List.length_cons, List.length_nil]) <;> omega) (by decide) (by decide)) (lw_U q1190 q1192 q1193 q1191 q134 q1195) rfl (by decide +kernel) (o_recv C h (RC := RX4) (T := TX4) (N := 5) (List.mem_of_getElem? (i := 0) rfl) rfl) (by decide) (by decide) rfl hl rfl (Nat.le_of_ble_eq_true rfl) dX1_put_4 (by omega) (fun u3 H locs hbk_1 h => ?_)
  obtain ⟨gw_1, y_1, gb_1⟩ := u3
  dsimp only at hbk_1
  have h : Wd D B s ([(ho, .inr (2, [.ref st, .ref fi, .ref bl, .long (lN ((msg ++ [153]).length)), .ref wo])), (st, war dA 5 (t5 (hs1 (msg ++ [153]) ((msg ++ [153]).length / 64)))), (wo, war dA 80 gw_1), (bl, bar dA 64 gb_1)] ++ F) H locs := h
  refine lv_aload_n hx hb dX1_put_7 rfl (lv_at hl 0 rfl) ?_
  refine lv_aload_n hx hb dX1_put_8 rfl (lv_at hl 1 rfl) ?_
  refine o_get C h (RC := RX16) (T := TX16) (N := 6) (List.mem_append_right _ hnm) rfl in_X16 0 (by decide) q1148 rfl (v := .ref ba) rfl dX1_put_9 ?_
  refine n_balen C h (List.mem_append_right _ hba) dX1_put_12 ?_
  refine lv_i2l (v := lN x.2.1.length) hx hb dX1_put_13 (nI_l (by omega)) ?_
  refine lv_iconst (v := nI 2) hx hb dX1_put_14 (by decide) ?_
  refine call_U (As := [.long (lN x.2.1.length), .int (nI 2)]) (rest := []) (n := 2) C h (c4_number l D dA B Z hZ F ho st fi bl wo gw_1 gb_1 (msg ++ [153]) (x.2.1.length) 2 hbk_1 (by omega) (by decide) (by (try simp only [List.length_append, be_len, sl_len, List.length_cons, List.length_nil]) <;> omega)) (lw_U q1224 q1226 q1227 q1225 q134 q1229) rfl (by decide +kernel) (o_recv C h (RC := RX4) (T := TX4) (N := 5) (List.mem_of_getElem? (i := 0) rfl) rfl) (by decide) (by decide) rfl hl rfl (Nat.le_of_ble_eq_true rfl) dX1_put_15 (by omega) (fun u3 H locs hbk_2 h => ?_)
  obtain ⟨gw_2, y_2, gb_2⟩ := u3
  dsimp only at hbk_2
  have h : Wd D B s ([(ho, .inr (2, [.ref st, .ref fi, .ref bl, .long (lN ((msg ++ [153] ++ be 2 x.2.1.length).length)), .ref wo])), (st, war dA 5 (t5 (hs1 (msg ++ [153] ++ be 2 x.2.1.length) ((msg ++ [153] ++ be 2 x.2.1.length).length / 64)))), (wo, war dA 80 gw_2), (bl, bar dA 64 gb_2)] ++ F) H locs := h
  refine lv_aload_n hx hb dX1_put_18 rfl (lv_at hl 0 rfl) ?_
  refine lv_aload_n hx hb dX1_put_19 rfl (lv_at hl 1 rfl) ?_
  refine o_get C h (RC := RX16) (T := TX16) (N := 6) (List.mem_append_right _ hnm) rfl in_X16 0 (by decide) q1148 rfl (v := .ref ba) rfl dX1_put_20 ?_
  refine lv_iconst (v := nI 0) hx hb dX1_put_23 (by decide) ?_
  refine lv_aload_n hx hb dX1_put_24 rfl (lv_at hl 1 rfl) ?_
  refine o_get C h (RC := RX16) (T := TX16) (N := 6) (List.mem_append_right _ hnm) rfl in_X16 0 (by decide) q1148 rfl (v := .ref ba) rfl dX1_put_25 ?_
  refine n_balen C h (List.mem_append_right _ hba) dX1_put_28 ?_
  refine call_U (As := [.ref ba, .int (nI 0), .int (nI x.2.1.length)]) (rest := []) (n := 3) C h (c4_putA l D dA B Z hZ F ho st fi bl wo gw_2 gb_2 (msg ++ [153] ++ be 2 x.2.1.length) ba (x.2.1.length) (0) (x.2.1.length) (gD x.2.1) hbk_2 (hba) (by omega) (by omega) (by omega) (by (try simp only [List.length_append, be_len, sl_len, List.length_cons, List.length_nil]) <;> omega) (fun j _ => byt_gD hkb j)) (lw_U q1231 q1233 q1234 q1232 q134 q1236) rfl (by decide +kernel) (o_recv C h (RC := RX4) (T := TX4) (N := 5) (List.mem_of_getElem? (i := 0) rfl) rfl) (by decide) (by decide) rfl hl rfl (Nat.le_of_ble_eq_true rfl) dX1_put_29 (by omega) (fun u3 H locs hbk_3 h => ?_)
  obtain ⟨gw_3, y_3, gb_3⟩ := u3
  dsimp only at hbk_3
  have h : Wd D B s ([(ho, .inr (2, [.ref st, .ref fi, .ref bl, .long (lN ((msg ++ [153] ++ be 2 x.2.1.length ++ sl (gD x.2.1) 0 (x.2.1.length - 0)).length)), .ref wo])), (st, war dA 5 (t5 (hs1 (msg ++ [153] ++ be 2 x.2.1.length ++ sl (gD x.2.1) 0 (x.2.1.length - 0)) ((msg ++ [153] ++ be 2 x.2.1.length ++ sl (gD x.2.1) 0 (x.2.1.length - 0)).length / 64)))), (wo, war dA 80 gw_3), (bl, bar dA 64 gb_3)] ++ F) H locs := h
  subst hQ
  have e9 : msg ++ [153] ++ be 2 x.2.1.length ++ sl (gD x.2.1) 0 (x.2.1.length - 0) = msg ++ keyMsg x.2.1 := by rw [Nat.sub_zero, sl_gD]; unfold keyMsg; simp
  rw [e9] at h hbk_3
  exact ret_v C hr hlocks h (gw_3, gw_3, gb_3) hbk_3 rfl rfl (by omega) (by omega) dX1_put_32
set_option maxHeartbeats 400000 in
set_option maxRecDepth 100000 in
theorem c1_putText4 (l : Launch) (D : va_G) (dA : Nat → ClassId) (B : Nat) (Z : State → Prop) (hZ : Stab B Z) (F : va_W) (ho st fi bl wo : Nat) (gw : Nat → Int32) (gb : Nat → Nat) (msg : List Nat) (a n0 : Nat) (ga : Nat → Nat) (lt : List Nat)  (hbk : Blk gb msg) (hm : (a, bar dA n0 ga) ∈ F) (hsb : SBis ga n0 lt) (hbt : byt lt) (hn0 : n0 < 1000000) (hml : msg.length + 2 * lt.length < 900000) :
    Ct (S := (Nat → Int32) × (Nat → Int32) × (Nat → Nat)) l D dA B Z yX1_putText cX1_putText 4 none 6 0 0 [.ref ho, .ref a, .int (nI lt.length)] ([(ho, .inr (2, [.ref st, .ref fi, .ref bl, .long (lN msg.length), .ref wo])), (st, war dA 5 (t5 (hs1 msg (msg.length / 64)))), (wo, war dA 80 gw), (bl, bar dA 64 gb)] ++ F) (fun u => Blk u.2.2 (msg ++ txS true lt lt.length)) (fun _ => none) (fun u => [(ho, .inr (2, [.ref st, .ref fi, .ref bl, .long (lN ((msg ++ txS true lt lt.length).length)), .ref wo])), (st, war dA 5 (t5 (hs1 (msg ++ txS true lt lt.length) ((msg ++ txS true lt lt.length).length / 64)))), (wo, war dA 80 u.1), (bl, bar dA 64 u.2.2)] ++ F) := by
  refine Ct.mk2 (by decide) (Nat.le_of_ble_eq_true rfl) hZ ?_
  intro p e R s m args below meth c ls Q C hr hlocks hin hQ hl h
  have C0 := C
  obtain ⟨hx, hb, hml, hown, hts, -⟩ := C0
  have hl : lv_has ls 4 [(0, .ref ho), (1, .ref a), (2, .int (nI lt.length))] := hl
  have hsl := hsb.1
  have hs9 : ∀ j, j < lt.length → ga j = gD lt j := hsb.2
  have h : Wd D B s ([(ho, .inr (2, [.ref st, .ref fi, .ref bl, .long (lN ((msg ++ txS true lt 0).length)), .ref wo])), (st, war dA 5 (t5 (hs1 (msg ++ txS true lt 0) ((msg ++ txS true lt 0).length / 64)))), (wo, war dA 80 gw), (bl, bar dA 64 gb)] ++ F) s.heap [] := by rw [show txS true lt 0 = [] from rfl, List.append_nil]; exact h
  have hb0 : Blk gb (msg ++ txS true lt 0) := by rw [show txS true lt 0 = [] from rfl, List.append_nil]; exact hbk
  refine lv_iconst (v := nI 0) hx hb dX1_putText_0 (by decide) ?_
  refine lv_istore_n (lv' := [(3, .int (nI 0)), (0, .ref ho), (1, .ref a), (2, .int (nI lt.length))]) hx hb dX1_putText_1 rfl hl (by decide) rfl (fun ls hl => ?_)
  have loop : ∀ (nn : Nat) (i : Nat) (g1 y1 : Nat → Int32) (gb1 : Nat → Nat), (i ≤ lt.length) → (Blk gb1 (msg ++ txS true lt i)) → lt.length - i < nn → ∀ (H : Heap) (locs : List Loc), Wd D B s ([(ho, .inr (2, [.ref st, .ref fi, .ref bl, .long (lN ((msg ++ txS true lt i).length)), .ref wo])), (st, war dA 5 (t5 (hs1 (msg ++ txS true lt i) ((msg ++ txS true lt i).length / 64)))), (wo, war dA 80 g1), (bl, bar dA 64 gb1)] ++ F) H locs → ∀ (ls : Array Slot), lv_has ls 4 [(3, .int (nI i)), (0, .ref ho), (1, .ref a), (2, .int (nI lt.length))] → W p l e R s m args below meth c H locs 0 0 Q (F0 m 2 ls []) := by
    intro nn
    induction nn with
    | zero => intro i  g1 y1  gb1  hi hb1 hme; exact absurd hme (Nat.not_lt_zero _)
    | succ nn ih =>
      intro i  g1 y1  gb1  hi hb1 hme H locs h ls hl
      have hlen : (msg ++ txS true lt i).length ≤ msg.length + 2 * i := by rw [List.length_append]; have := txS_len true lt i; omega
      refine lv_iload_n hx hb dX1_putText_2 rfl (lv_at hl 0 rfl) ?_
      refine lv_iload_n hx hb dX1_putText_3 rfl (lv_at hl 3 rfl) ?_
      refine n_icmp_ge (tgt := 48) hx hb (by omega) (by omega) dX1_putText_4 (by decide) (fun c4 => ?_) (fun c4 => ?_)
      · subst hQ
        have hie : i = lt.length := by omega
        rw [hie] at h hb1
        exact ret_v C hr hlocks h (g1, g1, gb1) hb1 rfl rfl (by omega) (by omega) dX1_putText_48
      · have hgi := hs9 i (by omega)
        have hg0 := byt_gD hbt i
        have hg1 := byt_gD hbt (i - 1)
        refine lv_aload_n hx hb dX1_putText_7 rfl (lv_at hl 2 rfl) ?_
        refine lv_iload_n hx hb dX1_putText_8 rfl (lv_at hl 0 rfl) ?_
        refine n_bald C h (v := ga i) (List.mem_append_right _ hm) (show i < n0 by omega) (by omega) rfl dX1_putText_9 ?_
        refine lv_bipush (v := nI 10) hx hb dX1_putText_10 (by decide) ?_
        refine lv_icmp_ne (tgt := 35) hx hb dX1_putText_12 (by decide) (fun c12 => ?_) (fun c12 => ?_)
        · have q10 : ¬ gD lt i = 10 := fun q => c12 (by rw [hgi, q]; decide)
          refine lv_aload_n hx hb dX1_putText_35 rfl (lv_at hl 1 rfl) ?_
          refine lv_aload_n hx hb dX1_putText_36 rfl (lv_at hl 2 rfl) ?_
          refine lv_iload_n hx hb dX1_putText_37 rfl (lv_at hl 0 rfl) ?_
          refine n_bald C h (v := ga i) (List.mem_append_right _ hm) (show i < n0 by omega) (by omega) rfl dX1_putText_38 ?_
          refine call_U (As := [.int (sb_b (ga i))]) (rest := []) (n := 1) C h (c4_put l D dA B Z hZ F ho st fi bl wo g1 gb1 (msg ++ txS true lt i) (sb_b (ga i)) (ga i) hb1 (by omega) (sb_idem _) (by omega)) (lw_U q1190 q1192 q1193 q1191 q134 q1195) rfl (by decide +kernel) (o_recv C h (RC := RX4) (T := TX4) (N := 5) (List.mem_of_getElem? (i := 0) rfl) rfl) (by decide) (by decide) rfl hl rfl (Nat.le_of_ble_eq_true rfl) dX1_putText_39 (by omega) (fun u3 H locs hbk_1 h => ?_)
          obtain ⟨gw_1, y_1, gb_1⟩ := u3
          dsimp only at hbk_1
          have h : Wd D B s ([(ho, .inr (2, [.ref st, .ref fi, .ref bl, .long (lN ((msg ++ txS true lt i ++ [ga i]).length)), .ref wo])), (st, war dA 5 (t5 (hs1 (msg ++ txS true lt i ++ [ga i]) ((msg ++ txS true lt i ++ [ga i]).length / 64)))), (wo, war dA 80 gw_1), (bl, bar dA 64 gb_1)] ++ F) H locs := h
          have e9 : msg ++ txS true lt i ++ [ga i] = msg ++ txS true lt (i + 1) := by rw [txS, if_neg (by unfold txC; first | (rw [decide_eq_false q10]; simp) | (rw [decide_eq_true q13, decide_eq_false (show ¬ i = 0 by omega)]; simp)), hgi]; simp
          rw [e9] at h hbk_1
          refine lv_iinc (v := nI (i + 1)) (lv' := [(3, .int (nI (i + 1))), (0, .ref ho), (1, .ref a), (2, .int (nI lt.length))]) hx hb dX1_putText_42 hl (k := 0) rfl (nI_add i 1) (by decide) rfl (fun ls hl => ?_)
          refine lv_goto (tgt := 2) hx hb dX1_putText_45 (by decide) ?_
          exact ih (i + 1) gw_1 gw_1 gb_1 (by omega) hbk_1 (by omega) _ _ h _ (lv_sub hl [0, 1, 2, 3] rfl)
        · have q10 : gD lt i = 10 := by rw [hgi] at c12; exact sb_inj hg0 (by decide) (c12.trans (by decide))
          refine lv_iload_n hx hb dX1_putText_15 rfl (lv_at hl 0 rfl) ?_
          refine n_if_eq (tgt := 29) hx hb (by omega) dX1_putText_16 (by decide) (fun c16 => ?_) (fun c16 => ?_)
          · refine lv_aload_n hx hb dX1_putText_29 rfl (lv_at hl 1 rfl) ?_
            refine lv_bipush (v := nI 13) hx hb dX1_putText_30 (by decide) ?_
            refine call_U (As := [.int (nI 13)]) (rest := []) (n := 1) C h (c4_put l D dA B Z hZ F ho st fi bl wo g1 gb1 (msg ++ txS true lt i) (nI 13) (13) hb1 (by omega) (by decide) (by decide)) (lw_U q1190 q1192 q1193 q1191 q134 q1195) rfl (by decide +kernel) (o_recv C h (RC := RX4) (T := TX4) (N := 5) (List.mem_of_getElem? (i := 0) rfl) rfl) (by decide) (by decide) rfl hl rfl (Nat.le_of_ble_eq_true rfl) dX1_putText_32 (by omega) (fun u3 H locs hbk_2 h => ?_)
            obtain ⟨gw_2, y_2, gb_2⟩ := u3
            dsimp only at hbk_2
            have h : Wd D B s ([(ho, .inr (2, [.ref st, .ref fi, .ref bl, .long (lN ((msg ++ txS true lt i ++ [13]).length)), .ref wo])), (st, war dA 5 (t5 (hs1 (msg ++ txS true lt i ++ [13]) ((msg ++ txS true lt i ++ [13]).length / 64)))), (wo, war dA 80 gw_2), (bl, bar dA 64 gb_2)] ++ F) H locs := h
            refine lv_aload_n hx hb dX1_putText_35 rfl (lv_at hl 1 rfl) ?_
            refine lv_aload_n hx hb dX1_putText_36 rfl (lv_at hl 2 rfl) ?_
            refine lv_iload_n hx hb dX1_putText_37 rfl (lv_at hl 0 rfl) ?_
            refine n_bald C h (v := ga i) (List.mem_append_right _ hm) (show i < n0 by omega) (by omega) rfl dX1_putText_38 ?_
            have hlen2 : (msg ++ txS true lt i ++ [13]).length = (msg ++ txS true lt i).length + 1 := by rw [List.length_append]; rfl
            refine call_U (As := [.int (sb_b (ga i))]) (rest := []) (n := 1) C h (c4_put l D dA B Z hZ F ho st fi bl wo gw_2 gb_2 (msg ++ txS true lt i ++ [13]) (sb_b (ga i)) (ga i) hbk_2 (by omega) (sb_idem _) (by omega)) (lw_U q1190 q1192 q1193 q1191 q134 q1195) rfl (by decide +kernel) (o_recv C h (RC := RX4) (T := TX4) (N := 5) (List.mem_of_getElem? (i := 0) rfl) rfl) (by decide) (by decide) rfl hl rfl (Nat.le_of_ble_eq_true rfl) dX1_putText_39 (by omega) (fun u3 H locs hbk_3 h => ?_)
            obtain ⟨gw_3, y_3, gb_3⟩ := u3
            dsimp only at hbk_3
            have h : Wd D B s ([(ho, .inr (2, [.ref st, .ref fi, .ref bl, .long (lN ((msg ++ txS true lt i ++ [13] ++ [ga i]).length)), .ref wo])), (st, war dA 5 (t5 (hs1 (msg ++ txS true lt i ++ [13] ++ [ga i]) ((msg ++ txS true lt i ++ [13] ++ [ga i]).length / 64)))), (wo, war dA 80 gw_3), (bl, bar dA 64 gb_3)] ++ F) H locs := h
            have e9 : msg ++ txS true lt i ++ [13] ++ [ga i] = msg ++ txS true lt (i + 1) := by rw [txS, if_pos (by unfold txC; rw [decide_eq_true (show gD lt i = 10 by first | exact q10 | omega)]; first | (rw [decide_eq_true (show i = 0 by omega)]; rfl) | (rw [decide_eq_false q13]; simp)), hgi]; simp
            rw [e9] at h hbk_3
            refine lv_iinc (v := nI (i + 1)) (lv' := [(3, .int (nI (i + 1))), (0, .ref ho), (1, .ref a), (2, .int (nI lt.length))]) hx hb dX1_putText_42 hl (k := 0) rfl (nI_add i 1) (by decide) rfl (fun ls hl => ?_)
            refine lv_goto (tgt := 2) hx hb dX1_putText_45 (by decide) ?_
            exact ih (i + 1) gw_3 gw_3 gb_3 (by omega) hbk_3 (by omega) _ _ h _ (lv_sub hl [0, 1, 2, 3] rfl)
          · refine lv_aload_n hx hb dX1_putText_19 rfl (lv_at hl 2 rfl) ?_
            refine lv_iload_n hx hb dX1_putText_20 rfl (lv_at hl 0 rfl) ?_
            refine lv_iconst (v := nI 1) hx hb dX1_putText_21 (by decide) ?_
            refine lv_isub hx hb dX1_putText_22 (n_top (y := nI (i - 1)) (pk_sub (by omega)) ?_)
            refine n_bald C h (v := ga (i - 1)) (List.mem_append_right _ hm) (show i - 1 < n0 by omega) (by omega) rfl dX1_putText_23 ?_
            refine lv_bipush (v := nI 13) hx hb dX1_putText_24 (by decide) ?_
            refine lv_icmp_eq (tgt := 35) hx hb dX1_putText_26 (by decide) (fun c26 => ?_) (fun c26 => ?_)
            · have q13 : gD lt (i - 1) = 13 := by rw [hs9 (i - 1) (by omega)] at c26; exact sb_inj hg1 (by decide) (c26.trans (by decide))
              refine lv_aload_n hx hb dX1_putText_35 rfl (lv_at hl 1 rfl) ?_
              refine lv_aload_n hx hb dX1_putText_36 rfl (lv_at hl 2 rfl) ?_
              refine lv_iload_n hx hb dX1_putText_37 rfl (lv_at hl 0 rfl) ?_
              refine n_bald C h (v := ga i) (List.mem_append_right _ hm) (show i < n0 by omega) (by omega) rfl dX1_putText_38 ?_
              refine call_U (As := [.int (sb_b (ga i))]) (rest := []) (n := 1) C h (c4_put l D dA B Z hZ F ho st fi bl wo g1 gb1 (msg ++ txS true lt i) (sb_b (ga i)) (ga i) hb1 (by omega) (sb_idem _) (by omega)) (lw_U q1190 q1192 q1193 q1191 q134 q1195) rfl (by decide +kernel) (o_recv C h (RC := RX4) (T := TX4) (N := 5) (List.mem_of_getElem? (i := 0) rfl) rfl) (by decide) (by decide) rfl hl rfl (Nat.le_of_ble_eq_true rfl) dX1_putText_39 (by omega) (fun u3 H locs hbk_4 h => ?_)
              obtain ⟨gw_4, y_4, gb_4⟩ := u3
              dsimp only at hbk_4
              have h : Wd D B s ([(ho, .inr (2, [.ref st, .ref fi, .ref bl, .long (lN ((msg ++ txS true lt i ++ [ga i]).length)), .ref wo])), (st, war dA 5 (t5 (hs1 (msg ++ txS true lt i ++ [ga i]) ((msg ++ txS true lt i ++ [ga i]).length / 64)))), (wo, war dA 80 gw_4), (bl, bar dA 64 gb_4)] ++ F) H locs := h
              have e9 : msg ++ txS true lt i ++ [ga i] = msg ++ txS true lt (i + 1) := by rw [txS, if_neg (by unfold txC; first | (rw [decide_eq_false q10]; simp) | (rw [decide_eq_true q13, decide_eq_false (show ¬ i = 0 by omega)]; simp)), hgi]; simp
              rw [e9] at h hbk_4
              refine lv_iinc (v := nI (i + 1)) (lv' := [(3, .int (nI (i + 1))), (0, .ref ho), (1, .ref a), (2, .int (nI lt.length))]) hx hb dX1_putText_42 hl (k := 0) rfl (nI_add i 1) (by decide) rfl (fun ls hl => ?_)
              refine lv_goto (tgt := 2) hx hb dX1_putText_45 (by decide) ?_
              exact ih (i + 1) gw_4 gw_4 gb_4 (by omega) hbk_4 (by omega) _ _ h _ (lv_sub hl [0, 1, 2, 3] rfl)
            · have q13 : ¬ gD lt (i - 1) = 13 := fun q => c26 (by rw [hs9 (i - 1) (by omega), q]; decide)
              refine lv_aload_n hx hb dX1_putText_29 rfl (lv_at hl 1 rfl) ?_
              refine lv_bipush (v := nI 13) hx hb dX1_putText_30 (by decide) ?_
              refine call_U (As := [.int (nI 13)]) (rest := []) (n := 1) C h (c4_put l D dA B Z hZ F ho st fi bl wo g1 gb1 (msg ++ txS true lt i) (nI 13) (13) hb1 (by omega) (by decide) (by decide)) (lw_U q1190 q1192 q1193 q1191 q134 q1195) rfl (by decide +kernel) (o_recv C h (RC := RX4) (T := TX4) (N := 5) (List.mem_of_getElem? (i := 0) rfl) rfl) (by decide) (by decide) rfl hl rfl (Nat.le_of_ble_eq_true rfl) dX1_putText_32 (by omega) (fun u3 H locs hbk_5 h => ?_)
              obtain ⟨gw_5, y_5, gb_5⟩ := u3
              dsimp only at hbk_5
              have h : Wd D B s ([(ho, .inr (2, [.ref st, .ref fi, .ref bl, .long (lN ((msg ++ txS true lt i ++ [13]).length)), .ref wo])), (st, war dA 5 (t5 (hs1 (msg ++ txS true lt i ++ [13]) ((msg ++ txS true lt i ++ [13]).length / 64)))), (wo, war dA 80 gw_5), (bl, bar dA 64 gb_5)] ++ F) H locs := h
              refine lv_aload_n hx hb dX1_putText_35 rfl (lv_at hl 1 rfl) ?_
              refine lv_aload_n hx hb dX1_putText_36 rfl (lv_at hl 2 rfl) ?_
              refine lv_iload_n hx hb dX1_putText_37 rfl (lv_at hl 0 rfl) ?_
              refine n_bald C h (v := ga i) (List.mem_append_right _ hm) (show i < n0 by omega) (by omega) rfl dX1_putText_38 ?_
              have hlen2 : (msg ++ txS true lt i ++ [13]).length = (msg ++ txS true lt i).length + 1 := by rw [List.length_append]; rfl
              refine call_U (As := [.int (sb_b (ga i))]) (rest := []) (n := 1) C h (c4_put l D dA B Z hZ F ho st fi bl wo gw_5 gb_5 (msg ++ txS true lt i ++ [13]) (sb_b (ga i)) (ga i) hbk_5 (by omega) (sb_idem _) (by omega)) (lw_U q1190 q1192 q1193 q1191 q134 q1195) rfl (by decide +kernel) (o_recv C h (RC := RX4) (T := TX4) (N := 5) (List.mem_of_getElem? (i := 0) rfl) rfl) (by decide) (by decide) rfl hl rfl (Nat.le_of_ble_eq_true rfl) dX1_putText_39 (by omega) (fun u3 H locs hbk_6 h => ?_)
              obtain ⟨gw_6, y_6, gb_6⟩ := u3
              dsimp only at hbk_6
              have h : Wd D B s ([(ho, .inr (2, [.ref st, .ref fi, .ref bl, .long (lN ((msg ++ txS true lt i ++ [13] ++ [ga i]).length)), .ref wo])), (st, war dA 5 (t5 (hs1 (msg ++ txS true lt i ++ [13] ++ [ga i]) ((msg ++ txS true lt i ++ [13] ++ [ga i]).length / 64)))), (wo, war dA 80 gw_6), (bl, bar dA 64 gb_6)] ++ F) H locs := h
              have e9 : msg ++ txS true lt i ++ [13] ++ [ga i] = msg ++ txS true lt (i + 1) := by rw [txS, if_pos (by unfold txC; rw [decide_eq_true (show gD lt i = 10 by first | exact q10 | omega)]; first | (rw [decide_eq_true (show i = 0 by omega)]; rfl) | (rw [decide_eq_false q13]; simp)), hgi]; simp
              rw [e9] at h hbk_6
              refine lv_iinc (v := nI (i + 1)) (lv' := [(3, .int (nI (i + 1))), (0, .ref ho), (1, .ref a), (2, .int (nI lt.length))]) hx hb dX1_putText_42 hl (k := 0) rfl (nI_add i 1) (by decide) rfl (fun ls hl => ?_)
              refine lv_goto (tgt := 2) hx hb dX1_putText_45 (by decide) ?_
              exact ih (i + 1) gw_6 gw_6 gb_6 (by omega) hbk_6 (by omega) _ _ h _ (lv_sub hl [0, 1, 2, 3] rfl)
  exact loop _ 0 gw gw gb (by omega) hb0 (Nat.lt_succ_self _) _ _ h _ (lv_sub hl [0, 1, 2, 3] rfl)
set_option maxHeartbeats 400000 in
set_option maxRecDepth 100000 in
theorem c1_putN5 (l : Launch) (D : va_G) (dA : Nat → ClassId) (B : Nat) (Z : State → Prop) (hZ : Stab B Z) (F : va_W) (ho st fi bl wo ei : Nat) (gw y : Nat → Int32) (gb : Nat → Nat) (msg : List Nat) (x : NBr) (hzA : ∀ U : State, Z U → ∃ t, va_Z "SignetRing$Second" "ADD" "[I" (.ref t) (bA B) U U.heap ∧ va_T .int t 64 (fun j => .int (K2 j)) (bA B) U U.heap) (hbk : Blk gb msg) (hN : NumIn dA F x) (hml : msg.length < 100000) :
    Ct (S := (Nat → Int32) × (Nat → Int32) × (Nat → Nat)) l D dA B Z yX1_put cX1_put 2 none 6 0 0 [.ref ho, .ref x.1] ([(ho, .inr (3, [.ref st, .ref fi, .ref bl, .long (lN msg.length), .ref wo, .ref ei])), (st, war dA 8 (hs2 msg (msg.length / 64))), (wo, war dA 64 gw), (ei, war dA 8 y), (bl, bar dA 64 gb)] ++ F) (fun u => Blk u.2.2 (msg ++ keyMsg x.2.1)) (fun _ => none) (fun u => [(ho, .inr (3, [.ref st, .ref fi, .ref bl, .long (lN ((msg ++ keyMsg x.2.1).length)), .ref wo, .ref ei])), (st, war dA 8 (hs2 (msg ++ keyMsg x.2.1) ((msg ++ keyMsg x.2.1).length / 64))), (wo, war dA 64 u.1), (ei, war dA 8 u.2.1), (bl, bar dA 64 u.2.2)] ++ F) := by
  refine Ct.mk2 (by decide) (Nat.le_of_ble_eq_true rfl) hZ ?_
  intro p e R s m args below meth c ls Q C hr hlocks hin hQ hl h
  have C0 := C
  obtain ⟨hx, hb, hml, hown, hts, -⟩ := C0
  have hl : lv_has ls 2 [(0, .ref ho), (1, .ref x.1)] := hl
  obtain ⟨⟨hkb, hkl, hko, hks⟩, ba, an, ae, ap, sa, hnm, hba, han, hae, hap, hsa⟩ := hN
  try dsimp only at hkb hkl hko hks hnm hba han hae hap hsa
  refine lv_aload_n hx hb dX1_put_0 rfl (lv_at hl 0 rfl) ?_
  refine lv_sipush (v := nI 153) hx hb dX1_put_1 (by decide) ?_
  refine call_U (As := [.int (nI 153)]) (rest := []) (n := 1) C h (c5_put l D dA B Z hZ F ho st fi bl wo ei gw y gb (msg) (nI 153) (153) hzA hbk (by (try simp only [List.length_append, be_len, sl_len, List.length_cons, List.length_nil]) <;> omega) (by decide) (by decide)) (lw_U q1190 q1192 q1194 q1191 q134 q1195) rfl (by decide +kernel) (o_recv C h (RC := RX5) (T := TX5) (N := 6) (List.mem_of_getElem? (i := 0) rfl) rfl) (by decide) (by decide) rfl hl rfl (Nat.le_of_ble_eq_true rfl) dX1_put_4 (by omega) (fun u3 H locs hbk_1 h => ?_)
  obtain ⟨gw_1, y_1, gb_1⟩ := u3
  dsimp only at hbk_1
  have h : Wd D B s ([(ho, .inr (3, [.ref st, .ref fi, .ref bl, .long (lN ((msg ++ [153]).length)), .ref wo, .ref ei])), (st, war dA 8 (hs2 (msg ++ [153]) ((msg ++ [153]).length / 64))), (wo, war dA 64 gw_1), (ei, war dA 8 y_1), (bl, bar dA 64 gb_1)] ++ F) H locs := h
  refine lv_aload_n hx hb dX1_put_7 rfl (lv_at hl 0 rfl) ?_
  refine lv_aload_n hx hb dX1_put_8 rfl (lv_at hl 1 rfl) ?_
  refine o_get C h (RC := RX16) (T := TX16) (N := 6) (List.mem_append_right _ hnm) rfl in_X16 0 (by decide) q1148 rfl (v := .ref ba) rfl dX1_put_9 ?_
  refine n_balen C h (List.mem_append_right _ hba) dX1_put_12 ?_
  refine lv_i2l (v := lN x.2.1.length) hx hb dX1_put_13 (nI_l (by omega)) ?_
  refine lv_iconst (v := nI 2) hx hb dX1_put_14 (by decide) ?_
  refine call_U (As := [.long (lN x.2.1.length), .int (nI 2)]) (rest := []) (n := 2) C h (c5_number l D dA B Z hZ F ho st fi bl wo ei gw_1 y_1 gb_1 (msg ++ [153]) (x.2.1.length) 2 hzA hbk_1 (by omega) (by decide) (by (try simp only [List.length_append, be_len, sl_len, List.length_cons, List.length_nil]) <;> omega)) (lw_U q1224 q1226 q1228 q1225 q134 q1229) rfl (by decide +kernel) (o_recv C h (RC := RX5) (T := TX5) (N := 6) (List.mem_of_getElem? (i := 0) rfl) rfl) (by decide) (by decide) rfl hl rfl (Nat.le_of_ble_eq_true rfl) dX1_put_15 (by omega) (fun u3 H locs hbk_2 h => ?_)
  obtain ⟨gw_2, y_2, gb_2⟩ := u3
  dsimp only at hbk_2
  have h : Wd D B s ([(ho, .inr (3, [.ref st, .ref fi, .ref bl, .long (lN ((msg ++ [153] ++ be 2 x.2.1.length).length)), .ref wo, .ref ei])), (st, war dA 8 (hs2 (msg ++ [153] ++ be 2 x.2.1.length) ((msg ++ [153] ++ be 2 x.2.1.length).length / 64))), (wo, war dA 64 gw_2), (ei, war dA 8 y_2), (bl, bar dA 64 gb_2)] ++ F) H locs := h
  refine lv_aload_n hx hb dX1_put_18 rfl (lv_at hl 0 rfl) ?_
  refine lv_aload_n hx hb dX1_put_19 rfl (lv_at hl 1 rfl) ?_
  refine o_get C h (RC := RX16) (T := TX16) (N := 6) (List.mem_append_right _ hnm) rfl in_X16 0 (by decide) q1148 rfl (v := .ref ba) rfl dX1_put_20 ?_
  refine lv_iconst (v := nI 0) hx hb dX1_put_23 (by decide) ?_
  refine lv_aload_n hx hb dX1_put_24 rfl (lv_at hl 1 rfl) ?_
  refine o_get C h (RC := RX16) (T := TX16) (N := 6) (List.mem_append_right _ hnm) rfl in_X16 0 (by decide) q1148 rfl (v := .ref ba) rfl dX1_put_25 ?_
  refine n_balen C h (List.mem_append_right _ hba) dX1_put_28 ?_
  refine call_U (As := [.ref ba, .int (nI 0), .int (nI x.2.1.length)]) (rest := []) (n := 3) C h (c5_putA l D dA B Z hZ F ho st fi bl wo ei gw_2 y_2 gb_2 (msg ++ [153] ++ be 2 x.2.1.length) ba (x.2.1.length) (0) (x.2.1.length) (gD x.2.1) hzA hbk_2 (hba) (by omega) (by omega) (by omega) (by (try simp only [List.length_append, be_len, sl_len, List.length_cons, List.length_nil]) <;> omega) (fun j _ => byt_gD hkb j)) (lw_U q1231 q1233 q1235 q1232 q134 q1236) rfl (by decide +kernel) (o_recv C h (RC := RX5) (T := TX5) (N := 6) (List.mem_of_getElem? (i := 0) rfl) rfl) (by decide) (by decide) rfl hl rfl (Nat.le_of_ble_eq_true rfl) dX1_put_29 (by omega) (fun u3 H locs hbk_3 h => ?_)
  obtain ⟨gw_3, y_3, gb_3⟩ := u3
  dsimp only at hbk_3
  have h : Wd D B s ([(ho, .inr (3, [.ref st, .ref fi, .ref bl, .long (lN ((msg ++ [153] ++ be 2 x.2.1.length ++ sl (gD x.2.1) 0 (x.2.1.length - 0)).length)), .ref wo, .ref ei])), (st, war dA 8 (hs2 (msg ++ [153] ++ be 2 x.2.1.length ++ sl (gD x.2.1) 0 (x.2.1.length - 0)) ((msg ++ [153] ++ be 2 x.2.1.length ++ sl (gD x.2.1) 0 (x.2.1.length - 0)).length / 64))), (wo, war dA 64 gw_3), (ei, war dA 8 y_3), (bl, bar dA 64 gb_3)] ++ F) H locs := h
  subst hQ
  have e9 : msg ++ [153] ++ be 2 x.2.1.length ++ sl (gD x.2.1) 0 (x.2.1.length - 0) = msg ++ keyMsg x.2.1 := by rw [Nat.sub_zero, sl_gD]; unfold keyMsg; simp
  rw [e9] at h hbk_3
  exact ret_v C hr hlocks h (gw_3, y_3, gb_3) hbk_3 rfl rfl (by omega) (by omega) dX1_put_32
set_option maxHeartbeats 400000 in
set_option maxRecDepth 100000 in
theorem c1_putText5 (l : Launch) (D : va_G) (dA : Nat → ClassId) (B : Nat) (Z : State → Prop) (hZ : Stab B Z) (F : va_W) (ho st fi bl wo ei : Nat) (gw y : Nat → Int32) (gb : Nat → Nat) (msg : List Nat) (a n0 : Nat) (ga : Nat → Nat) (lt : List Nat) (hzA : ∀ U : State, Z U → ∃ t, va_Z "SignetRing$Second" "ADD" "[I" (.ref t) (bA B) U U.heap ∧ va_T .int t 64 (fun j => .int (K2 j)) (bA B) U U.heap) (hbk : Blk gb msg) (hm : (a, bar dA n0 ga) ∈ F) (hsb : SBis ga n0 lt) (hbt : byt lt) (hn0 : n0 < 1000000) (hml : msg.length + 2 * lt.length < 900000) :
    Ct (S := (Nat → Int32) × (Nat → Int32) × (Nat → Nat)) l D dA B Z yX1_putText cX1_putText 4 none 6 0 0 [.ref ho, .ref a, .int (nI lt.length)] ([(ho, .inr (3, [.ref st, .ref fi, .ref bl, .long (lN msg.length), .ref wo, .ref ei])), (st, war dA 8 (hs2 msg (msg.length / 64))), (wo, war dA 64 gw), (ei, war dA 8 y), (bl, bar dA 64 gb)] ++ F) (fun u => Blk u.2.2 (msg ++ txS true lt lt.length)) (fun _ => none) (fun u => [(ho, .inr (3, [.ref st, .ref fi, .ref bl, .long (lN ((msg ++ txS true lt lt.length).length)), .ref wo, .ref ei])), (st, war dA 8 (hs2 (msg ++ txS true lt lt.length) ((msg ++ txS true lt lt.length).length / 64))), (wo, war dA 64 u.1), (ei, war dA 8 u.2.1), (bl, bar dA 64 u.2.2)] ++ F) := by
  refine Ct.mk2 (by decide) (Nat.le_of_ble_eq_true rfl) hZ ?_
  intro p e R s m args below meth c ls Q C hr hlocks hin hQ hl h
  have C0 := C
  obtain ⟨hx, hb, hml, hown, hts, -⟩ := C0
  have hl : lv_has ls 4 [(0, .ref ho), (1, .ref a), (2, .int (nI lt.length))] := hl
  have hsl := hsb.1
  have hs9 : ∀ j, j < lt.length → ga j = gD lt j := hsb.2
  have h : Wd D B s ([(ho, .inr (3, [.ref st, .ref fi, .ref bl, .long (lN ((msg ++ txS true lt 0).length)), .ref wo, .ref ei])), (st, war dA 8 (hs2 (msg ++ txS true lt 0) ((msg ++ txS true lt 0).length / 64))), (wo, war dA 64 gw), (ei, war dA 8 y), (bl, bar dA 64 gb)] ++ F) s.heap [] := by rw [show txS true lt 0 = [] from rfl, List.append_nil]; exact h
  have hb0 : Blk gb (msg ++ txS true lt 0) := by rw [show txS true lt 0 = [] from rfl, List.append_nil]; exact hbk
  refine lv_iconst (v := nI 0) hx hb dX1_putText_0 (by decide) ?_
  refine lv_istore_n (lv' := [(3, .int (nI 0)), (0, .ref ho), (1, .ref a), (2, .int (nI lt.length))]) hx hb dX1_putText_1 rfl hl (by decide) rfl (fun ls hl => ?_)
  have loop : ∀ (nn : Nat) (i : Nat) (g1 y1 : Nat → Int32) (gb1 : Nat → Nat), (i ≤ lt.length) → (Blk gb1 (msg ++ txS true lt i)) → lt.length - i < nn → ∀ (H : Heap) (locs : List Loc), Wd D B s ([(ho, .inr (3, [.ref st, .ref fi, .ref bl, .long (lN ((msg ++ txS true lt i).length)), .ref wo, .ref ei])), (st, war dA 8 (hs2 (msg ++ txS true lt i) ((msg ++ txS true lt i).length / 64))), (wo, war dA 64 g1), (ei, war dA 8 y1), (bl, bar dA 64 gb1)] ++ F) H locs → ∀ (ls : Array Slot), lv_has ls 4 [(3, .int (nI i)), (0, .ref ho), (1, .ref a), (2, .int (nI lt.length))] → W p l e R s m args below meth c H locs 0 0 Q (F0 m 2 ls []) := by
    intro nn
    induction nn with
    | zero => intro i  g1 y1  gb1  hi hb1 hme; exact absurd hme (Nat.not_lt_zero _)
    | succ nn ih =>
      intro i  g1 y1  gb1  hi hb1 hme H locs h ls hl
      have hlen : (msg ++ txS true lt i).length ≤ msg.length + 2 * i := by rw [List.length_append]; have := txS_len true lt i; omega
      refine lv_iload_n hx hb dX1_putText_2 rfl (lv_at hl 0 rfl) ?_
      refine lv_iload_n hx hb dX1_putText_3 rfl (lv_at hl 3 rfl) ?_
      refine n_icmp_ge (tgt := 48) hx hb (by omega) (by omega) dX1_putText_4 (by decide) (fun c4 => ?_) (fun c4 => ?_)
      · subst hQ
        have hie : i = lt.length := by omega
        rw [hie] at h hb1
        exact ret_v C hr hlocks h (g1, y1, gb1) hb1 rfl rfl (by omega) (by omega) dX1_putText_48
      · have hgi := hs9 i (by omega)
        have hg0 := byt_gD hbt i
        have hg1 := byt_gD hbt (i - 1)
        refine lv_aload_n hx hb dX1_putText_7 rfl (lv_at hl 2 rfl) ?_
        refine lv_iload_n hx hb dX1_putText_8 rfl (lv_at hl 0 rfl) ?_
        refine n_bald C h (v := ga i) (List.mem_append_right _ hm) (show i < n0 by omega) (by omega) rfl dX1_putText_9 ?_
        refine lv_bipush (v := nI 10) hx hb dX1_putText_10 (by decide) ?_
        refine lv_icmp_ne (tgt := 35) hx hb dX1_putText_12 (by decide) (fun c12 => ?_) (fun c12 => ?_)
        · have q10 : ¬ gD lt i = 10 := fun q => c12 (by rw [hgi, q]; decide)
          refine lv_aload_n hx hb dX1_putText_35 rfl (lv_at hl 1 rfl) ?_
          refine lv_aload_n hx hb dX1_putText_36 rfl (lv_at hl 2 rfl) ?_
          refine lv_iload_n hx hb dX1_putText_37 rfl (lv_at hl 0 rfl) ?_
          refine n_bald C h (v := ga i) (List.mem_append_right _ hm) (show i < n0 by omega) (by omega) rfl dX1_putText_38 ?_
          refine call_U (As := [.int (sb_b (ga i))]) (rest := []) (n := 1) C h (c5_put l D dA B Z hZ F ho st fi bl wo ei g1 y1 gb1 (msg ++ txS true lt i) (sb_b (ga i)) (ga i) hzA hb1 (by omega) (sb_idem _) (by omega)) (lw_U q1190 q1192 q1194 q1191 q134 q1195) rfl (by decide +kernel) (o_recv C h (RC := RX5) (T := TX5) (N := 6) (List.mem_of_getElem? (i := 0) rfl) rfl) (by decide) (by decide) rfl hl rfl (Nat.le_of_ble_eq_true rfl) dX1_putText_39 (by omega) (fun u3 H locs hbk_1 h => ?_)
          obtain ⟨gw_1, y_1, gb_1⟩ := u3
          dsimp only at hbk_1
          have h : Wd D B s ([(ho, .inr (3, [.ref st, .ref fi, .ref bl, .long (lN ((msg ++ txS true lt i ++ [ga i]).length)), .ref wo, .ref ei])), (st, war dA 8 (hs2 (msg ++ txS true lt i ++ [ga i]) ((msg ++ txS true lt i ++ [ga i]).length / 64))), (wo, war dA 64 gw_1), (ei, war dA 8 y_1), (bl, bar dA 64 gb_1)] ++ F) H locs := h
          have e9 : msg ++ txS true lt i ++ [ga i] = msg ++ txS true lt (i + 1) := by rw [txS, if_neg (by unfold txC; first | (rw [decide_eq_false q10]; simp) | (rw [decide_eq_true q13, decide_eq_false (show ¬ i = 0 by omega)]; simp)), hgi]; simp
          rw [e9] at h hbk_1
          refine lv_iinc (v := nI (i + 1)) (lv' := [(3, .int (nI (i + 1))), (0, .ref ho), (1, .ref a), (2, .int (nI lt.length))]) hx hb dX1_putText_42 hl (k := 0) rfl (nI_add i 1) (by decide) rfl (fun ls hl => ?_)
          refine lv_goto (tgt := 2) hx hb dX1_putText_45 (by decide) ?_
          exact ih (i + 1) gw_1 y_1 gb_1 (by omega) hbk_1 (by omega) _ _ h _ (lv_sub hl [0, 1, 2, 3] rfl)
        · have q10 : gD lt i = 10 := by rw [hgi] at c12; exact sb_inj hg0 (by decide) (c12.trans (by decide))
          refine lv_iload_n hx hb dX1_putText_15 rfl (lv_at hl 0 rfl) ?_
          refine n_if_eq (tgt := 29) hx hb (by omega) dX1_putText_16 (by decide) (fun c16 => ?_) (fun c16 => ?_)
          · refine lv_aload_n hx hb dX1_putText_29 rfl (lv_at hl 1 rfl) ?_
            refine lv_bipush (v := nI 13) hx hb dX1_putText_30 (by decide) ?_
            refine call_U (As := [.int (nI 13)]) (rest := []) (n := 1) C h (c5_put l D dA B Z hZ F ho st fi bl wo ei g1 y1 gb1 (msg ++ txS true lt i) (nI 13) (13) hzA hb1 (by omega) (by decide) (by decide)) (lw_U q1190 q1192 q1194 q1191 q134 q1195) rfl (by decide +kernel) (o_recv C h (RC := RX5) (T := TX5) (N := 6) (List.mem_of_getElem? (i := 0) rfl) rfl) (by decide) (by decide) rfl hl rfl (Nat.le_of_ble_eq_true rfl) dX1_putText_32 (by omega) (fun u3 H locs hbk_2 h => ?_)
            obtain ⟨gw_2, y_2, gb_2⟩ := u3
            dsimp only at hbk_2
            have h : Wd D B s ([(ho, .inr (3, [.ref st, .ref fi, .ref bl, .long (lN ((msg ++ txS true lt i ++ [13]).length)), .ref wo, .ref ei])), (st, war dA 8 (hs2 (msg ++ txS true lt i ++ [13]) ((msg ++ txS true lt i ++ [13]).length / 64))), (wo, war dA 64 gw_2), (ei, war dA 8 y_2), (bl, bar dA 64 gb_2)] ++ F) H locs := h
            refine lv_aload_n hx hb dX1_putText_35 rfl (lv_at hl 1 rfl) ?_
            refine lv_aload_n hx hb dX1_putText_36 rfl (lv_at hl 2 rfl) ?_
            refine lv_iload_n hx hb dX1_putText_37 rfl (lv_at hl 0 rfl) ?_
            refine n_bald C h (v := ga i) (List.mem_append_right _ hm) (show i < n0 by omega) (by omega) rfl dX1_putText_38 ?_
            have hlen2 : (msg ++ txS true lt i ++ [13]).length = (msg ++ txS true lt i).length + 1 := by rw [List.length_append]; rfl
            refine call_U (As := [.int (sb_b (ga i))]) (rest := []) (n := 1) C h (c5_put l D dA B Z hZ F ho st fi bl wo ei gw_2 y_2 gb_2 (msg ++ txS true lt i ++ [13]) (sb_b (ga i)) (ga i) hzA hbk_2 (by omega) (sb_idem _) (by omega)) (lw_U q1190 q1192 q1194 q1191 q134 q1195) rfl (by decide +kernel) (o_recv C h (RC := RX5) (T := TX5) (N := 6) (List.mem_of_getElem? (i := 0) rfl) rfl) (by decide) (by decide) rfl hl rfl (Nat.le_of_ble_eq_true rfl) dX1_putText_39 (by omega) (fun u3 H locs hbk_3 h => ?_)
            obtain ⟨gw_3, y_3, gb_3⟩ := u3
            dsimp only at hbk_3
            have h : Wd D B s ([(ho, .inr (3, [.ref st, .ref fi, .ref bl, .long (lN ((msg ++ txS true lt i ++ [13] ++ [ga i]).length)), .ref wo, .ref ei])), (st, war dA 8 (hs2 (msg ++ txS true lt i ++ [13] ++ [ga i]) ((msg ++ txS true lt i ++ [13] ++ [ga i]).length / 64))), (wo, war dA 64 gw_3), (ei, war dA 8 y_3), (bl, bar dA 64 gb_3)] ++ F) H locs := h
            have e9 : msg ++ txS true lt i ++ [13] ++ [ga i] = msg ++ txS true lt (i + 1) := by rw [txS, if_pos (by unfold txC; rw [decide_eq_true (show gD lt i = 10 by first | exact q10 | omega)]; first | (rw [decide_eq_true (show i = 0 by omega)]; rfl) | (rw [decide_eq_false q13]; simp)), hgi]; simp
            rw [e9] at h hbk_3
            refine lv_iinc (v := nI (i + 1)) (lv' := [(3, .int (nI (i + 1))), (0, .ref ho), (1, .ref a), (2, .int (nI lt.length))]) hx hb dX1_putText_42 hl (k := 0) rfl (nI_add i 1) (by decide) rfl (fun ls hl => ?_)
            refine lv_goto (tgt := 2) hx hb dX1_putText_45 (by decide) ?_
            exact ih (i + 1) gw_3 y_3 gb_3 (by omega) hbk_3 (by omega) _ _ h _ (lv_sub hl [0, 1, 2, 3] rfl)
          · refine lv_aload_n hx hb dX1_putText_19 rfl (lv_at hl 2 rfl) ?_
            refine lv_iload_n hx hb dX1_putText_20 rfl (lv_at hl 0 rfl) ?_
            refine lv_iconst (v := nI 1) hx hb dX1_putText_21 (by decide) ?_
            refine lv_isub hx hb dX1_putText_22 (n_top (y := nI (i - 1)) (pk_sub (by omega)) ?_)
            refine n_bald C h (v := ga (i - 1)) (List.mem_append_right _ hm) (show i - 1 < n0 by omega) (by omega) rfl dX1_putText_23 ?_
            refine lv_bipush (v := nI 13) hx hb dX1_putText_24 (by decide) ?_
            refine lv_icmp_eq (tgt := 35) hx hb dX1_putText_26 (by decide) (fun c26 => ?_) (fun c26 => ?_)
            · have q13 : gD lt (i - 1) = 13 := by rw [hs9 (i - 1) (by omega)] at c26; exact sb_inj hg1 (by decide) (c26.trans (by decide))
              refine lv_aload_n hx hb dX1_putText_35 rfl (lv_at hl 1 rfl) ?_
              refine lv_aload_n hx hb dX1_putText_36 rfl (lv_at hl 2 rfl) ?_
              refine lv_iload_n hx hb dX1_putText_37 rfl (lv_at hl 0 rfl) ?_
              refine n_bald C h (v := ga i) (List.mem_append_right _ hm) (show i < n0 by omega) (by omega) rfl dX1_putText_38 ?_
              refine call_U (As := [.int (sb_b (ga i))]) (rest := []) (n := 1) C h (c5_put l D dA B Z hZ F ho st fi bl wo ei g1 y1 gb1 (msg ++ txS true lt i) (sb_b (ga i)) (ga i) hzA hb1 (by omega) (sb_idem _) (by omega)) (lw_U q1190 q1192 q1194 q1191 q134 q1195) rfl (by decide +kernel) (o_recv C h (RC := RX5) (T := TX5) (N := 6) (List.mem_of_getElem? (i := 0) rfl) rfl) (by decide) (by decide) rfl hl rfl (Nat.le_of_ble_eq_true rfl) dX1_putText_39 (by omega) (fun u3 H locs hbk_4 h => ?_)
              obtain ⟨gw_4, y_4, gb_4⟩ := u3
              dsimp only at hbk_4
              have h : Wd D B s ([(ho, .inr (3, [.ref st, .ref fi, .ref bl, .long (lN ((msg ++ txS true lt i ++ [ga i]).length)), .ref wo, .ref ei])), (st, war dA 8 (hs2 (msg ++ txS true lt i ++ [ga i]) ((msg ++ txS true lt i ++ [ga i]).length / 64))), (wo, war dA 64 gw_4), (ei, war dA 8 y_4), (bl, bar dA 64 gb_4)] ++ F) H locs := h
              have e9 : msg ++ txS true lt i ++ [ga i] = msg ++ txS true lt (i + 1) := by rw [txS, if_neg (by unfold txC; first | (rw [decide_eq_false q10]; simp) | (rw [decide_eq_true q13, decide_eq_false (show ¬ i = 0 by omega)]; simp)), hgi]; simp
              rw [e9] at h hbk_4
              refine lv_iinc (v := nI (i + 1)) (lv' := [(3, .int (nI (i + 1))), (0, .ref ho), (1, .ref a), (2, .int (nI lt.length))]) hx hb dX1_putText_42 hl (k := 0) rfl (nI_add i 1) (by decide) rfl (fun ls hl => ?_)
              refine lv_goto (tgt := 2) hx hb dX1_putText_45 (by decide) ?_
              exact ih (i + 1) gw_4 y_4 gb_4 (by omega) hbk_4 (by omega) _ _ h _ (lv_sub hl [0, 1, 2, 3] rfl)
            · have q13 : ¬ gD lt (i - 1) = 13 := fun q => c26 (by rw [hs9 (i - 1) (by omega), q]; decide)
              refine lv_aload_n hx hb dX1_putText_29 rfl (lv_at hl 1 rfl) ?_
              refine lv_bipush (v := nI 13) hx hb dX1_putText_30 (by decide) ?_
              refine call_U (As := [.int (nI 13)]) (rest := []) (n := 1) C h (c5_put l D dA B Z hZ F ho st fi bl wo ei g1 y1 gb1 (msg ++ txS true lt i) (nI 13) (13) hzA hb1 (by omega) (by decide) (by decide)) (lw_U q1190 q1192 q1194 q1191 q134 q1195) rfl (by decide +kernel) (o_recv C h (RC := RX5) (T := TX5) (N := 6) (List.mem_of_getElem? (i := 0) rfl) rfl) (by decide) (by decide) rfl hl rfl (Nat.le_of_ble_eq_true rfl) dX1_putText_32 (by omega) (fun u3 H locs hbk_5 h => ?_)
              obtain ⟨gw_5, y_5, gb_5⟩ := u3
              dsimp only at hbk_5
              have h : Wd D B s ([(ho, .inr (3, [.ref st, .ref fi, .ref bl, .long (lN ((msg ++ txS true lt i ++ [13]).length)), .ref wo, .ref ei])), (st, war dA 8 (hs2 (msg ++ txS true lt i ++ [13]) ((msg ++ txS true lt i ++ [13]).length / 64))), (wo, war dA 64 gw_5), (ei, war dA 8 y_5), (bl, bar dA 64 gb_5)] ++ F) H locs := h
              refine lv_aload_n hx hb dX1_putText_35 rfl (lv_at hl 1 rfl) ?_
              refine lv_aload_n hx hb dX1_putText_36 rfl (lv_at hl 2 rfl) ?_
              refine lv_iload_n hx hb dX1_putText_37 rfl (lv_at hl 0 rfl) ?_
              refine n_bald C h (v := ga i) (List.mem_append_right _ hm) (show i < n0 by omega) (by omega) rfl dX1_putText_38 ?_
              have hlen2 : (msg ++ txS true lt i ++ [13]).length = (msg ++ txS true lt i).length + 1 := by rw [List.length_append]; rfl
              refine call_U (As := [.int (sb_b (ga i))]) (rest := []) (n := 1) C h (c5_put l D dA B Z hZ F ho st fi bl wo ei gw_5 y_5 gb_5 (msg ++ txS true lt i ++ [13]) (sb_b (ga i)) (ga i) hzA hbk_5 (by omega) (sb_idem _) (by omega)) (lw_U q1190 q1192 q1194 q1191 q134 q1195) rfl (by decide +kernel) (o_recv C h (RC := RX5) (T := TX5) (N := 6) (List.mem_of_getElem? (i := 0) rfl) rfl) (by decide) (by decide) rfl hl rfl (Nat.le_of_ble_eq_true rfl) dX1_putText_39 (by omega) (fun u3 H locs hbk_6 h => ?_)
              obtain ⟨gw_6, y_6, gb_6⟩ := u3
              dsimp only at hbk_6
              have h : Wd D B s ([(ho, .inr (3, [.ref st, .ref fi, .ref bl, .long (lN ((msg ++ txS true lt i ++ [13] ++ [ga i]).length)), .ref wo, .ref ei])), (st, war dA 8 (hs2 (msg ++ txS true lt i ++ [13] ++ [ga i]) ((msg ++ txS true lt i ++ [13] ++ [ga i]).length / 64))), (wo, war dA 64 gw_6), (ei, war dA 8 y_6), (bl, bar dA 64 gb_6)] ++ F) H locs := h
              have e9 : msg ++ txS true lt i ++ [13] ++ [ga i] = msg ++ txS true lt (i + 1) := by rw [txS, if_pos (by unfold txC; rw [decide_eq_true (show gD lt i = 10 by first | exact q10 | omega)]; first | (rw [decide_eq_true (show i = 0 by omega)]; rfl) | (rw [decide_eq_false q13]; simp)), hgi]; simp
              rw [e9] at h hbk_6
              refine lv_iinc (v := nI (i + 1)) (lv' := [(3, .int (nI (i + 1))), (0, .ref ho), (1, .ref a), (2, .int (nI lt.length))]) hx hb dX1_putText_42 hl (k := 0) rfl (nI_add i 1) (by decide) rfl (fun ls hl => ?_)
              refine lv_goto (tgt := 2) hx hb dX1_putText_45 (by decide) ?_
              exact ih (i + 1) gw_6 y_6 gb_6 (by omega) hbk_6 (by omega) _ _ h _ (lv_sub hl [0, 1, 2, 3] rfl)
  exact loop _ 0 gw y gb (by omega) hb0 (Nat.lt_succ_self _) _ _ h _ (lv_sub hl [0, 1, 2, 3] rfl)
