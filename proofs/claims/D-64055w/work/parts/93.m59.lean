set_option maxRecDepth 100000
set_option maxHeartbeats 400000 in
set_option maxRecDepth 100000 in
theorem c4_putA (l : Launch) (D : va_G) (dA : Nat → ClassId) (B : Nat) (Z : State → Prop) (hZ : Stab B Z) (F : va_W) (ho st fi bl wo : Nat) (gw : Nat → Int32) (gb : Nat → Nat) (msg : List Nat) (a n0 fr to : Nat) (ga : Nat → Nat)  (hbk : Blk gb msg) (hm : (a, bar dA n0 ga) ∈ F) (hfr : fr ≤ to) (hto : to ≤ n0) (hn0 : n0 < 1000000) (hml : msg.length + (to - fr) < 1000000) (hgb : ∀ j, j < to → ga j < 256) :
    Ct (S := (Nat → Int32) × (Nat → Int32) × (Nat → Nat)) l D dA B Z yX3_put_2 cX3_put_2 5 none 5 0 0 [.ref ho, .ref a, .int (nI fr), .int (nI to)] ([(ho, .inr (2, [.ref st, .ref fi, .ref bl, .long (lN msg.length), .ref wo])), (st, war dA 5 (t5 (hs1 msg (msg.length / 64)))), (wo, war dA 80 gw), (bl, bar dA 64 gb)] ++ F) (fun u => Blk u.2.2 (msg ++ sl ga fr (to - fr))) (fun _ => none) (fun u => [(ho, .inr (2, [.ref st, .ref fi, .ref bl, .long (lN ((msg ++ sl ga fr (to - fr)).length)), .ref wo])), (st, war dA 5 (t5 (hs1 (msg ++ sl ga fr (to - fr)) ((msg ++ sl ga fr (to - fr)).length / 64)))), (wo, war dA 80 u.1), (bl, bar dA 64 u.2.2)] ++ F) := by
  refine Ct.mk2 (by decide) (Nat.le_of_ble_eq_true rfl) hZ ?_
  intro p e R s m args below meth c ls Q C hr hlocks hin hQ hl h
  have C0 := C
  obtain ⟨hx, hb, hml, hown, hts, -⟩ := C0
  have hl : lv_has ls 5 [(0, .ref ho), (1, .ref a), (2, .int (nI fr)), (3, .int (nI to))] := hl
  refine lv_iload_n hx hb dX3_put_2_0 rfl (lv_at hl 2 rfl) ?_
  refine lv_istore (lv' := [(4, .int (nI fr)), (0, .ref ho), (1, .ref a), (2, .int (nI fr)), (3, .int (nI to))]) hx hb dX3_put_2_1 hl (by decide) rfl (fun ls hl => ?_)
  have h : Wd D B s ([(ho, .inr (2, [.ref st, .ref fi, .ref bl, .long (lN ((msg ++ sl ga fr 0).length)), .ref wo])), (st, war dA 5 (t5 (hs1 (msg ++ sl ga fr 0) ((msg ++ sl ga fr 0).length / 64)))), (wo, war dA 80 gw), (bl, bar dA 64 gb)] ++ F) s.heap [] := by rw [sl_0, List.append_nil]; exact h
  have hb0 : Blk gb (msg ++ sl ga fr 0) := by rw [sl_0, List.append_nil]; exact hbk
  have hl : lv_has ls 5 [(4, .int (nI (fr + 0))), (0, .ref ho), (1, .ref a), (2, .int (nI fr)), (3, .int (nI to))] := hl
  have loop : ∀ (nn : Nat) (i : Nat) (g1 y1 : Nat → Int32) (gb1 : Nat → Nat), (fr + i ≤ to) → (Blk gb1 (msg ++ sl ga fr i)) → to - (fr + i) < nn → ∀ (H : Heap) (locs : List Loc), Wd D B s ([(ho, .inr (2, [.ref st, .ref fi, .ref bl, .long (lN ((msg ++ sl ga fr i).length)), .ref wo])), (st, war dA 5 (t5 (hs1 (msg ++ sl ga fr i) ((msg ++ sl ga fr i).length / 64)))), (wo, war dA 80 g1), (bl, bar dA 64 gb1)] ++ F) H locs → ∀ (ls : Array Slot), lv_has ls 5 [(4, .int (nI (fr + i))), (0, .ref ho), (1, .ref a), (2, .int (nI fr)), (3, .int (nI to))] → W p l e R s m args below meth c H locs 0 0 Q (F0 m 3 ls []) := by
    intro nn
    induction nn with
    | zero => intro i  g1 y1  gb1  hi hb1 hme; exact absurd hme (Nat.not_lt_zero _)
    | succ nn ih =>
      intro i  g1 y1  gb1  hi hb1 hme H locs h ls hl
      have hlen : (msg ++ sl ga fr i).length = msg.length + i := by rw [List.length_append, sl_len]
      refine lv_iload hx hb dX3_put_2_3 (lv_at hl 0 rfl) ?_
      refine lv_iload_n hx hb dX3_put_2_5 rfl (lv_at hl 4 rfl) ?_
      refine n_icmp_ge (tgt := 23) hx hb (by omega) (by omega) dX3_put_2_6 (by decide) (fun c6 => ?_) (fun c6 => ?_)
      · subst hQ
        have hie : i = to - fr := by omega
        rw [hie] at h hb1
        have h : Wd D B s ([(ho, .inr (2, [.ref st, .ref fi, .ref bl, .long (lN ((msg ++ sl ga fr (to - fr)).length)), .ref wo])), (st, war dA 5 (t5 (hs1 (msg ++ sl ga fr (to - fr)) ((msg ++ sl ga fr (to - fr)).length / 64)))), (wo, war dA 80 g1), (bl, bar dA 64 gb1)] ++ F) H locs := h
        exact ret_v C hr hlocks h (g1, y1, gb1) hb1 rfl rfl (by omega) (by omega) dX3_put_2_23
      · refine lv_aload_n hx hb dX3_put_2_9 rfl (lv_at hl 1 rfl) ?_
        refine lv_aload_n hx hb dX3_put_2_10 rfl (lv_at hl 2 rfl) ?_
        refine lv_iload hx hb dX3_put_2_11 (lv_at hl 0 rfl) ?_
        refine n_bald C h (v := ga (fr + i)) (List.mem_append_right _ hm) (show fr + i < n0 by omega) (by omega) rfl dX3_put_2_13 ?_
        refine call_U (As := [.int (sb_b (ga (fr + i)))]) (rest := []) (n := 1) C h (c4_put l D dA B Z hZ F ho st fi bl wo g1 gb1 (msg ++ sl ga fr i) _ (ga (fr + i)) hb1 (by omega) (sb_idem _) (hgb _ (by omega))) (lw_U q1230 q1192 q1193 q1191 q134 q1195) rfl (by decide +kernel) (o_recv C h (RC := RX4) (T := TX4) (N := 5) (List.mem_of_getElem? (i := 0) rfl) rfl) (by decide) (by decide) rfl hl rfl (Nat.le_of_ble_eq_true rfl) dX3_put_2_14 (by omega) (fun u3 H locs hb2 h => ?_)
        obtain ⟨g2, y2, gb2⟩ := u3
        dsimp only at hb2
        have h : Wd D B s ([(ho, .inr (2, [.ref st, .ref fi, .ref bl, .long (lN ((msg ++ sl ga fr i ++ [ga (fr + i)]).length)), .ref wo])), (st, war dA 5 (t5 (hs1 (msg ++ sl ga fr i ++ [ga (fr + i)]) ((msg ++ sl ga fr i ++ [ga (fr + i)]).length / 64)))), (wo, war dA 80 g2), (bl, bar dA 64 gb2)] ++ F) H locs := h.permL (perm_add (fun g f p0 p1 p2 => by (try simp only [p0, p1, p2]) <;> omega))
        have e5 : msg ++ sl ga fr i ++ [ga (fr + i)] = msg ++ sl ga fr (i + 1) := by rw [sl_succ, List.append_assoc]
        rw [e5] at h hb2
        refine lv_iinc (v := nI (fr + i + 1)) (lv' := [(4, .int (nI (fr + i + 1))), (0, .ref ho), (1, .ref a), (2, .int (nI fr)), (3, .int (nI to))]) hx hb dX3_put_2_17 hl (k := 0) rfl (nI_add (fr + i) 1) (by decide) rfl (fun ls hl => ?_)
        refine lv_goto (tgt := 3) hx hb dX3_put_2_20 (by decide) ?_
        exact ih (i + 1) g2 y2 gb2 (by omega) hb2 (by omega) _ _ h _ (lv_sub hl [0, 1, 2, 3, 4] rfl)
  exact loop _ 0 gw gw gb (by omega) hb0 (Nat.lt_succ_self _) _ _ h _ (lv_sub hl [0, 1, 2, 3, 4] rfl)
set_option maxHeartbeats 400000 in
set_option maxRecDepth 100000 in
theorem c4_number (l : Launch) (D : va_G) (dA : Nat → ClassId) (B : Nat) (Z : State → Prop) (hZ : Stab B Z) (F : va_W) (ho st fi bl wo : Nat) (gw : Nat → Int32) (gb : Nat → Nat) (msg : List Nat) (v kn : Nat)  (hbk : Blk gb msg) (h2 : v < 4611686018427387904) (h3 : kn ≤ 8) (hml : msg.length < 900000) :
    Ct (S := (Nat → Int32) × (Nat → Int32) × (Nat → Nat)) l D dA B Z yX3_number cX3_number 5 none 5 0 0 [.ref ho, .long (lN v), .int (nI kn)] ([(ho, .inr (2, [.ref st, .ref fi, .ref bl, .long (lN msg.length), .ref wo])), (st, war dA 5 (t5 (hs1 msg (msg.length / 64)))), (wo, war dA 80 gw), (bl, bar dA 64 gb)] ++ F) (fun u => Blk u.2.2 (msg ++ be kn v)) (fun _ => none) (fun u => [(ho, .inr (2, [.ref st, .ref fi, .ref bl, .long (lN ((msg ++ be kn v).length)), .ref wo])), (st, war dA 5 (t5 (hs1 (msg ++ be kn v) ((msg ++ be kn v).length / 64)))), (wo, war dA 80 u.1), (bl, bar dA 64 u.2.2)] ++ F) := by
  refine Ct.mk2 (by decide) (Nat.le_of_ble_eq_true rfl) hZ ?_
  intro p e R s m args below meth c ls Q C hr hlocks hin hQ hl h
  have C0 := C
  obtain ⟨hx, hb, hml, hown, hts, -⟩ := C0
  have hl : lv_has ls 5 [(0, .ref ho), (1, .long (lN v)), (3, .int (nI kn))] := hl
  refine lv_bipush (v := nI 8) hx hb dX3_number_0 (by decide) ?_
  refine lv_iload_n hx hb dX3_number_2 rfl (lv_at hl 2 rfl) ?_
  refine lv_imul hx hb dX3_number_3 (n_top (y := nI (8 * kn)) (pk_mul 8 kn) ?_)
  refine lv_bipush (v := nI 8) hx hb dX3_number_4 (by decide) ?_
  refine lv_isub hx hb dX3_number_6 ?_
  refine n_top (y := nI (8 * kn) - nI 8) rfl ?_
  refine lv_istore (lv' := [(4, .int (nI (8 * kn) - nI 8)), (0, .ref ho), (1, .long (lN v)), (3, .int (nI kn))]) hx hb dX3_number_7 hl (by decide) rfl (fun ls hl => ?_)
  have h : Wd D B s ([(ho, .inr (2, [.ref st, .ref fi, .ref bl, .long (lN ((msg ++ sl (fun j => v / 2 ^ (8 * (kn - 1 - j)) % 256) 0 0).length)), .ref wo])), (st, war dA 5 (t5 (hs1 (msg ++ sl (fun j => v / 2 ^ (8 * (kn - 1 - j)) % 256) 0 0) ((msg ++ sl (fun j => v / 2 ^ (8 * (kn - 1 - j)) % 256) 0 0).length / 64)))), (wo, war dA 80 gw), (bl, bar dA 64 gb)] ++ F) s.heap [] := by rw [sl_0, List.append_nil]; exact h
  have hb0 : Blk gb (msg ++ sl (fun j => v / 2 ^ (8 * (kn - 1 - j)) % 256) 0 0) := by rw [sl_0, List.append_nil]; exact hbk
  have hl : lv_has ls 5 [(4, .int (nI (8 * (kn - 0)) - nI 8)), (0, .ref ho), (1, .long (lN v)), (3, .int (nI kn))] := hl
  have loop : ∀ (nn : Nat) (i : Nat) (g1 y1 : Nat → Int32) (gb1 : Nat → Nat), (i ≤ kn) → (Blk gb1 (msg ++ sl (fun j => v / 2 ^ (8 * (kn - 1 - j)) % 256) 0 i)) → kn - i < nn → ∀ (H : Heap) (locs : List Loc), Wd D B s ([(ho, .inr (2, [.ref st, .ref fi, .ref bl, .long (lN ((msg ++ sl (fun j => v / 2 ^ (8 * (kn - 1 - j)) % 256) 0 i).length)), .ref wo])), (st, war dA 5 (t5 (hs1 (msg ++ sl (fun j => v / 2 ^ (8 * (kn - 1 - j)) % 256) 0 i) ((msg ++ sl (fun j => v / 2 ^ (8 * (kn - 1 - j)) % 256) 0 i).length / 64)))), (wo, war dA 80 g1), (bl, bar dA 64 gb1)] ++ F) H locs → ∀ (ls : Array Slot), lv_has ls 5 [(4, .int (nI (8 * (kn - i)) - nI 8)), (0, .ref ho), (1, .long (lN v)), (3, .int (nI kn))] → W p l e R s m args below meth c H locs 0 0 Q (F0 m 9 ls []) := by
    intro nn
    induction nn with
    | zero => intro i  g1 y1  gb1  hi hb1 hme; exact absurd hme (Nat.not_lt_zero _)
    | succ nn ih =>
      intro i  g1 y1  gb1  hi hb1 hme H locs h ls hl
      have hlen : (msg ++ sl (fun j => v / 2 ^ (8 * (kn - 1 - j)) % 256) 0 i).length = msg.length + i := by rw [List.length_append, sl_len]
      refine lv_iload hx hb dX3_number_9 (lv_at hl 0 rfl) ?_
      refine lv_if_lt (tgt := 29) hx hb dX3_number_11 (by decide) (fun c11 => ?_) (fun c11 => ?_)
      · have hic : i = kn := by
          rcases Nat.lt_or_ge i kn with q | q
          · exact absurd c11 (by rw [pk_sub (by omega)]; exact nI_pos (by omega))
          · omega
        subst hQ
        have hie : sl (fun j => v / 2 ^ (8 * (kn - 1 - j)) % 256) 0 i = be kn v := by rw [hic]; rfl
        rw [hie] at h hb1
        exact ret_v C hr hlocks h (g1, y1, gb1) hb1 rfl rfl (by omega) (by omega) dX3_number_29
      · have hlt : i < kn := by
          rcases Nat.lt_or_ge i kn with q | q
          · exact q
          · exact absurd (by rw [show kn - i = 0 by omega]; decide) c11
        have hk : nI (8 * (kn - i)) - nI 8 = nI (8 * (kn - 1 - i)) := by rw [pk_sub (by omega)]; congr 1; omega
        rw [hk] at hl
        refine lv_aload_n hx hb dX3_number_14 rfl (lv_at hl 1 rfl) ?_
        refine lv_lload_n hx hb dX3_number_15 rfl (lv_at hl 2 rfl) ?_
        refine lv_iload hx hb dX3_number_16 (lv_at hl 0 rfl) ?_
        refine n_lshr hx hb dX3_number_18 ?_
        refine n_topl (y := lN (v / 2 ^ (8 * (kn - 1 - i)))) (l_shrN h2 (by omega)) ?_
        refine lv_l2i (v := nI (v / 2 ^ (8 * (kn - 1 - i)))) hx hb dX3_number_19 (lN_i _) ?_
        refine call_U (As := [.int (nI (v / 2 ^ (8 * (kn - 1 - i))))]) (rest := []) (n := 1) C h (c4_put l D dA B Z hZ F ho st fi bl wo g1 gb1 (msg ++ sl (fun j => v / 2 ^ (8 * (kn - 1 - j)) % 256) 0 i) _ (v / 2 ^ (8 * (kn - 1 - i)) % 256) hb1 (by omega) (sb_mod _) (Nat.mod_lt _ (by decide))) (lw_U q1230 q1192 q1193 q1191 q134 q1195) rfl (by decide +kernel) (o_recv C h (RC := RX4) (T := TX4) (N := 5) (List.mem_of_getElem? (i := 0) rfl) rfl) (by decide) (by decide) rfl hl rfl (Nat.le_of_ble_eq_true rfl) dX3_number_20 (by omega) (fun u3 H locs hb2 h => ?_)
        obtain ⟨g2, y2, gb2⟩ := u3
        dsimp only at hb2
        have h : Wd D B s ([(ho, .inr (2, [.ref st, .ref fi, .ref bl, .long (lN ((msg ++ sl (fun j => v / 2 ^ (8 * (kn - 1 - j)) % 256) 0 i ++ [v / 2 ^ (8 * (kn - 1 - i)) % 256]).length)), .ref wo])), (st, war dA 5 (t5 (hs1 (msg ++ sl (fun j => v / 2 ^ (8 * (kn - 1 - j)) % 256) 0 i ++ [v / 2 ^ (8 * (kn - 1 - i)) % 256]) ((msg ++ sl (fun j => v / 2 ^ (8 * (kn - 1 - j)) % 256) 0 i ++ [v / 2 ^ (8 * (kn - 1 - i)) % 256]).length / 64)))), (wo, war dA 80 g2), (bl, bar dA 64 gb2)] ++ F) H locs := h.permL (perm_add (fun g f p0 p1 p2 => by (try simp only [p0, p1, p2]) <;> omega))
        have e5 : msg ++ sl (fun j => v / 2 ^ (8 * (kn - 1 - j)) % 256) 0 i ++ [v / 2 ^ (8 * (kn - 1 - i)) % 256] = msg ++ sl (fun j => v / 2 ^ (8 * (kn - 1 - j)) % 256) 0 (i + 1) := by rw [sl_succ, Nat.zero_add, List.append_assoc]
        rw [e5] at h hb2
        refine lv_iinc (v := nI (8 * (kn - (i + 1))) - nI 8) (lv' := [(4, .int (nI (8 * (kn - (i + 1))) - nI 8)), (0, .ref ho), (1, .long (lN v)), (3, .int (nI kn))]) hx hb dX3_number_23 hl (k := 0) rfl (by rw [show kn - (i + 1) = kn - 1 - i by omega]; exact n_m8 _) (by decide) rfl (fun ls hl => ?_)
        refine lv_goto (tgt := 9) hx hb dX3_number_26 (by decide) ?_
        exact ih (i + 1) g2 y2 gb2 (by omega) hb2 (by omega) _ _ h _ (lv_sub hl [0, 1, 2, 3] rfl)
  exact loop _ 0 gw gw gb (by omega) hb0 (Nat.lt_succ_self _) _ _ h _ (lv_sub hl [0, 1, 2, 3] rfl)
set_option maxHeartbeats 400000 in
set_option maxRecDepth 100000 in
theorem c4_begin (l : Launch) (D : va_G) (dA : Nat → ClassId) (B : Nat) (Z : State → Prop) (hZ : Stab B Z) (F : va_W) (ho st fi bl wo : Nat) (gw : Nat → Int32) (gb : Nat → Nat) (mn : Int64) (xs : Nat → Int32) (hfi : (fi, war dA 5 (t5 in1)) ∈ F) :
    Ct (S := Unit) l D dA B Z yX3_begin cX3_begin 1 none 2 0 0 [.ref ho] ([(ho, .inr (2, [.ref st, .ref fi, .ref bl, .long mn, .ref wo])), (st, war dA 5 xs), (wo, war dA 80 gw), (bl, bar dA 64 gb)] ++ F) (fun _ => True) (fun _ => none) (fun _ => [(ho, .inr (2, [.ref st, .ref fi, .ref bl, .long (lN (([] : List Nat).length)), .ref wo])), (st, war dA 5 (t5 (hs1 ([] : List Nat) (([] : List Nat).length / 64)))), (wo, war dA 80 gw), (bl, bar dA 64 gb)] ++ F) := by
  refine Ct.mk2 (by decide) (Nat.le_of_ble_eq_true rfl) hZ ?_
  intro p e R s m args below meth c ls Q C hr hlocks hin hQ hl h
  have C0 := C
  obtain ⟨hx, hb, hml, hown, hts, -⟩ := C0
  have hl : lv_has ls 1 [(0, .ref ho)] := hl
  refine lv_aload_n hx hb dX3_begin_0 rfl (lv_at hl 0 rfl) ?_
  refine o_get C h (RC := RX4) (T := TX4) (N := 5) (List.mem_of_getElem? (i := 0) rfl) rfl in_X4 1 (by decide) q240 rfl (v := .ref fi) rfl dX3_begin_1 ?_
  refine lv_iconst (v := nI 0) hx hb dX3_begin_4 (by decide) ?_
  refine lv_aload_n hx hb dX3_begin_5 rfl (lv_at hl 0 rfl) ?_
  refine o_get C h (RC := RX4) (T := TX4) (N := 5) (List.mem_of_getElem? (i := 0) rfl) rfl in_X4 0 (by decide) q239 rfl (v := .ref st) rfl dX3_begin_6 ?_
  refine lv_iconst (v := nI 0) hx hb dX3_begin_9 (by decide) ?_
  refine lv_aload_n hx hb dX3_begin_10 rfl (lv_at hl 0 rfl) ?_
  refine o_get C h (RC := RX4) (T := TX4) (N := 5) (List.mem_of_getElem? (i := 0) rfl) rfl in_X4 1 (by decide) q240 rfl (v := .ref fi) rfl dX3_begin_11 ?_
  refine n_walen C h (List.mem_append_right _ hfi) dX3_begin_14 ?_
  refine x_copyw C h 1 (n := 5) (dp := 0) (sp := 0) (ws' := [(ho, .inr (2, [.ref st, .ref fi, .ref bl, .long mn, .ref wo])), (st, war dA 5 (va_cpy (t5 in1) xs 0 0 5)), (wo, war dA 80 gw), (bl, bar dA 64 gb)] ++ F) (List.mem_append_right _ hfi) rfl q1186 q478 q477 q145 (by omega) (by omega) (by omega) (by omega) hl.1 (by decide) (Nat.le_of_ble_eq_true rfl) rfl dX3_begin_15 (fun H locs h => ?_)
  refine lv_aload_n hx hb dX3_begin_18 rfl (lv_at hl 0 rfl) ?_
  refine lv_lconst (v := lN 0) hx hb dX3_begin_19 (by decide) ?_
  refine o_put C h 0 (RC := RX4) (T := TX4) (N := 5) (ws' := [(ho, .inr (2, [.ref st, .ref fi, .ref bl, .long (lN 0), .ref wo])), (st, war dA 5 (va_cpy (t5 in1) xs 0 0 5)), (wo, war dA 80 gw), (bl, bar dA 64 gb)] ++ F) rfl rfl in_X4 tyX4_ok nmX4 3 (by decide) q242 rfl rfl (v := .long (lN 0)) rfl rfl (Nat.le_of_ble_eq_true rfl) rfl dX3_begin_20 (fun H locs h => ?_)
  subst hQ
  have h : Wd D B s ([(ho, .inr (2, [.ref st, .ref fi, .ref bl, .long (lN 0), .ref wo])), (st, war dA 5 (t5 (hs1 ([] : List Nat) (([] : List Nat).length / 64)))), (wo, war dA 80 gw), (bl, bar dA 64 gb)] ++ F) H locs := Wd.same h 1 rfl (war_same (fun j hj => by
    unfold va_cpy
    rw [if_pos ⟨Nat.zero_le _, by omega⟩]
    rw [show 0 + (j - 0) = j by omega]
    rfl)) rfl
  have h : Wd D B s ([(ho, .inr (2, [.ref st, .ref fi, .ref bl, .long (lN (([] : List Nat).length)), .ref wo])), (st, war dA 5 (t5 (hs1 ([] : List Nat) (([] : List Nat).length / 64)))), (wo, war dA 80 gw), (bl, bar dA 64 gb)] ++ F) H locs := h
  exact ret_v C hr hlocks h () trivial rfl rfl (by omega) (by omega) dX3_begin_23
set_option maxHeartbeats 400000 in
set_option maxRecDepth 100000 in
theorem c4_size (l : Launch) (D : va_G) (dA : Nat → ClassId) (B : Nat) (Z : State → Prop) (hZ : Stab B Z) (F : va_W) (ho st fi bl wo : Nat) (gw : Nat → Int32) (gb : Nat → Nat) (mn : Int64) (xs : Nat → Int32)  :
    Ct (S := Unit) l D dA B Z yX3_size cX3_size 1 (some .int) 1 0 0 [.ref ho] ([(ho, .inr (2, [.ref st, .ref fi, .ref bl, .long mn, .ref wo])), (st, war dA 5 xs), (wo, war dA 80 gw), (bl, bar dA 64 gb)] ++ F) (fun _ => True) (fun _ => some (.int (nI 20))) (fun _ => [(ho, .inr (2, [.ref st, .ref fi, .ref bl, .long mn, .ref wo])), (st, war dA 5 xs), (wo, war dA 80 gw), (bl, bar dA 64 gb)] ++ F) := by
  refine Ct.mk2 (by decide) (Nat.le_of_ble_eq_true rfl) hZ ?_
  intro p e R s m args below meth c ls Q C hr hlocks hin hQ hl h
  have C0 := C
  obtain ⟨hx, hb, hml, hown, hts, -⟩ := C0
  have hl : lv_has ls 1 [(0, .ref ho)] := hl
  refine lv_iconst (v := nI 4) hx hb dX3_size_0 (by decide) ?_
  refine lv_aload_n hx hb dX3_size_1 rfl (lv_at hl 0 rfl) ?_
  refine o_get C h (RC := RX4) (T := TX4) (N := 5) (List.mem_of_getElem? (i := 0) rfl) rfl in_X4 0 (by decide) q239 rfl (v := .ref st) rfl dX3_size_2 ?_
  refine n_walen C h (List.mem_of_getElem? (i := 1) rfl) dX3_size_5 ?_
  refine lv_imul hx hb dX3_size_6 (n_top (y := nI 20) (by decide) ?_)
  subst hQ
  exact ret_i C hr hlocks h () trivial rfl rfl (by omega) (by omega) dX3_size_7
set_option maxHeartbeats 400000 in
set_option maxRecDepth 100000 in
theorem c5_putA (l : Launch) (D : va_G) (dA : Nat → ClassId) (B : Nat) (Z : State → Prop) (hZ : Stab B Z) (F : va_W) (ho st fi bl wo ei : Nat) (gw y : Nat → Int32) (gb : Nat → Nat) (msg : List Nat) (a n0 fr to : Nat) (ga : Nat → Nat) (hzA : ∀ U : State, Z U → ∃ t, va_Z "SignetRing$Second" "ADD" "[I" (.ref t) (bA B) U U.heap ∧ va_T .int t 64 (fun j => .int (K2 j)) (bA B) U U.heap) (hbk : Blk gb msg) (hm : (a, bar dA n0 ga) ∈ F) (hfr : fr ≤ to) (hto : to ≤ n0) (hn0 : n0 < 1000000) (hml : msg.length + (to - fr) < 1000000) (hgb : ∀ j, j < to → ga j < 256) :
    Ct (S := (Nat → Int32) × (Nat → Int32) × (Nat → Nat)) l D dA B Z yX3_put_2 cX3_put_2 5 none 5 0 0 [.ref ho, .ref a, .int (nI fr), .int (nI to)] ([(ho, .inr (3, [.ref st, .ref fi, .ref bl, .long (lN msg.length), .ref wo, .ref ei])), (st, war dA 8 (hs2 msg (msg.length / 64))), (wo, war dA 64 gw), (ei, war dA 8 y), (bl, bar dA 64 gb)] ++ F) (fun u => Blk u.2.2 (msg ++ sl ga fr (to - fr))) (fun _ => none) (fun u => [(ho, .inr (3, [.ref st, .ref fi, .ref bl, .long (lN ((msg ++ sl ga fr (to - fr)).length)), .ref wo, .ref ei])), (st, war dA 8 (hs2 (msg ++ sl ga fr (to - fr)) ((msg ++ sl ga fr (to - fr)).length / 64))), (wo, war dA 64 u.1), (ei, war dA 8 u.2.1), (bl, bar dA 64 u.2.2)] ++ F) := by
  refine Ct.mk2 (by decide) (Nat.le_of_ble_eq_true rfl) hZ ?_
  intro p e R s m args below meth c ls Q C hr hlocks hin hQ hl h
  have C0 := C
  obtain ⟨hx, hb, hml, hown, hts, -⟩ := C0
  have hl : lv_has ls 5 [(0, .ref ho), (1, .ref a), (2, .int (nI fr)), (3, .int (nI to))] := hl
  refine lv_iload_n hx hb dX3_put_2_0 rfl (lv_at hl 2 rfl) ?_
  refine lv_istore (lv' := [(4, .int (nI fr)), (0, .ref ho), (1, .ref a), (2, .int (nI fr)), (3, .int (nI to))]) hx hb dX3_put_2_1 hl (by decide) rfl (fun ls hl => ?_)
  have h : Wd D B s ([(ho, .inr (3, [.ref st, .ref fi, .ref bl, .long (lN ((msg ++ sl ga fr 0).length)), .ref wo, .ref ei])), (st, war dA 8 (hs2 (msg ++ sl ga fr 0) ((msg ++ sl ga fr 0).length / 64))), (wo, war dA 64 gw), (ei, war dA 8 y), (bl, bar dA 64 gb)] ++ F) s.heap [] := by rw [sl_0, List.append_nil]; exact h
  have hb0 : Blk gb (msg ++ sl ga fr 0) := by rw [sl_0, List.append_nil]; exact hbk
  have hl : lv_has ls 5 [(4, .int (nI (fr + 0))), (0, .ref ho), (1, .ref a), (2, .int (nI fr)), (3, .int (nI to))] := hl
  have loop : ∀ (nn : Nat) (i : Nat) (g1 y1 : Nat → Int32) (gb1 : Nat → Nat), (fr + i ≤ to) → (Blk gb1 (msg ++ sl ga fr i)) → to - (fr + i) < nn → ∀ (H : Heap) (locs : List Loc), Wd D B s ([(ho, .inr (3, [.ref st, .ref fi, .ref bl, .long (lN ((msg ++ sl ga fr i).length)), .ref wo, .ref ei])), (st, war dA 8 (hs2 (msg ++ sl ga fr i) ((msg ++ sl ga fr i).length / 64))), (wo, war dA 64 g1), (ei, war dA 8 y1), (bl, bar dA 64 gb1)] ++ F) H locs → ∀ (ls : Array Slot), lv_has ls 5 [(4, .int (nI (fr + i))), (0, .ref ho), (1, .ref a), (2, .int (nI fr)), (3, .int (nI to))] → W p l e R s m args below meth c H locs 0 0 Q (F0 m 3 ls []) := by
    intro nn
    induction nn with
    | zero => intro i  g1 y1  gb1  hi hb1 hme; exact absurd hme (Nat.not_lt_zero _)
    | succ nn ih =>
      intro i  g1 y1  gb1  hi hb1 hme H locs h ls hl
      have hlen : (msg ++ sl ga fr i).length = msg.length + i := by rw [List.length_append, sl_len]
      refine lv_iload hx hb dX3_put_2_3 (lv_at hl 0 rfl) ?_
      refine lv_iload_n hx hb dX3_put_2_5 rfl (lv_at hl 4 rfl) ?_
      refine n_icmp_ge (tgt := 23) hx hb (by omega) (by omega) dX3_put_2_6 (by decide) (fun c6 => ?_) (fun c6 => ?_)
      · subst hQ
        have hie : i = to - fr := by omega
        rw [hie] at h hb1
        have h : Wd D B s ([(ho, .inr (3, [.ref st, .ref fi, .ref bl, .long (lN ((msg ++ sl ga fr (to - fr)).length)), .ref wo, .ref ei])), (st, war dA 8 (hs2 (msg ++ sl ga fr (to - fr)) ((msg ++ sl ga fr (to - fr)).length / 64))), (wo, war dA 64 g1), (ei, war dA 8 y1), (bl, bar dA 64 gb1)] ++ F) H locs := h
        exact ret_v C hr hlocks h (g1, y1, gb1) hb1 rfl rfl (by omega) (by omega) dX3_put_2_23
      · refine lv_aload_n hx hb dX3_put_2_9 rfl (lv_at hl 1 rfl) ?_
        refine lv_aload_n hx hb dX3_put_2_10 rfl (lv_at hl 2 rfl) ?_
        refine lv_iload hx hb dX3_put_2_11 (lv_at hl 0 rfl) ?_
        refine n_bald C h (v := ga (fr + i)) (List.mem_append_right _ hm) (show fr + i < n0 by omega) (by omega) rfl dX3_put_2_13 ?_
        refine call_U (As := [.int (sb_b (ga (fr + i)))]) (rest := []) (n := 1) C h (c5_put l D dA B Z hZ F ho st fi bl wo ei g1 y1 gb1 (msg ++ sl ga fr i) _ (ga (fr + i)) hzA hb1 (by omega) (sb_idem _) (hgb _ (by omega))) (lw_U q1230 q1192 q1194 q1191 q134 q1195) rfl (by decide +kernel) (o_recv C h (RC := RX5) (T := TX5) (N := 6) (List.mem_of_getElem? (i := 0) rfl) rfl) (by decide) (by decide) rfl hl rfl (Nat.le_of_ble_eq_true rfl) dX3_put_2_14 (by omega) (fun u3 H locs hb2 h => ?_)
        obtain ⟨g2, y2, gb2⟩ := u3
        dsimp only at hb2
        have h : Wd D B s ([(ho, .inr (3, [.ref st, .ref fi, .ref bl, .long (lN ((msg ++ sl ga fr i ++ [ga (fr + i)]).length)), .ref wo, .ref ei])), (st, war dA 8 (hs2 (msg ++ sl ga fr i ++ [ga (fr + i)]) ((msg ++ sl ga fr i ++ [ga (fr + i)]).length / 64))), (wo, war dA 64 g2), (ei, war dA 8 y2), (bl, bar dA 64 gb2)] ++ F) H locs := h.permL (perm_add (fun g f p0 p1 p2 => by (try simp only [p0, p1, p2]) <;> omega))
        have e5 : msg ++ sl ga fr i ++ [ga (fr + i)] = msg ++ sl ga fr (i + 1) := by rw [sl_succ, List.append_assoc]
        rw [e5] at h hb2
        refine lv_iinc (v := nI (fr + i + 1)) (lv' := [(4, .int (nI (fr + i + 1))), (0, .ref ho), (1, .ref a), (2, .int (nI fr)), (3, .int (nI to))]) hx hb dX3_put_2_17 hl (k := 0) rfl (nI_add (fr + i) 1) (by decide) rfl (fun ls hl => ?_)
        refine lv_goto (tgt := 3) hx hb dX3_put_2_20 (by decide) ?_
        exact ih (i + 1) g2 y2 gb2 (by omega) hb2 (by omega) _ _ h _ (lv_sub hl [0, 1, 2, 3, 4] rfl)
  exact loop _ 0 gw y gb (by omega) hb0 (Nat.lt_succ_self _) _ _ h _ (lv_sub hl [0, 1, 2, 3, 4] rfl)
set_option maxHeartbeats 400000 in
set_option maxRecDepth 100000 in
theorem c5_number (l : Launch) (D : va_G) (dA : Nat → ClassId) (B : Nat) (Z : State → Prop) (hZ : Stab B Z) (F : va_W) (ho st fi bl wo ei : Nat) (gw y : Nat → Int32) (gb : Nat → Nat) (msg : List Nat) (v kn : Nat) (hzA : ∀ U : State, Z U → ∃ t, va_Z "SignetRing$Second" "ADD" "[I" (.ref t) (bA B) U U.heap ∧ va_T .int t 64 (fun j => .int (K2 j)) (bA B) U U.heap) (hbk : Blk gb msg) (h2 : v < 4611686018427387904) (h3 : kn ≤ 8) (hml : msg.length < 900000) :
    Ct (S := (Nat → Int32) × (Nat → Int32) × (Nat → Nat)) l D dA B Z yX3_number cX3_number 5 none 5 0 0 [.ref ho, .long (lN v), .int (nI kn)] ([(ho, .inr (3, [.ref st, .ref fi, .ref bl, .long (lN msg.length), .ref wo, .ref ei])), (st, war dA 8 (hs2 msg (msg.length / 64))), (wo, war dA 64 gw), (ei, war dA 8 y), (bl, bar dA 64 gb)] ++ F) (fun u => Blk u.2.2 (msg ++ be kn v)) (fun _ => none) (fun u => [(ho, .inr (3, [.ref st, .ref fi, .ref bl, .long (lN ((msg ++ be kn v).length)), .ref wo, .ref ei])), (st, war dA 8 (hs2 (msg ++ be kn v) ((msg ++ be kn v).length / 64))), (wo, war dA 64 u.1), (ei, war dA 8 u.2.1), (bl, bar dA 64 u.2.2)] ++ F) := by
  refine Ct.mk2 (by decide) (Nat.le_of_ble_eq_true rfl) hZ ?_
  intro p e R s m args below meth c ls Q C hr hlocks hin hQ hl h
  have C0 := C
  obtain ⟨hx, hb, hml, hown, hts, -⟩ := C0
  have hl : lv_has ls 5 [(0, .ref ho), (1, .long (lN v)), (3, .int (nI kn))] := hl
  refine lv_bipush (v := nI 8) hx hb dX3_number_0 (by decide) ?_
  refine lv_iload_n hx hb dX3_number_2 rfl (lv_at hl 2 rfl) ?_
  refine lv_imul hx hb dX3_number_3 (n_top (y := nI (8 * kn)) (pk_mul 8 kn) ?_)
  refine lv_bipush (v := nI 8) hx hb dX3_number_4 (by decide) ?_
  refine lv_isub hx hb dX3_number_6 ?_
  refine n_top (y := nI (8 * kn) - nI 8) rfl ?_
  refine lv_istore (lv' := [(4, .int (nI (8 * kn) - nI 8)), (0, .ref ho), (1, .long (lN v)), (3, .int (nI kn))]) hx hb dX3_number_7 hl (by decide) rfl (fun ls hl => ?_)
  have h : Wd D B s ([(ho, .inr (3, [.ref st, .ref fi, .ref bl, .long (lN ((msg ++ sl (fun j => v / 2 ^ (8 * (kn - 1 - j)) % 256) 0 0).length)), .ref wo, .ref ei])), (st, war dA 8 (hs2 (msg ++ sl (fun j => v / 2 ^ (8 * (kn - 1 - j)) % 256) 0 0) ((msg ++ sl (fun j => v / 2 ^ (8 * (kn - 1 - j)) % 256) 0 0).length / 64))), (wo, war dA 64 gw), (ei, war dA 8 y), (bl, bar dA 64 gb)] ++ F) s.heap [] := by rw [sl_0, List.append_nil]; exact h
  have hb0 : Blk gb (msg ++ sl (fun j => v / 2 ^ (8 * (kn - 1 - j)) % 256) 0 0) := by rw [sl_0, List.append_nil]; exact hbk
  have hl : lv_has ls 5 [(4, .int (nI (8 * (kn - 0)) - nI 8)), (0, .ref ho), (1, .long (lN v)), (3, .int (nI kn))] := hl
  have loop : ∀ (nn : Nat) (i : Nat) (g1 y1 : Nat → Int32) (gb1 : Nat → Nat), (i ≤ kn) → (Blk gb1 (msg ++ sl (fun j => v / 2 ^ (8 * (kn - 1 - j)) % 256) 0 i)) → kn - i < nn → ∀ (H : Heap) (locs : List Loc), Wd D B s ([(ho, .inr (3, [.ref st, .ref fi, .ref bl, .long (lN ((msg ++ sl (fun j => v / 2 ^ (8 * (kn - 1 - j)) % 256) 0 i).length)), .ref wo, .ref ei])), (st, war dA 8 (hs2 (msg ++ sl (fun j => v / 2 ^ (8 * (kn - 1 - j)) % 256) 0 i) ((msg ++ sl (fun j => v / 2 ^ (8 * (kn - 1 - j)) % 256) 0 i).length / 64))), (wo, war dA 64 g1), (ei, war dA 8 y1), (bl, bar dA 64 gb1)] ++ F) H locs → ∀ (ls : Array Slot), lv_has ls 5 [(4, .int (nI (8 * (kn - i)) - nI 8)), (0, .ref ho), (1, .long (lN v)), (3, .int (nI kn))] → W p l e R s m args below meth c H locs 0 0 Q (F0 m 9 ls []) := by
    intro nn
    induction nn with
    | zero => intro i  g1 y1  gb1  hi hb1 hme; exact absurd hme (Nat.not_lt_zero _)
    | succ nn ih =>
      intro i  g1 y1  gb1  hi hb1 hme H locs h ls hl
      have hlen : (msg ++ sl (fun j => v / 2 ^ (8 * (kn - 1 - j)) % 256) 0 i).length = msg.length + i := by rw [List.length_append, sl_len]
      refine lv_iload hx hb dX3_number_9 (lv_at hl 0 rfl) ?_
      refine lv_if_lt (tgt := 29) hx hb dX3_number_11 (by decide) (fun c11 => ?_) (fun c11 => ?_)
      · have hic : i = kn := by
          rcases Nat.lt_or_ge i kn with q | q
          · exact absurd c11 (by rw [pk_sub (by omega)]; exact nI_pos (by omega))
          · omega
        subst hQ
        have hie : sl (fun j => v / 2 ^ (8 * (kn - 1 - j)) % 256) 0 i = be kn v := by rw [hic]; rfl
        rw [hie] at h hb1
        exact ret_v C hr hlocks h (g1, y1, gb1) hb1 rfl rfl (by omega) (by omega) dX3_number_29
      · have hlt : i < kn := by
          rcases Nat.lt_or_ge i kn with q | q
          · exact q
          · exact absurd (by rw [show kn - i = 0 by omega]; decide) c11
        have hk : nI (8 * (kn - i)) - nI 8 = nI (8 * (kn - 1 - i)) := by rw [pk_sub (by omega)]; congr 1; omega
        rw [hk] at hl
        refine lv_aload_n hx hb dX3_number_14 rfl (lv_at hl 1 rfl) ?_
        refine lv_lload_n hx hb dX3_number_15 rfl (lv_at hl 2 rfl) ?_
        refine lv_iload hx hb dX3_number_16 (lv_at hl 0 rfl) ?_
        refine n_lshr hx hb dX3_number_18 ?_
        refine n_topl (y := lN (v / 2 ^ (8 * (kn - 1 - i)))) (l_shrN h2 (by omega)) ?_
        refine lv_l2i (v := nI (v / 2 ^ (8 * (kn - 1 - i)))) hx hb dX3_number_19 (lN_i _) ?_
        refine call_U (As := [.int (nI (v / 2 ^ (8 * (kn - 1 - i))))]) (rest := []) (n := 1) C h (c5_put l D dA B Z hZ F ho st fi bl wo ei g1 y1 gb1 (msg ++ sl (fun j => v / 2 ^ (8 * (kn - 1 - j)) % 256) 0 i) _ (v / 2 ^ (8 * (kn - 1 - i)) % 256) hzA hb1 (by omega) (sb_mod _) (Nat.mod_lt _ (by decide))) (lw_U q1230 q1192 q1194 q1191 q134 q1195) rfl (by decide +kernel) (o_recv C h (RC := RX5) (T := TX5) (N := 6) (List.mem_of_getElem? (i := 0) rfl) rfl) (by decide) (by decide) rfl hl rfl (Nat.le_of_ble_eq_true rfl) dX3_number_20 (by omega) (fun u3 H locs hb2 h => ?_)
        obtain ⟨g2, y2, gb2⟩ := u3
        dsimp only at hb2
        have h : Wd D B s ([(ho, .inr (3, [.ref st, .ref fi, .ref bl, .long (lN ((msg ++ sl (fun j => v / 2 ^ (8 * (kn - 1 - j)) % 256) 0 i ++ [v / 2 ^ (8 * (kn - 1 - i)) % 256]).length)), .ref wo, .ref ei])), (st, war dA 8 (hs2 (msg ++ sl (fun j => v / 2 ^ (8 * (kn - 1 - j)) % 256) 0 i ++ [v / 2 ^ (8 * (kn - 1 - i)) % 256]) ((msg ++ sl (fun j => v / 2 ^ (8 * (kn - 1 - j)) % 256) 0 i ++ [v / 2 ^ (8 * (kn - 1 - i)) % 256]).length / 64))), (wo, war dA 64 g2), (ei, war dA 8 y2), (bl, bar dA 64 gb2)] ++ F) H locs := h.permL (perm_add (fun g f p0 p1 p2 => by (try simp only [p0, p1, p2]) <;> omega))
        have e5 : msg ++ sl (fun j => v / 2 ^ (8 * (kn - 1 - j)) % 256) 0 i ++ [v / 2 ^ (8 * (kn - 1 - i)) % 256] = msg ++ sl (fun j => v / 2 ^ (8 * (kn - 1 - j)) % 256) 0 (i + 1) := by rw [sl_succ, Nat.zero_add, List.append_assoc]
        rw [e5] at h hb2
        refine lv_iinc (v := nI (8 * (kn - (i + 1))) - nI 8) (lv' := [(4, .int (nI (8 * (kn - (i + 1))) - nI 8)), (0, .ref ho), (1, .long (lN v)), (3, .int (nI kn))]) hx hb dX3_number_23 hl (k := 0) rfl (by rw [show kn - (i + 1) = kn - 1 - i by omega]; exact n_m8 _) (by decide) rfl (fun ls hl => ?_)
        refine lv_goto (tgt := 9) hx hb dX3_number_26 (by decide) ?_
        exact ih (i + 1) g2 y2 gb2 (by omega) hb2 (by omega) _ _ h _ (lv_sub hl [0, 1, 2, 3] rfl)
  exact loop _ 0 gw y gb (by omega) hb0 (Nat.lt_succ_self _) _ _ h _ (lv_sub hl [0, 1, 2, 3] rfl)
set_option maxHeartbeats 400000 in
set_option maxRecDepth 100000 in
theorem c5_begin (l : Launch) (D : va_G) (dA : Nat → ClassId) (B : Nat) (Z : State → Prop) (hZ : Stab B Z) (F : va_W) (ho st fi bl wo ei : Nat) (gw y : Nat → Int32) (gb : Nat → Nat) (mn : Int64) (xs : Nat → Int32) (hfi : (fi, war dA 8 (in2)) ∈ F) :
    Ct (S := Unit) l D dA B Z yX3_begin cX3_begin 1 none 2 0 0 [.ref ho] ([(ho, .inr (3, [.ref st, .ref fi, .ref bl, .long mn, .ref wo, .ref ei])), (st, war dA 8 xs), (wo, war dA 64 gw), (ei, war dA 8 y), (bl, bar dA 64 gb)] ++ F) (fun _ => True) (fun _ => none) (fun _ => [(ho, .inr (3, [.ref st, .ref fi, .ref bl, .long (lN (([] : List Nat).length)), .ref wo, .ref ei])), (st, war dA 8 (hs2 ([] : List Nat) (([] : List Nat).length / 64))), (wo, war dA 64 gw), (ei, war dA 8 y), (bl, bar dA 64 gb)] ++ F) := by
  refine Ct.mk2 (by decide) (Nat.le_of_ble_eq_true rfl) hZ ?_
  intro p e R s m args below meth c ls Q C hr hlocks hin hQ hl h
  have C0 := C
  obtain ⟨hx, hb, hml, hown, hts, -⟩ := C0
  have hl : lv_has ls 1 [(0, .ref ho)] := hl
  refine lv_aload_n hx hb dX3_begin_0 rfl (lv_at hl 0 rfl) ?_
  refine o_get C h (RC := RX5) (T := TX5) (N := 6) (List.mem_of_getElem? (i := 0) rfl) rfl in_X5 1 (by decide) q240 rfl (v := .ref fi) rfl dX3_begin_1 ?_
  refine lv_iconst (v := nI 0) hx hb dX3_begin_4 (by decide) ?_
  refine lv_aload_n hx hb dX3_begin_5 rfl (lv_at hl 0 rfl) ?_
  refine o_get C h (RC := RX5) (T := TX5) (N := 6) (List.mem_of_getElem? (i := 0) rfl) rfl in_X5 0 (by decide) q239 rfl (v := .ref st) rfl dX3_begin_6 ?_
  refine lv_iconst (v := nI 0) hx hb dX3_begin_9 (by decide) ?_
  refine lv_aload_n hx hb dX3_begin_10 rfl (lv_at hl 0 rfl) ?_
  refine o_get C h (RC := RX5) (T := TX5) (N := 6) (List.mem_of_getElem? (i := 0) rfl) rfl in_X5 1 (by decide) q240 rfl (v := .ref fi) rfl dX3_begin_11 ?_
  refine n_walen C h (List.mem_append_right _ hfi) dX3_begin_14 ?_
  refine x_copyw C h 1 (n := 8) (dp := 0) (sp := 0) (ws' := [(ho, .inr (3, [.ref st, .ref fi, .ref bl, .long mn, .ref wo, .ref ei])), (st, war dA 8 (va_cpy in2 xs 0 0 8)), (wo, war dA 64 gw), (ei, war dA 8 y), (bl, bar dA 64 gb)] ++ F) (List.mem_append_right _ hfi) rfl q1186 q478 q477 q145 (by omega) (by omega) (by omega) (by omega) hl.1 (by decide) (Nat.le_of_ble_eq_true rfl) rfl dX3_begin_15 (fun H locs h => ?_)
  refine lv_aload_n hx hb dX3_begin_18 rfl (lv_at hl 0 rfl) ?_
  refine lv_lconst (v := lN 0) hx hb dX3_begin_19 (by decide) ?_
  refine o_put C h 0 (RC := RX5) (T := TX5) (N := 6) (ws' := [(ho, .inr (3, [.ref st, .ref fi, .ref bl, .long (lN 0), .ref wo, .ref ei])), (st, war dA 8 (va_cpy in2 xs 0 0 8)), (wo, war dA 64 gw), (ei, war dA 8 y), (bl, bar dA 64 gb)] ++ F) rfl rfl in_X5 tyX5_ok nmX5 3 (by decide) q242 rfl rfl (v := .long (lN 0)) rfl rfl (Nat.le_of_ble_eq_true rfl) rfl dX3_begin_20 (fun H locs h => ?_)
  subst hQ
  have h : Wd D B s ([(ho, .inr (3, [.ref st, .ref fi, .ref bl, .long (lN 0), .ref wo, .ref ei])), (st, war dA 8 (hs2 ([] : List Nat) (([] : List Nat).length / 64))), (wo, war dA 64 gw), (ei, war dA 8 y), (bl, bar dA 64 gb)] ++ F) H locs := Wd.same h 1 rfl (war_same (fun j hj => by
    unfold va_cpy
    rw [if_pos ⟨Nat.zero_le _, by omega⟩]
    rw [show 0 + (j - 0) = j by omega]
    rfl)) rfl
  have h : Wd D B s ([(ho, .inr (3, [.ref st, .ref fi, .ref bl, .long (lN (([] : List Nat).length)), .ref wo, .ref ei])), (st, war dA 8 (hs2 ([] : List Nat) (([] : List Nat).length / 64))), (wo, war dA 64 gw), (ei, war dA 8 y), (bl, bar dA 64 gb)] ++ F) H locs := h
  exact ret_v C hr hlocks h () trivial rfl rfl (by omega) (by omega) dX3_begin_23
set_option maxHeartbeats 400000 in
set_option maxRecDepth 100000 in
theorem c5_size (l : Launch) (D : va_G) (dA : Nat → ClassId) (B : Nat) (Z : State → Prop) (hZ : Stab B Z) (F : va_W) (ho st fi bl wo ei : Nat) (gw y : Nat → Int32) (gb : Nat → Nat) (mn : Int64) (xs : Nat → Int32)  :
    Ct (S := Unit) l D dA B Z yX3_size cX3_size 1 (some .int) 1 0 0 [.ref ho] ([(ho, .inr (3, [.ref st, .ref fi, .ref bl, .long mn, .ref wo, .ref ei])), (st, war dA 8 xs), (wo, war dA 64 gw), (ei, war dA 8 y), (bl, bar dA 64 gb)] ++ F) (fun _ => True) (fun _ => some (.int (nI 32))) (fun _ => [(ho, .inr (3, [.ref st, .ref fi, .ref bl, .long mn, .ref wo, .ref ei])), (st, war dA 8 xs), (wo, war dA 64 gw), (ei, war dA 8 y), (bl, bar dA 64 gb)] ++ F) := by
  refine Ct.mk2 (by decide) (Nat.le_of_ble_eq_true rfl) hZ ?_
  intro p e R s m args below meth c ls Q C hr hlocks hin hQ hl h
  have C0 := C
  obtain ⟨hx, hb, hml, hown, hts, -⟩ := C0
  have hl : lv_has ls 1 [(0, .ref ho)] := hl
  refine lv_iconst (v := nI 4) hx hb dX3_size_0 (by decide) ?_
  refine lv_aload_n hx hb dX3_size_1 rfl (lv_at hl 0 rfl) ?_
  refine o_get C h (RC := RX5) (T := TX5) (N := 6) (List.mem_of_getElem? (i := 0) rfl) rfl in_X5 0 (by decide) q239 rfl (v := .ref st) rfl dX3_size_2 ?_
  refine n_walen C h (List.mem_of_getElem? (i := 1) rfl) dX3_size_5 ?_
  refine lv_imul hx hb dX3_size_6 (n_top (y := nI 32) (by decide) ?_)
  subst hQ
  exact ret_i C hr hlocks h () trivial rfl rfl (by omega) (by omega) dX3_size_7
