set_option maxRecDepth 100000
set_option maxHeartbeats 400000 in
set_option maxRecDepth 100000 in
theorem c4_step (l : Launch) (D : va_G) (dA : Nat → ClassId) (B : Nat) (Z : State → Prop) (hZ : Stab B Z) (F : va_W) (ho st fi bl wo : Nat) (mn : Int64) (x : H5) (gw : Nat → Int32) (gb : Nat → Nat)  (hbl : (bl, bar dA 64 gb) ∈ F) (hgb : ∀ j, j < 64 → gb j < 256) :
    Ct (S := Unit) l D dA B Z yX3_step cX3_step 2 none 3 0 0 [.ref ho] ([(ho, .inr (2, [.ref st, .ref fi, .ref bl, .long mn, .ref wo])), (st, war dA 5 (t5 x)), (wo, war dA 80 gw)] ++ F) (fun _ => True) (fun _ => none) (fun _ => [(ho, .inr (2, [.ref st, .ref fi, .ref bl, .long mn, .ref wo])), (st, war dA 5 (t5 (add5 x (rd1 (sW1 (bwF gb)) 80 x)))), (wo, war dA 80 (mixF 80 (sW1 (bwF gb)) gw))] ++ F) := by
  refine Ct.mk2 (by decide) (Nat.le_of_ble_eq_true rfl) hZ ?_
  intro p e R s m args below meth c ls Q C hr hlocks hin hQ hl h
  have C0 := C
  obtain ⟨hx, hb, hml, hown, hts, -⟩ := C0
  have hl : lv_has ls 2 [(0, .ref ho)] := hl
  refine lv_iconst (v := nI 0) hx hb dX3_step_0 (by decide) ?_
  refine lv_istore_n (lv' := [(1, .int (nI 0)), (0, .ref ho)]) hx hb dX3_step_1 rfl hl (by decide) rfl (fun ls hl => ?_)
  have h : Wd D B s ([(ho, .inr (2, [.ref st, .ref fi, .ref bl, .long mn, .ref wo])), (st, war dA 5 (t5 x)), (wo, war dA 80 (mixF 0 (bwF gb) gw))] ++ F) s.heap [] := by rw [mixF_0]; exact h
  have loop : ∀ (nn : Nat) (i : Nat), (i ≤ 16) → 16 - i < nn → ∀ (H : Heap) (locs : List Loc), Wd D B s ([(ho, .inr (2, [.ref st, .ref fi, .ref bl, .long mn, .ref wo])), (st, war dA 5 (t5 x)), (wo, war dA 80 (mixF i (bwF gb) gw))] ++ F) H locs → ∀ (ls : Array Slot), lv_has ls 2 [(1, .int (nI i)), (0, .ref ho)] → W p l e R s m args below meth c H locs 0 0 Q (F0 m 2 ls []) := by
    intro nn
    induction nn with
    | zero => intro i  hi0 hme; exact absurd hme (Nat.not_lt_zero _)
    | succ nn ih =>
      intro i  hi0 hme H locs h ls hl
      refine lv_iload_n hx hb dX3_step_2 rfl (lv_at hl 0 rfl) ?_
      refine lv_bipush (v := nI 16) hx hb dX3_step_3 (by decide) ?_
      refine n_icmp_ge (tgt := 32) hx hb (by omega) (by omega) dX3_step_5 (by decide) (fun c5 => ?_) (fun c5 => ?_)
      · have hi16 : i = 16 := by omega
        rw [hi16] at h
        have h : Wd D B s ([(ho, .inr (2, [.ref st, .ref fi, .ref bl, .long mn, .ref wo])), (st, war dA 5 (t5 x)), (wo, war dA 80 (mixF 16 (bwF gb) gw))] ++ F) H locs := h
        have hcg : sW1 (mixF 16 (bwF gb) gw) = sW1 (bwF gb) := sW1_cg (fun k hk => mixF_lt _ _ hk)
        have hmm : mixF 80 (sW1 (bwF gb)) (mixF 16 (bwF gb) gw) = mixF 80 (sW1 (bwF gb)) gw := by
          funext j
          unfold mixF
          split
          · rfl
          · rw [if_neg (by omega)]
        refine lv_aload_n hx hb dX3_step_32 rfl (lv_at hl 1 rfl) ?_
        refine lv_aload_n hx hb dX3_step_33 rfl (lv_at hl 1 rfl) ?_
        refine o_get C h (RC := RX4) (T := TX4) (N := 5) (List.mem_of_getElem? (i := 0) rfl) rfl in_X4 0 (by decide) q239 rfl (v := .ref st) rfl dX3_step_34 ?_
        refine call_A (As := [.ref st]) (rest := []) (n := 1) C h (c4_mix l D dA B Z hZ F ho st fi bl wo mn x (mixF 16 (bwF gb) gw)) (lw_U q1204 q1206 q1207 q1208 q135 q1209) q1205 (by decide +kernel) (o_recv C h (RC := RX4) (T := TX4) (N := 5) (List.mem_of_getElem? (i := 0) rfl) rfl) (by decide) (by decide) rfl hl rfl (Nat.le_of_ble_eq_true rfl) dX3_step_37 (by omega) (fun _ H locs _ h => ?_)
        have h : Wd D B s ([(ho, .inr (2, [.ref st, .ref fi, .ref bl, .long mn, .ref wo])), (st, war dA 5 (t5 (add5 x (rd1 (sW1 (mixF 16 (bwF gb) gw)) 80 x)))), (wo, war dA 80 (mixF 80 (sW1 (mixF 16 (bwF gb) gw)) (mixF 16 (bwF gb) gw)))] ++ F) H locs := h.permL (perm_add (fun g f p0 p1 p2 => by (try simp only [p0, p1, p2]) <;> omega))
        rw [hcg, hmm] at h
        subst hQ
        exact ret_v C hr hlocks h () trivial rfl rfl (by omega) (by omega) dX3_step_40
      · refine lv_aload_n hx hb dX3_step_8 rfl (lv_at hl 1 rfl) ?_
        refine o_get C h (RC := RX4) (T := TX4) (N := 5) (List.mem_of_getElem? (i := 0) rfl) rfl in_X4 4 (by decide) q243 rfl (v := .ref wo) rfl dX3_step_9 ?_
        refine lv_iload_n hx hb dX3_step_12 rfl (lv_at hl 0 rfl) ?_
        refine lv_aload_n hx hb dX3_step_13 rfl (lv_at hl 1 rfl) ?_
        refine o_get C h (RC := RX4) (T := TX4) (N := 5) (List.mem_of_getElem? (i := 0) rfl) rfl in_X4 2 (by decide) q241 rfl (v := .ref bl) rfl dX3_step_14 ?_
        refine lv_iconst (v := nI 4) hx hb dX3_step_17 (by decide) ?_
        refine lv_iload_n hx hb dX3_step_18 rfl (lv_at hl 0 rfl) ?_
        refine lv_imul hx hb dX3_step_19 (n_top (y := nI (4 * i)) (pk_mul 4 i) ?_)
        refine lv_iconst (v := nI 4) hx hb dX3_step_20 (by decide) ?_
        refine call_SN (As := [.ref bl, .int (nI (4 * i)), .int (nI 4)]) (rest := [.int (nI i), .ref wo]) (n := 3) C h (c1_number l D dA B Z hZ _ bl 64 gb (4 * i) 4 (List.mem_append_right _ hbl) (by omega) (by decide) hgb (by decide)) (lw_meth q1203) q1201 q1202 q129 (by decide +kernel) (by decide) (by decide) rfl hl rfl (Nat.le_of_ble_eq_true rfl) dX3_step_21 (by omega) (fun _ H locs _ h => ?_)
        refine lv_l2i (v := nI (num (sl gb (4 * i) 4))) hx hb dX3_step_24 (lN_i _) ?_
        refine n_top (y := bwF gb i) rfl ?_
        refine x_wast C h 2 (v := bwF gb i) (ws' := [(ho, .inr (2, [.ref st, .ref fi, .ref bl, .long mn, .ref wo])), (st, war dA 5 (t5 x)), (wo, war dA 80 (upN (mixF i (bwF gb) gw) i (bwF gb i)))] ++ F) rfl (by omega) (by decide) rfl dX3_step_25 (fun H locs h => ?_)
        rw [mixF_s] at h
        have h : Wd D B s ([(ho, .inr (2, [.ref st, .ref fi, .ref bl, .long mn, .ref wo])), (st, war dA 5 (t5 x)), (wo, war dA 80 (mixF (i + 1) (bwF gb) gw))] ++ F) H locs := h
        refine lv_iinc (v := nI (i + 1)) (lv' := [(1, .int (nI (i + 1))), (0, .ref ho)]) hx hb dX3_step_26 hl (k := 0) rfl (nI_add i 1) (by decide) rfl (fun ls hl => ?_)
        refine lv_goto (tgt := 2) hx hb dX3_step_29 (by decide) ?_
        exact ih (i + 1) (by omega) (by omega) _ _ h _ (lv_sub hl [0, 1] rfl)
  exact loop _ 0 (by omega) (Nat.lt_succ_self _) _ _ h _ (lv_sub hl [0, 1] rfl)
set_option maxHeartbeats 400000 in
set_option maxRecDepth 100000 in
theorem c5_step (l : Launch) (D : va_G) (dA : Nat → ClassId) (B : Nat) (Z : State → Prop) (hZ : Stab B Z) (F : va_W) (ho st fi bl wo ei : Nat) (mn : Int64) (x : Nat → Int32) (gw y : Nat → Int32) (gb : Nat → Nat) (hzA : ∀ U : State, Z U → ∃ t, va_Z "SignetRing$Second" "ADD" "[I" (.ref t) (bA B) U U.heap ∧ va_T .int t 64 (fun j => .int (K2 j)) (bA B) U U.heap) (hbl : (bl, bar dA 64 gb) ∈ F) (hgb : ∀ j, j < 64 → gb j < 256) :
    Ct (S := Unit) l D dA B Z yX3_step cX3_step 2 none 3 0 0 [.ref ho] ([(ho, .inr (3, [.ref st, .ref fi, .ref bl, .long mn, .ref wo, .ref ei])), (st, war dA 8 x), (wo, war dA 64 gw), (ei, war dA 8 y)] ++ F) (fun _ => True) (fun _ => none) (fun _ => [(ho, .inr (3, [.ref st, .ref fi, .ref bl, .long mn, .ref wo, .ref ei])), (st, war dA 8 (fun j => x j + rd2 (sW2 (bwF gb)) 64 x j)), (wo, war dA 64 (mixF 64 (sW2 (bwF gb)) gw)), (ei, war dA 8 (rd2 (sW2 (bwF gb)) 64 x))] ++ F) := by
  refine Ct.mk2 (by decide) (Nat.le_of_ble_eq_true rfl) hZ ?_
  intro p e R s m args below meth c ls Q C hr hlocks hin hQ hl h
  have C0 := C
  obtain ⟨hx, hb, hml, hown, hts, -⟩ := C0
  have hl : lv_has ls 2 [(0, .ref ho)] := hl
  refine lv_iconst (v := nI 0) hx hb dX3_step_0 (by decide) ?_
  refine lv_istore_n (lv' := [(1, .int (nI 0)), (0, .ref ho)]) hx hb dX3_step_1 rfl hl (by decide) rfl (fun ls hl => ?_)
  have h : Wd D B s ([(ho, .inr (3, [.ref st, .ref fi, .ref bl, .long mn, .ref wo, .ref ei])), (st, war dA 8 x), (wo, war dA 64 (mixF 0 (bwF gb) gw)), (ei, war dA 8 y)] ++ F) s.heap [] := by rw [mixF_0]; exact h
  have loop : ∀ (nn : Nat) (i : Nat), (i ≤ 16) → 16 - i < nn → ∀ (H : Heap) (locs : List Loc), Wd D B s ([(ho, .inr (3, [.ref st, .ref fi, .ref bl, .long mn, .ref wo, .ref ei])), (st, war dA 8 x), (wo, war dA 64 (mixF i (bwF gb) gw)), (ei, war dA 8 y)] ++ F) H locs → ∀ (ls : Array Slot), lv_has ls 2 [(1, .int (nI i)), (0, .ref ho)] → W p l e R s m args below meth c H locs 0 0 Q (F0 m 2 ls []) := by
    intro nn
    induction nn with
    | zero => intro i  hi0 hme; exact absurd hme (Nat.not_lt_zero _)
    | succ nn ih =>
      intro i  hi0 hme H locs h ls hl
      refine lv_iload_n hx hb dX3_step_2 rfl (lv_at hl 0 rfl) ?_
      refine lv_bipush (v := nI 16) hx hb dX3_step_3 (by decide) ?_
      refine n_icmp_ge (tgt := 32) hx hb (by omega) (by omega) dX3_step_5 (by decide) (fun c5 => ?_) (fun c5 => ?_)
      · have hi16 : i = 16 := by omega
        rw [hi16] at h
        have h : Wd D B s ([(ho, .inr (3, [.ref st, .ref fi, .ref bl, .long mn, .ref wo, .ref ei])), (st, war dA 8 x), (wo, war dA 64 (mixF 16 (bwF gb) gw)), (ei, war dA 8 y)] ++ F) H locs := h
        have hcg : sW2 (mixF 16 (bwF gb) gw) = sW2 (bwF gb) := sW2_cg (fun k hk => mixF_lt _ _ hk)
        have hmm : mixF 64 (sW2 (bwF gb)) (mixF 16 (bwF gb) gw) = mixF 64 (sW2 (bwF gb)) gw := by
          funext j
          unfold mixF
          split
          · rfl
          · rw [if_neg (by omega)]
        refine lv_aload_n hx hb dX3_step_32 rfl (lv_at hl 1 rfl) ?_
        refine lv_aload_n hx hb dX3_step_33 rfl (lv_at hl 1 rfl) ?_
        refine o_get C h (RC := RX5) (T := TX5) (N := 6) (List.mem_of_getElem? (i := 0) rfl) rfl in_X5 0 (by decide) q239 rfl (v := .ref st) rfl dX3_step_34 ?_
        refine call_A (As := [.ref st]) (rest := []) (n := 1) C h (c5_mix l D dA B Z hZ F ho st fi bl wo ei mn x (mixF 16 (bwF gb) gw) y hzA) (lw_U q1204 q1206 q1217 q1218 q136 q1219) q1205 (by decide +kernel) (o_recv C h (RC := RX5) (T := TX5) (N := 6) (List.mem_of_getElem? (i := 0) rfl) rfl) (by decide) (by decide) rfl hl rfl (Nat.le_of_ble_eq_true rfl) dX3_step_37 (by omega) (fun _ H locs _ h => ?_)
        have h : Wd D B s ([(ho, .inr (3, [.ref st, .ref fi, .ref bl, .long mn, .ref wo, .ref ei])), (st, war dA 8 (fun j => x j + rd2 (sW2 (mixF 16 (bwF gb) gw)) 64 x j)), (wo, war dA 64 (mixF 64 (sW2 (mixF 16 (bwF gb) gw)) (mixF 16 (bwF gb) gw))), (ei, war dA 8 (rd2 (sW2 (mixF 16 (bwF gb) gw)) 64 x))] ++ F) H locs := h.permL (perm_add (fun g f p0 p1 p2 => by (try simp only [p0, p1, p2]) <;> omega))
        rw [hcg, hmm] at h
        subst hQ
        exact ret_v C hr hlocks h () trivial rfl rfl (by omega) (by omega) dX3_step_40
      · refine lv_aload_n hx hb dX3_step_8 rfl (lv_at hl 1 rfl) ?_
        refine o_get C h (RC := RX5) (T := TX5) (N := 6) (List.mem_of_getElem? (i := 0) rfl) rfl in_X5 4 (by decide) q243 rfl (v := .ref wo) rfl dX3_step_9 ?_
        refine lv_iload_n hx hb dX3_step_12 rfl (lv_at hl 0 rfl) ?_
        refine lv_aload_n hx hb dX3_step_13 rfl (lv_at hl 1 rfl) ?_
        refine o_get C h (RC := RX5) (T := TX5) (N := 6) (List.mem_of_getElem? (i := 0) rfl) rfl in_X5 2 (by decide) q241 rfl (v := .ref bl) rfl dX3_step_14 ?_
        refine lv_iconst (v := nI 4) hx hb dX3_step_17 (by decide) ?_
        refine lv_iload_n hx hb dX3_step_18 rfl (lv_at hl 0 rfl) ?_
        refine lv_imul hx hb dX3_step_19 (n_top (y := nI (4 * i)) (pk_mul 4 i) ?_)
        refine lv_iconst (v := nI 4) hx hb dX3_step_20 (by decide) ?_
        refine call_SN (As := [.ref bl, .int (nI (4 * i)), .int (nI 4)]) (rest := [.int (nI i), .ref wo]) (n := 3) C h (c1_number l D dA B Z hZ _ bl 64 gb (4 * i) 4 (List.mem_append_right _ hbl) (by omega) (by decide) hgb (by decide)) (lw_meth q1203) q1201 q1202 q129 (by decide +kernel) (by decide) (by decide) rfl hl rfl (Nat.le_of_ble_eq_true rfl) dX3_step_21 (by omega) (fun _ H locs _ h => ?_)
        refine lv_l2i (v := nI (num (sl gb (4 * i) 4))) hx hb dX3_step_24 (lN_i _) ?_
        refine n_top (y := bwF gb i) rfl ?_
        refine x_wast C h 2 (v := bwF gb i) (ws' := [(ho, .inr (3, [.ref st, .ref fi, .ref bl, .long mn, .ref wo, .ref ei])), (st, war dA 8 x), (wo, war dA 64 (upN (mixF i (bwF gb) gw) i (bwF gb i))), (ei, war dA 8 y)] ++ F) rfl (by omega) (by decide) rfl dX3_step_25 (fun H locs h => ?_)
        rw [mixF_s] at h
        have h : Wd D B s ([(ho, .inr (3, [.ref st, .ref fi, .ref bl, .long mn, .ref wo, .ref ei])), (st, war dA 8 x), (wo, war dA 64 (mixF (i + 1) (bwF gb) gw)), (ei, war dA 8 y)] ++ F) H locs := h
        refine lv_iinc (v := nI (i + 1)) (lv' := [(1, .int (nI (i + 1))), (0, .ref ho)]) hx hb dX3_step_26 hl (k := 0) rfl (nI_add i 1) (by decide) rfl (fun ls hl => ?_)
        refine lv_goto (tgt := 2) hx hb dX3_step_29 (by decide) ?_
        exact ih (i + 1) (by omega) (by omega) _ _ h _ (lv_sub hl [0, 1] rfl)
  exact loop _ 0 (by omega) (Nat.lt_succ_self _) _ _ h _ (lv_sub hl [0, 1] rfl)
