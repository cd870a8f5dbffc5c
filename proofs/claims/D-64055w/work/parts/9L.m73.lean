set_option maxRecDepth 100000
set_option maxHeartbeats 400000 in
set_option maxRecDepth 100000 in
theorem c12_is (l : Launch) (D : va_G) (dA : Nat → ClassId) (B : Nat) (Z : State → Prop) (hZ : Stab B Z) (F : va_W) (li tx n0 : Nat) (gt : Nat → Nat) (lt : List Nat) (nx fr to sa sv : Nat) (l9 : List Nat) (hzs : ZS dA B Z) (htx : (tx, bar dA n0 gt) ∈ F) (hsb : SBis gt n0 lt) (hbt : byt lt) (hn0 : n0 < 1000000) (hl4 : lt.length ≤ 4096) (h1 : fr ≤ to) (h2 : to ≤ lt.length) (hs : StrV dA B Z F sa sv l9) (hlb : ∀ x ∈ l9, x < 128) (hll : l9.length < 1000) :
    Ct (S := Unit) l D dA B Z yX12_is cX12_is 3 (some .boolean) 5 0 0 [.ref li, .ref sa] ([(li, .inr (9, [.ref tx, .int (nI lt.length), .int (nI nx), .int (nI fr), .int (nI to)]))] ++ F) (fun _ => True) (fun _ => some (.int (bZ (decide (sl (gD lt) fr (to - fr) = l9))))) (fun _ => [(li, .inr (9, [.ref tx, .int (nI lt.length), .int (nI nx), .int (nI fr), .int (nI to)]))] ++ F) := by
  refine Ct.mk2 (by decide) (Nat.le_of_ble_eq_true rfl) hZ ?_
  intro p e R s m args below meth c ls Q C hr hlocks hin hQ hl h
  have C0 := C
  obtain ⟨hx, hb, hml, hown, hts, -⟩ := C0
  have hl : lv_has ls 3 [(0, .ref li), (1, .ref sa)] := hl
  have hsl := hsb.1
  have hlb2 : byt l9 := fun x hx => Nat.lt_trans (hlb x hx) (by decide)
  have hl7 : ∀ i, i < l9.length → gD l9 i < 128 := fun i hi => hlb _ (by unfold gD; rw [List.getD_eq_getElem?_getD, List.getElem?_eq_getElem hi]; exact List.getElem_mem hi)
  refine lv_aload_n hx hb dX12_is_0 rfl (lv_at hl 0 rfl) ?_
  refine call_VR (As := []) (rest := []) (n := 0) C h (c12_length l D dA B Z hZ F li tx lt.length nx fr to n0 gt htx (fun j hj => by rw [hsb.2 j hj]; exact byt_gD hbt j) hn0 hsb.1 (by omega) (by omega)) (lw_V q945 q946 q947 q149 q948) (by decide +kernel) (o_recv C h (RC := RX12) (T := TX12) (N := 5) (List.mem_of_getElem? (i := 0) rfl) rfl) (by decide) (by decide) rfl hl rfl (Nat.le_of_ble_eq_true rfl) dX12_is_1 (by omega) (fun _ H locs _ h => ?_)
  refine lv_aload_n hx hb dX12_is_4 rfl (lv_at hl 1 rfl) ?_
  refine call_VR (As := []) (rest := [.int (nI (to - fr))]) (n := 0) C h (cJ_len l D dA B Z hZ _ sa sv l9 (hs.up (fun x hx => List.mem_append_right _ hx)) hlb2 (by omega) hzs) (lw_V q949 q785 q786 q156 q787) (by decide +kernel) (s_recv C h (hs.up (fun x hx => List.mem_append_right _ hx))) (by decide) (by decide) rfl hl rfl (Nat.le_of_ble_eq_true rfl) dX12_is_5 (by omega) (fun _ H locs _ h => ?_)
  refine n_icmp_eq (tgt := 13) hx hb (by omega) (by omega) dX12_is_8 (by decide) (fun c8 => ?_) (fun c8 => ?_)
  · refine lv_iconst (v := nI 0) hx hb dX12_is_13 (by decide) ?_
    refine lv_istore_n (lv' := [(2, .int (nI 0)), (0, .ref li), (1, .ref sa)]) hx hb dX12_is_14 rfl hl (by decide) rfl (fun ls hl => ?_)
    have hlt9 : sl (gD l9) 0 l9.length = l9 := sl_gD l9
    have loop : ∀ (nn : Nat) (i : Nat), (i ≤ l9.length) → (sl (gD lt) fr i = sl (gD l9) 0 i) → l9.length - i < nn → ∀ (H : Heap) (locs : List Loc), Wd D B s ([(li, .inr (9, [.ref tx, .int (nI lt.length), .int (nI nx), .int (nI fr), .int (nI to)]))] ++ F) H locs → ∀ (ls : Array Slot), lv_has ls 3 [(2, .int (nI i)), (0, .ref li), (1, .ref sa)] → W p l e R s m args below meth c H locs (0 + 0 + 0) (0 + 0 + 0) Q (F0 m 15 ls []) := by
      intro nn
      induction nn with
      | zero => intro i  hi0 hi1 hme; exact absurd hme (Nat.not_lt_zero _)
      | succ nn ih =>
        intro i  hi0 hi1 hme H locs h ls hl
        refine lv_iload_n hx hb dX12_is_15 rfl (lv_at hl 0 rfl) ?_
        refine lv_aload_n hx hb dX12_is_16 rfl (lv_at hl 2 rfl) ?_
        refine call_VR (As := []) (rest := [.int (nI i)]) (n := 0) C h (cJ_len l D dA B Z hZ _ sa sv l9 (hs.up (fun x hx => List.mem_append_right _ hx)) hlb2 (by omega) hzs) (lw_V q949 q785 q786 q156 q787) (by decide +kernel) (s_recv C h (hs.up (fun x hx => List.mem_append_right _ hx))) (by decide) (by decide) rfl hl rfl (Nat.le_of_ble_eq_true rfl) dX12_is_17 (by omega) (fun _ H locs _ h => ?_)
        refine n_icmp_ge (tgt := 50) hx hb (by omega) (by omega) dX12_is_20 (by decide) (fun c20 => ?_) (fun c20 => ?_)
        · refine lv_iconst (v := nI 1) hx hb dX12_is_50 (by decide) ?_
          subst hQ
          have key : decide (sl (gD lt) fr (to - fr) = l9) = true := decide_eq_true (by rw [show to - fr = i by omega, hi1, show i = l9.length by omega]; exact hlt9)
          refine n_top (y := bZ true) rfl ?_
          exact ret_z C hr hlocks h () trivial (by rw [key]) rfl (by omega) (by omega) dX12_is_51
        · refine lv_aload_n hx hb dX12_is_23 rfl (lv_at hl 1 rfl) ?_
          refine o_get C h (RC := RX12) (T := TX12) (N := 5) (List.mem_of_getElem? (i := 0) rfl) rfl in_X12 0 (by decide) q589 rfl (v := .ref tx) rfl dX12_is_24 ?_
          refine lv_aload_n hx hb dX12_is_27 rfl (lv_at hl 1 rfl) ?_
          refine o_get C h (RC := RX12) (T := TX12) (N := 5) (List.mem_of_getElem? (i := 0) rfl) rfl in_X12 3 (by decide) q593 rfl (v := .int (nI fr)) rfl dX12_is_28 ?_
          refine lv_iload_n hx hb dX12_is_31 rfl (lv_at hl 0 rfl) ?_
          refine lv_iadd hx hb dX12_is_32 (n_top (y := nI (fr + i)) (nI_add fr i) ?_)
          refine n_bald C h (v := gt (fr + i)) (List.mem_append_right _ htx) (show fr + i < n0 by omega) (by omega) rfl dX12_is_33 ?_
          refine lv_aload_n hx hb dX12_is_34 rfl (lv_at hl 2 rfl) ?_
          refine lv_iload_n hx hb dX12_is_35 rfl (lv_at hl 0 rfl) ?_
          refine call_VR (As := [.int (nI i)]) (rest := [.int (sb_b (gt (fr + i)))]) (n := 1) C h (cJ_charAt l D dA B Z hZ _ i sa sv l9 (hs.up (fun x hx => List.mem_append_right _ hx)) hlb2 (by omega) hzs (by omega)) (lw_V q950 q951 q952 q156 q953) (by decide +kernel) (s_recv C h (hs.up (fun x hx => List.mem_append_right _ hx))) (by decide) (by decide) rfl hl rfl (Nat.le_of_ble_eq_true rfl) dX12_is_36 (by omega) (fun _ H locs _ h => ?_)
          refine lv_icmp_eq (tgt := 44) hx hb dX12_is_39 (by decide) (fun c39 => ?_) (fun c39 => ?_)
          · have hb1 : gt (fr + i) = gD lt (fr + i) := hsb.2 _ (by omega)
            have hb2 : gt (fr + i) < 256 := by rw [hb1]; exact byt_gD hbt _
            have d39 : gD lt (fr + i) = gD l9 i := hb1.symm.trans ((sb_is hb2 (hl7 i (by omega))).mp c39)
            refine lv_iinc (v := nI (i + 1)) (lv' := [(2, .int (nI (i + 1))), (0, .ref li), (1, .ref sa)]) hx hb dX12_is_44 hl (k := 0) rfl (nI_add i 1) (by decide) rfl (fun ls hl => ?_)
            refine lv_goto (tgt := 15) hx hb dX12_is_47 (by decide) ?_
            exact ih (i + 1) (by omega) (by rw [sl_succ, sl_succ, hi1, Nat.zero_add, d39]) (by omega) _ _ h _ (lv_sub hl [0, 1, 2] rfl)
          · have hb1 : gt (fr + i) = gD lt (fr + i) := hsb.2 _ (by omega)
            have hb2 : gt (fr + i) < 256 := by rw [hb1]; exact byt_gD hbt _
            have d39 : ¬ gD lt (fr + i) = gD l9 i := fun z => c39 ((sb_is hb2 (hl7 i (by omega))).mpr (hb1.trans z))
            refine lv_iconst (v := nI 0) hx hb dX12_is_42 (by decide) ?_
            subst hQ
            have key : decide (sl (gD lt) fr (to - fr) = l9) = false := decide_eq_false (fun z => (show sl (gD lt) fr (to - fr) ≠ sl (gD l9) 0 l9.length from sl_ne_at (i := i) (by omega) (by omega) (by rw [Nat.zero_add]; exact d39)) (z.trans hlt9.symm))
            refine n_top (y := bZ false) rfl ?_
            exact ret_z C hr hlocks h () trivial (by rw [key]) rfl (by omega) (by omega) dX12_is_43
    exact loop _ 0 (by omega) rfl (Nat.lt_succ_self _) _ _ h _ (lv_sub hl [0, 1, 2] rfl)
  · refine lv_iconst (v := nI 0) hx hb dX12_is_11 (by decide) ?_
    subst hQ
    have key : decide (sl (gD lt) fr (to - fr) = l9) = false := decide_eq_false (fun z => c8 (by rw [← z, sl_len]))
    refine n_top (y := bZ false) rfl ?_
    exact ret_z C hr hlocks h () trivial (by rw [key]) rfl (by omega) (by omega) dX12_is_12
set_option maxHeartbeats 400000 in
set_option maxRecDepth 100000 in
theorem c12_heads (l : Launch) (D : va_G) (dA : Nat → ClassId) (B : Nat) (Z : State → Prop) (hZ : Stab B Z) (F : va_W) (li tx n0 : Nat) (gt : Nat → Nat) (lt : List Nat) (nx fr to : Nat) (hlt : l.stackTraces = false) (hzx : ZX B Z) (htx : (tx, bar dA n0 gt) ∈ F) (hsb : SBis gt n0 lt) (hbt : byt lt) (hn0 : n0 < 1000000) (hl4 : lt.length ≤ 4096) (hnx : nx ≤ 5000) :
    CtX (S := Unit) (SX := Nat × (Nat × Nat × Nat) × va_W) l D dA B Z yX12_heads cX12_heads 1 none 9 1 7 [.ref li] ([(li, .inr (9, [.ref tx, .int (nI lt.length), .int (nI nx), .int (nI fr), .int (nI to)]))] ++ F) (fun _ => (headsS lt (0, nx, fr, to)).1 = 0) (fun _ => none) (fun _ => [(li, .inr (9, [.ref tx, .int (nI lt.length), .int (nI ((headsS lt (0, nx, fr, to)).2.1)), .int (nI ((headsS lt (0, nx, fr, to)).2.2.1)), .int (nI ((headsS lt (0, nx, fr, to)).2.2.2))]))] ++ F) (fun u => (headsS lt (0, nx, fr, to)).1 ≠ 0 ∧ FaultIn u.2.2 u.1 (headsS lt (0, nx, fr, to)).1) (fun u => u.1) (fun _ => "SignetRing$Fault") (fun u => [(li, .inr (9, [.ref tx, .int (nI lt.length), .int (nI u.2.1.1), .int (nI u.2.1.2.1), .int (nI u.2.1.2.2)]))] ++ (F ++ u.2.2)) := by
  refine CtX.mk2 (by decide) (Nat.le_of_ble_eq_true rfl) hZ ?_
  intro p e R s m args below meth c ls Q C hr hlocks hin hex hQ hl h
  have C0 := C
  obtain ⟨hx, hb, hml, hown, hts, -⟩ := C0
  have hl : lv_has ls 1 [(0, .ref li)] := hl
  have hsl := hsb.1
  refine lv_aload_n hx hb dX12_heads_0 rfl (lv_at hl 0 rfl) ?_
  by_cases hc1 : nx < lt.length
  · refine call_VR (As := []) (rest := []) (n := 0) C h (c12_line l D dA B Z hZ F li tx n0 gt lt nx fr to htx hsb hbt hn0 hl4 (by omega)) (lw_V q981 q609 q610 q149 q611) (by decide +kernel) (o_recv C h (RC := RX12) (T := TX12) (N := 5) (List.mem_of_getElem? (i := 0) rfl) rfl) (by decide) (by decide) rfl hl rfl (Nat.le_of_ble_eq_true rfl) dX12_heads_1 (by omega) (fun _ H locs _ h => ?_)
    have h : Wd D B s ([(li, .inr (9, [.ref tx, .int (nI lt.length), .int (nI (eolL lt nx + 1)), .int (nI nx), .int (nI (stripL lt nx (eolL lt nx)))]))] ++ F) H locs := h
    have z9 := eol_strip hc1
    have hhs : (headsS lt (0, nx, fr, to)) = headsL (lt.length + 2) lt (true, (0, eolL lt nx + 1, nx, stripL lt nx (eolL lt nx))) := by unfold headsS; rw [lineS_g hc1]
    have loop : ∀ (nn : Nat) (k na fa ta : Nat), ((headsS lt (0, nx, fr, to)) = headsL k lt (true, (0, na, fa, ta))) → (lt.length + 1 < na + k) → (fa ≤ ta) → (ta ≤ lt.length) → (na ≤ lt.length + 1) → k < nn → ∀ (H : Heap) (locs : List Loc), Wd D B s ([(li, .inr (9, [.ref tx, .int (nI lt.length), .int (nI na), .int (nI fa), .int (nI ta)]))] ++ F) H locs → ∀ (ls : Array Slot), lv_has ls 1 [(0, .ref li)] → W p l e R s m args below meth c H locs (0 + 0) (0 + 0) Q (F0 m 4 ls []) := by
      intro nn
      induction nn with
      | zero => intro k na fa ta  hi0 hi1 hi2 hi3 hi4 hme; exact absurd hme (Nat.not_lt_zero _)
      | succ nn ih =>
        intro k na fa ta  hi0 hi1 hi2 hi3 hi4 hme H locs h ls hl
        refine lv_aload_n hx hb dX12_heads_4 rfl (lv_at hl 0 rfl) ?_
        refine call_VR (As := []) (rest := []) (n := 0) C h (c12_length l D dA B Z hZ F li tx lt.length na fa ta n0 gt htx (fun j hj => by rw [hsb.2 j hj]; exact byt_gD hbt j) hn0 hsb.1 (by omega) (by omega)) (lw_V q945 q946 q947 q149 q948) (by decide +kernel) (o_recv C h (RC := RX12) (T := TX12) (N := 5) (List.mem_of_getElem? (i := 0) rfl) rfl) (by decide) (by decide) rfl hl rfl (Nat.le_of_ble_eq_true rfl) dX12_heads_5 (by omega) (fun _ H locs _ h => ?_)
        refine n_if_le (tgt := 34) hx hb (by omega) dX12_heads_8 (by decide) (fun c8 => ?_) (fun c8 => ?_)
        · subst hQ
          have e9 : (headsS lt (0, nx, fr, to)) = (0, na, fa, ta) := by rw [hi0, headsL_e (Or.inr (show ta ≤ fa by omega))]
          refine vy_ret ?_
          exact ret_v C hr hlocks h () (by rw [e9]) rfl (by rw [e9]) (by omega) (by omega) dX12_heads_34
        · refine lv_aload_n hx hb dX12_heads_11 rfl (lv_at hl 0 rfl) ?_
          refine call_VR (As := []) (rest := []) (n := 0) C h (c12_hasColon l D dA B Z hZ F li tx lt.length na fa ta n0 gt lt htx (fun j hj => by rw [hsb.2 j hj]; exact byt_gD hbt j) hn0 hsb.1 (by omega) (by omega) hsb.2) (lw_V q982 q983 q984 q149 q985) (by decide +kernel) (o_recv C h (RC := RX12) (T := TX12) (N := 5) (List.mem_of_getElem? (i := 0) rfl) rfl) (by decide) (by decide) rfl hl rfl (Nat.le_of_ble_eq_true rfl) dX12_heads_12 (by omega) (fun _ H locs _ h => ?_)
          refine z_if_ne (tgt := 27) hx hb dX12_heads_15 (by decide) (fun c15 => ?_) (fun c15 => ?_)
          · refine lv_aload_n hx hb dX12_heads_27 rfl (lv_at hl 0 rfl) ?_
            by_cases hc2 : na < lt.length
            · refine call_VR (As := []) (rest := []) (n := 0) C h (c12_line l D dA B Z hZ F li tx n0 gt lt na fa ta htx hsb hbt hn0 hl4 (by omega)) (lw_V q981 q609 q610 q149 q611) (by decide +kernel) (o_recv C h (RC := RX12) (T := TX12) (N := 5) (List.mem_of_getElem? (i := 0) rfl) rfl) (by decide) (by decide) rfl hl rfl (Nat.le_of_ble_eq_true rfl) dX12_heads_28 (by omega) (fun _ H locs _ h => ?_)
              have h : Wd D B s ([(li, .inr (9, [.ref tx, .int (nI lt.length), .int (nI (eolL lt na + 1)), .int (nI na), .int (nI (stripL lt na (eolL lt na)))]))] ++ F) H locs := h
              have z8 := eol_strip hc2
              refine lv_goto (tgt := 4) hx hb dX12_heads_31 (by decide) ?_
              exact ih (k - 1) _ _ _ (by rw [hi0, headsL_s (by omega) rfl (show fa < ta by omega), if_pos c15, lineS_g hc2]) (by omega) z8.1 z8.2.1 z8.2.2.1 (by omega) _ _ h _ (lv_sub hl [0] rfl)
            · refine call_VX (As := []) (rest := []) (n := 0) C h (c12_lineX l D dA B Z hZ F li tx n0 gt lt na fa ta hlt hzx htx hsb hbt hn0 hl4 (by omega) (by omega)) (lw_V q981 q609 q610 q149 q611) (by decide +kernel) (o_recv C h (RC := RX12) (T := TX12) (N := 5) (List.mem_of_getElem? (i := 0) rfl) rfl) (by decide) (by decide) rfl hl rfl (Nat.le_of_ble_eq_true rfl) dX12_heads_28 (by omega) (fun ux ce9 H locs hux h hce9 hcv9 hcl9 => ?_) (fun _ H locs hu h => ?_)
              · obtain ⟨q9, x9⟩ := ux
                have h : Wd D B s ([(li, .inr (9, [.ref tx, .int (nI lt.length), .int (nI na), .int (nI fa), .int (nI ta)]))] ++ (F ++ [(q9, .inr (10, fts x9 (-100000 - nI lt.length)))])) H locs := h
                have e9 : (headsS lt (0, nx, fr, to)) = (-100000 - nI lt.length, na, fa, ta) := by rw [hi0, headsL_s (by omega) rfl (show fa < ta by omega), if_pos c15, lineS_x (by omega), headsL_e (Or.inl rfl)]
                subst hQ
                exact thr_out C hex hlocks h (q9, (na, fa, ta), [(q9, .inr (10, fts x9 (-100000 - nI lt.length)))]) rfl rfl (⟨by rw [e9]; exact code_ne lt.length (by omega), x9, by rw [e9]; exact List.mem_cons_self⟩) rfl hce9 hcv9 hcl9 (by omega) (by omega)
              exact hu.elim
          · refine lv_aload_n hx hb dX12_heads_18 rfl (lv_at hl 0 rfl) ?_
            refine lv_aload_n hx hb dX12_heads_19 rfl (lv_at hl 0 rfl) ?_
            refine o_get C h (RC := RX12) (T := TX12) (N := 5) (List.mem_of_getElem? (i := 0) rfl) rfl in_X12 3 (by decide) q593 rfl (v := .int (nI fa)) rfl dX12_heads_20 ?_
            refine call_VR (As := [.int (nI fa)]) (rest := []) (n := 1) C h (c12_fault l D dA B Z hZ _ li fa hlt hzx) (lw_V q612 q613 q614 q149 q615) (by decide +kernel) (o_recv C h (RC := RX12) (T := TX12) (N := 5) (List.mem_of_getElem? (i := 0) rfl) rfl) (by decide) (by decide) rfl hl rfl (Nat.le_of_ble_eq_true rfl) dX12_heads_23 (by omega) (fun u9 H locs _ h => ?_)
            obtain ⟨q9, x9⟩ := u9
            have h : Wd D B s ([(q9, .inr (10, fts x9 (-100000 - nI fa)))] ++ ([(li, .inr (9, [.ref tx, .int (nI lt.length), .int (nI na), .int (nI fa), .int (nI ta)]))] ++ F)) H locs := h
            have h : Wd D B s ([(q9, .inr (10, fts x9 (-100000 - nI fa))), (li, .inr (9, [.ref tx, .int (nI lt.length), .int (nI na), .int (nI fa), .int (nI ta)]))] ++ F) H locs := h
            subst hQ
            have h : Wd D B s ([(li, .inr (9, [.ref tx, .int (nI lt.length), .int (nI na), .int (nI fa), .int (nI ta)]))] ++ (F ++ [(q9, .inr (10, fts x9 (-100000 - nI fa)))])) H locs := Wd.toLast h
            have e9 : (headsS lt (0, nx, fr, to)) = (-100000 - nI fa, na, fa, ta) := by rw [hi0, headsL_s (by omega) rfl (show fa < ta by omega), if_neg (by rw [c15]; decide), failLn_0, lineS_n (u := (-100000 - nI fa, na, fa, ta)) (code_ne fa (by omega)), headsL_e (Or.inl rfl)]
            exact x_athrow C hex hlocks h (List.mem_append_right _ (List.mem_append_right _ List.mem_cons_self)) rfl (q9, (na, fa, ta), [(q9, .inr (10, fts x9 (-100000 - nI fa)))]) rfl rfl (⟨by rw [e9]; exact code_ne fa (by omega), x9, by rw [e9]; exact List.mem_cons_self⟩) rfl (by omega) (by omega) dX12_heads_26
    exact loop _ (lt.length + 2) _ _ _ hhs (by omega) z9.1 z9.2.1 z9.2.2.1 (Nat.lt_succ_self _) _ _ h _ (lv_sub hl [0] rfl)
  · refine call_VX (As := []) (rest := []) (n := 0) C h (c12_lineX l D dA B Z hZ F li tx n0 gt lt nx fr to hlt hzx htx hsb hbt hn0 hl4 (by omega) (by omega)) (lw_V q981 q609 q610 q149 q611) (by decide +kernel) (o_recv C h (RC := RX12) (T := TX12) (N := 5) (List.mem_of_getElem? (i := 0) rfl) rfl) (by decide) (by decide) rfl hl rfl (Nat.le_of_ble_eq_true rfl) dX12_heads_1 (by omega) (fun ux ce9 H locs hux h hce9 hcv9 hcl9 => ?_) (fun _ H locs hu h => ?_)
    · obtain ⟨q9, x9⟩ := ux
      have h : Wd D B s ([(li, .inr (9, [.ref tx, .int (nI lt.length), .int (nI nx), .int (nI fr), .int (nI to)]))] ++ (F ++ [(q9, .inr (10, fts x9 (-100000 - nI lt.length)))])) H locs := h
      have e9 : (headsS lt (0, nx, fr, to)) = (-100000 - nI lt.length, nx, fr, to) := by unfold headsS; rw [lineS_x (by omega), headsL_e (Or.inl rfl)]
      subst hQ
      exact thr_out C hex hlocks h (q9, (nx, fr, to), [(q9, .inr (10, fts x9 (-100000 - nI lt.length)))]) rfl rfl (⟨by rw [e9]; exact code_ne lt.length (by omega), x9, by rw [e9]; exact List.mem_cons_self⟩) rfl hce9 hcv9 hcl9 (by omega) (by omega)
    exact hu.elim
