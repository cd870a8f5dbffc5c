set_option maxRecDepth 100000

def rowR (l : List Nat) (n : Nat) (u : OU) : List Nat × OU := if l.length - u.1 < n then ([], (u.1, false)) else (sliceL l u.1 n, (u.1 + n, u.2))
theorem rowR_f {l : List Nat} {n : Nat} {u : OU} (h : l.length - u.1 < n) : rowR l n u = ([], (u.1, false)) := if_pos h
theorem rowR_t {l : List Nat} {n : Nat} {u : OU} (h : ¬ l.length - u.1 < n) : rowR l n u = (sliceL l u.1 n, (u.1 + n, u.2)) := if_neg h
theorem rowR_ok {l : List Nat} (hb : byt l) {n : Nat} {u : OU} (hu : u.1 ≤ l.length) : byt (rowR l n u).1 ∧ (rowR l n u).1.length ≤ l.length ∧ (rowR l n u).2.1 ≤ l.length := by
  unfold rowR
  split
  · exact ⟨fun x hx => absurd hx List.not_mem_nil, Nat.zero_le _, hu⟩
  · refine ⟨byt_sliceL hb _ _, ?_, ?_⟩
    · unfold sliceL; rw [List.length_take, List.length_drop]; omega
    · show u.1 + n ≤ l.length; omega
theorem sl_slice (l : List Nat) {a n : Nat} (h : a + n ≤ l.length) : sl (gD l) a n = sliceL l a n := sl_gDc l h
theorem sliceL_0 {l : List Nat} {a n : Nat} (h : a + n ≤ l.length) (hn : 0 < n) : gD (sliceL l a n) 0 = gD l a := by
  rw [← sl_slice l h]
  unfold gD
  exact sl_getD hn
theorem numS_row (l : List Nat) (u : OU) : numS l u = ((rowR l (((someS l 2 0 u).1 + 7) / 8) (someS l 2 0 u).2).1, ((rowR l (((someS l 2 0 u).1 + 7) / 8) (someS l 2 0 u).2).2.1, if l.length - (someS l 2 0 u).2.1 < ((someS l 2 0 u).1 + 7) / 8 then false else (someS l 2 0 u).2.2 && (decide (((someS l 2 0 u).1 + 7) / 8 = 0) || decide (bitsI (gD l (someS l 2 0 u).2.1) (((someS l 2 0 u).1 + 7) / 8) = nI (someS l 2 0 u).1)))) := by
  unfold numS rowR
  split <;> rfl
theorem numS_r {l : List Nat} {u uw : OU} {bt : Nat} (hbu : someS l 2 0 u = (bt, uw)) (huw : uw.1 ≤ l.length) : (numS l u).2.2 = ((rowR l ((bt + 7) / 8) uw).2.2 && (decide ((rowR l ((bt + 7) / 8) uw).1.length = 0) || decide (bitsI (gD (rowR l ((bt + 7) / 8) uw).1 0) (rowR l ((bt + 7) / 8) uw).1.length = nI bt))) := by
  rw [numS_row, hbu]
  dsimp only
  by_cases z9 : l.length - uw.1 < (bt + 7) / 8
  · rw [if_pos z9, rowR_f z9]; rfl
  · have e5 := sliceL_len (l := l) (a := uw.1) (n := (bt + 7) / 8) (by omega)
    rw [if_neg z9, rowR_t z9]
    dsimp only
    rw [e5]
    by_cases z8 : (bt + 7) / 8 = 0
    · rw [decide_eq_true z8, Bool.true_or, Bool.true_or]
    · rw [sliceL_0 (by omega) (by omega)]

set_option maxHeartbeats 400000 in
set_option maxRecDepth 100000 in
theorem c15_takeN (l : Launch) (D : va_G) (dA : Nat → ClassId) (B : Nat) (Z : State → Prop) (hZ : Stab B Z) (F : va_W) (p9 ba : Nat) (lb : List Nat) (u : OU) (n : Nat) (hba : (ba, bal dA lb) ∈ F) (hlb : byt lb) (hll : lb.length < 100000) (hu : u.1 ≤ lb.length) (hn : n ≤ 4) :
    Ct (S := Unit) l D dA B Z yX15_take_2 cX15_take_2 5 (some .long) 2 0 0 [.ref p9, .int (nI n)] ([(p9, .inr (12, [.ref ba, .int (nI u.1), .int (bZ u.2)]))] ++ F) (fun _ => True) (fun _ => some (.long (lN (someS lb n 0 u).1))) (fun _ => [(p9, .inr (12, [.ref ba, .int (nI (someS lb n 0 u).2.1), .int (bZ (someS lb n 0 u).2.2)]))] ++ F) := by
  refine Ct.mk2 (by decide) (Nat.le_of_ble_eq_true rfl) hZ ?_
  intro p e R s m args below meth c ls Q C hr hlocks hin hQ hl h
  have C0 := C
  obtain ⟨hx, hb, hml, hown, hts, -⟩ := C0
  have hl : lv_has ls 5 [(0, .ref p9), (1, .int (nI n))] := hl
  refine lv_lconst (v := lN 0) hx hb dX15_take_2_0 (by decide) ?_
  refine lv_lstore_n (lv' := [(2, .long (lN 0)), (0, .ref p9), (1, .int (nI n))]) hx hb dX15_take_2_1 rfl hl (by decide) rfl (fun ls hl => ?_)
  refine lv_iconst (v := nI 0) hx hb dX15_take_2_2 (by decide) ?_
  refine lv_istore (lv' := [(4, .int (nI 0)), (2, .long (lN 0)), (0, .ref p9), (1, .int (nI n))]) hx hb dX15_take_2_3 hl (by decide) rfl (fun ls hl => ?_)
  have loop : ∀ (nn : Nat) (i v : Nat) (uw : OU), (i ≤ n) → (someS lb n 0 u = someS lb (n - i) v uw) → (v < 256 ^ i) → (uw.1 ≤ lb.length) → n - i < nn → ∀ (H : Heap) (locs : List Loc), Wd D B s ([(p9, .inr (12, [.ref ba, .int (nI uw.1), .int (bZ uw.2)]))] ++ F) H locs → ∀ (ls : Array Slot), lv_has ls 5 [(4, .int (nI i)), (2, .long (lN v)), (0, .ref p9), (1, .int (nI n))] → W p l e R s m args below meth c H locs 0 0 Q (F0 m 5 ls []) := by
    intro nn
    induction nn with
    | zero => intro i v  uw  hi0 hi1 hi2 hi3 hme; exact absurd hme (Nat.not_lt_zero _)
    | succ nn ih =>
      intro i v  uw  hi0 hi1 hi2 hi3 hme H locs h ls hl
      have hpw : 256 ^ i ≤ 256 ^ 4 := Nat.pow_le_pow_right (by decide) (by omega)
      have hp4 : (256 : Nat) ^ 4 = 4294967296 := by decide
      have hol := (oneS_le (l := lb) hi3).1
      have ho2 := oneS_lt hlb uw
      refine lv_iload hx hb dX15_take_2_5 (lv_at hl 0 rfl) ?_
      refine lv_iload_n hx hb dX15_take_2_7 rfl (lv_at hl 3 rfl) ?_
      refine n_icmp_ge (tgt := 28) hx hb (by omega) (by omega) dX15_take_2_8 (by decide) (fun c8 => ?_) (fun c8 => ?_)
      · refine lv_lload_n hx hb dX15_take_2_28 rfl (lv_at hl 1 rfl) ?_
        subst hQ
        have hfin : someS lb n 0 u = (v, uw) := by rw [hi1, show n - i = 0 by omega]; rfl
        exact ret_l C hr hlocks h () trivial (by rw [hfin]) (by rw [hfin]) (by omega) (by omega) dX15_take_2_29
      · refine lv_lload_n hx hb dX15_take_2_11 rfl (lv_at hl 1 rfl) ?_
        refine lv_bipush (v := nI 8) hx hb dX15_take_2_12 (by decide) ?_
        refine n_lshl hx hb dX15_take_2_14 (n_topl (y := lN (v * 256)) (l_shlN (k := 8) (by decide)) ?_)
        refine lv_aload_n hx hb dX15_take_2_15 rfl (lv_at hl 2 rfl) ?_
        refine call_VR (As := []) (rest := [.long (lN (v * 256))]) (n := 0) C h (c15_take l D dA B Z hZ F p9 ba lb uw hba hlb hll hi3) (lw_V q1122 q1115 q1116 q163 q1117) (by decide +kernel) (o_recv C h (RC := RX15) (T := TX15) (N := 3) (List.mem_of_getElem? (i := 0) rfl) rfl) (by decide) (by decide) rfl hl rfl (Nat.le_of_ble_eq_true rfl) dX15_take_2_16 (by omega) (fun _ H locs _ h => ?_)
        have h : Wd D B s ([(p9, .inr (12, [.ref ba, .int (nI ((oneS lb uw).2.1)), .int (bZ ((oneS lb uw).2.2))]))] ++ F) H locs := h.permL (perm_add (fun g f p0 p1 p2 => by (try simp only [p0, p1, p2]) <;> omega))
        refine lv_i2l (v := lN ((oneS lb uw).1)) hx hb dX15_take_2_19 (nI_l (by omega)) ?_
        refine lv_lor hx hb dX15_take_2_20 ?_
        refine n_topl (y := lN (v * 256 + (oneS lb uw).1)) (l_app (by omega) ho2) ?_
        refine lv_lstore_n (lv' := [(2, .long (lN (v * 256 + (oneS lb uw).1))), (4, .int (nI i)), (0, .ref p9), (1, .int (nI n))]) hx hb dX15_take_2_21 rfl hl (by decide) rfl (fun ls hl => ?_)
        refine lv_iinc (v := nI (i + 1)) (lv' := [(4, .int (nI (i + 1))), (2, .long (lN (v * 256 + (oneS lb uw).1))), (0, .ref p9), (1, .int (nI n))]) hx hb dX15_take_2_22 hl (k := 1) rfl (nI_add i 1) (by decide) rfl (fun ls hl => ?_)
        refine lv_goto (tgt := 5) hx hb dX15_take_2_25 (by decide) ?_
        exact ih (i + 1) (v * 256 + (oneS lb uw).1) (oneS lb uw).2 (by omega) (by rw [hi1, show n - i = n - (i + 1) + 1 by omega]; rfl) (by rw [Nat.pow_succ]; omega) hol (by omega) _ _ h _ (lv_sub hl [0, 1, 2, 3] rfl)
  exact loop _ 0 0 u (by omega) rfl (by decide) hu (Nat.lt_succ_self _) _ _ h _ (lv_sub hl [0, 1, 2, 3] rfl)
set_option maxHeartbeats 400000 in
set_option maxRecDepth 100000 in
theorem c15_row (l : Launch) (D : va_G) (dA : Nat → ClassId) (B : Nat) (Z : State → Prop) (hZ : Stab B Z) (F : va_W) (p9 ba : Nat) (lb : List Nat) (u : OU) (n : Nat) (hba : (ba, bal dA lb) ∈ F) (hlb : byt lb) (hll : lb.length < 100000) (hu : u.1 ≤ lb.length) (hn : n < 1000000) :
    Ct (S := Nat) l D dA B Z yX15_row cX15_row 2 (some ((.array .byte))) 4 1 ((rowR lb n u).1.length) [.ref p9, .int (nI n)] ([(p9, .inr (12, [.ref ba, .int (nI u.1), .int (bZ u.2)]))] ++ F) (fun _ => True) (fun q => some (.ref q)) (fun q => [(p9, .inr (12, [.ref ba, .int (nI (rowR lb n u).2.1), .int (bZ (rowR lb n u).2.2)]))] ++ (F ++ [(q, bal dA (rowR lb n u).1)])) := by
  refine Ct.mk2 (by decide) (Nat.le_of_ble_eq_true rfl) hZ ?_
  intro p e R s m args below meth c ls Q C hr hlocks hin hQ hl h
  have C0 := C
  obtain ⟨hx, hb, hml, hown, hts, -⟩ := C0
  have hl : lv_has ls 2 [(0, .ref p9), (1, .int (nI n))] := hl
  refine lv_iload_n hx hb dX15_row_0 rfl (lv_at hl 1 rfl) ?_
  refine lv_aload_n hx hb dX15_row_1 rfl (lv_at hl 0 rfl) ?_
  refine o_get C h (RC := RX15) (T := TX15) (N := 3) (List.mem_of_getElem? (i := 0) rfl) rfl in_X15 0 (by decide) q1099 rfl (v := .ref ba) rfl dX15_row_2 ?_
  refine n_balen C h (List.mem_append_right _ hba) dX15_row_5 ?_
  refine lv_aload_n hx hb dX15_row_6 rfl (lv_at hl 0 rfl) ?_
  refine o_get C h (RC := RX15) (T := TX15) (N := 3) (List.mem_of_getElem? (i := 0) rfl) rfl in_X15 1 (by decide) q1101 rfl (v := .int (nI u.1)) rfl dX15_row_7 ?_
  refine lv_isub hx hb dX15_row_10 (n_top (y := nI (lb.length - u.1)) (pk_sub (by omega)) ?_)
  refine n_icmp_le (tgt := 23) hx hb (by omega) (by omega) dX15_row_11 (by decide) (fun c11 => ?_) (fun c11 => ?_)
  · have hr9 := rowR_t (l := lb) (n := n) (u := u) (by omega)
    have hsl9 := sliceL_len (l := lb) (a := u.1) (n := n) (by omega)
    refine lv_aload_n hx hb dX15_row_23 rfl (lv_at hl 0 rfl) ?_
    refine lv_dup hx hb dX15_row_24 rfl ?_
    refine o_get C h (RC := RX15) (T := TX15) (N := 3) (List.mem_of_getElem? (i := 0) rfl) rfl in_X15 1 (by decide) q1101 rfl (v := .int (nI u.1)) rfl dX15_row_25 ?_
    refine lv_iload_n hx hb dX15_row_28 rfl (lv_at hl 1 rfl) ?_
    refine lv_iadd hx hb dX15_row_29 (n_top (y := nI (u.1 + n)) (nI_add u.1 n) ?_)
    refine o_put C h 0 (RC := RX15) (T := TX15) (N := 3) (ws' := [(p9, .inr (12, [.ref ba, .int (nI (u.1 + n)), .int (bZ u.2)]))] ++ F) rfl rfl in_X15 tyX15_ok nmX15 1 (by decide) q1101 rfl rfl (v := .int (nI (u.1 + n))) rfl rfl (Nat.le_of_ble_eq_true rfl) rfl dX15_row_30 (fun H locs h => ?_)
    refine lv_aload_n hx hb dX15_row_33 rfl (lv_at hl 0 rfl) ?_
    refine o_get C h (RC := RX15) (T := TX15) (N := 3) (List.mem_of_getElem? (i := 0) rfl) rfl in_X15 0 (by decide) q1099 rfl (v := .ref ba) rfl dX15_row_34 ?_
    refine lv_aload_n hx hb dX15_row_37 rfl (lv_at hl 0 rfl) ?_
    refine o_get C h (RC := RX15) (T := TX15) (N := 3) (List.mem_of_getElem? (i := 0) rfl) rfl in_X15 1 (by decide) q1101 rfl (v := .int (nI (u.1 + n))) rfl dX15_row_38 ?_
    refine lv_iload_n hx hb dX15_row_41 rfl (lv_at hl 1 rfl) ?_
    refine lv_isub hx hb dX15_row_42 ?_
    refine n_top (y := nI u.1) (by rw [pk_sub (by omega)]; congr 1; omega) ?_
    refine lv_aload_n hx hb dX15_row_43 rfl (lv_at hl 0 rfl) ?_
    refine o_get C h (RC := RX15) (T := TX15) (N := 3) (List.mem_of_getElem? (i := 0) rfl) rfl in_X15 1 (by decide) q1101 rfl (v := .int (nI (u.1 + n))) rfl dX15_row_44 ?_
    refine call_S (As := [.ref ba, .int (nI u.1), .int (nI (u.1 + n))]) (rest := []) (n := 3) C h (cJ_copyRange l D dA B Z hZ _ ba lb.length u.1 (u.1 + n) (gD lb) (List.mem_append_right _ hba) (by omega) (by omega) (by omega)) (lw_S q1132 q856 q143 q857) (by decide +kernel) (by decide) (by decide) rfl hl rfl (Nat.le_of_ble_eq_true rfl) dX15_row_47 (by rw [hr9]; dsimp only; omega) (fun q2 H locs _ h => ?_)
    subst hQ
    have e7 : sl (gD lb) u.1 (u.1 + n - u.1) = (rowR lb n u).1 := by rw [hr9, Nat.add_sub_cancel_left]; exact sl_slice lb (by omega)
    have h : Wd D B s ([(p9, .inr (12, [.ref ba, .int (nI (rowR lb n u).2.1), .int (bZ (rowR lb n u).2.2)]))] ++ (F ++ [(q2, bal dA (rowR lb n u).1)])) H locs := by rw [e7] at h; rw [← List.append_assoc]; rw [hr9] at h ⊢; exact h
    exact ret_a C hr (Or.inr ⟨_, rfl⟩) hlocks h q2 trivial (Or.inr ⟨_, rfl⟩) rfl rfl (by omega) (by rw [hr9]; dsimp only; omega) dX15_row_50
  · have hr9 := rowR_f (l := lb) (n := n) (u := u) (by omega)
    refine lv_aload_n hx hb dX15_row_14 rfl (lv_at hl 0 rfl) ?_
    refine lv_iconst (v := nI 0) hx hb dX15_row_15 (by decide) ?_
    refine n_top (y := bZ false) rfl ?_
    refine o_put C h 0 (RC := RX15) (T := TX15) (N := 3) (ws' := [(p9, .inr (12, [.ref ba, .int (nI u.1), .int (bZ false)]))] ++ F) rfl rfl in_X15 tyX15_ok nmX15 2 (by decide) q1104 rfl rfl (v := .int (bZ false)) (bZ_nar _) (bZ_fit _) (Nat.le_of_ble_eq_true rfl) rfl dX15_row_16 (fun H locs h => ?_)
    refine lv_iconst (v := nI 0) hx hb dX15_row_19 (by decide) ?_
    refine n_newb C h (n := 0) q198 (by decide) (by omega) (by omega) dX15_row_20 (fun q2 H h => ?_)
    subst hQ
    have h : Wd D B s ([(p9, .inr (12, [.ref ba, .int (nI (rowR lb n u).2.1), .int (bZ (rowR lb n u).2.2)]))] ++ (F ++ [(q2, bal dA (rowR lb n u).1)])) H locs := by rw [hr9, ← List.append_assoc]; exact h
    exact ret_a C hr (Or.inr ⟨_, rfl⟩) hlocks h q2 trivial (Or.inr ⟨_, rfl⟩) rfl rfl (by omega) (by omega) dX15_row_22
set_option maxHeartbeats 400000 in
set_option maxRecDepth 100000 in
theorem c15_number (l : Launch) (D : va_G) (dA : Nat → ClassId) (B : Nat) (Z : State → Prop) (hZ : Stab B Z) (F : va_W) (p9 ba : Nat) (lb : List Nat) (u : OU) (hba : (ba, bal dA lb) ∈ F) (hlb : byt lb) (hll : lb.length < 100000) (hu : u.1 ≤ lb.length) :
    Ct (S := Nat) l D dA B Z yX15_number cX15_number 3 (some ((.array .byte))) 5 1 ((numS lb u).1.length) [.ref p9] ([(p9, .inr (12, [.ref ba, .int (nI u.1), .int (bZ u.2)]))] ++ F) (fun _ => True) (fun q => some (.ref q)) (fun q => [(p9, .inr (12, [.ref ba, .int (nI (numS lb u).2.1), .int (bZ (numS lb u).2.2)]))] ++ (F ++ [(q, bal dA (numS lb u).1)])) := by
  refine Ct.mk2 (by decide) (Nat.le_of_ble_eq_true rfl) hZ ?_
  intro p e R s m args below meth c ls Q C hr hlocks hin hQ hl h
  have C0 := C
  obtain ⟨hx, hb, hml, hown, hts, -⟩ := C0
  have hl : lv_has ls 3 [(0, .ref p9)] := hl
  obtain ⟨bt, uw, hbu⟩ : ∃ x y, someS lb 2 0 u = (x, y) := ⟨_, _, rfl⟩
  have hso := someS_ok hlb 2 0 0 u hu (by decide)
  rw [hbu] at hso
  have hso1 := hso.1
  have hso2 := hso.2.1
  dsimp only at hso1 hso2
  have hNR := numS_row lb u
  rw [hbu] at hNR
  dsimp only at hNR
  have hbt : bt < 65536 := by omega
  obtain ⟨rr, hrr⟩ : ∃ z, z = rowR lb ((bt + 7) / 8) uw := ⟨_, rfl⟩
  rw [← hrr] at hNR
  have hrk := rowR_ok hlb (n := (bt + 7) / 8) hso2
  rw [← hrr] at hrk
  have hnl : (numS lb u).1.length = rr.1.length := by rw [hNR]
  have hrl9 : (rowR lb ((bt + 7) / 8) uw).1.length = rr.1.length := by rw [hrr]
  refine lv_aload_n hx hb dX15_number_0 rfl (lv_at hl 0 rfl) ?_
  refine lv_iconst (v := nI 2) hx hb dX15_number_1 (by decide) ?_
  refine call_VR (As := [.int (nI 2)]) (rest := []) (n := 1) C h (c15_takeN l D dA B Z hZ F p9 ba lb u 2 hba hlb hll hu (by decide)) (lw_V q1127 q1119 q1120 q163 q1121) (by decide +kernel) (o_recv C h (RC := RX15) (T := TX15) (N := 3) (List.mem_of_getElem? (i := 0) rfl) rfl) (by decide) (by decide) rfl hl rfl (Nat.le_of_ble_eq_true rfl) dX15_number_2 (by omega) (fun _ H locs _ h => ?_)
  rw [hbu] at h
  rw [hbu]
  have h : Wd D B s ([(p9, .inr (12, [.ref ba, .int (nI uw.1), .int (bZ uw.2)]))] ++ F) H locs := h
  show W p l e R s m args below meth c H locs (0 + 0) (0 + 0) Q (F0 m 5 ls [.long (lN bt)])
  refine lv_l2i (v := nI bt) hx hb dX15_number_5 (lN_i _) ?_
  refine lv_istore_n (lv' := [(1, .int (nI bt)), (0, .ref p9)]) hx hb dX15_number_6 rfl hl (by decide) rfl (fun ls hl => ?_)
  refine lv_aload_n hx hb dX15_number_7 rfl (lv_at hl 1 rfl) ?_
  refine lv_iload_n hx hb dX15_number_8 rfl (lv_at hl 0 rfl) ?_
  refine lv_bipush (v := nI 7) hx hb dX15_number_9 (by decide) ?_
  refine lv_iadd hx hb dX15_number_11 (n_top (y := nI (bt + 7)) (nI_add bt 7) ?_)
  refine lv_bipush (v := nI 8) hx hb dX15_number_12 (by decide) ?_
  refine lv_idiv hx hb dX15_number_14 (by decide) (n_top (y := nI ((bt + 7) / 8)) (pk_div (by omega) (by omega) (by omega)) ?_)
  refine call_VR (As := [.int (nI ((bt + 7) / 8))]) (rest := []) (n := 1) C h (c15_row l D dA B Z hZ F p9 ba lb uw ((bt + 7) / 8) hba hlb hll hso2 (by omega)) (lw_V q1128 q1129 q1130 q163 q1131) (by decide +kernel) (o_recv C h (RC := RX15) (T := TX15) (N := 3) (List.mem_of_getElem? (i := 0) rfl) rfl) (by decide) (by decide) rfl hl rfl (Nat.le_of_ble_eq_true rfl) dX15_number_15 (by rw [hnl, ← hrr]; omega) (fun q2 H locs _ h => ?_)
  rw [← hrr] at h
  have h : Wd D B s ([(p9, .inr (12, [.ref ba, .int (nI rr.2.1), .int (bZ rr.2.2)]))] ++ (F ++ [(q2, bal dA rr.1)])) H locs := h
  refine lv_astore_n (lv' := [(2, .ref q2), (1, .int (nI bt)), (0, .ref p9)]) hx hb dX15_number_18 rfl hl (by decide) rfl (fun ls hl => ?_)
  refine lv_aload_n hx hb dX15_number_19 rfl (lv_at hl 2 rfl) ?_
  refine o_get C h (RC := RX15) (T := TX15) (N := 3) (List.mem_of_getElem? (i := 0) rfl) rfl in_X15 2 (by decide) q1104 rfl (v := .int (bZ rr.2.2)) rfl dX15_number_20 ?_
  refine z_if_eq (tgt := 44) hx hb dX15_number_23 (by decide) (fun c23 => ?_) (fun c23 => ?_)
  · refine lv_aload_n hx hb dX15_number_44 rfl (lv_at hl 0 rfl) ?_
    subst hQ
    have hR9 : (numS lb u).2.2 = rr.2.2 := by
      rw [numS_r hbu hso2, ← hrr]
      first | (rw [c23]; rfl) | (rw [decide_eq_true (show rr.1.length = 0 by omega), Bool.true_or, Bool.and_true]) | (rw [decide_eq_true c36, Bool.or_true, Bool.and_true]) | (rw [decide_eq_false c36, decide_eq_false (show ¬ rr.1.length = 0 by omega), Bool.or_false, Bool.and_false])
    have h : Wd D B s ([(p9, .inr (12, [.ref ba, .int (nI (numS lb u).2.1), .int (bZ (numS lb u).2.2)]))] ++ (F ++ [(q2, bal dA (numS lb u).1)])) H locs := by rw [hR9, show (numS lb u).2.1 = rr.2.1 by rw [hNR], show (numS lb u).1 = rr.1 by rw [hNR]]; exact h
    exact ret_a C hr (Or.inr ⟨_, rfl⟩) hlocks h q2 trivial (Or.inr ⟨_, rfl⟩) rfl rfl (by omega) (by rw [hnl, hrr]; omega) dX15_number_45
  · refine lv_aload_n hx hb dX15_number_26 rfl (lv_at hl 0 rfl) ?_
    refine n_balen C h (List.mem_append_right _ (List.mem_append_right _ List.mem_cons_self)) dX15_number_27 ?_
    refine n_if_le (tgt := 44) hx hb (by omega) dX15_number_28 (by decide) (fun c28 => ?_) (fun c28 => ?_)
    · refine lv_aload_n hx hb dX15_number_44 rfl (lv_at hl 0 rfl) ?_
      subst hQ
      have hR9 : (numS lb u).2.2 = rr.2.2 := by
        rw [numS_r hbu hso2, ← hrr]
        first | (rw [c23]; rfl) | (rw [decide_eq_true (show rr.1.length = 0 by omega), Bool.true_or, Bool.and_true]) | (rw [decide_eq_true c36, Bool.or_true, Bool.and_true]) | (rw [decide_eq_false c36, decide_eq_false (show ¬ rr.1.length = 0 by omega), Bool.or_false, Bool.and_false])
      have h : Wd D B s ([(p9, .inr (12, [.ref ba, .int (nI (numS lb u).2.1), .int (bZ (numS lb u).2.2)]))] ++ (F ++ [(q2, bal dA (numS lb u).1)])) H locs := by rw [hR9, show (numS lb u).2.1 = rr.2.1 by rw [hNR], show (numS lb u).1 = rr.1 by rw [hNR]]; exact h
      exact ret_a C hr (Or.inr ⟨_, rfl⟩) hlocks h q2 trivial (Or.inr ⟨_, rfl⟩) rfl rfl (by omega) (by rw [hnl, hrr]; omega) dX15_number_45
    · refine lv_aload_n hx hb dX15_number_31 rfl (lv_at hl 0 rfl) ?_
      refine call_SN (As := [.ref q2]) (rest := []) (n := 1) C h (c1_bitsOf l D dA B Z hZ _ q2 rr.1.length (gD rr.1) (List.mem_append_right _ (List.mem_append_right _ List.mem_cons_self)) (by omega) (by omega) (byt_gD hrk.1 0)) (lw_meth q1135) q1133 q1134 q129 (by decide +kernel) (by decide) (by decide) rfl hl rfl (Nat.le_of_ble_eq_true rfl) dX15_number_32 (by omega) (fun _ H locs _ h => ?_)
      refine lv_iload_n hx hb dX15_number_35 rfl (lv_at hl 1 rfl) ?_
      refine lv_icmp_eq (tgt := 44) hx hb dX15_number_36 (by decide) (fun c36 => ?_) (fun c36 => ?_)
      · refine lv_aload_n hx hb dX15_number_44 rfl (lv_at hl 0 rfl) ?_
        subst hQ
        have hR9 : (numS lb u).2.2 = rr.2.2 := by
          rw [numS_r hbu hso2, ← hrr]
          first | (rw [c23]; rfl) | (rw [decide_eq_true (show rr.1.length = 0 by omega), Bool.true_or, Bool.and_true]) | (rw [decide_eq_true c36, Bool.or_true, Bool.and_true]) | (rw [decide_eq_false c36, decide_eq_false (show ¬ rr.1.length = 0 by omega), Bool.or_false, Bool.and_false])
        have h : Wd D B s ([(p9, .inr (12, [.ref ba, .int (nI (numS lb u).2.1), .int (bZ (numS lb u).2.2)]))] ++ (F ++ [(q2, bal dA (numS lb u).1)])) H locs := by rw [hR9, show (numS lb u).2.1 = rr.2.1 by rw [hNR], show (numS lb u).1 = rr.1 by rw [hNR]]; exact h
        exact ret_a C hr (Or.inr ⟨_, rfl⟩) hlocks h q2 trivial (Or.inr ⟨_, rfl⟩) rfl rfl (by omega) (by rw [hnl, hrr]; omega) dX15_number_45
      · refine lv_aload_n hx hb dX15_number_39 rfl (lv_at hl 2 rfl) ?_
        refine lv_iconst (v := nI 0) hx hb dX15_number_40 (by decide) ?_
        refine n_top (y := bZ false) rfl ?_
        refine o_put C h 0 (RC := RX15) (T := TX15) (N := 3) (ws' := [(p9, .inr (12, [.ref ba, .int (nI rr.2.1), .int (bZ false)]))] ++ (F ++ [(q2, bal dA rr.1)])) rfl rfl in_X15 tyX15_ok nmX15 2 (by decide) q1104 rfl rfl (v := .int (bZ false)) (bZ_nar _) (bZ_fit _) (Nat.le_of_ble_eq_true rfl) rfl dX15_number_41 (fun H locs h => ?_)
        refine lv_aload_n hx hb dX15_number_44 rfl (lv_at hl 0 rfl) ?_
        subst hQ
        have hR9 : (numS lb u).2.2 = false := by
          rw [numS_r hbu hso2, ← hrr]
          first | (rw [c23]; rfl) | (rw [decide_eq_true (show rr.1.length = 0 by omega), Bool.true_or, Bool.and_true]) | (rw [decide_eq_true c36, Bool.or_true, Bool.and_true]) | (rw [decide_eq_false c36, decide_eq_false (show ¬ rr.1.length = 0 by omega), Bool.or_false, Bool.and_false])
        have h : Wd D B s ([(p9, .inr (12, [.ref ba, .int (nI (numS lb u).2.1), .int (bZ (numS lb u).2.2)]))] ++ (F ++ [(q2, bal dA (numS lb u).1)])) H locs := by rw [hR9, show (numS lb u).2.1 = rr.2.1 by rw [hNR], show (numS lb u).1 = rr.1 by rw [hNR]]; exact h
        exact ret_a C hr (Or.inr ⟨_, rfl⟩) hlocks h q2 trivial (Or.inr ⟨_, rfl⟩) rfl rfl (by omega) (by rw [hnl, hrr]; omega) dX15_number_45
set_option maxHeartbeats 400000 in
set_option maxRecDepth 100000 in
theorem c15_isEnd (l : Launch) (D : va_G) (dA : Nat → ClassId) (B : Nat) (Z : State → Prop) (hZ : Stab B Z) (F : va_W) (p9 ba : Nat) (lb : List Nat) (u : OU) (hba : (ba, bal dA lb) ∈ F) (hlb : byt lb) (hll : lb.length < 100000) (hu : u.1 ≤ lb.length) :
    Ct (S := Unit) l D dA B Z yX15_isEnd cX15_isEnd 1 (some .boolean) 1 0 0 [.ref p9] ([(p9, .inr (12, [.ref ba, .int (nI u.1), .int (bZ u.2)]))] ++ F) (fun _ => True) (fun _ => some (.int (bZ (u.2 && decide (u.1 = lb.length))))) (fun _ => [(p9, .inr (12, [.ref ba, .int (nI u.1), .int (bZ u.2)]))] ++ F) := by
  refine Ct.mk2 (by decide) (Nat.le_of_ble_eq_true rfl) hZ ?_
  intro p e R s m args below meth c ls Q C hr hlocks hin hQ hl h
  have C0 := C
  obtain ⟨hx, hb, hml, hown, hts, -⟩ := C0
  have hl : lv_has ls 1 [(0, .ref p9)] := hl
  refine lv_aload_n hx hb dX15_isEnd_0 rfl (lv_at hl 0 rfl) ?_
  refine o_get C h (RC := RX15) (T := TX15) (N := 3) (List.mem_of_getElem? (i := 0) rfl) rfl in_X15 2 (by decide) q1104 rfl (v := .int (bZ u.2)) rfl dX15_isEnd_1 ?_
  refine z_if_eq (tgt := 23) hx hb dX15_isEnd_4 (by decide) (fun c4 => ?_) (fun c4 => ?_)
  · refine lv_iconst (v := nI 0) hx hb dX15_isEnd_23 (by decide) ?_
    subst hQ
    have hfin : (u.2 && decide (u.1 = lb.length)) = false := by first | (rw [c4]; rfl) | (rw [decide_eq_false c16, Bool.and_false])
    refine n_top (y := bZ false) rfl ?_
    exact ret_z C hr hlocks h () trivial (by rw [hfin]) rfl (by omega) (by omega) dX15_isEnd_24
  · refine lv_aload_n hx hb dX15_isEnd_7 rfl (lv_at hl 0 rfl) ?_
    refine o_get C h (RC := RX15) (T := TX15) (N := 3) (List.mem_of_getElem? (i := 0) rfl) rfl in_X15 1 (by decide) q1101 rfl (v := .int (nI u.1)) rfl dX15_isEnd_8 ?_
    refine lv_aload_n hx hb dX15_isEnd_11 rfl (lv_at hl 0 rfl) ?_
    refine o_get C h (RC := RX15) (T := TX15) (N := 3) (List.mem_of_getElem? (i := 0) rfl) rfl in_X15 0 (by decide) q1099 rfl (v := .ref ba) rfl dX15_isEnd_12 ?_
    refine n_balen C h (List.mem_append_right _ hba) dX15_isEnd_15 ?_
    refine n_icmp_ne (tgt := 23) hx hb (by omega) (by omega) dX15_isEnd_16 (by decide) (fun c16 => ?_) (fun c16 => ?_)
    · refine lv_iconst (v := nI 0) hx hb dX15_isEnd_23 (by decide) ?_
      subst hQ
      have hfin : (u.2 && decide (u.1 = lb.length)) = false := by first | (rw [c4]; rfl) | (rw [decide_eq_false c16, Bool.and_false])
      refine n_top (y := bZ false) rfl ?_
      exact ret_z C hr hlocks h () trivial (by rw [hfin]) rfl (by omega) (by omega) dX15_isEnd_24
    · refine lv_iconst (v := nI 1) hx hb dX15_isEnd_19 (by decide) ?_
      refine lv_goto (tgt := 24) hx hb dX15_isEnd_20 (by decide) ?_
      subst hQ
      have hfin : (u.2 && decide (u.1 = lb.length)) = true := by rw [c4, decide_eq_true c16]; rfl
      refine n_top (y := bZ true) rfl ?_
      exact ret_z C hr hlocks h () trivial (by rw [hfin]) rfl (by omega) (by omega) dX15_isEnd_24
set_option maxHeartbeats 400000 in
set_option maxRecDepth 100000 in
theorem c15_init (l : Launch) (D : va_G) (dA : Nat → ClassId) (B : Nat) (Z : State → Prop) (hZ : Stab B Z) (F : va_W) (p9 ba : Nat)  :
    Ct (S := Unit) l D dA B Z yX15_init cX15_init 2 none 2 0 0 [.ref p9, .ref ba] ([(p9, .inr (12, [.null, .int 0, .int (bZ false)]))] ++ F) (fun _ => True) (fun _ => none) (fun _ => [(p9, .inr (12, [.ref ba, .int (nI ((0, true) : OU).1), .int (bZ ((0, true) : OU).2)]))] ++ F) := by
  refine Ct.mk2 (by decide) (Nat.le_of_ble_eq_true rfl) hZ ?_
  intro p e R s m args below meth c ls Q C hr hlocks hin hQ hl h
  have C0 := C
  obtain ⟨hx, hb, hml, hown, hts, -⟩ := C0
  have hl : lv_has ls 2 [(0, .ref p9), (1, .ref ba)] := hl
  refine lv_aload_n hx hb dX15_init_0 rfl (lv_at hl 0 rfl) ?_
  refine o_init C h q1098 hl.1 (by decide) (Nat.le_of_ble_eq_true rfl) dX15_init_1 ?_
  refine lv_aload_n hx hb dX15_init_4 rfl (lv_at hl 0 rfl) ?_
  refine lv_iconst (v := nI 1) hx hb dX15_init_5 (by decide) ?_
  refine n_top (y := bZ true) rfl ?_
  refine o_put C h 0 (RC := RX15) (T := TX15) (N := 3) (ws' := [(p9, .inr (12, [.null, .int 0, .int (bZ true)]))] ++ F) rfl rfl in_X15 tyX15_ok nmX15 2 (by decide) q1104 rfl rfl (v := .int (bZ true)) (bZ_nar _) (bZ_fit _) (Nat.le_of_ble_eq_true rfl) rfl dX15_init_6 (fun H locs h => ?_)
  refine lv_aload_n hx hb dX15_init_9 rfl (lv_at hl 0 rfl) ?_
  refine lv_aload_n hx hb dX15_init_10 rfl (lv_at hl 1 rfl) ?_
  refine o_putF C h 0 (RC := RX15) (T := TX15) (N := 3) (ws' := [(p9, .inr (12, [.ref ba, .int 0, .int (bZ true)]))] ++ F) rfl rfl in_X15 tyX15_ok nmX15 0 (by decide) q1099 rfl rfl (hin rfl) rfl (v := .ref ba) rfl rfl (Nat.le_of_ble_eq_true rfl) rfl dX15_init_11 (fun H locs h => ?_)
  subst hQ
  exact ret_v C hr hlocks h () trivial rfl rfl (by omega) (by omega) dX15_init_14
