set_option maxRecDepth 100000
set_option maxHeartbeats 400000 in
set_option maxRecDepth 100000 in
theorem cJ_fillI (l : Launch) (D : va_G) (dA : Nat → ClassId) (B : Nat) (Z : State → Prop) (hZ : Stab B Z) (F : va_W) (ar na v : Nat) (g : Nat → Nat) (h1 : na < 1000000) :
    Ct (S := Unit) l D dA B Z yJ5_fill_2 cJ5_fill_2 4 none 1 0 0 [.ref ar, .int (nI v)] ([(ar, iar dA na g)] ++ F) (fun _ => True) (fun _ => none) (fun _ => [(ar, iar dA na (fun _ => v))] ++ F) := by
  refine Ct.mk2 (by decide) (Nat.le_of_ble_eq_true rfl) hZ ?_
  intro p e R s m args below meth c ls Q C hr hlocks hin hQ hl h
  have C0 := C
  obtain ⟨hx, hb, hml, hown, hts, -⟩ := C0
  have hl : lv_has ls 4 [(0, .ref ar), (1, .int (nI v))] := hl
  refine lv_iconst (v := nI 0) hx hb dJ5_fill_2_0 (by decide) ?_
  refine lv_istore_n (lv' := [(2, .int (nI 0)), (0, .ref ar), (1, .int (nI v))]) hx hb dJ5_fill_2_1 rfl hl (by decide) rfl (fun ls hl => ?_)
  refine lv_aload_n hx hb dJ5_fill_2_2 rfl (lv_at hl 1 rfl) ?_
  refine n_alen C h (List.mem_of_getElem? (i := 0) rfl) dJ5_fill_2_3 ?_
  refine lv_istore_n (lv' := [(3, .int (nI na)), (2, .int (nI 0)), (0, .ref ar), (1, .int (nI v))]) hx hb dJ5_fill_2_4 rfl hl (by decide) rfl (fun ls hl => ?_)
  have h : Wd D B s ([(ar, iar dA na (mixF 0 (fun _ => v) g))] ++ F) s.heap [] := by rw [mixF_0]; exact h
  have loop : ∀ (nn : Nat) (i : Nat), (i ≤ na) → na - i < nn → ∀ (H : Heap) (locs : List Loc), Wd D B s ([(ar, iar dA na (mixF i (fun _ => v) g))] ++ F) H locs → ∀ (ls : Array Slot), lv_has ls 4 [(2, .int (nI i)), (3, .int (nI na)), (0, .ref ar), (1, .int (nI v))] → W p l e R s m args below meth c H locs 0 0 Q (F0 m 5 ls []) := by
    intro nn
    induction nn with
    | zero => intro i  hi0 hme; exact absurd hme (Nat.not_lt_zero _)
    | succ nn ih =>
      intro i  hi0 hme H locs h ls hl
      refine lv_iload_n hx hb dJ5_fill_2_5 rfl (lv_at hl 0 rfl) ?_
      refine lv_iload_n hx hb dJ5_fill_2_6 rfl (lv_at hl 1 rfl) ?_
      refine n_icmp_ge (tgt := 20) hx hb (by omega) (by omega) dJ5_fill_2_7 (by decide) (fun c7 => ?_) (fun c7 => ?_)
      · subst hQ
        rw [show i = na by omega] at h
        have h : Wd D B s ([(ar, iar dA na (fun _ => v))] ++ F) H locs := Wd.same h 0 rfl (iar_same (fun j hj => mixF_lt _ _ hj)) rfl
        exact ret_v C hr hlocks h () trivial rfl rfl (by omega) (by omega) dJ5_fill_2_20
      · refine lv_aload_n hx hb dJ5_fill_2_10 rfl (lv_at hl 2 rfl) ?_
        refine lv_iload_n hx hb dJ5_fill_2_11 rfl (lv_at hl 0 rfl) ?_
        refine lv_iload_n hx hb dJ5_fill_2_12 rfl (lv_at hl 3 rfl) ?_
        refine x_iast C h 0 (v := v) (ws' := [(ar, iar dA na (upN (mixF i (fun _ => v) g) i v))] ++ F) rfl (by omega) (by omega) rfl dJ5_fill_2_13 (fun H locs h => ?_)
        have h : Wd D B s ([(ar, iar dA na (mixF (i + 1) (fun _ => v) g))] ++ F) H locs := by rw [← mixF_s]; exact h
        refine lv_iinc (v := nI (i + 1)) (lv' := [(2, .int (nI (i + 1))), (3, .int (nI na)), (0, .ref ar), (1, .int (nI v))]) hx hb dJ5_fill_2_14 hl (k := 0) rfl (nI_add i 1) (by decide) rfl (fun ls hl => ?_)
        refine lv_goto (tgt := 5) hx hb dJ5_fill_2_17 (by decide) ?_
        exact ih (i + 1) (by omega) (by omega) _ _ h _ (lv_sub hl [0, 1, 2, 3] rfl)
  exact loop _ 0 (by omega) (Nat.lt_succ_self _) _ _ h _ (lv_sub hl [1, 0, 2, 3] rfl)
set_option maxHeartbeats 400000 in
set_option maxRecDepth 100000 in
theorem c6_init (l : Launch) (D : va_G) (dA : Nat → ClassId) (B : Nat) (Z : State → Prop) (hZ : Stab B Z) (F : va_W) (po : Nat)  :
    Ct (S := Nat × Nat × Nat × Nat) l D dA B Z yX6_init cX6_init 1 none 2 4 332 [.ref po] ([(po, .inr (4, [.null, .null, .null, .null, .int 0, .int 0]))] ++ F) (fun _ => True) (fun _ => none) (fun u => [(po, .inr (4, [.ref u.1, .ref u.2.1, .ref u.2.2.1, .ref u.2.2.2, .int 0, .int 0])), (u.1, iar dA 66 (fun _ => 0)), (u.2.1, iar dA 66 (fun _ => 0)), (u.2.2.1, iar dA 66 (fun _ => 0)), (u.2.2.2, iar dA 134 (fun _ => 0))] ++ F) := by
  refine Ct.mk2 (by decide) (Nat.le_of_ble_eq_true rfl) hZ ?_
  intro p e R s m args below meth c ls Q C hr hlocks hin hQ hl h
  have C0 := C
  obtain ⟨hx, hb, hml, hown, hts, -⟩ := C0
  have hl : lv_has ls 1 [(0, .ref po)] := hl
  refine lv_aload_n hx hb dX6_init_0 rfl (lv_at hl 0 rfl) ?_
  refine o_init C h q288 hl.1 (by decide) (Nat.le_of_ble_eq_true rfl) dX6_init_1 ?_
  refine lv_aload_n hx hb dX6_init_4 rfl (lv_at hl 0 rfl) ?_
  refine lv_bipush (v := nI 66) hx hb dX6_init_5 (by decide) ?_
  refine n_newa C h (n := 66) (by omega) (by omega) (by omega) dX6_init_7 (fun o1 H h => ?_)
  have h : Wd D B s ([(o1, iar dA 66 (fun _ => 0)), (po, .inr (4, [.null, .null, .null, .null, .int 0, .int 0]))] ++ F) H [] := h.permL (perm_add (fun g f p0 p1 p2 => by (try simp only [p0, p1, p2]) <;> omega))
  refine o_putF C h 1 (RC := RX6) (T := TX6) (N := 6) (ws' := [(o1, iar dA 66 (fun _ => 0)), (po, .inr (4, [.ref o1, .null, .null, .null, .int 0, .int 0]))] ++ F) rfl rfl in_X6 tyX6_ok nmX6 0 (by decide) q289 rfl rfl (hin rfl) rfl (v := .ref o1) rfl rfl (Nat.le_of_ble_eq_true rfl) rfl dX6_init_9 (fun H locs h => ?_)
  refine lv_aload_n hx hb dX6_init_12 rfl (lv_at hl 0 rfl) ?_
  refine lv_bipush (v := nI 66) hx hb dX6_init_13 (by decide) ?_
  refine n_newa C h (n := 66) (by omega) (by omega) (by omega) dX6_init_15 (fun o2 H h => ?_)
  have h : Wd D B s ([(o2, iar dA 66 (fun _ => 0)), (o1, iar dA 66 (fun _ => 0)), (po, .inr (4, [.ref o1, .null, .null, .null, .int 0, .int 0]))] ++ F) H locs := h.permL (perm_add (fun g f p0 p1 p2 => by (try simp only [p0, p1, p2]) <;> omega))
  refine o_putF C h 2 (RC := RX6) (T := TX6) (N := 6) (ws' := [(o2, iar dA 66 (fun _ => 0)), (o1, iar dA 66 (fun _ => 0)), (po, .inr (4, [.ref o1, .ref o2, .null, .null, .int 0, .int 0]))] ++ F) rfl rfl in_X6 tyX6_ok nmX6 1 (by decide) q290 rfl rfl (hin rfl) rfl (v := .ref o2) rfl rfl (Nat.le_of_ble_eq_true rfl) rfl dX6_init_17 (fun H locs h => ?_)
  refine lv_aload_n hx hb dX6_init_20 rfl (lv_at hl 0 rfl) ?_
  refine lv_bipush (v := nI 66) hx hb dX6_init_21 (by decide) ?_
  refine n_newa C h (n := 66) (by omega) (by omega) (by omega) dX6_init_23 (fun o3 H h => ?_)
  have h : Wd D B s ([(o3, iar dA 66 (fun _ => 0)), (o2, iar dA 66 (fun _ => 0)), (o1, iar dA 66 (fun _ => 0)), (po, .inr (4, [.ref o1, .ref o2, .null, .null, .int 0, .int 0]))] ++ F) H locs := h.permL (perm_add (fun g f p0 p1 p2 => by (try simp only [p0, p1, p2]) <;> omega))
  refine o_putF C h 3 (RC := RX6) (T := TX6) (N := 6) (ws' := [(o3, iar dA 66 (fun _ => 0)), (o2, iar dA 66 (fun _ => 0)), (o1, iar dA 66 (fun _ => 0)), (po, .inr (4, [.ref o1, .ref o2, .ref o3, .null, .int 0, .int 0]))] ++ F) rfl rfl in_X6 tyX6_ok nmX6 2 (by decide) q291 rfl rfl (hin rfl) rfl (v := .ref o3) rfl rfl (Nat.le_of_ble_eq_true rfl) rfl dX6_init_25 (fun H locs h => ?_)
  refine lv_aload_n hx hb dX6_init_28 rfl (lv_at hl 0 rfl) ?_
  refine lv_sipush (v := nI 134) hx hb dX6_init_29 (by decide) ?_
  refine n_newa C h (n := 134) (by omega) (by omega) (by omega) dX6_init_32 (fun o4 H h => ?_)
  have h : Wd D B s ([(o4, iar dA 134 (fun _ => 0)), (o3, iar dA 66 (fun _ => 0)), (o2, iar dA 66 (fun _ => 0)), (o1, iar dA 66 (fun _ => 0)), (po, .inr (4, [.ref o1, .ref o2, .ref o3, .null, .int 0, .int 0]))] ++ F) H locs := h.permL (perm_add (fun g f p0 p1 p2 => by (try simp only [p0, p1, p2]) <;> omega))
  refine o_putF C h 4 (RC := RX6) (T := TX6) (N := 6) (ws' := [(o4, iar dA 134 (fun _ => 0)), (o3, iar dA 66 (fun _ => 0)), (o2, iar dA 66 (fun _ => 0)), (o1, iar dA 66 (fun _ => 0)), (po, .inr (4, [.ref o1, .ref o2, .ref o3, .ref o4, .int 0, .int 0]))] ++ F) rfl rfl in_X6 tyX6_ok nmX6 3 (by decide) q292 rfl rfl (hin rfl) rfl (v := .ref o4) rfl rfl (Nat.le_of_ble_eq_true rfl) rfl dX6_init_34 (fun H locs h => ?_)
  subst hQ
  have h : Wd D B s ([(po, .inr (4, [.ref o1, .ref o2, .ref o3, .ref o4, .int 0, .int 0])), (o1, iar dA 66 (fun _ => 0)), (o2, iar dA 66 (fun _ => 0)), (o3, iar dA 66 (fun _ => 0)), (o4, iar dA 134 (fun _ => 0))] ++ F) H locs := h.permL (perm_add (fun g f p0 p1 p2 => by (try simp only [p0, p1, p2]) <;> omega))
  exact ret_v C hr hlocks h (o1, o2, o3, o4) trivial rfl rfl (by omega) (by omega) dX6_init_37
