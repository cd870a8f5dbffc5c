set_option maxRecDepth 100000
set_option maxHeartbeats 400000 in
set_option maxRecDepth 100000 in
theorem c9_seals (l : Launch) (D : va_G) (dA : Nat → ClassId) (B : Nat) (Z : State → Prop) (hZ : Stab B Z) (ws : va_W) (k : KY) (e0 : Nat) (hk : ∀ z ∈ kyW dA e0 k, z ∈ ws) (hK : KyIn dA ws k) :
    Ct (S := Unit) l D dA B Z yX9_seals cX9_seals 3 (some .int) 4 0 0 [.ref k.1] (ws) (fun _ => True) (fun _ => some (.int (nI (k.2.2.1.2.length + sumL (fun u : US => u.2.2.2.length) k.2.2.2.1.2 + sumL (fun u : PTt => u.2.2.2.length) k.2.2.2.2.2)))) (fun _ => ws) := by
  refine Ct.mk2 (by decide) (Nat.le_of_ble_eq_true rfl) hZ ?_
  intro p e R s m args below meth c ls Q C hr hlocks hin hQ hl h
  have C0 := C
  obtain ⟨hx, hb, hml, hown, hts, -⟩ := C0
  have hl : lv_has ls 3 [(0, .ref k.1)] := hl
  have hkc := KyIn.kc hk
  have hsl := hK.sl hk
  have hul := hK.ul hk
  have hpl := hK.pl hk
  obtain ⟨edsl, hcsl⟩ := hsl.cell
  have hnsl := hsl.len
  rw [List.length_map] at hnsl
  obtain ⟨edul, hcul⟩ := hul.cell
  have hnul := hul.len
  rw [List.length_map] at hnul
  obtain ⟨edpl, hcpl⟩ := hpl.cell
  have hnpl := hpl.len
  rw [List.length_map] at hnpl
  refine lv_aload_n hx hb dX9_seals_0 rfl (lv_at hl 0 rfl) ?_
  refine o_getS C h (RC := RX9) (T := TX9) (N := 4) (hkc) rfl in_X9 0 (by decide) q403 q404 (v := .ref k.2.2.1.1.1) rfl dX9_seals_1 ?_
  refine call_VR (As := []) (rest := []) (n := 0) C h (cA_size l D dA B Z hZ ws e0 _ _ hsl) (lw_V q496 q361 q362 q133 q363) (by decide +kernel) (o_recv C h (RC := RJ2) (T := TJ2) (N := 3) (hcsl) rfl) (by decide) (by decide) rfl hl rfl (Nat.le_of_ble_eq_true rfl) dX9_seals_4 (by omega) (fun _ H locs _ h => ?_)
  refine n_top (y := nI k.2.2.1.2.length) (by rw [List.length_map]) ?_
  refine lv_istore_n (lv' := [(1, .int (nI k.2.2.1.2.length)), (0, .ref k.1)]) hx hb dX9_seals_7 rfl hl (by decide) rfl (fun ls hl => ?_)
  refine lv_iconst (v := nI 0) hx hb dX9_seals_8 (by decide) ?_
  refine lv_istore_n (lv' := [(2, .int (nI 0)), (1, .int (nI k.2.2.1.2.length)), (0, .ref k.1)]) hx hb dX9_seals_9 rfl hl (by decide) rfl (fun ls hl => ?_)
  have loop : ∀ (nn : Nat) (i : Nat), (i ≤ k.2.2.2.1.2.length) → k.2.2.2.1.2.length - i < nn → ∀ (H : Heap) (locs : List Loc), Wd D B s (ws) H locs → ∀ (ls : Array Slot), lv_has ls 3 [(0, .ref k.1), (1, .int (nI (k.2.2.1.2.length + sumL (fun u : US => u.2.2.2.length) (k.2.2.2.1.2.take i)))), (2, .int (nI i))] → W p l e R s m args below meth c H locs (0 + 0) (0 + 0) Q (F0 m 10 ls []) := by
    intro nn
    induction nn with
    | zero => intro i  hi0 hme; exact absurd hme (Nat.not_lt_zero _)
    | succ nn ih =>
      intro i  hi0 hme H locs h ls hl
      refine lv_iload_n hx hb dX9_seals_10 rfl (lv_at hl 2 rfl) ?_
      refine lv_aload_n hx hb dX9_seals_11 rfl (lv_at hl 0 rfl) ?_
      refine o_get C h (RC := RX9) (T := TX9) (N := 4) (hkc) rfl in_X9 2 (by decide) q398 rfl (v := .ref k.2.2.2.1.1.1) rfl dX9_seals_12 ?_
      refine call_VR (As := []) (rest := [.int (nI i)]) (n := 0) C h (cA_size l D dA B Z hZ ws e0 _ _ hul) (lw_V q496 q361 q362 q133 q363) (by decide +kernel) (o_recv C h (RC := RJ2) (T := TJ2) (N := 3) (hcul) rfl) (by decide) (by decide) rfl hl rfl (Nat.le_of_ble_eq_true rfl) dX9_seals_15 (by omega) (fun _ H locs _ h => ?_)
      refine n_top (y := nI k.2.2.2.1.2.length) (by rw [List.length_map]) ?_
      refine n_icmp_ge (tgt := 47) hx hb (by omega) (by omega) dX9_seals_18 (by decide) (fun c18 => ?_) (fun c18 => ?_)
      · refine lv_iconst (v := nI 0) hx hb dX9_seals_47 (by decide) ?_
        refine lv_istore_n (lv' := [(2, .int (nI 0)), (0, .ref k.1), (1, .int (nI (k.2.2.1.2.length + sumL (fun u : US => u.2.2.2.length) (k.2.2.2.1.2.take i))))]) hx hb dX9_seals_48 rfl hl (by decide) rfl (fun ls hl => ?_)
        rw [sumL_all (show k.2.2.2.1.2.length ≤ i by omega)] at hl
        have loop2 : ∀ (nn2 : Nat) (j : Nat), (j ≤ k.2.2.2.2.2.length) → k.2.2.2.2.2.length - j < nn2 → ∀ (H : Heap) (locs : List Loc), Wd D B s (ws) H locs → ∀ (ls : Array Slot), lv_has ls 3 [(0, .ref k.1), (1, .int (nI (k.2.2.1.2.length + sumL (fun u : US => u.2.2.2.length) k.2.2.2.1.2 + sumL (fun u : PTt => u.2.2.2.length) (k.2.2.2.2.2.take j)))), (2, .int (nI j))] → W p l e R s m args below meth c H locs (0 + 0 + 0) (0 + 0 + 0) Q (F0 m 49 ls []) := by
          intro nn2
          induction nn2 with
          | zero => intro j  hj0 hme; exact absurd hme (Nat.not_lt_zero _)
          | succ nn2 ih2 =>
            intro j  hj0 hme H locs h ls hl
            refine lv_iload_n hx hb dX9_seals_49 rfl (lv_at hl 2 rfl) ?_
            refine lv_aload_n hx hb dX9_seals_50 rfl (lv_at hl 0 rfl) ?_
            refine o_get C h (RC := RX9) (T := TX9) (N := 4) (hkc) rfl in_X9 3 (by decide) q400 rfl (v := .ref k.2.2.2.2.1.1) rfl dX9_seals_51 ?_
            refine call_VR (As := []) (rest := [.int (nI j)]) (n := 0) C h (cA_size l D dA B Z hZ ws e0 _ _ hpl) (lw_V q496 q361 q362 q133 q363) (by decide +kernel) (o_recv C h (RC := RJ2) (T := TJ2) (N := 3) (hcpl) rfl) (by decide) (by decide) rfl hl rfl (Nat.le_of_ble_eq_true rfl) dX9_seals_54 (by omega) (fun _ H locs _ h => ?_)
            refine n_top (y := nI k.2.2.2.2.2.length) (by rw [List.length_map]) ?_
            refine n_icmp_ge (tgt := 86) hx hb (by omega) (by omega) dX9_seals_57 (by decide) (fun c57 => ?_) (fun c57 => ?_)
            · refine lv_iload_n hx hb dX9_seals_86 rfl (lv_at hl 1 rfl) ?_
              subst hQ
              exact ret_i C hr hlocks h () trivial (by rw [sumL_all (show k.2.2.2.2.2.length ≤ j by omega)]) rfl (by omega) (by omega) dX9_seals_87
            · refine lv_iload_n hx hb dX9_seals_60 rfl (lv_at hl 1 rfl) ?_
              refine lv_aload_n hx hb dX9_seals_61 rfl (lv_at hl 0 rfl) ?_
              refine o_get C h (RC := RX9) (T := TX9) (N := 4) (hkc) rfl in_X9 3 (by decide) q400 rfl (v := .ref k.2.2.2.2.1.1) rfl dX9_seals_62 ?_
              refine lv_iload_n hx hb dX9_seals_65 rfl (lv_at hl 2 rfl) ?_
              obtain ⟨y, hy⟩ := at_lt (l := k.2.2.2.2.2) (i := j) (by omega)
              have hym := List.mem_of_getElem? hy
              have hyL := hK.pt hk hym
              have hcy := KyIn.ptc hk hym
              obtain ⟨edy, hyc⟩ := hyL.cell
              refine call_VR (As := [.int (nI j)]) (rest := [.int (nI (k.2.2.1.2.length + sumL (fun u : US => u.2.2.2.length) k.2.2.2.1.2 + sumL (fun u : PTt => u.2.2.2.length) (k.2.2.2.2.2.take j)))]) (n := 1) C h (cA_get l D dA B Z hZ ws e0 _ _ j y.1 hpl (at_map hy)) (lw_V q497 q365 q366 q133 q367) (by decide +kernel) (o_recv C h (RC := RJ2) (T := TJ2) (N := 3) (hcpl) rfl) (by decide) (by decide) rfl hl rfl (Nat.le_of_ble_eq_true rfl) dX9_seals_66 (by omega) (fun _ H locs _ h => ?_)
              refine o_cast C h (RC := RX11) (T := TX11) (N := 2) (hcy) rfl q529 dX9_seals_69 ?_
              refine o_getS C h (RC := RX11) (T := TX11) (N := 2) (hcy) rfl in_X11 0 (by decide) q410 q408 (v := .ref y.2.2.1.1) rfl dX9_seals_72 ?_
              refine call_VR (As := []) (rest := [.int (nI (k.2.2.1.2.length + sumL (fun u : US => u.2.2.2.length) k.2.2.2.1.2 + sumL (fun u : PTt => u.2.2.2.length) (k.2.2.2.2.2.take j)))]) (n := 0) C h (cA_size l D dA B Z hZ ws e0 _ _ hyL) (lw_V q496 q361 q362 q133 q363) (by decide +kernel) (o_recv C h (RC := RJ2) (T := TJ2) (N := 3) (hyc) rfl) (by decide) (by decide) rfl hl rfl (Nat.le_of_ble_eq_true rfl) dX9_seals_75 (by omega) (fun _ H locs _ h => ?_)
              refine n_top (y := nI y.2.2.2.length) (by rw [List.length_map]) ?_
              refine lv_iadd hx hb dX9_seals_78 (n_top (y := nI ((k.2.2.1.2.length + sumL (fun u : US => u.2.2.2.length) k.2.2.2.1.2 + sumL (fun u : PTt => u.2.2.2.length) (k.2.2.2.2.2.take j)) + y.2.2.2.length)) (nI_add (k.2.2.1.2.length + sumL (fun u : US => u.2.2.2.length) k.2.2.2.1.2 + sumL (fun u : PTt => u.2.2.2.length) (k.2.2.2.2.2.take j)) y.2.2.2.length) ?_)
              refine lv_istore_n (lv' := [(1, .int (nI ((k.2.2.1.2.length + sumL (fun u : US => u.2.2.2.length) k.2.2.2.1.2 + sumL (fun u : PTt => u.2.2.2.length) (k.2.2.2.2.2.take j)) + y.2.2.2.length))), (0, .ref k.1), (2, .int (nI j))]) hx hb dX9_seals_79 rfl hl (by decide) rfl (fun ls hl => ?_)
              refine lv_iinc (v := nI (j + 1)) (lv' := [(2, .int (nI (j + 1))), (1, .int (nI ((k.2.2.1.2.length + sumL (fun u : US => u.2.2.2.length) k.2.2.2.1.2 + sumL (fun u : PTt => u.2.2.2.length) (k.2.2.2.2.2.take j)) + y.2.2.2.length))), (0, .ref k.1)]) hx hb dX9_seals_80 hl (k := 2) rfl (nI_add j 1) (by decide) rfl (fun ls hl => ?_)
              refine lv_goto (tgt := 49) hx hb dX9_seals_83 (by decide) ?_
              rw [show k.2.2.1.2.length + sumL (fun u : US => u.2.2.2.length) k.2.2.2.1.2 + sumL (fun u : PTt => u.2.2.2.length) (k.2.2.2.2.2.take j) + y.2.2.2.length = k.2.2.1.2.length + sumL (fun u : US => u.2.2.2.length) k.2.2.2.1.2 + sumL (fun u : PTt => u.2.2.2.length) (k.2.2.2.2.2.take (j + 1)) by rw [sumL_step hy, Nat.add_assoc]] at hl
              exact ih2 (j + 1) (by omega) (by omega) _ _ h _ (lv_sub hl [2, 1, 0] rfl)
        exact loop2 _ 0 (by omega) (Nat.lt_succ_self _) _ _ h _ (lv_sub hl [1, 2, 0] rfl)
      · refine lv_iload_n hx hb dX9_seals_21 rfl (lv_at hl 1 rfl) ?_
        refine lv_aload_n hx hb dX9_seals_22 rfl (lv_at hl 0 rfl) ?_
        refine o_get C h (RC := RX9) (T := TX9) (N := 4) (hkc) rfl in_X9 2 (by decide) q398 rfl (v := .ref k.2.2.2.1.1.1) rfl dX9_seals_23 ?_
        refine lv_iload_n hx hb dX9_seals_26 rfl (lv_at hl 2 rfl) ?_
        obtain ⟨y, hy⟩ := at_lt (l := k.2.2.2.1.2) (i := i) (by omega)
        have hym := List.mem_of_getElem? hy
        have hyL := hK.us hk hym
        obtain ⟨⟨_, bay, hcy, _⟩, _⟩ := hK.2.2.2.2.1 y hym
        obtain ⟨edy, hyc⟩ := hyL.cell
        refine call_VR (As := [.int (nI i)]) (rest := [.int (nI (k.2.2.1.2.length + sumL (fun u : US => u.2.2.2.length) (k.2.2.2.1.2.take i)))]) (n := 1) C h (cA_get l D dA B Z hZ ws e0 _ _ i y.1 hul (at_map hy)) (lw_V q497 q365 q366 q133 q367) (by decide +kernel) (o_recv C h (RC := RJ2) (T := TJ2) (N := 3) (hcul) rfl) (by decide) (by decide) rfl hl rfl (Nat.le_of_ble_eq_true rfl) dX9_seals_27 (by omega) (fun _ H locs _ h => ?_)
        refine o_cast C h (RC := RX10) (T := TX10) (N := 2) (hcy) rfl q498 dX9_seals_30 ?_
        refine o_getS C h (RC := RX10) (T := TX10) (N := 2) (hcy) rfl in_X10 0 (by decide) q409 q406 (v := .ref y.2.2.1.1) rfl dX9_seals_33 ?_
        refine call_VR (As := []) (rest := [.int (nI (k.2.2.1.2.length + sumL (fun u : US => u.2.2.2.length) (k.2.2.2.1.2.take i)))]) (n := 0) C h (cA_size l D dA B Z hZ ws e0 _ _ hyL) (lw_V q496 q361 q362 q133 q363) (by decide +kernel) (o_recv C h (RC := RJ2) (T := TJ2) (N := 3) (hyc) rfl) (by decide) (by decide) rfl hl rfl (Nat.le_of_ble_eq_true rfl) dX9_seals_36 (by omega) (fun _ H locs _ h => ?_)
        refine n_top (y := nI y.2.2.2.length) (by rw [List.length_map]) ?_
        refine lv_iadd hx hb dX9_seals_39 (n_top (y := nI ((k.2.2.1.2.length + sumL (fun u : US => u.2.2.2.length) (k.2.2.2.1.2.take i)) + y.2.2.2.length)) (nI_add (k.2.2.1.2.length + sumL (fun u : US => u.2.2.2.length) (k.2.2.2.1.2.take i)) y.2.2.2.length) ?_)
        refine lv_istore_n (lv' := [(1, .int (nI ((k.2.2.1.2.length + sumL (fun u : US => u.2.2.2.length) (k.2.2.2.1.2.take i)) + y.2.2.2.length))), (0, .ref k.1), (2, .int (nI i))]) hx hb dX9_seals_40 rfl hl (by decide) rfl (fun ls hl => ?_)
        refine lv_iinc (v := nI (i + 1)) (lv' := [(2, .int (nI (i + 1))), (1, .int (nI ((k.2.2.1.2.length + sumL (fun u : US => u.2.2.2.length) (k.2.2.2.1.2.take i)) + y.2.2.2.length))), (0, .ref k.1)]) hx hb dX9_seals_41 hl (k := 2) rfl (nI_add i 1) (by decide) rfl (fun ls hl => ?_)
        refine lv_goto (tgt := 10) hx hb dX9_seals_44 (by decide) ?_
        rw [show k.2.2.1.2.length + sumL (fun u : US => u.2.2.2.length) (k.2.2.2.1.2.take i) + y.2.2.2.length = k.2.2.1.2.length + sumL (fun u : US => u.2.2.2.length) (k.2.2.2.1.2.take (i + 1)) by rw [sumL_step hy, Nat.add_assoc]] at hl
        exact ih (i + 1) (by omega) (by omega) _ _ h _ (lv_sub hl [2, 1, 0] rfl)
  exact loop _ 0 (by omega) (Nat.lt_succ_self _) _ _ h _ (lv_sub hl [2, 1, 0] rfl)
