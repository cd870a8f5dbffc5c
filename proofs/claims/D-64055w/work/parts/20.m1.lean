set_option maxRecDepth 100000
set_option maxHeartbeats 400000 in
set_option maxRecDepth 100000 in
theorem c7_say (l : Launch) (D : va_G) (dA : Nat → ClassId) (B : Nat) (Z : State → Prop) (hZ : Stab B Z) (h0 : Nat) (ad : Nat → Nat) (M : MS) (F : va_W) (x : Int32) (n b : Nat) (h1 : mI M 20 = nI n) (h2 : n < 30000) (h3 : x &&& nI 255 = nI b) :
    Ct (S := Unit) l D dA B Z yX7_say cX7_say 2 none 1 0 0 [.ref h0, .int x] (mw dA h0 ad M ++ F) (fun _ => True) (fun _ => none) (fun _ => mw dA h0 ad (apM M 21 20 n [b]) ++ F) := by
  refine Ct.mk2 (by decide) (Nat.le_of_ble_eq_true rfl) hZ ?_
  intro p e R s m args below meth c ls Q C hr hlocks hin hQ hl h
  have C0 := C
  obtain ⟨hx, hb, hml, hown, hts, -⟩ := C0
  have hl : lv_has ls 2 [(0, .ref h0), (1, .int x)] := hl
  refine lv_aload_n hx hb dX7_say_0 rfl (lv_at hl 0 rfl) ?_
  refine m_gc C h 21 (by decide) rfl rfl q1891 dX7_say_1 ?_
  refine lv_aload_n hx hb dX7_say_4 rfl (lv_at hl 0 rfl) ?_
  refine m_gi C h 20 (by decide) rfl rfl q1890 (v := nI n) h1 dX7_say_5 ?_
  refine lv_iload_n hx hb dX7_say_8 rfl (lv_at hl 1 rfl) ?_
  refine lv_sipush (v := nI 255) hx hb dX7_say_9 (by decide) ?_
  refine lv_iand hx hb dX7_say_12 ?_
  refine n_top (y := nI b) h3 ?_
  refine m_iast C h 21 (v := b) (by decide) (n := 30000) rfl (by omega) dX7_say_13 (fun H locs h => ?_)
  refine lv_aload_n hx hb dX7_say_14 rfl (lv_at hl 0 rfl) ?_
  refine lv_dup hx hb dX7_say_15 rfl ?_
  refine m_gi C h 20 (by decide) rfl rfl q1890 (v := nI n) h1 dX7_say_16 ?_
  refine lv_iconst (v := nI 1) hx hb dX7_say_19 (by decide) ?_
  refine lv_iadd hx hb dX7_say_20 (n_top (y := nI (n + 1)) (nI_add n 1) ?_)
  refine m_pi C h 20 (v := nI (n + 1)) (by decide) rfl rfl rfl q1890 rfl rfl dX7_say_21 (fun H locs h => ?_)
  subst hQ
  exact ret_v C hr hlocks h () trivial rfl (by rw [apM_one]) (by omega) (by omega) dX7_say_24
set_option maxHeartbeats 400000 in
set_option maxRecDepth 100000 in
theorem c7_sayRow (l : Launch) (D : va_G) (dA : Nat → ClassId) (B : Nat) (Z : State → Prop) (hZ : Stab B Z) (h0 : Nat) (ad : Nat → Nat) (M : MS) (F : va_W) (a n0 : Nat) (g : Nat → Nat) (fr to n : Nat) (h1 : mI M 20 = nI n) (hof : ∀ (G1 : Nat → Nat) (v : Int32), (a, iar dA n0 g) ∈ mw dA h0 ad (sI (sG M 21 G1) 20 v) ++ F) (h2 : fr ≤ to) (h3 : to ≤ n0) (h4 : n0 < 1000000) (h5 : n + (to - fr) ≤ 30000) (h6 : ∀ j, j < to → g j < 256) :
    Ct (S := Unit) l D dA B Z yX7_sayRow cX7_sayRow 5 none 2 0 0 [.ref h0, .ref a, .int (nI fr), .int (nI to)] (mw dA h0 ad M ++ F) (fun _ => True) (fun _ => none) (fun _ => mw dA h0 ad (apM M 21 20 n (sl g fr (to - fr))) ++ F) := by
  refine Ct.mk2 (by decide) (Nat.le_of_ble_eq_true rfl) hZ ?_
  intro p e R s m args below meth c ls Q C hr hlocks hin hQ hl h
  have C0 := C
  obtain ⟨hx, hb, hml, hown, hts, -⟩ := C0
  have hl : lv_has ls 5 [(0, .ref h0), (1, .ref a), (2, .int (nI fr)), (3, .int (nI to))] := hl
  refine lv_iload_n hx hb dX7_sayRow_0 rfl (lv_at hl 2 rfl) ?_
  refine lv_istore (lv' := [(4, .int (nI fr)), (0, .ref h0), (1, .ref a), (2, .int (nI fr)), (3, .int (nI to))]) hx hb dX7_sayRow_1 hl (by decide) rfl (fun ls hl => ?_)
  have h : Wd D B s (mw dA h0 ad (apM M 21 20 n (sl g fr 0)) ++ F) s.heap [] := by rw [sl_0, apM_nil h1]; exact h
  have loop : ∀ (nn : Nat) (i : Nat), (fr + i ≤ to) → to - (fr + i) < nn → ∀ (H : Heap) (locs : List Loc), Wd D B s (mw dA h0 ad (apM M 21 20 n (sl g fr i)) ++ F) H locs → ∀ (ls : Array Slot), lv_has ls 5 [(4, .int (nI (fr + i))), (0, .ref h0), (1, .ref a), (2, .int (nI fr)), (3, .int (nI to))] → W p l e R s m args below meth c H locs 0 0 Q (F0 m 3 ls []) := by
    intro nn
    induction nn with
    | zero => intro i  hi0 hme; exact absurd hme (Nat.not_lt_zero _)
    | succ nn ih =>
      intro i  hi0 hme H locs h ls hl
      refine lv_iload hx hb dX7_sayRow_3 (lv_at hl 0 rfl) ?_
      refine lv_iload_n hx hb dX7_sayRow_5 rfl (lv_at hl 4 rfl) ?_
      refine n_icmp_ge (tgt := 23) hx hb (by omega) (by omega) dX7_sayRow_6 (by decide) (fun c6 => ?_) (fun c6 => ?_)
      · subst hQ
        exact ret_v C hr hlocks h () trivial rfl (by rw [show i = to - fr by omega]) (by omega) (by omega) dX7_sayRow_23
      · refine lv_aload_n hx hb dX7_sayRow_9 rfl (lv_at hl 1 rfl) ?_
        refine lv_aload_n hx hb dX7_sayRow_10 rfl (lv_at hl 2 rfl) ?_
        refine lv_iload hx hb dX7_sayRow_11 (lv_at hl 0 rfl) ?_
        refine n_iald C h (v := g (fr + i)) (hof _ _) (show fr + i < n0 by omega) (by omega) rfl dX7_sayRow_13 ?_
        refine call_V (As := [.int (nI (g (fr + i)))]) (rest := []) (n := 1) C h (c7_say l D dA B Z hZ h0 ad (apM M 21 20 n (sl g fr i)) F _ (n + (sl g fr i).length) (g (fr + i)) rfl (by rw [sl_len]; omega) (and255 (h6 _ (by omega)))) (lw_V q2248 q2250 qs67 q138 q2251) (by decide +kernel) (ci := 5) rfl rfl mw_mem0 (by decide) (by decide) rfl hl rfl (Nat.le_of_ble_eq_true rfl) dX7_sayRow_14 (by omega) (fun _ H locs _ h => ?_)
        rw [apM_app, ← sl_succ] at h
        refine lv_iinc (v := nI (fr + i + 1)) (lv' := [(4, .int (nI (fr + i + 1))), (0, .ref h0), (1, .ref a), (2, .int (nI fr)), (3, .int (nI to))]) hx hb dX7_sayRow_17 hl (k := 0) rfl (nI_add (fr + i) 1) (by decide) rfl (fun ls hl => ?_)
        refine lv_goto (tgt := 3) hx hb dX7_sayRow_20 (by decide) ?_
        exact ih (i + 1) (by omega) (by omega) _ _ h _ (lv_sub hl [0, 1, 2, 3, 4] rfl)
  exact loop _ 0 (by omega) (Nat.lt_succ_self _) _ _ h _ (lv_sub hl [0, 1, 2, 3, 4] rfl)
set_option maxHeartbeats 400000 in
set_option maxRecDepth 100000 in
theorem c7_sayNumber (l : Launch) (D : va_G) (dA : Nat → ClassId) (B : Nat) (Z : State → Prop) (hZ : Stab B Z) (h0 : Nat) (ad : Nat → Nat) (M : MS) (F : va_W) (v kn n : Nat) (h1 : mI M 20 = nI n) (h2 : v < 4611686018427387904) (h3 : kn ≤ 8) (h5 : n + kn ≤ 30000) :
    Ct (S := Unit) l D dA B Z yX7_sayNumber cX7_sayNumber 5 none 2 0 0 [.ref h0, .long (lN v), .int (nI kn)] (mw dA h0 ad M ++ F) (fun _ => True) (fun _ => none) (fun _ => mw dA h0 ad (apM M 21 20 n (be kn v)) ++ F) := by
  refine Ct.mk2 (by decide) (Nat.le_of_ble_eq_true rfl) hZ ?_
  intro p e R s m args below meth c ls Q C hr hlocks hin hQ hl h
  have C0 := C
  obtain ⟨hx, hb, hml, hown, hts, -⟩ := C0
  have hl : lv_has ls 5 [(0, .ref h0), (1, .long (lN v)), (3, .int (nI kn))] := hl
  refine lv_iload_n hx hb dX7_sayNumber_0 rfl (lv_at hl 2 rfl) ?_
  refine lv_iconst (v := nI 1) hx hb dX7_sayNumber_1 (by decide) ?_
  refine lv_isub hx hb dX7_sayNumber_2 ?_
  refine n_top (y := nI kn - nI 1) rfl ?_
  refine lv_istore (lv' := [(4, .int (nI kn - nI 1)), (0, .ref h0), (1, .long (lN v)), (3, .int (nI kn))]) hx hb dX7_sayNumber_3 hl (by decide) rfl (fun ls hl => ?_)
  have h : Wd D B s (mw dA h0 ad (apM M 21 20 n (sl (fun j => v / 2 ^ (8 * (kn - 1 - j)) % 256) 0 0)) ++ F) s.heap [] := by rw [sl_0, apM_nil h1]; exact h
  have loop : ∀ (nn : Nat) (i : Nat), (i ≤ kn) → kn - i < nn → ∀ (H : Heap) (locs : List Loc), Wd D B s (mw dA h0 ad (apM M 21 20 n (sl (fun j => v / 2 ^ (8 * (kn - 1 - j)) % 256) 0 i)) ++ F) H locs → ∀ (ls : Array Slot), lv_has ls 5 [(4, .int (nI (kn - i) - nI 1)), (0, .ref h0), (1, .long (lN v)), (3, .int (nI kn))] → W p l e R s m args below meth c H locs 0 0 Q (F0 m 5 ls []) := by
    intro nn
    induction nn with
    | zero => intro i  hi0 hme; exact absurd hme (Nat.not_lt_zero _)
    | succ nn ih =>
      intro i  hi0 hme H locs h ls hl
      refine lv_iload hx hb dX7_sayNumber_5 (lv_at hl 0 rfl) ?_
      refine lv_if_lt (tgt := 32) hx hb dX7_sayNumber_7 (by decide) (fun c7 => ?_) (fun c7 => ?_)
      · have hic : i = kn := by
          rcases Nat.lt_or_ge i kn with q | q
          · exact absurd c7 (by rw [pk_sub (by omega)]; exact nI_pos (by omega))
          · omega
        subst hQ
        exact ret_v C hr hlocks h () trivial rfl (by rw [show i = kn by omega]; rfl) (by omega) (by omega) dX7_sayNumber_32
      · have hlt : i < kn := by
          rcases Nat.lt_or_ge i kn with q | q
          · exact q
          · exact absurd (by rw [show kn - i = 0 by omega]; decide) c7
        have hk : nI (kn - i) - nI 1 = nI (kn - 1 - i) := by rw [pk_sub (by omega)]; congr 1; omega
        rw [hk] at hl
        refine lv_aload_n hx hb dX7_sayNumber_10 rfl (lv_at hl 1 rfl) ?_
        refine lv_lload_n hx hb dX7_sayNumber_11 rfl (lv_at hl 2 rfl) ?_
        refine lv_bipush (v := nI 8) hx hb dX7_sayNumber_12 (by decide) ?_
        refine lv_iload hx hb dX7_sayNumber_14 (lv_at hl 0 rfl) ?_
        refine lv_imul hx hb dX7_sayNumber_16 (n_top (y := nI (8 * (kn - 1 - i))) (pk_mul 8 (kn - 1 - i)) ?_)
        refine n_lshr hx hb dX7_sayNumber_17 ?_
        refine n_topl (y := lN (v / 2 ^ (8 * (kn - 1 - i)))) (l_shrN h2 (by omega)) ?_
        refine lv_ldc2 hx hb hown (hts _ q2103) dX7_sayNumber_18 ?_
        refine n_topl (y := lN 255) (by decide) ?_
        refine lv_land hx hb dX7_sayNumber_21 ?_
        refine n_topl (y := lN (v / 2 ^ (8 * (kn - 1 - i)) % 256)) (l_andN (k := 8) (Nat.lt_of_le_of_lt (Nat.div_le_self _ _) (by omega)) (by decide)) ?_
        refine lv_l2i (v := nI (v / 2 ^ (8 * (kn - 1 - i)) % 256)) hx hb dX7_sayNumber_22 (lN_i _) ?_
        refine call_V (As := [.int (nI (v / 2 ^ (8 * (kn - 1 - i)) % 256))]) (rest := []) (n := 1) C h (c7_say l D dA B Z hZ h0 ad (apM M 21 20 n (sl (fun j => v / 2 ^ (8 * (kn - 1 - j)) % 256) 0 i)) F _ (n + (sl (fun j => v / 2 ^ (8 * (kn - 1 - j)) % 256) 0 i).length) (v / 2 ^ (8 * (kn - 1 - i)) % 256) rfl (by rw [sl_len]; omega) (and255 (by omega))) (lw_V q2248 q2250 qs67 q138 q2251) (by decide +kernel) (ci := 5) rfl rfl mw_mem0 (by decide) (by decide) rfl hl rfl (Nat.le_of_ble_eq_true rfl) dX7_sayNumber_23 (by omega) (fun _ H locs _ h => ?_)
        rw [apM_app] at h
        have h : Wd D B s (mw dA h0 ad (apM M 21 20 n (sl (fun j => v / 2 ^ (8 * (kn - 1 - j)) % 256) 0 (i + 1))) ++ F) H locs := by rw [sl_succ, Nat.zero_add]; exact h
        refine lv_iinc (v := nI (kn - (i + 1)) - nI 1) (lv' := [(4, .int (nI (kn - (i + 1)) - nI 1)), (0, .ref h0), (1, .long (lN v)), (3, .int (nI kn))]) hx hb dX7_sayNumber_26 hl (k := 0) rfl (by rw [show kn - (i + 1) = kn - 1 - i by omega]; exact n_m1 _) (by decide) rfl (fun ls hl => ?_)
        refine lv_goto (tgt := 5) hx hb dX7_sayNumber_29 (by decide) ?_
        exact ih (i + 1) (by omega) (by omega) _ _ h _ (lv_sub hl [0, 1, 2, 3] rfl)
  exact loop _ 0 (by omega) (Nat.lt_succ_self _) _ _ h _ (lv_sub hl [0, 1, 2, 3] rfl)
set_option maxHeartbeats 400000 in
set_option maxRecDepth 100000 in
theorem c7_part (l : Launch) (D : va_G) (dA : Nat → ClassId) (B : Nat) (Z : State → Prop) (hZ : Stab B Z) (ws : va_W) (a n0 : Nat) (g : Nat → Nat) (fr n : Nat) (hm : (a, iar dA n0 g) ∈ ws) (h1 : fr + n ≤ n0) (h2 : n0 < 1000000) :
    Ct (S := Nat) l D dA B Z yX7_part cX7_part 5 (some ((.array .int))) 1 1 n [.ref a, .int (nI fr), .int (nI n)] (ws) (fun _ => True) (fun q => some (.ref q)) (fun q => ws ++ [(q, ial dA (sl g fr n))]) := by
  refine Ct.mk2 (by decide) (Nat.le_of_ble_eq_true rfl) hZ ?_
  intro p e R s m args below meth c ls Q C hr hlocks hin hQ hl h
  have C0 := C
  obtain ⟨hx, hb, hml, hown, hts, -⟩ := C0
  have hl : lv_has ls 5 [(0, .ref a), (1, .int (nI fr)), (2, .int (nI n))] := hl
  refine lv_iload_n hx hb dX7_part_0 rfl (lv_at hl 2 rfl) ?_
  refine n_newa C h (n := n) (by omega) (by omega) (by omega) dX7_part_1 (fun q1 H h => ?_)
  refine lv_astore_n (lv' := [(3, .ref q1), (0, .ref a), (1, .int (nI fr)), (2, .int (nI n))]) hx hb dX7_part_3 rfl hl (by decide) rfl (fun ls hl => ?_)
  refine lv_iconst (v := nI 0) hx hb dX7_part_4 (by decide) ?_
  refine lv_istore (lv' := [(4, .int (nI 0)), (3, .ref q1), (0, .ref a), (1, .int (nI fr)), (2, .int (nI n))]) hx hb dX7_part_5 hl (by decide) rfl (fun ls hl => ?_)
  have h : Wd D B s (ws ++ [(q1, iar dA n (appG (fun _ => 0) 0 (sl g fr 0)))]) H [] := by rw [sl_0, appG_nil]; exact h
  have loop : ∀ (nn : Nat) (i : Nat), (i ≤ n) → n - i < nn → ∀ (H : Heap) (locs : List Loc), Wd D B s (ws ++ [(q1, iar dA n (appG (fun _ => 0) 0 (sl g fr i)))]) H locs → ∀ (ls : Array Slot), lv_has ls 5 [(4, .int (nI i)), (3, .ref q1), (0, .ref a), (1, .int (nI fr)), (2, .int (nI n))] → W p l e R s m args below meth c H locs (0 + 1) (0 + n) Q (F0 m 7 ls []) := by
    intro nn
    induction nn with
    | zero => intro i  hi0 hme; exact absurd hme (Nat.not_lt_zero _)
    | succ nn ih =>
      intro i  hi0 hme H locs h ls hl
      refine lv_iload hx hb dX7_part_7 (lv_at hl 0 rfl) ?_
      refine lv_iload_n hx hb dX7_part_9 rfl (lv_at hl 4 rfl) ?_
      refine n_icmp_ge (tgt := 29) hx hb (by omega) (by omega) dX7_part_10 (by decide) (fun c10 => ?_) (fun c10 => ?_)
      · refine lv_aload_n hx hb dX7_part_29 rfl (lv_at hl 1 rfl) ?_
        subst hQ
        exact ret_a C hr (Or.inr ⟨_, rfl⟩) hlocks h q1 trivial (Or.inr ⟨_, rfl⟩) rfl (by unfold ial; rw [sl_len, show n = i by omega, ← appG_0]) (by omega) (by omega) dX7_part_30
      · refine lv_aload_n hx hb dX7_part_13 rfl (lv_at hl 1 rfl) ?_
        refine lv_iload hx hb dX7_part_14 (lv_at hl 0 rfl) ?_
        refine lv_aload_n hx hb dX7_part_16 rfl (lv_at hl 2 rfl) ?_
        refine lv_iload_n hx hb dX7_part_17 rfl (lv_at hl 3 rfl) ?_
        refine lv_iload hx hb dX7_part_18 (lv_at hl 0 rfl) ?_
        refine lv_iadd hx hb dX7_part_20 (n_top (y := nI (fr + i)) (nI_add fr i) ?_)
        refine n_iald C h (v := g (fr + i)) (List.mem_append_left _ hm) (show fr + i < n0 by omega) (by omega) rfl dX7_part_21 ?_
        refine n_iastL C h (i := i) (v := g (fr + i)) (by omega) (by omega) dX7_part_22 (fun H locs h => ?_)
        have h : Wd D B s (ws ++ [(q1, iar dA n (appG (fun _ => 0) 0 (sl g fr (i + 1))))]) H locs := by
          have e := appG_app (fun _ => 0) 0 (sl g fr i) [g (fr + i)]
          rw [Nat.zero_add, sl_len, ← appG_one, ← sl_succ] at e
          rw [← e]; exact h
        refine lv_iinc (v := nI (i + 1)) (lv' := [(4, .int (nI (i + 1))), (3, .ref q1), (0, .ref a), (1, .int (nI fr)), (2, .int (nI n))]) hx hb dX7_part_23 hl (k := 0) rfl (nI_add i 1) (by decide) rfl (fun ls hl => ?_)
        refine lv_goto (tgt := 7) hx hb dX7_part_26 (by decide) ?_
        exact ih (i + 1) (by omega) (by omega) _ _ h _ (lv_sub hl [0, 1, 2, 3, 4] rfl)
  exact loop _ 0 (by omega) (Nat.lt_succ_self _) _ _ h _ (lv_sub hl [0, 1, 2, 3, 4] rfl)
set_option maxHeartbeats 400000 in
set_option maxRecDepth 100000 in
theorem c7_areSame (l : Launch) (D : va_G) (dA : Nat → ClassId) (B : Nat) (Z : State → Prop) (hZ : Stab B Z) (ws : va_W) (a b n1 n2 : Nat) (f g : Nat → Nat) (hm : (a, iar dA n1 f) ∈ ws) (hm2 : (b, iar dA n2 g) ∈ ws) (h1 : n1 < 1000000) (h2 : n2 < 1000000) (hf : ∀ j, j < n1 → f j < 2147483648) (hg : ∀ j, j < n2 → g j < 2147483648) :
    Ct (S := Unit) l D dA B Z yX7_areSame cX7_areSame 4 (some .boolean) 1 0 0 [.ref a, .ref b] (ws) (fun _ => True) (fun _ => some (.int (bZ (decide (sl f 0 n1 = sl g 0 n2))))) (fun _ => ws) := by
  refine Ct.mk2 (by decide) (Nat.le_of_ble_eq_true rfl) hZ ?_
  intro p e R s m args below meth c ls Q C hr hlocks hin hQ hl h
  have C0 := C
  obtain ⟨hx, hb, hml, hown, hts, -⟩ := C0
  have hl : lv_has ls 4 [(0, .ref a), (1, .ref b)] := hl
  have jn : ∀ (tjn : Bool), (tjn = decide (n1 = n2)) → ∀ (H : Heap) (locs : List Loc), Wd D B s (ws) H locs → ∀ (ls : Array Slot), lv_has ls 4 [(0, .ref a), (1, .ref b)] → W p l e R s m args below meth c H locs 0 0 Q (F0 m 12 ls [.int (bZ tjn)]) := by
    intro tjn  hjn H locs h ls hl
    refine lv_istore_n (lv' := [(2, .int (bZ tjn)), (0, .ref a), (1, .ref b)]) hx hb dX7_areSame_12 rfl hl (by decide) rfl (fun ls hl => ?_)
    refine lv_iconst (v := nI 0) hx hb dX7_areSame_13 (by decide) ?_
    refine lv_istore_n (lv' := [(3, .int (nI 0)), (2, .int (bZ tjn)), (0, .ref a), (1, .ref b)]) hx hb dX7_areSame_14 rfl hl (by decide) rfl (fun ls hl => ?_)
    have loop : ∀ (nn : Nat) (i : Nat) (t : Bool), (i ≤ n1) → (t = true → (n1 = n2 ∧ sl f 0 i = sl g 0 i)) → (t = false → sl f 0 n1 ≠ sl g 0 n2) → n1 + 1 - i < nn → ∀ (H : Heap) (locs : List Loc), Wd D B s (ws) H locs → ∀ (ls : Array Slot), lv_has ls 4 [(3, .int (nI i)), (2, .int (bZ t)), (0, .ref a), (1, .ref b)] → W p l e R s m args below meth c H locs 0 0 Q (F0 m 15 ls []) := by
      intro nn
      induction nn with
      | zero => intro i  t  hi0 hi1 hi2 hme; exact absurd hme (Nat.not_lt_zero _)
      | succ nn ih =>
        intro i  t  hi0 hi1 hi2 hme H locs h ls hl
        refine lv_iload_n hx hb dX7_areSame_15 rfl (lv_at hl 1 rfl) ?_
        refine z_if_eq (tgt := 46) hx hb dX7_areSame_16 (by decide) (fun c16 => ?_) (fun c16 => ?_)
        · refine lv_iload_n hx hb dX7_areSame_46 rfl (lv_at hl 1 rfl) ?_
          subst hQ
          have key : decide (sl f 0 n1 = sl g 0 n2) = t := by
            cases t with
            | false => exact decide_eq_false (hi2 rfl)
            | true =>
              obtain ⟨e1, e2⟩ := hi1 rfl
              refine decide_eq_true ?_
              first | (exfalso; exact absurd c16 (by decide)) | (rw [show n1 = i by omega, show n2 = i by omega]; exact e2)
          exact ret_z C hr hlocks h () trivial (by rw [key]) rfl (by omega) (by omega) dX7_areSame_47
        · refine lv_iload_n hx hb dX7_areSame_19 rfl (lv_at hl 0 rfl) ?_
          refine lv_aload_n hx hb dX7_areSame_20 rfl (lv_at hl 2 rfl) ?_
          refine n_alen C h (hm) dX7_areSame_21 ?_
          refine n_icmp_ge (tgt := 46) hx hb (by omega) (by omega) dX7_areSame_22 (by decide) (fun c22 => ?_) (fun c22 => ?_)
          · refine lv_iload_n hx hb dX7_areSame_46 rfl (lv_at hl 1 rfl) ?_
            subst hQ
            have key : decide (sl f 0 n1 = sl g 0 n2) = t := by
              cases t with
              | false => exact decide_eq_false (hi2 rfl)
              | true =>
                obtain ⟨e1, e2⟩ := hi1 rfl
                refine decide_eq_true ?_
                first | (exfalso; exact absurd c16 (by decide)) | (rw [show n1 = i by omega, show n2 = i by omega]; exact e2)
            exact ret_z C hr hlocks h () trivial (by rw [key]) rfl (by omega) (by omega) dX7_areSame_47
          · obtain ⟨e1, e2⟩ := hi1 c16
            have jk : ∀ (tjk : Bool), (tjk = decide (f i = g i)) → ∀ (H : Heap) (locs : List Loc), Wd D B s (ws) H locs → ∀ (ls : Array Slot), lv_has ls 4 [(3, .int (nI i)), (2, .int (bZ t)), (0, .ref a), (1, .ref b)] → W p l e R s m args below meth c H locs 0 0 Q (F0 m 39 ls [.int (bZ tjk)]) := by
              intro tjk  hjk H locs h ls hl
              refine lv_istore_n (lv' := [(2, .int (bZ tjk)), (3, .int (nI i)), (0, .ref a), (1, .ref b)]) hx hb dX7_areSame_39 rfl hl (by decide) rfl (fun ls hl => ?_)
              refine lv_iinc (v := nI (i + 1)) (lv' := [(3, .int (nI (i + 1))), (2, .int (bZ tjk)), (0, .ref a), (1, .ref b)]) hx hb dX7_areSame_40 hl (k := 1) rfl (nI_add i 1) (by decide) rfl (fun ls hl => ?_)
              refine lv_goto (tgt := 15) hx hb dX7_areSame_43 (by decide) ?_
              exact ih (i + 1) _ (by omega) (fun q => ⟨e1, by
                have e3 : f i = g i := of_decide_eq_true (hjk ▸ q)
                rw [sl_succ, sl_succ, e2, Nat.zero_add, e3]⟩) (fun q => sl_ne_at (i := i) (by omega) (by omega) (by rw [Nat.zero_add]; exact of_decide_eq_false (hjk ▸ q))) (by omega) _ _ h _ (lv_sub hl [0, 1, 2, 3] rfl)
            refine lv_aload_n hx hb dX7_areSame_25 rfl (lv_at hl 2 rfl) ?_
            refine lv_iload_n hx hb dX7_areSame_26 rfl (lv_at hl 0 rfl) ?_
            refine n_iald C h (v := f i) (hm) (show i < n1 by omega) (by omega) rfl dX7_areSame_27 ?_
            refine lv_aload_n hx hb dX7_areSame_28 rfl (lv_at hl 3 rfl) ?_
            refine lv_iload_n hx hb dX7_areSame_29 rfl (lv_at hl 0 rfl) ?_
            refine n_iald C h (v := g i) (hm2) (show i < n2 by omega) (by omega) rfl dX7_areSame_30 ?_
            have := hf i (by omega)
            have := hg i (by omega)
            refine n_icmp_ne (tgt := 38) hx hb (by omega) (by omega) dX7_areSame_31 (by decide) (fun c31 => ?_) (fun c31 => ?_)
            · refine lv_iconst (v := nI 0) hx hb dX7_areSame_38 (by decide) ?_
              refine n_top (y := bZ false) rfl ?_
              exact jk false (by simp [*]) _ _ h _ (lv_sub hl [0, 1, 2, 3] rfl)
            · refine lv_iconst (v := nI 1) hx hb dX7_areSame_34 (by decide) ?_
              refine lv_goto (tgt := 39) hx hb dX7_areSame_35 (by decide) ?_
              refine n_top (y := bZ true) rfl ?_
              exact jk true (by simp [*]) _ _ h _ (lv_sub hl [0, 1, 2, 3] rfl)
    exact loop _ 0 _ (by omega) (fun q => ⟨of_decide_eq_true (hjn ▸ q), rfl⟩) (fun q => sl_ne_len (of_decide_eq_false (hjn ▸ q))) (Nat.lt_succ_self _) _ _ h _ (lv_sub hl [0, 1, 2, 3] rfl)
  refine lv_aload_n hx hb dX7_areSame_0 rfl (lv_at hl 0 rfl) ?_
  refine n_alen C h (hm) dX7_areSame_1 ?_
  refine lv_aload_n hx hb dX7_areSame_2 rfl (lv_at hl 1 rfl) ?_
  refine n_alen C h (hm2) dX7_areSame_3 ?_
  refine n_icmp_ne (tgt := 11) hx hb (by omega) (by omega) dX7_areSame_4 (by decide) (fun c4 => ?_) (fun c4 => ?_)
  · refine lv_iconst (v := nI 0) hx hb dX7_areSame_11 (by decide) ?_
    refine n_top (y := bZ false) rfl ?_
    exact jn false (by simp [*]) _ _ h _ (lv_sub hl [0, 1] rfl)
  · refine lv_iconst (v := nI 1) hx hb dX7_areSame_7 (by decide) ?_
    refine lv_goto (tgt := 12) hx hb dX7_areSame_8 (by decide) ?_
    refine n_top (y := bZ true) rfl ?_
    exact jn true (by simp [*]) _ _ h _ (lv_sub hl [0, 1] rfl)
set_option maxHeartbeats 400000 in
set_option maxRecDepth 100000 in
theorem c7_number (l : Launch) (D : va_G) (dA : Nat → ClassId) (B : Nat) (Z : State → Prop) (hZ : Stab B Z) (ws : va_W) (a n0 : Nat) (g : Nat → Nat) (fr n : Nat) (hm : (a, iar dA n0 g) ∈ ws) (h1 : fr + n ≤ n0) (h2 : n0 < 1000000) (h3 : ∀ j, j < n0 → g j < 2147483648) :
    Ct (S := Unit) l D dA B Z yX7_number cX7_number 6 (some .long) 1 0 0 [.ref a, .int (nI fr), .int (nI n)] (ws) (fun _ => True) (fun _ => some (.long (lN (num (sl g fr n))))) (fun _ => ws) := by
  refine Ct.mk2 (by decide) (Nat.le_of_ble_eq_true rfl) hZ ?_
  intro p e R s m args below meth c ls Q C hr hlocks hin hQ hl h
  have C0 := C
  obtain ⟨hx, hb, hml, hown, hts, -⟩ := C0
  have hl : lv_has ls 6 [(0, .ref a), (1, .int (nI fr)), (2, .int (nI n))] := hl
  refine lv_lconst (v := lN 0) hx hb dX7_number_0 (by decide) ?_
  refine lv_lstore_n (lv' := [(3, .long (lN 0)), (0, .ref a), (1, .int (nI fr)), (2, .int (nI n))]) hx hb dX7_number_1 rfl hl (by decide) rfl (fun ls hl => ?_)
  refine lv_iconst (v := nI 0) hx hb dX7_number_2 (by decide) ?_
  refine lv_istore (lv' := [(5, .int (nI 0)), (3, .long (lN 0)), (0, .ref a), (1, .int (nI fr)), (2, .int (nI n))]) hx hb dX7_number_3 hl (by decide) rfl (fun ls hl => ?_)
  have loop : ∀ (nn : Nat) (i : Nat), (i ≤ n) → n - i < nn → ∀ (H : Heap) (locs : List Loc), Wd D B s (ws) H locs → ∀ (ls : Array Slot), lv_has ls 6 [(5, .int (nI i)), (3, .long (lN (num (sl g fr i)))), (0, .ref a), (1, .int (nI fr)), (2, .int (nI n))] → W p l e R s m args below meth c H locs 0 0 Q (F0 m 5 ls []) := by
    intro nn
    induction nn with
    | zero => intro i  hi0 hme; exact absurd hme (Nat.not_lt_zero _)
    | succ nn ih =>
      intro i  hi0 hme H locs h ls hl
      refine lv_iload hx hb dX7_number_5 (lv_at hl 0 rfl) ?_
      refine lv_iload_n hx hb dX7_number_7 rfl (lv_at hl 4 rfl) ?_
      refine n_icmp_ge (tgt := 31) hx hb (by omega) (by omega) dX7_number_8 (by decide) (fun c8 => ?_) (fun c8 => ?_)
      · refine lv_lload_n hx hb dX7_number_31 rfl (lv_at hl 1 rfl) ?_
        subst hQ
        obtain rfl : i = n := by omega
        exact ret_l C hr hlocks h () trivial rfl rfl (by omega) (by omega) dX7_number_32
      · refine lv_lload_n hx hb dX7_number_11 rfl (lv_at hl 1 rfl) ?_
        refine lv_ldc2 hx hb hown (hts _ q2201) dX7_number_12 ?_
        refine n_topl (y := lN 256) (by decide) ?_
        refine lv_lmul hx hb dX7_number_15 (n_topl (y := lN ((num (sl g fr i)) * 256)) (lN_mul (num (sl g fr i)) 256) ?_)
        refine lv_aload_n hx hb dX7_number_16 rfl (lv_at hl 2 rfl) ?_
        refine lv_iload_n hx hb dX7_number_17 rfl (lv_at hl 3 rfl) ?_
        refine lv_iload hx hb dX7_number_18 (lv_at hl 0 rfl) ?_
        refine lv_iadd hx hb dX7_number_20 (n_top (y := nI (fr + i)) (nI_add fr i) ?_)
        refine n_iald C h (v := g (fr + i)) (hm) (show fr + i < n0 by omega) (by omega) rfl dX7_number_21 ?_
        have := h3 (fr + i) (by omega)
        refine lv_i2l (v := lN (g (fr + i))) hx hb dX7_number_22 (nI_l (by omega)) ?_
        refine lv_ladd hx hb dX7_number_23 ?_
        refine n_topl (y := lN (num (sl g fr (i + 1)))) (by rw [lN_add, sl_succ, num_snoc]) ?_
        refine lv_lstore_n (lv' := [(3, .long (lN (num (sl g fr (i + 1))))), (5, .int (nI i)), (0, .ref a), (1, .int (nI fr)), (2, .int (nI n))]) hx hb dX7_number_24 rfl hl (by decide) rfl (fun ls hl => ?_)
        refine lv_iinc (v := nI (i + 1)) (lv' := [(5, .int (nI (i + 1))), (3, .long (lN (num (sl g fr (i + 1))))), (0, .ref a), (1, .int (nI fr)), (2, .int (nI n))]) hx hb dX7_number_25 hl (k := 1) rfl (nI_add i 1) (by decide) rfl (fun ls hl => ?_)
        refine lv_goto (tgt := 5) hx hb dX7_number_28 (by decide) ?_
        exact ih (i + 1) (by omega) (by omega) _ _ h _ (lv_sub hl [0, 1, 2, 3, 4] rfl)
  exact loop _ 0 (by omega) (Nat.lt_succ_self _) _ _ h _ (lv_sub hl [0, 1, 2, 3, 4] rfl)
set_option maxHeartbeats 400000 in
set_option maxRecDepth 100000 in
theorem c7_left (l : Launch) (D : va_G) (dA : Nat → ClassId) (B : Nat) (Z : State → Prop) (hZ : Stab B Z) (ws : va_W) (x y : Int32)  :
    Ct (S := Unit) l D dA B Z yX7_left cX7_left 2 (some .int) 1 0 0 [.int x, .int y] (ws) (fun _ => True) (fun _ => some (.int (rotl x y))) (fun _ => ws) := by
  refine Ct.mk2 (by decide) (Nat.le_of_ble_eq_true rfl) hZ ?_
  intro p e R s m args below meth c ls Q C hr hlocks hin hQ hl h
  have C0 := C
  obtain ⟨hx, hb, hml, hown, hts, -⟩ := C0
  have hl : lv_has ls 2 [(0, .int x), (1, .int y)] := hl
  refine lv_iload_n hx hb dX7_left_0 rfl (lv_at hl 0 rfl) ?_
  refine lv_iload_n hx hb dX7_left_1 rfl (lv_at hl 1 rfl) ?_
  refine n_ishl hx hb dX7_left_2 ?_
  refine lv_iload_n hx hb dX7_left_3 rfl (lv_at hl 0 rfl) ?_
  refine lv_bipush (v := nI 32) hx hb dX7_left_4 (by decide) ?_
  refine lv_iload_n hx hb dX7_left_6 rfl (lv_at hl 1 rfl) ?_
  refine lv_isub hx hb dX7_left_7 ?_
  refine n_iushr hx hb dX7_left_8 ?_
  refine lv_ior hx hb dX7_left_9 ?_
  subst hQ
  exact ret_i C hr hlocks h () trivial rfl rfl (by omega) (by omega) dX7_left_10
set_option maxHeartbeats 400000 in
set_option maxRecDepth 100000 in
theorem c7_close (l : Launch) (D : va_G) (dA : Nat → ClassId) (B : Nat) (Z : State → Prop) (hZ : Stab B Z) (h0 : Nat) (ad : Nat → Nat) (M : MS) (F : va_W) (n : Nat) (h1 : mI M 20 = nI n) (h2 : n < 29900) :
    Ct (S := Unit) l D dA B Z yX7_close cX7_close 3 (some .int) 3 0 0 [.ref h0] (mw dA h0 ad M ++ F) (fun _ => True) (fun _ => some (.int (nI ((n + (pad n).length) / 64)))) (fun _ => mw dA h0 ad (apM M 21 20 n (pad n)) ++ F) := by
  refine Ct.mk2 (by decide) (Nat.le_of_ble_eq_true rfl) hZ ?_
  intro p e R s m args below meth c ls Q C hr hlocks hin hQ hl h
  have C0 := C
  obtain ⟨hx, hb, hml, hown, hts, -⟩ := C0
  have hl : lv_has ls 3 [(0, .ref h0)] := hl
  refine lv_ldc2 hx hb hown (hts _ q2272) dX7_close_0 ?_
  refine n_topl (y := lN 8) (by decide) ?_
  refine lv_aload_n hx hb dX7_close_3 rfl (lv_at hl 0 rfl) ?_
  refine m_gi C h 20 (by decide) rfl rfl q1890 (v := nI n) h1 dX7_close_4 ?_
  refine lv_i2l (v := lN n) hx hb dX7_close_7 (nI_l (by omega)) ?_
  refine lv_lmul hx hb dX7_close_8 (n_topl (y := lN (8 * n)) (lN_mul 8 n) ?_)
  refine lv_lstore_n (lv' := [(1, .long (lN (8 * n))), (0, .ref h0)]) hx hb dX7_close_9 rfl hl (by decide) rfl (fun ls hl => ?_)
  refine lv_aload_n hx hb dX7_close_10 rfl (lv_at hl 1 rfl) ?_
  refine lv_sipush (v := nI 128) hx hb dX7_close_11 (by decide) ?_
  refine call_V (As := [.int (nI 128)]) (rest := []) (n := 1) C h (c7_say l D dA B Z hZ h0 ad M F _ n 128 h1 (by omega) (by decide)) (lw_V q2248 q2250 qs67 q138 q2251) (by decide +kernel) (ci := 5) rfl rfl mw_mem0 (by decide) (by decide) rfl hl rfl (Nat.le_of_ble_eq_true rfl) dX7_close_14 (by omega) (fun _ H locs _ h => ?_)
  have loop : ∀ (nn : Nat) (i : Nat), (i ≤ padz n) → padz n - i < nn → ∀ (H : Heap) (locs : List Loc), Wd D B s (mw dA h0 ad (apM M 21 20 n (128 :: List.replicate i 0)) ++ F) H locs → ∀ (ls : Array Slot), lv_has ls 3 [(1, .long (lN (8 * n))), (0, .ref h0)] → W p l e R s m args below meth c H locs (0 + 0) (0 + 0) Q (F0 m 17 ls []) := by
    intro nn
    induction nn with
    | zero => intro i  hi0 hme; exact absurd hme (Nat.not_lt_zero _)
    | succ nn ih =>
      intro i  hi0 hme H locs h ls hl
      have hpz := padz_lt n
      refine lv_aload_n hx hb dX7_close_17 rfl (lv_at hl 1 rfl) ?_
      refine m_gi C h 20 (by decide) rfl rfl q1890 (v := nI (n + 1 + i)) (by show nI _ = _; congr 1; simp; omega) dX7_close_18 ?_
      refine lv_bipush (v := nI 64) hx hb dX7_close_21 (by decide) ?_
      refine lv_irem hx hb dX7_close_23 (by decide) (n_top (y := nI ((n + 1 + i) % 64)) (pk_rem (by omega) (by omega) (by omega)) ?_)
      refine lv_bipush (v := nI 56) hx hb dX7_close_24 (by decide) ?_
      refine n_icmp_eq (tgt := 37) hx hb (by omega) (by omega) dX7_close_26 (by decide) (fun c26 => ?_) (fun c26 => ?_)
      · refine lv_aload_n hx hb dX7_close_37 rfl (lv_at hl 1 rfl) ?_
        refine lv_lload_n hx hb dX7_close_38 rfl (lv_at hl 0 rfl) ?_
        refine lv_bipush (v := nI 8) hx hb dX7_close_39 (by decide) ?_
        refine call_V (As := [.long (lN (8 * n)), .int (nI 8)]) (rest := []) (n := 2) C h (c7_sayNumber l D dA B Z hZ h0 ad (apM M 21 20 n (128 :: List.replicate i 0)) F (8 * n) 8 (n + (128 :: List.replicate i 0).length) rfl (by omega) (by omega) (by have := padz_lt n; simp; omega)) (lw_V q2252 q2254 qs68 q138 q2255) (by decide +kernel) (ci := 5) rfl rfl mw_mem0 (by decide) (by decide) rfl hl rfl (Nat.le_of_ble_eq_true rfl) dX7_close_41 (by omega) (fun _ H locs _ h => ?_)
        obtain rfl : i = padz n := pad_end hi0 c26
        rw [apM_app, List.cons_append] at h
        change Wd D B s (mw dA h0 ad (apM M 21 20 n (pad n)) ++ F) H locs at h
        refine lv_aload_n hx hb dX7_close_44 rfl (lv_at hl 1 rfl) ?_
        refine m_gi C h 20 (by decide) rfl rfl q1890 (v := nI (n + (pad n).length)) rfl dX7_close_45 ?_
        have := pad_len n
        refine lv_bipush (v := nI 64) hx hb dX7_close_48 (by decide) ?_
        refine lv_idiv hx hb dX7_close_50 (by decide) (n_top (y := nI ((n + (pad n).length) / 64)) (pk_div (by omega) (by omega) (by omega)) ?_)
        subst hQ
        exact ret_i C hr hlocks h () trivial rfl rfl (by omega) (by omega) dX7_close_51
      · refine lv_aload_n hx hb dX7_close_29 rfl (lv_at hl 1 rfl) ?_
        refine lv_iconst (v := nI 0) hx hb dX7_close_30 (by decide) ?_
        refine call_V (As := [.int (nI 0)]) (rest := []) (n := 1) C h (c7_say l D dA B Z hZ h0 ad (apM M 21 20 n (128 :: List.replicate i 0)) F _ (n + (128 :: List.replicate i 0).length) 0 rfl (by have := padz_lt n; simp; omega) (by decide)) (lw_V q2248 q2250 qs67 q138 q2251) (by decide +kernel) (ci := 5) rfl rfl mw_mem0 (by decide) (by decide) rfl hl rfl (Nat.le_of_ble_eq_true rfl) dX7_close_31 (by omega) (fun _ H locs _ h => ?_)
        rw [apM_app, List.cons_append, ← List.replicate_succ'] at h
        refine lv_goto (tgt := 17) hx hb dX7_close_34 (by decide) ?_
        exact ih (i + 1) (pad_lt hi0 c26) (by have := pad_lt hi0 c26; omega) _ _ h _ (lv_sub hl [0, 1] rfl)
  exact loop _ 0 (by omega) (Nat.lt_succ_self _) _ _ h _ (lv_sub hl [0, 1] rfl)
set_option maxHeartbeats 400000 in
set_option maxRecDepth 100000 in
theorem c7_keep (l : Launch) (D : va_G) (dA : Nat → ClassId) (B : Nat) (Z : State → Prop) (hZ : Stab B Z) (h0 : Nat) (ad : Nat → Nat) (M : MS) (F : va_W) (k : Nat) (x : Int32) (h1 : k < 8) :
    Ct (S := Unit) l D dA B Z yX7_keep cX7_keep 4 none 1 0 0 [.ref h0, .int (nI k), .int x] (mw dA h0 ad M ++ F) (fun _ => True) (fun _ => none) (fun _ => mw dA h0 ad (sG M 22 (appG (mG M 22) (4 * k) (be 4 (uI x)))) ++ F) := by
  refine Ct.mk2 (by decide) (Nat.le_of_ble_eq_true rfl) hZ ?_
  intro p e R s m args below meth c ls Q C hr hlocks hin hQ hl h
  have C0 := C
  obtain ⟨hx, hb, hml, hown, hts, -⟩ := C0
  have hl : lv_has ls 4 [(0, .ref h0), (1, .int (nI k)), (2, .int x)] := hl
  refine lv_iconst (v := nI 0) hx hb dX7_keep_0 (by decide) ?_
  refine lv_istore_n (lv' := [(3, .int (nI 0)), (0, .ref h0), (1, .int (nI k)), (2, .int x)]) hx hb dX7_keep_1 rfl hl (by decide) rfl (fun ls hl => ?_)
  have h : Wd D B s (mw dA h0 ad (sG M 22 (appG (mG M 22) (4 * k) (sl (fun j => uI x / 2 ^ (8 * (4 - 1 - j)) % 256) 0 0))) ++ F) s.heap [] := by rw [sl_0, appG_nil, sG_id]; exact h
  have loop : ∀ (nn : Nat) (i : Nat), (i ≤ 4) → 4 - i < nn → ∀ (H : Heap) (locs : List Loc), Wd D B s (mw dA h0 ad (sG M 22 (appG (mG M 22) (4 * k) (sl (fun j => uI x / 2 ^ (8 * (4 - 1 - j)) % 256) 0 i))) ++ F) H locs → ∀ (ls : Array Slot), lv_has ls 4 [(3, .int (nI i)), (0, .ref h0), (1, .int (nI k)), (2, .int x)] → W p l e R s m args below meth c H locs 0 0 Q (F0 m 2 ls []) := by
    intro nn
    induction nn with
    | zero => intro i  hi0 hme; exact absurd hme (Nat.not_lt_zero _)
    | succ nn ih =>
      intro i  hi0 hme H locs h ls hl
      refine lv_iload_n hx hb dX7_keep_2 rfl (lv_at hl 0 rfl) ?_
      refine lv_iconst (v := nI 4) hx hb dX7_keep_3 (by decide) ?_
      refine n_icmp_ge (tgt := 36) hx hb (by omega) (by omega) dX7_keep_4 (by decide) (fun c4 => ?_) (fun c4 => ?_)
      · subst hQ
        obtain rfl : i = 4 := by omega
        exact ret_v C hr hlocks h () trivial rfl rfl (by omega) (by omega) dX7_keep_36
      · refine lv_aload_n hx hb dX7_keep_7 rfl (lv_at hl 1 rfl) ?_
        refine m_gc C h 22 (by decide) rfl rfl q1892 dX7_keep_8 ?_
        refine lv_iconst (v := nI 4) hx hb dX7_keep_11 (by decide) ?_
        refine lv_iload_n hx hb dX7_keep_12 rfl (lv_at hl 2 rfl) ?_
        refine lv_imul hx hb dX7_keep_13 (n_top (y := nI (4 * k)) (pk_mul 4 k) ?_)
        refine lv_iload_n hx hb dX7_keep_14 rfl (lv_at hl 0 rfl) ?_
        refine lv_iadd hx hb dX7_keep_15 (n_top (y := nI ((4 * k) + i)) (nI_add (4 * k) i) ?_)
        refine lv_iload_n hx hb dX7_keep_16 rfl (lv_at hl 3 rfl) ?_
        refine lv_bipush (v := nI 24) hx hb dX7_keep_17 (by decide) ?_
        refine lv_bipush (v := nI 8) hx hb dX7_keep_19 (by decide) ?_
        refine lv_iload_n hx hb dX7_keep_21 rfl (lv_at hl 0 rfl) ?_
        refine lv_imul hx hb dX7_keep_22 (n_top (y := nI (8 * i)) (pk_mul 8 i) ?_)
        refine lv_isub hx hb dX7_keep_23 (n_top (y := nI (24 - (8 * i))) (pk_sub (by omega)) ?_)
        refine n_iushr hx hb dX7_keep_24 ?_
        refine lv_sipush (v := nI 255) hx hb dX7_keep_25 (by decide) ?_
        refine lv_iand hx hb dX7_keep_28 ?_
        refine n_top (y := nI (uI x / 2 ^ (8 * (4 - 1 - i)) % 256)) (w4_byte x (by omega)) ?_
        refine m_iast C h 22 (v := uI x / 2 ^ (8 * (4 - 1 - i)) % 256) (by decide) (n := 32) rfl (by omega) dX7_keep_29 (fun H locs h => ?_)
        have h : Wd D B s (mw dA h0 ad (sG M 22 (appG (mG M 22) (4 * k) (sl (fun j => uI x / 2 ^ (8 * (4 - 1 - j)) % 256) 0 (i + 1)))) ++ F) H locs := by
          have e := appG_app (mG M 22) (4 * k) (sl (fun j => uI x / 2 ^ (8 * (4 - 1 - j)) % 256) 0 i) [uI x / 2 ^ (8 * (4 - 1 - i)) % 256]
          rw [sl_len, ← appG_one] at e
          rw [sl_succ, Nat.zero_add, ← e, ← sG_sG]; exact h
        refine lv_iinc (v := nI (i + 1)) (lv' := [(3, .int (nI (i + 1))), (0, .ref h0), (1, .int (nI k)), (2, .int x)]) hx hb dX7_keep_30 hl (k := 0) rfl (nI_add i 1) (by decide) rfl (fun ls hl => ?_)
        refine lv_goto (tgt := 2) hx hb dX7_keep_33 (by decide) ?_
        exact ih (i + 1) (by omega) (by omega) _ _ h _ (lv_sub hl [0, 1, 2, 3] rfl)
  exact loop _ 0 (by omega) (Nat.lt_succ_self _) _ _ h _ (lv_sub hl [0, 1, 2, 3] rfl)
