set_option maxRecDepth 100000

theorem gD_slx {g : Nat → Nat} {a n i : Nat} (h : i < n) : gD (sl g a n) i = g (a + i) := by
  unfold gD sl
  rw [List.getD_eq_getElem?_getD, List.getElem?_map, List.getElem?_range h]
  rfl

set_option maxHeartbeats 400000 in
set_option maxRecDepth 100000 in
theorem c16_init (l : Launch) (D : va_G) (dA : Nat → ClassId) (B : Nat) (Z : State → Prop) (hZ : Stab B Z) (F : va_W) (na ba : Nat)  :
    Ct (S := Nat) l D dA B Z yX16_init cX16_init 2 none 2 1 20 [.ref na, .ref ba] ([(na, .inr (13, [.null, .long 0, .null, .null, .null, .null]))] ++ F) (fun _ => True) (fun _ => none) (fun u => [(na, .inr (13, [.ref ba, .long 0, .null, .null, .ref u, .null])), (u, bar dA 20 (fun _ => 0))] ++ F) := by
  refine Ct.mk2 (by decide) (Nat.le_of_ble_eq_true rfl) hZ ?_
  intro p e R s m args below meth c ls Q C hr hlocks hin hQ hl h
  have C0 := C
  obtain ⟨hx, hb, hml, hown, hts, -⟩ := C0
  have hl : lv_has ls 2 [(0, .ref na), (1, .ref ba)] := hl
  refine lv_aload_n hx hb dX16_init_0 rfl (lv_at hl 0 rfl) ?_
  refine o_init C h q1146 hl.1 (by decide) (Nat.le_of_ble_eq_true rfl) dX16_init_1 ?_
  refine lv_aload_n hx hb dX16_init_4 rfl (lv_at hl 0 rfl) ?_
  refine lv_bipush (v := nI 20) hx hb dX16_init_5 (by decide) ?_
  refine n_newb C h (n := 20) q198 (by omega) (by omega) (by omega) dX16_init_7 (fun o1 H h => ?_)
  have h := Wd.toFront h
  have h : Wd D B s ([(o1, bar dA 20 (fun _ => 0)), (na, .inr (13, [.null, .long 0, .null, .null, .null, .null]))] ++ F) H [] := h
  refine o_putF C h 1 (RC := RX16) (T := TX16) (N := 6) (ws' := [(o1, bar dA 20 (fun _ => 0)), (na, .inr (13, [.null, .long 0, .null, .null, .ref o1, .null]))] ++ F) rfl rfl in_X16 tyX16_ok nmX16 4 (by decide) q1155 rfl rfl (hin rfl) rfl (v := .ref o1) rfl rfl (Nat.le_of_ble_eq_true rfl) rfl dX16_init_9 (fun H locs h => ?_)
  refine lv_aload_n hx hb dX16_init_12 rfl (lv_at hl 0 rfl) ?_
  refine lv_aload_n hx hb dX16_init_13 rfl (lv_at hl 1 rfl) ?_
  refine o_putF C h 1 (RC := RX16) (T := TX16) (N := 6) (ws' := [(o1, bar dA 20 (fun _ => 0)), (na, .inr (13, [.ref ba, .long 0, .null, .null, .ref o1, .null]))] ++ F) rfl rfl in_X16 tyX16_ok nmX16 0 (by decide) q1147 rfl rfl (hin rfl) rfl (v := .ref ba) rfl rfl (Nat.le_of_ble_eq_true rfl) rfl dX16_init_14 (fun H locs h => ?_)
  subst hQ
  have h : Wd D B s ([(na, .inr (13, [.ref ba, .long 0, .null, .null, .ref o1, .null])), (o1, bar dA 20 (fun _ => 0))] ++ F) H locs := h.perm [1, 0] rfl rfl
  exact ret_v C hr hlocks h o1 trivial rfl rfl (by omega) (by omega) dX16_init_17
set_option maxHeartbeats 400000 in
set_option maxRecDepth 100000 in
theorem c16_hasPrint (l : Launch) (D : va_G) (dA : Nat → ClassId) (B : Nat) (Z : State → Prop) (hZ : Stab B Z) (ws : va_W) (x : NBr) (b : Nat) (lb : List Nat) (hN : NumIn dA ws x) (hb9 : (b, bal dA lb) ∈ ws) (h1 : lb.length < 1000000) (hB : byt lb) :
    Ct (S := Unit) l D dA B Z yX16_hasPrint cX16_hasPrint 2 (some .boolean) 2 0 0 [.ref x.1, .ref b] (ws) (fun _ => True) (fun _ => some (.int (bZ (decide (sha1 (keyMsg x.2.1) = lb))))) (fun _ => ws) := by
  refine Ct.mk2 (by decide) (Nat.le_of_ble_eq_true rfl) hZ ?_
  intro p e R s m args below meth c ls Q C hr hlocks hin hQ hl h
  have C0 := C
  obtain ⟨hx, hb, hml, hown, hts, -⟩ := C0
  have hl : lv_has ls 2 [(0, .ref x.1), (1, .ref b)] := hl
  obtain ⟨⟨hkb, hkl, hko, hks⟩, ba, an, ae, ap, sa, hnm, hba, han, hae, hap, hsa⟩ := hN
  try dsimp only at hkb hkl hko hks hnm hba han hae hap hsa
  refine lv_aload_n hx hb dX16_hasPrint_0 rfl (lv_at hl 0 rfl) ?_
  refine o_get C h (RC := RX16) (T := TX16) (N := 6) (hnm) rfl in_X16 4 (by decide) q1155 rfl (v := .ref ap) rfl dX16_hasPrint_1 ?_
  refine lv_aload_n hx hb dX16_hasPrint_4 rfl (lv_at hl 1 rfl) ?_
  refine call_SN (As := [.ref ap, .ref b]) (rest := []) (n := 2) C h (c1_areAlike l D dA B Z hZ ws ap b _ lb hap hb9 (by rw [sha1_len]; decide) h1 (sha1_byt _) hB) (lw_meth q1262) q1260 q1261 q129 (by decide +kernel) (by decide) (by decide) rfl hl rfl (Nat.le_of_ble_eq_true rfl) dX16_hasPrint_5 (by omega) (fun _ H locs _ h => ?_)
  subst hQ
  exact ret_z C hr hlocks h () trivial rfl rfl (by omega) (by omega) dX16_hasPrint_8
set_option maxHeartbeats 400000 in
set_option maxRecDepth 100000 in
theorem c16_hasName (l : Launch) (D : va_G) (dA : Nat → ClassId) (B : Nat) (Z : State → Prop) (hZ : Stab B Z) (ws : va_W) (x : NBr) (b : Nat) (lb : List Nat) (hN : NumIn dA ws x) (hb9 : (b, bal dA lb) ∈ ws) (h1 : lb.length = 8) (hB : byt lb) :
    Ct (S := Unit) l D dA B Z yX16_hasName cX16_hasName 3 (some .boolean) 2 0 0 [.ref x.1, .ref b] (ws) (fun _ => True) (fun _ => some (.int (bZ (decide (sl (gD (sha1 (keyMsg x.2.1))) 12 8 = lb))))) (fun _ => ws) := by
  refine Ct.mk2 (by decide) (Nat.le_of_ble_eq_true rfl) hZ ?_
  intro p e R s m args below meth c ls Q C hr hlocks hin hQ hl h
  have C0 := C
  obtain ⟨hx, hb, hml, hown, hts, -⟩ := C0
  have hl : lv_has ls 3 [(0, .ref x.1), (1, .ref b)] := hl
  obtain ⟨⟨hkb, hkl, hko, hks⟩, ba, an, ae, ap, sa, hnm, hba, han, hae, hap, hsa⟩ := hN
  try dsimp only at hkb hkl hko hks hnm hba han hae hap hsa
  have hsl := sha1_len (keyMsg x.2.1)
  have hlb8 : sl (gD lb) 0 8 = lb := by rw [← h1]; exact sl_gD lb
  refine lv_iconst (v := nI 0) hx hb dX16_hasName_0 (by decide) ?_
  refine lv_istore_n (lv' := [(2, .int (nI 0)), (0, .ref x.1), (1, .ref b)]) hx hb dX16_hasName_1 rfl hl (by decide) rfl (fun ls hl => ?_)
  have loop : ∀ (nn : Nat) (i : Nat), (i ≤ 8) → (∀ j, j < i → gD (sha1 (keyMsg x.2.1)) (12 + j) = gD lb j) → 8 - i < nn → ∀ (H : Heap) (locs : List Loc), Wd D B s (ws) H locs → ∀ (ls : Array Slot), lv_has ls 3 [(0, .ref x.1), (1, .ref b), (2, .int (nI i))] → W p l e R s m args below meth c H locs 0 0 Q (F0 m 2 ls []) := by
    intro nn
    induction nn with
    | zero => intro i  hi0 hi1 hme; exact absurd hme (Nat.not_lt_zero _)
    | succ nn ih =>
      intro i  hi0 hi1 hme H locs h ls hl
      refine lv_iload_n hx hb dX16_hasName_2 rfl (lv_at hl 2 rfl) ?_
      refine lv_bipush (v := nI 8) hx hb dX16_hasName_3 (by decide) ?_
      refine n_icmp_ge (tgt := 31) hx hb (by omega) (by omega) dX16_hasName_5 (by decide) (fun c5 => ?_) (fun c5 => ?_)
      · refine lv_iconst (v := nI 1) hx hb dX16_hasName_31 (by decide) ?_
        subst hQ
        refine n_top (y := bZ true) rfl ?_
        exact ret_z C hr hlocks h () trivial (by rw [decide_eq_true (by rw [sl8 hi1 (by omega), hlb8])]) rfl (by omega) (by omega) dX16_hasName_32
      · refine lv_aload_n hx hb dX16_hasName_8 rfl (lv_at hl 0 rfl) ?_
        refine o_get C h (RC := RX16) (T := TX16) (N := 6) (hnm) rfl in_X16 4 (by decide) q1155 rfl (v := .ref ap) rfl dX16_hasName_9 ?_
        refine lv_bipush (v := nI 12) hx hb dX16_hasName_12 (by decide) ?_
        refine lv_iload_n hx hb dX16_hasName_14 rfl (lv_at hl 2 rfl) ?_
        refine lv_iadd hx hb dX16_hasName_15 (n_top (y := nI (12 + i)) (nI_add 12 i) ?_)
        refine n_bald C h (v := (gD (sha1 (keyMsg x.2.1))) (12 + i)) (hap) (show 12 + i < (sha1 (keyMsg x.2.1)).length by omega) (by omega) rfl dX16_hasName_16 ?_
        refine lv_aload_n hx hb dX16_hasName_17 rfl (lv_at hl 1 rfl) ?_
        refine lv_iload_n hx hb dX16_hasName_18 rfl (lv_at hl 2 rfl) ?_
        refine n_bald C h (v := (gD lb) i) (hb9) (show i < lb.length by omega) (by omega) rfl dX16_hasName_19 ?_
        refine lv_icmp_eq (tgt := 25) hx hb dX16_hasName_20 (by decide) (fun c20 => ?_) (fun c20 => ?_)
        · refine lv_iinc (v := nI (i + 1)) (lv' := [(2, .int (nI (i + 1))), (0, .ref x.1), (1, .ref b)]) hx hb dX16_hasName_25 hl (k := 2) rfl (nI_add i 1) (by decide) rfl (fun ls hl => ?_)
          refine lv_goto (tgt := 2) hx hb dX16_hasName_28 (by decide) ?_
          exact ih (i + 1) (by omega) (fun j hj => by
            by_cases q : j = i
            · rw [q]; exact sb_inj (byt_gD (sha1_byt _) _) (byt_gD hB _) c20
            · exact hi1 j (by omega)) (by omega) _ _ h _ (lv_sub hl [1, 2, 0] rfl)
        · refine lv_iconst (v := nI 0) hx hb dX16_hasName_23 (by decide) ?_
          subst hQ
          refine n_top (y := bZ false) rfl ?_
          exact ret_z C hr hlocks h () trivial (by rw [decide_eq_false (fun z => c20 (by
            have z2 : gD (sl (gD (sha1 (keyMsg x.2.1))) 12 8) i = gD lb i := by rw [z]
            rw [gD_slx (by omega)] at z2
            rw [z2]))]) rfl (by omega) (by omega) dX16_hasName_24
  exact loop _ 0 (by omega) (fun j hj => absurd hj (Nat.not_lt_zero _)) (Nat.lt_succ_self _) _ _ h _ (lv_sub hl [1, 2, 0] rfl)
set_option maxHeartbeats 400000 in
set_option maxRecDepth 100000 in
theorem c16_with (l : Launch) (D : va_G) (dA : Nat → ClassId) (B : Nat) (Z : State → Prop) (hZ : Stab B Z) (ws : va_W) (x : NBr) (b : Option Nat) (hN : NumIn dA ws x) (hc9 : x.2.2 ≠ none ∨ b = none) :
    Ct (S := Unit) l D dA B Z yX16_with cX16_with 3 (some ((.object "SignetRing$Numbers"))) 3 0 0 [.ref x.1, va_rf b] (ws) (fun _ => True) (fun _ => some (.ref x.1)) (fun _ => ws) := by
  refine Ct.mk2 (by decide) (by cases b <;> exact Nat.le_of_ble_eq_true rfl) hZ ?_
  intro p e R s m args below meth c ls Q C hr hlocks hin hQ hl h
  have C0 := C
  obtain ⟨hx, hb, hml, hown, hts, -⟩ := C0
  have hl : lv_has ls 3 [(0, .ref x.1), (1, va_rf b)] := hl
  obtain ⟨⟨hkb, hkl, hko, hks⟩, ba, an, ae, ap, sa, hnm, hba, han, hae, hap, hsa⟩ := hN
  try dsimp only at hkb hkl hko hks hnm hba han hae hap hsa
  have hsn : sa ≠ none ∨ b = none := by
    rcases hc9 with q | q
    · left
      cases hx2 : x.2.2 with
      | none => exact absurd hx2 q
      | some z => rw [hx2] at hsa; obtain ⟨q9, e9, _⟩ := hsa; rw [e9]; exact fun z => by cases z
    · exact Or.inr q
  refine lv_aload_n hx hb dX16_with_0 rfl (lv_at hl 0 rfl) ?_
  refine o_get C h (RC := RX16) (T := TX16) (N := 6) (hnm) rfl in_X16 5 (by decide) q1157 rfl (v := va_rf sa) rfl dX16_with_1 ?_
  refine q_ifnonnull (tgt := 11) hx hb dX16_with_4 (by decide) (fun a4 c4 => ?_) (fun c4 => ?_)
  · refine lv_aload_n hx hb dX16_with_11 rfl (lv_at hl 0 rfl) ?_
    subst hQ
    exact ret_a C hr (Or.inl ⟨_, rfl⟩) hlocks h () trivial (Or.inr ⟨_, rfl⟩) rfl rfl (by omega) (by omega) dX16_with_12
  · refine q_aload_n hx hb dX16_with_7 rfl (lv_at hl 1 rfl) ?_
    refine q_ifnonnull (tgt := 13) hx hb dX16_with_8 (by decide) (fun a8 c8 => by exfalso; exact hsn.elim (fun q => q c4) (fun q => by rw [q] at c8; cases c8)) (fun c8 => ?_)
    refine lv_aload_n hx hb dX16_with_11 rfl (lv_at hl 0 rfl) ?_
    subst hQ
    exact ret_a C hr (Or.inl ⟨_, rfl⟩) hlocks h () trivial (Or.inr ⟨_, rfl⟩) rfl rfl (by omega) (by omega) dX16_with_12
set_option maxHeartbeats 400000 in
set_option maxRecDepth 100000 in
theorem c16_withN (l : Launch) (D : va_G) (dA : Nat → ClassId) (B : Nat) (Z : State → Prop) (hZ : Stab B Z) (F : va_W) (x : NBr) (b : Nat) (lb : List Nat) (hN : NumIn dA F x) (hc9 : x.2.2 = none) (hb9 : (b, bal dA lb) ∈ F) (hB : byt lb) (hL : lb.length ≤ 4096) :
    Ct (S := Nat × va_W) l D dA B Z yX16_with cX16_with 3 (some ((.object "SignetRing$Numbers"))) 3 2 26 [.ref x.1, .ref b] (F) (fun u => NumIn dA u.2 (u.1, x.2.1, some lb) ∧ (∀ z ∈ F, z ∈ u.2)) (fun u => some (.ref u.1)) (fun u => u.2) := by
  refine Ct.mk2 (by decide) (Nat.le_of_ble_eq_true rfl) hZ ?_
  intro p e R s m args below meth c ls Q C hr hlocks hin hQ hl h
  have C0 := C
  obtain ⟨hx, hb, hml, hown, hts, -⟩ := C0
  have hl : lv_has ls 3 [(0, .ref x.1), (1, .ref b)] := hl
  obtain ⟨⟨hkb, hkl, hko, hks⟩, ba, an, ae, ap, sa, hnm, hba, han, hae, hap, hsa⟩ := hN
  try dsimp only at hkb hkl hko hks hnm hba han hae hap hsa
  have hsa : sa = none := by rw [hc9] at hsa; exact hsa
  have hsl := sha1_len (keyMsg x.2.1)
  refine lv_aload_n hx hb dX16_with_0 rfl (lv_at hl 0 rfl) ?_
  refine o_get C h (RC := RX16) (T := TX16) (N := 6) (hnm) rfl in_X16 5 (by decide) q1157 rfl (v := va_rf sa) rfl dX16_with_1 ?_
  refine q_ifnonnull (tgt := 11) hx hb dX16_with_4 (by decide) (fun a4 c4 => by exfalso; rw [hsa] at c4; cases c4) (fun c4 => ?_)
  refine lv_aload_n hx hb dX16_with_7 rfl (lv_at hl 1 rfl) ?_
  refine lv_ifnonnull (tgt := 13) hx hb dX16_with_8 (by decide) ?_
  refine o_new C h (RC := RX16) (T := TX16) (N := 6) (ci := 13) (fs := [.null, .long 0, .null, .null, .null, .null]) rfl in_X16 tyX16_ok q1267 q1141 q164 dv_X16 (by omega) (by omega) dX16_with_13 (fun o1 H h => ?_)
  have h := Wd.toFront h
  have h : Wd D B s ([(o1, .inr (13, [.null, .long 0, .null, .null, .null, .null]))] ++ F) H [] := h
  refine lv_dup hx hb dX16_with_16 rfl ?_
  refine lv_aload_n hx hb dX16_with_17 rfl (lv_at hl 0 rfl) ?_
  refine o_get C h (RC := RX16) (T := TX16) (N := 6) (List.mem_append_right _ hnm) rfl in_X16 0 (by decide) q1147 rfl (v := .ref ba) rfl dX16_with_18 ?_
  refine call_I (As := [.ref ba]) (rest := [.ref o1]) (n := 1) C h (c16_init l D dA B Z hZ F o1 ba) (lw_meth q1145) q164 q1268 q1144 rfl (by decide +kernel) (by decide) (by decide) rfl hl rfl (Nat.le_of_ble_eq_true rfl) dX16_with_21 (by omega) (fun u9 H locs _ h => ?_)
  have h : Wd D B s ([(o1, .inr (13, [.ref ba, .long 0, .null, .null, .ref u9, .null])), (u9, bar dA 20 (fun _ => 0))] ++ F) H locs := h
  refine lv_astore_n (lv' := [(2, .ref o1), (0, .ref x.1), (1, .ref b)]) hx hb dX16_with_24 rfl hl (by decide) rfl (fun ls hl => ?_)
  refine lv_aload_n hx hb dX16_with_25 rfl (lv_at hl 0 rfl) ?_
  refine lv_aload_n hx hb dX16_with_26 rfl (lv_at hl 1 rfl) ?_
  refine o_get C h (RC := RX16) (T := TX16) (N := 6) (List.mem_append_right _ hnm) rfl in_X16 1 (by decide) q1149 rfl (v := .long (lN (kMade x.2.1))) rfl dX16_with_27 ?_
  refine o_put C h 0 (RC := RX16) (T := TX16) (N := 6) (ws' := [(o1, .inr (13, [.ref ba, .long (lN (kMade x.2.1)), .null, .null, .ref u9, .null])), (u9, bar dA 20 (fun _ => 0))] ++ F) rfl rfl in_X16 tyX16_ok nmX16 1 (by decide) q1149 rfl rfl (v := .long (lN (kMade x.2.1))) rfl rfl (Nat.le_of_ble_eq_true rfl) rfl dX16_with_30 (fun H locs h => ?_)
  refine lv_aload_n hx hb dX16_with_33 rfl (lv_at hl 0 rfl) ?_
  refine lv_aload_n hx hb dX16_with_34 rfl (lv_at hl 1 rfl) ?_
  refine o_get C h (RC := RX16) (T := TX16) (N := 6) (List.mem_append_right _ hnm) rfl in_X16 2 (by decide) q1151 rfl (v := .ref an) rfl dX16_with_35 ?_
  refine o_put C h 0 (RC := RX16) (T := TX16) (N := 6) (ws' := [(o1, .inr (13, [.ref ba, .long (lN (kMade x.2.1)), .ref an, .null, .ref u9, .null])), (u9, bar dA 20 (fun _ => 0))] ++ F) rfl rfl in_X16 tyX16_ok nmX16 2 (by decide) q1151 rfl rfl (v := .ref an) rfl rfl (Nat.le_of_ble_eq_true rfl) rfl dX16_with_38 (fun H locs h => ?_)
  refine lv_aload_n hx hb dX16_with_41 rfl (lv_at hl 0 rfl) ?_
  refine lv_aload_n hx hb dX16_with_42 rfl (lv_at hl 1 rfl) ?_
  refine o_get C h (RC := RX16) (T := TX16) (N := 6) (List.mem_append_right _ hnm) rfl in_X16 3 (by decide) q1153 rfl (v := .ref ae) rfl dX16_with_43 ?_
  refine o_put C h 0 (RC := RX16) (T := TX16) (N := 6) (ws' := [(o1, .inr (13, [.ref ba, .long (lN (kMade x.2.1)), .ref an, .ref ae, .ref u9, .null])), (u9, bar dA 20 (fun _ => 0))] ++ F) rfl rfl in_X16 tyX16_ok nmX16 3 (by decide) q1153 rfl rfl (v := .ref ae) rfl rfl (Nat.le_of_ble_eq_true rfl) rfl dX16_with_46 (fun H locs h => ?_)
  refine lv_aload_n hx hb dX16_with_49 rfl (lv_at hl 1 rfl) ?_
  refine o_get C h (RC := RX16) (T := TX16) (N := 6) (List.mem_append_right _ hnm) rfl in_X16 4 (by decide) q1155 rfl (v := .ref ap) rfl dX16_with_50 ?_
  refine lv_iconst (v := nI 0) hx hb dX16_with_53 (by decide) ?_
  refine lv_aload_n hx hb dX16_with_54 rfl (lv_at hl 0 rfl) ?_
  refine o_get C h (RC := RX16) (T := TX16) (N := 6) (List.mem_of_getElem? (i := 0) rfl) rfl in_X16 4 (by decide) q1155 rfl (v := .ref u9) rfl dX16_with_55 ?_
  refine lv_iconst (v := nI 0) hx hb dX16_with_58 (by decide) ?_
  refine lv_bipush (v := nI 20) hx hb dX16_with_59 (by decide) ?_
  refine x_copyb C h 1 (n := 20) (dp := 0) (sp := 0) (ws' := [(o1, .inr (13, [.ref ba, .long (lN (kMade x.2.1)), .ref an, .ref ae, .ref u9, .null])), (u9, bar dA 20 (va_cpy (gD (sha1 (keyMsg x.2.1))) (fun _ => 0) 0 0 20))] ++ F) (List.mem_append_right _ hap) rfl q1269 q478 q477 q145 (by omega) (by omega) (by omega) (by omega) hl.1 (by decide) (Nat.le_of_ble_eq_true rfl) rfl dX16_with_61 (fun H locs h => ?_)
  refine lv_aload_n hx hb dX16_with_64 rfl (lv_at hl 0 rfl) ?_
  refine lv_aload_n hx hb dX16_with_65 rfl (lv_at hl 2 rfl) ?_
  refine o_put C h 0 (RC := RX16) (T := TX16) (N := 6) (ws' := [(o1, .inr (13, [.ref ba, .long (lN (kMade x.2.1)), .ref an, .ref ae, .ref u9, .ref b])), (u9, bar dA 20 (va_cpy (gD (sha1 (keyMsg x.2.1))) (fun _ => 0) 0 0 20))] ++ F) rfl rfl in_X16 tyX16_ok nmX16 5 (by decide) q1157 rfl rfl (v := .ref b) rfl rfl (Nat.le_of_ble_eq_true rfl) rfl dX16_with_66 (fun H locs h => ?_)
  refine lv_aload_n hx hb dX16_with_69 rfl (lv_at hl 0 rfl) ?_
  subst hQ
  have h : Wd D B s ([(o1, .inr (13, [.ref ba, .long (lN (kMade x.2.1)), .ref an, .ref ae, .ref u9, .ref b])), (u9, bar dA 20 (gD (sha1 (keyMsg x.2.1))))] ++ F) H locs := Wd.same h 1 rfl (bar_same (fun j hj => by
    show va_cpy (gD (sha1 (keyMsg x.2.1))) (fun _ => 0) 0 0 20 j = _
    exact cpy_lo (by omega))) rfl
  have e20 : bar dA 20 (gD (sha1 (keyMsg x.2.1))) = bal dA (sha1 (keyMsg x.2.1)) := by unfold bal; rw [hsl]
  rw [e20] at h
  have h : Wd D B s ([(o1, .inr (13, [.ref ba, .long (lN (kMade x.2.1)), .ref an, .ref ae, .ref u9, .ref b])), (u9, bal dA (sha1 (keyMsg x.2.1)))] ++ F) H locs := h
  exact ret_a C hr (Or.inl ⟨_, rfl⟩) hlocks h (o1, [(o1, .inr (13, [.ref ba, .long (lN (kMade x.2.1)), .ref an, .ref ae, .ref u9, .ref b])), (u9, bal dA (sha1 (keyMsg x.2.1)))] ++ F) (⟨⟨⟨hkb, hkl, hko, fun z hz => (Option.some.inj hz) ▸ ⟨hB, hL⟩⟩, ba, an, ae, u9, some b, List.mem_of_getElem? (i := 0) rfl, List.mem_append_right _ hba, List.mem_append_right _ han, List.mem_append_right _ hae, List.mem_of_getElem? (i := 1) rfl, b, rfl, List.mem_append_right _ hb9⟩, fun z hz => List.mem_append_right _ hz⟩) (Or.inr ⟨_, rfl⟩) rfl rfl (by omega) (by omega) dX16_with_70
