set_option maxRecDepth 100000
set_option maxHeartbeats 400000 in
set_option maxRecDepth 100000 in
theorem c7_isKeyKind (l : Launch) (D : va_G) (dA : Nat → ClassId) (B : Nat) (Z : State → Prop) (hZ : Stab B Z) (ws : va_W) (x : Nat) (h1 : x < 1000) :
    Ct (S := Unit) l D dA B Z yX7_isKeyKind cX7_isKeyKind 1 (some .boolean) 1 0 0 [.int (nI x)] (ws) (fun _ => True) (fun _ => some (.int (bZ (decide (x = 5 ∨ x = 6))))) (fun _ => ws) := by
  refine Ct.mk2 (by decide) (Nat.le_of_ble_eq_true rfl) hZ ?_
  intro p e R s m args below meth c ls Q C hr hlocks hin hQ hl h
  have C0 := C
  obtain ⟨hx, hb, hml, hown, hts, -⟩ := C0
  have hl : lv_has ls 1 [(0, .int (nI x))] := hl
  refine lv_iload_n hx hb dX7_isKeyKind_0 rfl (lv_at hl 0 rfl) ?_
  refine lv_iconst (v := nI 5) hx hb dX7_isKeyKind_1 (by decide) ?_
  refine n_icmp_eq (tgt := 11) hx hb (by omega) (by omega) dX7_isKeyKind_2 (by decide) (fun c2 => ?_) (fun c2 => ?_)
  · refine lv_iconst (v := nI 1) hx hb dX7_isKeyKind_11 (by decide) ?_
    refine lv_goto (tgt := 16) hx hb dX7_isKeyKind_12 (by decide) ?_
    subst hQ
    have key : decide (x = 5 ∨ x = 6) = true := by first | exact decide_eq_true (by omega) | exact decide_eq_false (by omega)
    refine n_top (y := bZ true) rfl ?_
    exact ret_z C hr hlocks h () trivial (by rw [key]) rfl (by omega) (by omega) dX7_isKeyKind_16
  · refine lv_iload_n hx hb dX7_isKeyKind_5 rfl (lv_at hl 0 rfl) ?_
    refine lv_bipush (v := nI 6) hx hb dX7_isKeyKind_6 (by decide) ?_
    refine n_icmp_ne (tgt := 15) hx hb (by omega) (by omega) dX7_isKeyKind_8 (by decide) (fun c8 => ?_) (fun c8 => ?_)
    · refine lv_iconst (v := nI 0) hx hb dX7_isKeyKind_15 (by decide) ?_
      subst hQ
      have key : decide (x = 5 ∨ x = 6) = false := by first | exact decide_eq_true (by omega) | exact decide_eq_false (by omega)
      refine n_top (y := bZ false) rfl ?_
      exact ret_z C hr hlocks h () trivial (by rw [key]) rfl (by omega) (by omega) dX7_isKeyKind_16
    · refine lv_iconst (v := nI 1) hx hb dX7_isKeyKind_11 (by decide) ?_
      refine lv_goto (tgt := 16) hx hb dX7_isKeyKind_12 (by decide) ?_
      subst hQ
      have key : decide (x = 5 ∨ x = 6) = true := by first | exact decide_eq_true (by omega) | exact decide_eq_false (by omega)
      refine n_top (y := bZ true) rfl ?_
      exact ret_z C hr hlocks h () trivial (by rw [key]) rfl (by omega) (by omega) dX7_isKeyKind_16
set_option maxHeartbeats 400000 in
set_option maxRecDepth 100000 in
theorem c7_isPartKind (l : Launch) (D : va_G) (dA : Nat → ClassId) (B : Nat) (Z : State → Prop) (hZ : Stab B Z) (ws : va_W) (x : Nat) (h1 : x < 1000) :
    Ct (S := Unit) l D dA B Z yX7_isPartKind cX7_isPartKind 1 (some .boolean) 1 0 0 [.int (nI x)] (ws) (fun _ => True) (fun _ => some (.int (bZ (decide (x = 7 ∨ x = 14))))) (fun _ => ws) := by
  refine Ct.mk2 (by decide) (Nat.le_of_ble_eq_true rfl) hZ ?_
  intro p e R s m args below meth c ls Q C hr hlocks hin hQ hl h
  have C0 := C
  obtain ⟨hx, hb, hml, hown, hts, -⟩ := C0
  have hl : lv_has ls 1 [(0, .int (nI x))] := hl
  refine lv_iload_n hx hb dX7_isPartKind_0 rfl (lv_at hl 0 rfl) ?_
  refine lv_bipush (v := nI 7) hx hb dX7_isPartKind_1 (by decide) ?_
  refine n_icmp_eq (tgt := 12) hx hb (by omega) (by omega) dX7_isPartKind_3 (by decide) (fun c3 => ?_) (fun c3 => ?_)
  · refine lv_iconst (v := nI 1) hx hb dX7_isPartKind_12 (by decide) ?_
    refine lv_goto (tgt := 17) hx hb dX7_isPartKind_13 (by decide) ?_
    subst hQ
    have key : decide (x = 7 ∨ x = 14) = true := by first | exact decide_eq_true (by omega) | exact decide_eq_false (by omega)
    refine n_top (y := bZ true) rfl ?_
    exact ret_z C hr hlocks h () trivial (by rw [key]) rfl (by omega) (by omega) dX7_isPartKind_17
  · refine lv_iload_n hx hb dX7_isPartKind_6 rfl (lv_at hl 0 rfl) ?_
    refine lv_bipush (v := nI 14) hx hb dX7_isPartKind_7 (by decide) ?_
    refine n_icmp_ne (tgt := 16) hx hb (by omega) (by omega) dX7_isPartKind_9 (by decide) (fun c9 => ?_) (fun c9 => ?_)
    · refine lv_iconst (v := nI 0) hx hb dX7_isPartKind_16 (by decide) ?_
      subst hQ
      have key : decide (x = 7 ∨ x = 14) = false := by first | exact decide_eq_true (by omega) | exact decide_eq_false (by omega)
      refine n_top (y := bZ false) rfl ?_
      exact ret_z C hr hlocks h () trivial (by rw [key]) rfl (by omega) (by omega) dX7_isPartKind_17
    · refine lv_iconst (v := nI 1) hx hb dX7_isPartKind_12 (by decide) ?_
      refine lv_goto (tgt := 17) hx hb dX7_isPartKind_13 (by decide) ?_
      subst hQ
      have key : decide (x = 7 ∨ x = 14) = true := by first | exact decide_eq_true (by omega) | exact decide_eq_false (by omega)
      refine n_top (y := bZ true) rfl ?_
      exact ret_z C hr hlocks h () trivial (by rw [key]) rfl (by omega) (by omega) dX7_isPartKind_17
set_option maxHeartbeats 400000 in
set_option maxRecDepth 100000 in
theorem c7_endOf (l : Launch) (D : va_G) (dA : Nat → ClassId) (B : Nat) (Z : State → Prop) (hZ : Stab B Z) (h0 : Nat) (ad : Nat → Nat) (M : MS) (F : va_W) (L : List PK) (q : Nat) (hR : NewR dA F ad M L) (hPK : PKs L) (hLl : L.length ≤ 4650) (hq : q < L.length) :
    Ct (S := Unit) l D dA B Z yX7_endOf cX7_endOf 3 (some .int) 1 0 0 [.ref h0, .int (nI q)] (mw dA h0 ad M ++ F) (fun _ => True) (fun _ => some (.int (nI (sk (notK 6) L (q + 1))))) (fun _ => mw dA h0 ad M ++ F) := by
  refine Ct.mk2 (by decide) (Nat.le_of_ble_eq_true rfl) hZ ?_
  intro p e R s m args below meth c ls Q C hr hlocks hin hQ hl h
  have C0 := C
  obtain ⟨hx, hb, hml, hown, hts, -⟩ := C0
  have hl : lv_has ls 3 [(0, .ref h0), (1, .int (nI q))] := hl
  refine lv_iload_n hx hb dX7_endOf_0 rfl (lv_at hl 1 rfl) ?_
  refine lv_iconst (v := nI 1) hx hb dX7_endOf_1 (by decide) ?_
  refine lv_iadd hx hb dX7_endOf_2 (n_top (y := nI (q + 1)) (nI_add q 1) ?_)
  refine lv_istore_n (lv' := [(2, .int (nI (q + 1))), (0, .ref h0), (1, .int (nI q))]) hx hb dX7_endOf_3 rfl hl (by decide) rfl (fun ls hl => ?_)
  have loop : ∀ (nn : Nat) (i : Nat), (sk (notK 6) L (q + 1) = sk (notK 6) L i) → (i ≤ L.length) → L.length - i < nn → ∀ (H : Heap) (locs : List Loc), Wd D B s (mw dA h0 ad M ++ F) H locs → ∀ (ls : Array Slot), lv_has ls 3 [(0, .ref h0), (2, .int (nI i))] → W p l e R s m args below meth c H locs 0 0 Q (F0 m 4 ls []) := by
    intro nn
    induction nn with
    | zero => intro i  hi0 hi1 hme; exact absurd hme (Nat.not_lt_zero _)
    | succ nn ih =>
      intro i  hi0 hi1 hme H locs h ls hl
      refine lv_iload_n hx hb dX7_endOf_4 rfl (lv_at hl 1 rfl) ?_
      refine lv_aload_n hx hb dX7_endOf_5 rfl (lv_at hl 0 rfl) ?_
      refine m_gi C h 16 (by decide) rfl rfl q1886 (v := nI L.length) hR.2.1 dX7_endOf_6 ?_
      refine n_icmp_ge (tgt := 29) hx hb (by omega) (by omega) dX7_endOf_9 (by decide) (fun c9 => ?_) (fun c9 => ?_)
      · refine lv_iload_n hx hb dX7_endOf_29 rfl (lv_at hl 1 rfl) ?_
        subst hQ
        exact ret_i C hr hlocks h () trivial (by first | (rw [hi0, sk_end (by omega)]; done) | (rw [hi0, sk_stop hx9 (by simp [notK, isK]; omega)]; done)) rfl (by omega) (by omega) dX7_endOf_30
      · obtain ⟨x9, hx9⟩ : ∃ z, L[i]? = some z := ⟨_, List.getElem?_eq_getElem (by omega)⟩
        obtain ⟨hx9k, hx9b, hx9s⟩ := hR.1 _ _ hx9
        have hx9o := hPK.at hx9
        have hx91 := hx9o.1
        refine lv_aload_n hx hb dX7_endOf_12 rfl (lv_at hl 0 rfl) ?_
        refine m_gr C h 17 (by decide) rfl rfl q1887 (v := some (ad 17)) hR.2.2.1 dX7_endOf_13 ?_
        refine lv_iload_n hx hb dX7_endOf_16 rfl (lv_at hl 1 rfl) ?_
        refine n_iald C h (v := (mG M 17) i) (mw_memG (k := 17) (by decide)) (show i < 4700 by omega) (by decide) rfl dX7_endOf_17 ?_
        refine n_top (y := nI x9.1) (congrArg nI hx9k) ?_
        refine lv_bipush (v := nI 6) hx hb dX7_endOf_18 (by decide) ?_
        refine n_icmp_eq (tgt := 29) hx hb (by omega) (by omega) dX7_endOf_20 (by decide) (fun c20 => ?_) (fun c20 => ?_)
        · refine lv_iload_n hx hb dX7_endOf_29 rfl (lv_at hl 1 rfl) ?_
          subst hQ
          exact ret_i C hr hlocks h () trivial (by first | (rw [hi0, sk_end (by omega)]; done) | (rw [hi0, sk_stop hx9 (by simp [notK, isK]; omega)]; done)) rfl (by omega) (by omega) dX7_endOf_30
        · refine lv_iinc (v := nI (i + 1)) (lv' := [(2, .int (nI (i + 1))), (0, .ref h0)]) hx hb dX7_endOf_23 hl (k := 1) rfl (nI_add i 1) (by decide) rfl (fun ls hl => ?_)
          refine lv_goto (tgt := 4) hx hb dX7_endOf_26 (by decide) ?_
          exact ih (i + 1) (by rw [hi0, sk_go hx9 (by simp [notK]; omega )]) (by omega) (by omega) _ _ h _ (lv_sub hl [1, 0] rfl)
  exact loop _ (q + 1) rfl (by omega) (Nat.lt_succ_self _) _ _ h _ (lv_sub hl [1, 0] rfl)
set_option maxHeartbeats 400000 in
set_option maxRecDepth 100000 in
theorem c7_behindSeals (l : Launch) (D : va_G) (dA : Nat → ClassId) (B : Nat) (Z : State → Prop) (hZ : Stab B Z) (h0 : Nat) (ad : Nat → Nat) (M : MS) (F : va_W) (L : List PK) (q : Nat) (hR : NewR dA F ad M L) (hPK : PKs L) (hLl : L.length ≤ 4650) (hq : q < L.length) :
    Ct (S := Unit) l D dA B Z yX7_behindSeals cX7_behindSeals 3 (some .int) 1 0 0 [.ref h0, .int (nI q)] (mw dA h0 ad M ++ F) (fun _ => True) (fun _ => some (.int (nI (sk (isK 2) L (q + 1))))) (fun _ => mw dA h0 ad M ++ F) := by
  refine Ct.mk2 (by decide) (Nat.le_of_ble_eq_true rfl) hZ ?_
  intro p e R s m args below meth c ls Q C hr hlocks hin hQ hl h
  have C0 := C
  obtain ⟨hx, hb, hml, hown, hts, -⟩ := C0
  have hl : lv_has ls 3 [(0, .ref h0), (1, .int (nI q))] := hl
  refine lv_iload_n hx hb dX7_behindSeals_0 rfl (lv_at hl 1 rfl) ?_
  refine lv_iconst (v := nI 1) hx hb dX7_behindSeals_1 (by decide) ?_
  refine lv_iadd hx hb dX7_behindSeals_2 (n_top (y := nI (q + 1)) (nI_add q 1) ?_)
  refine lv_istore_n (lv' := [(2, .int (nI (q + 1))), (0, .ref h0), (1, .int (nI q))]) hx hb dX7_behindSeals_3 rfl hl (by decide) rfl (fun ls hl => ?_)
  have loop : ∀ (nn : Nat) (i : Nat), (sk (isK 2) L (q + 1) = sk (isK 2) L i) → (i ≤ L.length) → L.length - i < nn → ∀ (H : Heap) (locs : List Loc), Wd D B s (mw dA h0 ad M ++ F) H locs → ∀ (ls : Array Slot), lv_has ls 3 [(0, .ref h0), (2, .int (nI i))] → W p l e R s m args below meth c H locs 0 0 Q (F0 m 4 ls []) := by
    intro nn
    induction nn with
    | zero => intro i  hi0 hi1 hme; exact absurd hme (Nat.not_lt_zero _)
    | succ nn ih =>
      intro i  hi0 hi1 hme H locs h ls hl
      refine lv_iload_n hx hb dX7_behindSeals_4 rfl (lv_at hl 1 rfl) ?_
      refine lv_aload_n hx hb dX7_behindSeals_5 rfl (lv_at hl 0 rfl) ?_
      refine m_gi C h 16 (by decide) rfl rfl q1886 (v := nI L.length) hR.2.1 dX7_behindSeals_6 ?_
      refine n_icmp_ge (tgt := 28) hx hb (by omega) (by omega) dX7_behindSeals_9 (by decide) (fun c9 => ?_) (fun c9 => ?_)
      · refine lv_iload_n hx hb dX7_behindSeals_28 rfl (lv_at hl 1 rfl) ?_
        subst hQ
        exact ret_i C hr hlocks h () trivial (by first | (rw [hi0, sk_end (by omega)]; done) | (rw [hi0, sk_stop hx9 (by simp [notK, isK]; omega)]; done)) rfl (by omega) (by omega) dX7_behindSeals_29
      · obtain ⟨x9, hx9⟩ : ∃ z, L[i]? = some z := ⟨_, List.getElem?_eq_getElem (by omega)⟩
        obtain ⟨hx9k, hx9b, hx9s⟩ := hR.1 _ _ hx9
        have hx9o := hPK.at hx9
        have hx91 := hx9o.1
        refine lv_aload_n hx hb dX7_behindSeals_12 rfl (lv_at hl 0 rfl) ?_
        refine m_gr C h 17 (by decide) rfl rfl q1887 (v := some (ad 17)) hR.2.2.1 dX7_behindSeals_13 ?_
        refine lv_iload_n hx hb dX7_behindSeals_16 rfl (lv_at hl 1 rfl) ?_
        refine n_iald C h (v := (mG M 17) i) (mw_memG (k := 17) (by decide)) (show i < 4700 by omega) (by decide) rfl dX7_behindSeals_17 ?_
        refine n_top (y := nI x9.1) (congrArg nI hx9k) ?_
        refine lv_iconst (v := nI 2) hx hb dX7_behindSeals_18 (by decide) ?_
        refine n_icmp_ne (tgt := 28) hx hb (by omega) (by omega) dX7_behindSeals_19 (by decide) (fun c19 => ?_) (fun c19 => ?_)
        · refine lv_iload_n hx hb dX7_behindSeals_28 rfl (lv_at hl 1 rfl) ?_
          subst hQ
          exact ret_i C hr hlocks h () trivial (by first | (rw [hi0, sk_end (by omega)]; done) | (rw [hi0, sk_stop hx9 (by simp [notK, isK]; omega)]; done)) rfl (by omega) (by omega) dX7_behindSeals_29
        · refine lv_iinc (v := nI (i + 1)) (lv' := [(2, .int (nI (i + 1))), (0, .ref h0)]) hx hb dX7_behindSeals_22 hl (k := 1) rfl (nI_add i 1) (by decide) rfl (fun ls hl => ?_)
          refine lv_goto (tgt := 4) hx hb dX7_behindSeals_25 (by decide) ?_
          exact ih (i + 1) (by rw [hi0, sk_go hx9 (by simp [isK]; omega )]) (by omega) (by omega) _ _ h _ (lv_sub hl [1, 0] rfl)
  exact loop _ (q + 1) rfl (by omega) (Nat.lt_succ_self _) _ _ h _ (lv_sub hl [1, 0] rfl)
set_option maxHeartbeats 400000 in
set_option maxRecDepth 100000 in
theorem c7_usersEnd (l : Launch) (D : va_G) (dA : Nat → ClassId) (B : Nat) (Z : State → Prop) (hZ : Stab B Z) (h0 : Nat) (ad : Nat → Nat) (M : MS) (F : va_W) (L : List PK) (q : Nat) (hR : NewR dA F ad M L) (hPK : PKs L) (hLl : L.length ≤ 4650) (hq : q < L.length) :
    Ct (S := Unit) l D dA B Z yX7_usersEnd cX7_usersEnd 4 (some .int) 2 0 0 [.ref h0, .int (nI q)] (mw dA h0 ad M ++ F) (fun _ => True) (fun _ => some (.int (nI (sk (fun x => notK 6 x && notK 14 x) L (q + 1))))) (fun _ => mw dA h0 ad M ++ F) := by
  refine Ct.mk2 (by decide) (Nat.le_of_ble_eq_true rfl) hZ ?_
  intro p e R s m args below meth c ls Q C hr hlocks hin hQ hl h
  have C0 := C
  obtain ⟨hx, hb, hml, hown, hts, -⟩ := C0
  have hl : lv_has ls 4 [(0, .ref h0), (1, .int (nI q))] := hl
  refine lv_aload_n hx hb dX7_usersEnd_0 rfl (lv_at hl 0 rfl) ?_
  refine lv_iload_n hx hb dX7_usersEnd_1 rfl (lv_at hl 1 rfl) ?_
  refine call_V (As := [.int (nI q)]) (rest := []) (n := 1) C h (c7_endOf l D dA B Z hZ h0 ad M F L q hR hPK hLl hq) (lw_V q2321 q2323 qs78 q138 q2324) (by decide +kernel) (ci := 5) rfl rfl mw_mem0 (by decide) (by decide) rfl hl rfl (Nat.le_of_ble_eq_true rfl) dX7_usersEnd_2 (by omega) (fun _ H locs _ h => ?_)
  refine lv_istore_n (lv' := [(2, .int (nI (sk (notK 6) L (q + 1)))), (0, .ref h0), (1, .int (nI q))]) hx hb dX7_usersEnd_5 rfl hl (by decide) rfl (fun ls hl => ?_)
  refine lv_iload_n hx hb dX7_usersEnd_6 rfl (lv_at hl 2 rfl) ?_
  refine lv_iconst (v := nI 1) hx hb dX7_usersEnd_7 (by decide) ?_
  refine lv_iadd hx hb dX7_usersEnd_8 (n_top (y := nI (q + 1)) (nI_add q 1) ?_)
  refine lv_istore_n (lv' := [(3, .int (nI (q + 1))), (2, .int (nI (sk (notK 6) L (q + 1)))), (0, .ref h0), (1, .int (nI q))]) hx hb dX7_usersEnd_9 rfl hl (by decide) rfl (fun ls hl => ?_)
  have hsl := sk_le (P := notK 6) (L := L) (q := q + 1) (by omega)
  obtain ⟨en, hen⟩ : ∃ z, z = sk (notK 6) L (q + 1) := ⟨_, rfl⟩
  rw [← hen] at hl hsl
  have loop : ∀ (nn : Nat) (i : Nat), (sk (fun x => notK 6 x && notK 14 x) L (q + 1) = sk (fun x => notK 6 x && notK 14 x) L i) → (i ≤ en) → (en = sk (notK 6) L i) → L.length - i < nn → ∀ (H : Heap) (locs : List Loc), Wd D B s (mw dA h0 ad M ++ F) H locs → ∀ (ls : Array Slot), lv_has ls 4 [(0, .ref h0), (2, .int (nI en)), (3, .int (nI i))] → W p l e R s m args below meth c H locs (0 + 0) (0 + 0) Q (F0 m 10 ls []) := by
    intro nn
    induction nn with
    | zero => intro i  hi0 hi1 hi2 hme; exact absurd hme (Nat.not_lt_zero _)
    | succ nn ih =>
      intro i  hi0 hi1 hi2 hme H locs h ls hl
      refine lv_iload_n hx hb dX7_usersEnd_10 rfl (lv_at hl 2 rfl) ?_
      refine lv_iload_n hx hb dX7_usersEnd_11 rfl (lv_at hl 1 rfl) ?_
      refine n_icmp_ge (tgt := 32) hx hb (by omega) (by omega) dX7_usersEnd_12 (by decide) (fun c12 => ?_) (fun c12 => ?_)
      · refine lv_iload_n hx hb dX7_usersEnd_32 rfl (lv_at hl 2 rfl) ?_
        subst hQ
        have hfin : sk (fun x => notK 6 x && notK 14 x) L i = i := by
          first
          | (rw [sk_stop hx9 (by rw [hx96]; simp [notK]; omega)]; done)
          | (have hie : i = en := by omega
             by_cases z : L.length ≤ i
             · exact sk_end z
             · obtain ⟨x8, hx8⟩ : ∃ z, L[i]? = some z := ⟨_, List.getElem?_eq_getElem (by omega)⟩
               have z6 : notK 6 x8 = false := by
                 cases q9 : notK 6 x8 with
                 | false => rfl
                 | true =>
                   have := sk_go hx8 q9
                   have h9 := sk_le (P := notK 6) (L := L) (q := i + 1) (by omega)
                   omega
               exact sk_stop hx8 (by rw [z6]; rfl))
        exact ret_i C hr hlocks h () trivial (by rw [hi0, hfin]) rfl (by omega) (by omega) dX7_usersEnd_33
      · obtain ⟨x9, hx9⟩ : ∃ z, L[i]? = some z := ⟨_, List.getElem?_eq_getElem (by omega)⟩
        obtain ⟨hx9k, hx9b, hx9s⟩ := hR.1 _ _ hx9
        have hx9o := hPK.at hx9
        have hx91 := hx9o.1
        have hx96 : notK 6 x9 = true := by
          cases q9 : notK 6 x9 with
          | true => rfl
          | false => rw [hi2, sk_stop hx9 q9] at c12; omega
        refine lv_aload_n hx hb dX7_usersEnd_15 rfl (lv_at hl 0 rfl) ?_
        refine m_gr C h 17 (by decide) rfl rfl q1887 (v := some (ad 17)) hR.2.2.1 dX7_usersEnd_16 ?_
        refine lv_iload_n hx hb dX7_usersEnd_19 rfl (lv_at hl 2 rfl) ?_
        refine n_iald C h (v := (mG M 17) i) (mw_memG (k := 17) (by decide)) (show i < 4700 by omega) (by decide) rfl dX7_usersEnd_20 ?_
        refine n_top (y := nI x9.1) (congrArg nI hx9k) ?_
        refine lv_bipush (v := nI 14) hx hb dX7_usersEnd_21 (by decide) ?_
        refine n_icmp_eq (tgt := 32) hx hb (by omega) (by omega) dX7_usersEnd_23 (by decide) (fun c23 => ?_) (fun c23 => ?_)
        · refine lv_iload_n hx hb dX7_usersEnd_32 rfl (lv_at hl 2 rfl) ?_
          subst hQ
          have hfin : sk (fun x => notK 6 x && notK 14 x) L i = i := by
            first
            | (rw [sk_stop hx9 (by rw [hx96]; simp [notK]; omega)]; done)
            | (have hie : i = en := by omega
               by_cases z : L.length ≤ i
               · exact sk_end z
               · obtain ⟨x8, hx8⟩ : ∃ z, L[i]? = some z := ⟨_, List.getElem?_eq_getElem (by omega)⟩
                 have z6 : notK 6 x8 = false := by
                   cases q9 : notK 6 x8 with
                   | false => rfl
                   | true =>
                     have := sk_go hx8 q9
                     have h9 := sk_le (P := notK 6) (L := L) (q := i + 1) (by omega)
                     omega
                 exact sk_stop hx8 (by rw [z6]; rfl))
          exact ret_i C hr hlocks h () trivial (by rw [hi0, hfin]) rfl (by omega) (by omega) dX7_usersEnd_33
        · refine lv_iinc (v := nI (i + 1)) (lv' := [(3, .int (nI (i + 1))), (0, .ref h0), (2, .int (nI en))]) hx hb dX7_usersEnd_26 hl (k := 2) rfl (nI_add i 1) (by decide) rfl (fun ls hl => ?_)
          refine lv_goto (tgt := 10) hx hb dX7_usersEnd_29 (by decide) ?_
          exact ih (i + 1) (by rw [hi0, sk_go hx9 (by rw [hx96]; simp [notK]; omega)]) (by omega) (by rw [hi2, sk_go hx9 hx96]) (by omega) _ _ h _ (lv_sub hl [1, 2, 0] rfl)
  exact loop _ (q + 1) rfl (by omega) hen (Nat.lt_succ_self _) _ _ h _ (lv_sub hl [2, 1, 0] rfl)
set_option maxHeartbeats 400000 in
set_option maxRecDepth 100000 in
theorem c7_countOf (l : Launch) (D : va_G) (dA : Nat → ClassId) (B : Nat) (Z : State → Prop) (hZ : Stab B Z) (h0 : Nat) (ad : Nat → Nat) (M : MS) (F : va_W) (L : List PK) (a b k : Nat) (hR : NewR dA F ad M L) (hPK : PKs L) (hLl : L.length ≤ 4650) (ha : a ≤ b) (hb9 : b ≤ L.length) (hk : k < 100) :
    Ct (S := Unit) l D dA B Z yX7_countOf cX7_countOf 6 (some .int) 1 0 0 [.ref h0, .int (nI a), .int (nI b), .int (nI k)] (mw dA h0 ad M ++ F) (fun _ => True) (fun _ => some (.int (nI (cntF L k (b - a) a)))) (fun _ => mw dA h0 ad M ++ F) := by
  refine Ct.mk2 (by decide) (Nat.le_of_ble_eq_true rfl) hZ ?_
  intro p e R s m args below meth c ls Q C hr hlocks hin hQ hl h
  have C0 := C
  obtain ⟨hx, hb, hml, hown, hts, -⟩ := C0
  have hl : lv_has ls 6 [(0, .ref h0), (1, .int (nI a)), (2, .int (nI b)), (3, .int (nI k))] := hl
  refine lv_iconst (v := nI 0) hx hb dX7_countOf_0 (by decide) ?_
  refine lv_istore (lv' := [(4, .int (nI 0)), (0, .ref h0), (1, .int (nI a)), (2, .int (nI b)), (3, .int (nI k))]) hx hb dX7_countOf_1 hl (by decide) rfl (fun ls hl => ?_)
  refine lv_iload_n hx hb dX7_countOf_3 rfl (lv_at hl 2 rfl) ?_
  refine lv_istore (lv' := [(5, .int (nI a)), (4, .int (nI 0)), (0, .ref h0), (1, .int (nI a)), (2, .int (nI b)), (3, .int (nI k))]) hx hb dX7_countOf_4 hl (by decide) rfl (fun ls hl => ?_)
  have hl : lv_has ls 6 [(5, .int (nI (a + 0))), (4, .int (nI (cntF L k 0 a))), (0, .ref h0), (1, .int (nI a)), (2, .int (nI b)), (3, .int (nI k))] := hl
  have loop : ∀ (nn : Nat) (i : Nat), (i ≤ b - a) → b - a - i < nn → ∀ (H : Heap) (locs : List Loc), Wd D B s (mw dA h0 ad M ++ F) H locs → ∀ (ls : Array Slot), lv_has ls 6 [(0, .ref h0), (2, .int (nI b)), (3, .int (nI k)), (4, .int (nI (cntF L k i a))), (5, .int (nI (a + i)))] → W p l e R s m args below meth c H locs 0 0 Q (F0 m 6 ls []) := by
    intro nn
    induction nn with
    | zero => intro i  hi0 hme; exact absurd hme (Nat.not_lt_zero _)
    | succ nn ih =>
      intro i  hi0 hme H locs h ls hl
      refine lv_iload hx hb dX7_countOf_6 (lv_at hl 4 rfl) ?_
      refine lv_iload_n hx hb dX7_countOf_8 rfl (lv_at hl 1 rfl) ?_
      refine n_icmp_ge (tgt := 40) hx hb (by omega) (by omega) dX7_countOf_9 (by decide) (fun c9 => ?_) (fun c9 => ?_)
      · refine lv_iload hx hb dX7_countOf_40 (lv_at hl 3 rfl) ?_
        subst hQ
        have hie : b - a = i := by omega
        exact ret_i C hr hlocks h () trivial (by rw [hie]) rfl (by omega) (by omega) dX7_countOf_42
      · obtain ⟨x9, hx9⟩ : ∃ z, L[a + i]? = some z := ⟨_, List.getElem?_eq_getElem (by omega)⟩
        obtain ⟨hx9k, hx9b, hx9s⟩ := hR.1 _ _ hx9
        have hx9o := hPK.at hx9
        have hx91 := hx9o.1
        have hcl := cntF_le L k i a
        have jc : ∀ (H : Heap) (locs : List Loc), Wd D B s (mw dA h0 ad M ++ F) H locs → ∀ (ls : Array Slot), lv_has ls 6 [(0, .ref h0), (2, .int (nI b)), (3, .int (nI k)), (4, .int (nI (cntF L k i a))), (5, .int (nI (a + i)))] → W p l e R s m args below meth c H locs 0 0 Q (F0 m 32 ls [.int (nI (cntF L k (i + 1) a))]) := by
          intro   H locs h ls hl
          refine lv_istore (lv' := [(4, .int (nI (cntF L k (i + 1) a))), (0, .ref h0), (2, .int (nI b)), (3, .int (nI k)), (5, .int (nI (a + i)))]) hx hb dX7_countOf_32 hl (by decide) rfl (fun ls hl => ?_)
          refine lv_iinc (v := nI (a + i + 1)) (lv' := [(5, .int (nI (a + i + 1))), (4, .int (nI (cntF L k (i + 1) a))), (0, .ref h0), (2, .int (nI b)), (3, .int (nI k))]) hx hb dX7_countOf_34 hl (k := 4) rfl (nI_add (a + i) 1) (by decide) rfl (fun ls hl => ?_)
          refine lv_goto (tgt := 6) hx hb dX7_countOf_37 (by decide) ?_
          exact ih (i + 1) (by omega) (by omega) _ _ h _ (lv_sub hl [2, 3, 4, 1, 0] rfl)
        refine lv_aload_n hx hb dX7_countOf_12 rfl (lv_at hl 0 rfl) ?_
        refine m_gr C h 17 (by decide) rfl rfl q1887 (v := some (ad 17)) hR.2.2.1 dX7_countOf_13 ?_
        refine lv_iload hx hb dX7_countOf_16 (lv_at hl 4 rfl) ?_
        refine n_iald C h (v := (mG M 17) (a + i)) (mw_memG (k := 17) (by decide)) (show a + i < 4700 by omega) (by decide) rfl dX7_countOf_18 ?_
        refine n_top (y := nI x9.1) (congrArg nI hx9k) ?_
        refine lv_iload_n hx hb dX7_countOf_19 rfl (lv_at hl 2 rfl) ?_
        refine n_icmp_ne (tgt := 30) hx hb (by omega) (by omega) dX7_countOf_20 (by decide) (fun c20 => ?_) (fun c20 => ?_)
        · refine lv_iload hx hb dX7_countOf_30 (lv_at hl 3 rfl) ?_
          refine n_top (y := nI (cntF L k (i + 1) a)) (by rw [cntF, hx9, Option.map_some]; first | (rw [if_pos (congrArg some c20)]; done) | (rw [if_neg (fun z => c20 (Option.some.inj z)), Nat.add_zero]; done)) ?_
          exact jc   _ _ h _ (lv_sub hl [0, 1, 2, 3, 4] rfl)
        · refine lv_iload hx hb dX7_countOf_23 (lv_at hl 3 rfl) ?_
          refine lv_iconst (v := nI 1) hx hb dX7_countOf_25 (by decide) ?_
          refine lv_iadd hx hb dX7_countOf_26 (n_top (y := nI (cntF L k i a + 1)) (nI_add (cntF L k i a) 1) ?_)
          refine lv_goto (tgt := 32) hx hb dX7_countOf_27 (by decide) ?_
          refine n_top (y := nI (cntF L k (i + 1) a)) (by rw [cntF, hx9, Option.map_some]; first | (rw [if_pos (congrArg some c20)]; done) | (rw [if_neg (fun z => c20 (Option.some.inj z)), Nat.add_zero]; done)) ?_
          exact jc   _ _ h _ (lv_sub hl [0, 1, 2, 3, 4] rfl)
  exact loop _ 0 (by omega) (Nat.lt_succ_self _) _ _ h _ (lv_sub hl [2, 4, 5, 1, 0] rfl)
set_option maxHeartbeats 400000 in
set_option maxRecDepth 100000 in
theorem c7_find (l : Launch) (D : va_G) (dA : Nat → ClassId) (B : Nat) (Z : State → Prop) (hZ : Stab B Z) (h0 : Nat) (ad : Nat → Nat) (M : MS) (F : va_W) (L : List PK) (a b k fa : Nat) (lb : List Nat) (hR : NewR dA F ad M L) (hPK : PKs L) (hLl : L.length ≤ 4650) (ha : a ≤ b) (hb9 : b ≤ L.length) (hk : k < 100) (hfa : (fa, ial dA lb) ∈ F) (hlb : byt lb) (hll : lb.length ≤ 4096) :
    Ct (S := Unit) l D dA B Z yX7_find cX7_find 6 (some .int) 2 0 0 [.ref h0, .int (nI a), .int (nI b), .int (nI k), .ref fa] (mw dA h0 ad M ++ F) (fun _ => True) (fun _ => some (.int (oI (findF (fun x => isK k x && decide (x.2.1 = lb)) L (b - a) a)))) (fun _ => mw dA h0 ad M ++ F) := by
  refine Ct.mk2 (by decide) (Nat.le_of_ble_eq_true rfl) hZ ?_
  intro p e R s m args below meth c ls Q C hr hlocks hin hQ hl h
  have C0 := C
  obtain ⟨hx, hb, hml, hown, hts, -⟩ := C0
  have hl : lv_has ls 6 [(0, .ref h0), (1, .int (nI a)), (2, .int (nI b)), (3, .int (nI k)), (4, .ref fa)] := hl
  refine lv_iload_n hx hb dX7_find_0 rfl (lv_at hl 1 rfl) ?_
  refine lv_istore (lv' := [(5, .int (nI a)), (0, .ref h0), (1, .int (nI a)), (2, .int (nI b)), (3, .int (nI k)), (4, .ref fa)]) hx hb dX7_find_1 hl (by decide) rfl (fun ls hl => ?_)
  have loop : ∀ (nn : Nat) (i : Nat), (findF (fun x => isK k x && decide (x.2.1 = lb)) L (b - a) a = findF (fun x => isK k x && decide (x.2.1 = lb)) L (b - i) i) → (a ≤ i) → (i ≤ b) → b - i < nn → ∀ (H : Heap) (locs : List Loc), Wd D B s (mw dA h0 ad M ++ F) H locs → ∀ (ls : Array Slot), lv_has ls 6 [(0, .ref h0), (2, .int (nI b)), (3, .int (nI k)), (4, .ref fa), (5, .int (nI i))] → W p l e R s m args below meth c H locs 0 0 Q (F0 m 3 ls []) := by
    intro nn
    induction nn with
    | zero => intro i  hi0 hi1 hi2 hme; exact absurd hme (Nat.not_lt_zero _)
    | succ nn ih =>
      intro i  hi0 hi1 hi2 hme H locs h ls hl
      refine lv_iload hx hb dX7_find_3 (lv_at hl 4 rfl) ?_
      refine lv_iload_n hx hb dX7_find_5 rfl (lv_at hl 1 rfl) ?_
      refine n_icmp_ge (tgt := 44) hx hb (by omega) (by omega) dX7_find_6 (by decide) (fun c6 => ?_) (fun c6 => ?_)
      · refine lv_iconst (v := -1) hx hb dX7_find_44 (by decide) ?_
        subst hQ
        have hfin : findF (fun x => isK k x && decide (x.2.1 = lb)) L (b - a) a = none := by rw [hi0, show b - i = 0 by omega]; rfl
        exact ret_i C hr hlocks h () trivial (by rw [hfin]; rfl) rfl (by omega) (by omega) dX7_find_45
      · obtain ⟨x9, hx9⟩ : ∃ z, L[i]? = some z := ⟨_, List.getElem?_eq_getElem (by omega)⟩
        obtain ⟨hx9k, hx9b, hx9s⟩ := hR.1 _ _ hx9
        have hx9o := hPK.at hx9
        have hx91 := hx9o.1
        refine lv_aload_n hx hb dX7_find_9 rfl (lv_at hl 0 rfl) ?_
        refine m_gr C h 17 (by decide) rfl rfl q1887 (v := some (ad 17)) hR.2.2.1 dX7_find_10 ?_
        refine lv_iload hx hb dX7_find_13 (lv_at hl 4 rfl) ?_
        refine n_iald C h (v := (mG M 17) i) (mw_memG (k := 17) (by decide)) (show i < 4700 by omega) (by decide) rfl dX7_find_15 ?_
        refine n_top (y := nI x9.1) (congrArg nI hx9k) ?_
        refine lv_iload_n hx hb dX7_find_16 rfl (lv_at hl 2 rfl) ?_
        refine n_icmp_ne (tgt := 38) hx hb (by omega) (by omega) dX7_find_17 (by decide) (fun c17 => ?_) (fun c17 => ?_)
        · refine lv_iinc (v := nI (i + 1)) (lv' := [(5, .int (nI (i + 1))), (0, .ref h0), (2, .int (nI b)), (3, .int (nI k)), (4, .ref fa)]) hx hb dX7_find_38 hl (k := 4) rfl (nI_add i 1) (by decide) rfl (fun ls hl => ?_)
          refine lv_goto (tgt := 3) hx hb dX7_find_41 (by decide) ?_
          exact ih (i + 1) (by rw [hi0, show b - i = (b - (i + 1)) + 1 by omega, findF, hx9, if_neg (by first | (intro z; have z1 := Option.some.inj z; simp only [isK, Bool.and_eq_true, decide_eq_true_eq] at z1; exact c17 z1.1) | (intro z; have z1 := Option.some.inj z; simp only [isK, Bool.and_eq_true, decide_eq_true_eq] at z1; exact hneq z1.2))]) (by omega) (by omega) (by omega) _ _ h _ (lv_sub hl [1, 2, 3, 4, 0] rfl)
        · obtain ⟨qb, hqb, hqbF⟩ := hx9b
          refine lv_aload_n hx hb dX7_find_20 rfl (lv_at hl 0 rfl) ?_
          refine m_gr C h 18 (by decide) rfl rfl q1888 (v := some (ad 18)) hR.2.2.2.1 dX7_find_21 ?_
          refine lv_iload hx hb dX7_find_24 (lv_at hl 4 rfl) ?_
          refine n_aald C h (v := (mA M 18) i) (mw_memA (k := 18) (by decide)) (show i < 4700 by omega) (by decide) rfl dX7_find_26 ?_
          refine n_topv (y := .ref qb) (by rw [hqb]; rfl) ?_
          refine lv_aload hx hb dX7_find_27 (lv_at hl 3 rfl) ?_
          refine call_S (As := [.ref qb, .ref fa]) (rest := []) (n := 2) C h (c7_areSame l D dA B Z hZ _ qb fa x9.2.1.length lb.length (gD x9.2.1) (gD lb) (List.mem_append_right _ hqbF) (List.mem_append_right _ hfa) (by have := hx9o.2.2.1; omega) (by omega) (fun j _ => Nat.lt_trans (byt_gD hx9o.2.1 j) (by decide)) (fun j _ => Nat.lt_trans (byt_gD hlb j) (by decide))) (lw_S q2310 q2311 q138 q2312) (by decide +kernel) (by decide) (by decide) rfl hl rfl (Nat.le_of_ble_eq_true rfl) dX7_find_29 (by omega) (fun _ H locs _ h => ?_)
          rw [sl_gD, sl_gD]
          refine z_if_eq (tgt := 38) hx hb dX7_find_32 (by decide) (fun c32 => ?_) (fun c32 => ?_)
          · have hneq := of_decide_eq_false c32
            refine lv_iinc (v := nI (i + 1)) (lv' := [(5, .int (nI (i + 1))), (0, .ref h0), (2, .int (nI b)), (3, .int (nI k)), (4, .ref fa)]) hx hb dX7_find_38 hl (k := 4) rfl (nI_add i 1) (by decide) rfl (fun ls hl => ?_)
            refine lv_goto (tgt := 3) hx hb dX7_find_41 (by decide) ?_
            exact ih (i + 1) (by rw [hi0, show b - i = (b - (i + 1)) + 1 by omega, findF, hx9, if_neg (by first | (intro z; have z1 := Option.some.inj z; simp only [isK, Bool.and_eq_true, decide_eq_true_eq] at z1; exact c17 z1.1) | (intro z; have z1 := Option.some.inj z; simp only [isK, Bool.and_eq_true, decide_eq_true_eq] at z1; exact hneq z1.2))]) (by omega) (by omega) (by omega) _ _ h _ (lv_sub hl [1, 2, 3, 4, 0] rfl)
          · refine lv_iload hx hb dX7_find_35 (lv_at hl 4 rfl) ?_
            subst hQ
            have hfin : findF (fun x => isK k x && decide (x.2.1 = lb)) L (b - a) a = some i := by rw [hi0, show b - i = (b - i - 1) + 1 by omega, findF, hx9, if_pos (by show some (isK k x9 && decide (x9.2.1 = lb)) = some true; rw [show isK k x9 = true from decide_eq_true c17, c32]; rfl)]
            exact ret_i C hr hlocks h () trivial (by rw [hfin]; rfl) rfl (by omega) (by omega) dX7_find_37
  exact loop _ a rfl (by omega) ha (Nat.lt_succ_self _) _ _ h _ (lv_sub hl [1, 3, 4, 5, 0] rfl)
