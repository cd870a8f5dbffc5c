set_option maxRecDepth 100000
def labL (k : Nat) : List Nat := if k = 0 then [83, 69, 65, 76, 69, 68, 32, 75, 69, 89, 83] else if k = 1 then [83, 69, 65, 76] else [83, 69, 65, 76, 69, 68, 32, 76, 69, 84, 84, 69, 82]

theorem labL_len (k : Nat) : (labL k).length ≤ 13 := by
  unfold labL
  split
  · decide
  · split <;> decide
theorem labL_byt (k : Nat) : byt (labL k) := by
  unfold labL
  split
  · intro x hx; revert x; decide
  · split
    · intro x hx; revert x; decide
    · intro x hx; revert x; decide
theorem nilup {dA : Nat → ClassId} {B : Nat} {Z : State → Prop} {a v : Nat} {l : List Nat} (h : StrV dA B Z [] a v l) (ws : va_W) : StrV dA B Z ws a v l := h.up (fun x hx => absurd hx List.not_mem_nil)
theorem SBis_0 : SBis (fun _ => 0) 16 [] := ⟨by decide, fun j hj => absurd hj (Nat.not_lt_zero _)⟩

set_option maxHeartbeats 400000 in
set_option maxRecDepth 100000 in
theorem c7_label (l : Launch) (D : va_G) (dA : Nat → ClassId) (B : Nat) (Z : State → Prop) (hZ : Stab B Z) (ws : va_W) (k : Nat) (hzs : ZS dA B Z) (hk : k < 3) :
    Ct (S := Nat × Nat) l D dA B Z yX7_label cX7_label 1 (some ((.object "java/lang/String"))) 1 0 0 [.int (nI k)] (ws) (fun u => StrV dA B Z [] u.1 u.2 (labL k)) (fun u => some (.ref u.1)) (fun _ => ws) := by
  refine Ct.mk2 (by decide) (Nat.le_of_ble_eq_true rfl) hZ ?_
  intro p e R s m args below meth c ls Q C hr hlocks hin hQ hl h
  have C0 := C
  obtain ⟨hx, hb, hml, hown, hts, -⟩ := C0
  have hl : lv_has ls 1 [(0, .int (nI k))] := hl
  obtain ⟨sa218, sv218, hr218, hk218⟩ := hzs.2.2.1 _ (List.mem_of_getElem? (l := strTab) (i := 14) rfl)
  obtain ⟨sa220, sv220, hr220, hk220⟩ := hzs.2.2.1 _ (List.mem_of_getElem? (l := strTab) (i := 15) rfl)
  obtain ⟨sa222, sv222, hr222, hk222⟩ := hzs.2.2.1 _ (List.mem_of_getElem? (l := strTab) (i := 16) rfl)
  refine lv_iload_n hx hb dX7_label_0 rfl (lv_at hl 0 rfl) ?_
  refine n_if_ne (tgt := 9) hx hb (by omega) dX7_label_1 (by decide) (fun c1 => ?_) (fun c1 => ?_)
  · refine lv_iload_n hx hb dX7_label_9 rfl (lv_at hl 0 rfl) ?_
    refine lv_iconst (v := nI 1) hx hb dX7_label_10 (by decide) ?_
    refine n_icmp_ne (tgt := 19) hx hb (by omega) (by omega) dX7_label_11 (by decide) (fun c11 => ?_) (fun c11 => ?_)
    · refine s_ldc C h hr222 dX7_label_19 ?_
      subst hQ
      exact ret_a C hr (Or.inl ⟨_, rfl⟩) hlocks h (sa222, sv222) (by rw [show k = 2 by omega]; exact hk222) (Or.inr ⟨_, rfl⟩) rfl rfl (by omega) (by omega) dX7_label_21
    · refine s_ldc C h hr220 dX7_label_14 ?_
      refine lv_goto (tgt := 21) hx hb dX7_label_16 (by decide) ?_
      subst hQ
      exact ret_a C hr (Or.inl ⟨_, rfl⟩) hlocks h (sa220, sv220) (by rw [show k = 1 by omega]; exact hk220) (Or.inr ⟨_, rfl⟩) rfl rfl (by omega) (by omega) dX7_label_21
  · refine s_ldc C h hr218 dX7_label_4 ?_
    refine lv_goto (tgt := 21) hx hb dX7_label_6 (by decide) ?_
    subst hQ
    exact ret_a C hr (Or.inl ⟨_, rfl⟩) hlocks h (sa218, sv218) (by rw [show k = 0 by omega]; exact hk218) (Or.inr ⟨_, rfl⟩) rfl rfl (by omega) (by omega) dX7_label_21
set_option maxHeartbeats 400000 in
set_option maxRecDepth 100000 in
theorem c7_is (l : Launch) (D : va_G) (dA : Nat → ClassId) (B : Nat) (Z : State → Prop) (hZ : Stab B Z) (h0 : Nat) (ad : Nat → Nat) (M : MS) (F : va_W) (tx : List Nat) (fr to sa sv : Nat) (lt : List Nat) (hzs : ZS dA B Z) (htx : mR M 34 = some (ad 2)) (hT : ∀ j, j < tx.length → mG M 2 j = gD tx j) (htl : tx.length ≤ 4096) (hby : byt tx) (h37 : mI M 37 = nI fr) (h38 : mI M 38 = nI to) (h1 : fr ≤ to) (h2 : to ≤ tx.length) (hs : StrV dA B Z F sa sv lt) (hlb : byt lt) (hll : lt.length < 1000) :
    Ct (S := Unit) l D dA B Z yX7_is cX7_is 4 (some .boolean) 5 0 0 [.ref h0, .ref sa] (mw dA h0 ad M ++ F) (fun _ => True) (fun _ => some (.int (bZ (decide (sl (gD tx) fr (to - fr) = lt))))) (fun _ => mw dA h0 ad M ++ F) := by
  refine Ct.mk2 (by decide) (Nat.le_of_ble_eq_true rfl) hZ ?_
  intro p e R s m args below meth c ls Q C hr hlocks hin hQ hl h
  have C0 := C
  obtain ⟨hx, hb, hml, hown, hts, -⟩ := C0
  have hl : lv_has ls 4 [(0, .ref h0), (1, .ref sa)] := hl
  have jn : ∀ (tjn : Bool), (tjn = decide (to - fr = lt.length)) → ∀ (H : Heap) (locs : List Loc), Wd D B s (mw dA h0 ad M ++ F) H locs → ∀ (ls : Array Slot), lv_has ls 4 [(0, .ref h0), (1, .ref sa)] → W p l e R s m args below meth c H locs 0 0 Q (F0 m 21 ls [.int (bZ tjn)]) := by
    intro tjn  hjn H locs h ls hl
    refine lv_istore_n (lv' := [(2, .int (bZ tjn)), (0, .ref h0), (1, .ref sa)]) hx hb dX7_is_21 rfl hl (by decide) rfl (fun ls hl => ?_)
    refine lv_iconst (v := nI 0) hx hb dX7_is_22 (by decide) ?_
    refine lv_istore_n (lv' := [(3, .int (nI 0)), (2, .int (bZ tjn)), (0, .ref h0), (1, .ref sa)]) hx hb dX7_is_23 rfl hl (by decide) rfl (fun ls hl => ?_)
    have hlt : sl (gD lt) 0 lt.length = lt := sl_gD lt
    have loop : ∀ (nn : Nat) (i : Nat) (t : Bool), (i ≤ lt.length) → (t = true → (to - fr = lt.length ∧ sl (gD tx) fr i = sl (gD lt) 0 i)) → (t = false → sl (gD tx) fr (to - fr) ≠ sl (gD lt) 0 lt.length) → lt.length + 1 - i < nn → ∀ (H : Heap) (locs : List Loc), Wd D B s (mw dA h0 ad M ++ F) H locs → ∀ (ls : Array Slot), lv_has ls 4 [(3, .int (nI i)), (2, .int (bZ t)), (0, .ref h0), (1, .ref sa)] → W p l e R s m args below meth c H locs 0 0 Q (F0 m 24 ls []) := by
      intro nn
      induction nn with
      | zero => intro i  t  hi0 hi1 hi2 hme; exact absurd hme (Nat.not_lt_zero _)
      | succ nn ih =>
        intro i  t  hi0 hi1 hi2 hme H locs h ls hl
        refine lv_iload_n hx hb dX7_is_24 rfl (lv_at hl 1 rfl) ?_
        refine z_if_eq (tgt := 67) hx hb dX7_is_25 (by decide) (fun c25 => ?_) (fun c25 => ?_)
        · refine lv_iload_n hx hb dX7_is_67 rfl (lv_at hl 1 rfl) ?_
          subst hQ
          have key : decide (sl (gD tx) fr (to - fr) = lt) = t := by
            cases t with
            | false => exact decide_eq_false (fun q => hi2 rfl (q.trans hlt.symm))
            | true =>
              obtain ⟨e1, e2⟩ := hi1 rfl
              refine decide_eq_true ?_
              first | (exfalso; exact absurd c25 (by decide)) | (rw [← hlt, show to - fr = i by omega, show lt.length = i by omega]; exact e2)
          exact ret_z C hr hlocks h () trivial (by rw [key]) rfl (by omega) (by omega) dX7_is_68
        · refine lv_iload_n hx hb dX7_is_28 rfl (lv_at hl 0 rfl) ?_
          refine lv_aload_n hx hb dX7_is_29 rfl (lv_at hl 3 rfl) ?_
          refine call_VR (As := []) (rest := [.int (nI i)]) (n := 0) C h (cJ_len l D dA B Z hZ _ sa sv lt (hs.up (fun x hx => List.mem_append_right _ hx)) hlb (by omega) hzs) (lw_V q2152 q785 q786 q156 q787) (by decide +kernel) (s_recv C h (hs.up (fun x hx => List.mem_append_right _ hx))) (by decide) (by decide) rfl hl rfl (Nat.le_of_ble_eq_true rfl) dX7_is_30 (by omega) (fun _ H locs _ h => ?_)
          refine n_icmp_ge (tgt := 67) hx hb (by omega) (by omega) dX7_is_33 (by decide) (fun c33 => ?_) (fun c33 => ?_)
          · refine lv_iload_n hx hb dX7_is_67 rfl (lv_at hl 1 rfl) ?_
            subst hQ
            have key : decide (sl (gD tx) fr (to - fr) = lt) = t := by
              cases t with
              | false => exact decide_eq_false (fun q => hi2 rfl (q.trans hlt.symm))
              | true =>
                obtain ⟨e1, e2⟩ := hi1 rfl
                refine decide_eq_true ?_
                first | (exfalso; exact absurd c25 (by decide)) | (rw [← hlt, show to - fr = i by omega, show lt.length = i by omega]; exact e2)
            exact ret_z C hr hlocks h () trivial (by rw [key]) rfl (by omega) (by omega) dX7_is_68
          · obtain ⟨e1, e2⟩ := hi1 c25
            have hb1 := byt_gD hby (fr + i)
            have hb2 := byt_gD hlb i
            have jk : ∀ (tjk : Bool), (tjk = decide (gD tx (fr + i) = gD lt i)) → ∀ (H : Heap) (locs : List Loc), Wd D B s (mw dA h0 ad M ++ F) H locs → ∀ (ls : Array Slot), lv_has ls 4 [(3, .int (nI i)), (2, .int (bZ t)), (0, .ref h0), (1, .ref sa)] → W p l e R s m args below meth c H locs (0 + 0) (0 + 0) Q (F0 m 60 ls [.int (bZ tjk)]) := by
              intro tjk  hjk H locs h ls hl
              refine lv_istore_n (lv' := [(2, .int (bZ tjk)), (3, .int (nI i)), (0, .ref h0), (1, .ref sa)]) hx hb dX7_is_60 rfl hl (by decide) rfl (fun ls hl => ?_)
              refine lv_iinc (v := nI (i + 1)) (lv' := [(3, .int (nI (i + 1))), (2, .int (bZ tjk)), (0, .ref h0), (1, .ref sa)]) hx hb dX7_is_61 hl (k := 1) rfl (nI_add i 1) (by decide) rfl (fun ls hl => ?_)
              refine lv_goto (tgt := 24) hx hb dX7_is_64 (by decide) ?_
              exact ih (i + 1) _ (by omega) (fun q => ⟨e1, by
                have e3 : gD tx (fr + i) = gD lt i := of_decide_eq_true (hjk ▸ q)
                rw [sl_succ, sl_succ, e2, Nat.zero_add, e3]⟩) (fun q => sl_ne_at (i := i) (by omega) (by omega) (by rw [Nat.zero_add]; exact of_decide_eq_false (hjk ▸ q))) (by omega) _ _ h _ (lv_sub hl [0, 1, 2, 3] rfl)
            refine lv_aload_n hx hb dX7_is_36 rfl (lv_at hl 2 rfl) ?_
            refine m_gr C h 34 (by decide) rfl rfl q1904 (v := some (ad 2)) htx dX7_is_37 ?_
            refine lv_aload_n hx hb dX7_is_40 rfl (lv_at hl 2 rfl) ?_
            refine m_gi C h 37 (by decide) rfl rfl q1907 (v := nI fr) h37 dX7_is_41 ?_
            refine lv_iload_n hx hb dX7_is_44 rfl (lv_at hl 0 rfl) ?_
            refine lv_iadd hx hb dX7_is_45 (n_top (y := nI (fr + i)) (nI_add fr i) ?_)
            refine n_iald C h (v := (mG M 2) (fr + i)) (mw_memG (k := 2) (by decide)) (show fr + i < 4096 by omega) (by decide) rfl dX7_is_46 ?_
            refine n_top (y := nI (gD tx (fr + i))) (congrArg nI (hT _ (by omega))) ?_
            refine lv_aload_n hx hb dX7_is_47 rfl (lv_at hl 3 rfl) ?_
            refine lv_iload_n hx hb dX7_is_48 rfl (lv_at hl 0 rfl) ?_
            refine call_VR (As := [.int (nI i)]) (rest := [.int (nI (gD tx (fr + i)))]) (n := 1) C h (cJ_charAt l D dA B Z hZ _ i sa sv lt (hs.up (fun x hx => List.mem_append_right _ hx)) hlb (by omega) hzs (by omega)) (lw_V q2153 q951 q952 q156 q953) (by decide +kernel) (s_recv C h (hs.up (fun x hx => List.mem_append_right _ hx))) (by decide) (by decide) rfl hl rfl (Nat.le_of_ble_eq_true rfl) dX7_is_49 (by omega) (fun _ H locs _ h => ?_)
            refine n_icmp_ne (tgt := 59) hx hb (by omega) (by omega) dX7_is_52 (by decide) (fun c52 => ?_) (fun c52 => ?_)
            · refine lv_iconst (v := nI 0) hx hb dX7_is_59 (by decide) ?_
              refine n_top (y := bZ false) rfl ?_
              exact jk false (by simp [*]) _ _ h _ (lv_sub hl [0, 1, 2, 3] rfl)
            · refine lv_iconst (v := nI 1) hx hb dX7_is_55 (by decide) ?_
              refine lv_goto (tgt := 60) hx hb dX7_is_56 (by decide) ?_
              refine n_top (y := bZ true) rfl ?_
              exact jk true (by simp [*]) _ _ h _ (lv_sub hl [0, 1, 2, 3] rfl)
    exact loop _ 0 _ (by omega) (fun q => ⟨of_decide_eq_true (hjn ▸ q), rfl⟩) (fun q => sl_ne_len (of_decide_eq_false (hjn ▸ q))) (Nat.lt_succ_self _) _ _ h _ (lv_sub hl [0, 1, 2, 3] rfl)
  refine lv_aload_n hx hb dX7_is_0 rfl (lv_at hl 0 rfl) ?_
  refine m_gi C h 38 (by decide) rfl rfl q1908 (v := nI to) h38 dX7_is_1 ?_
  refine lv_aload_n hx hb dX7_is_4 rfl (lv_at hl 0 rfl) ?_
  refine m_gi C h 37 (by decide) rfl rfl q1907 (v := nI fr) h37 dX7_is_5 ?_
  refine lv_isub hx hb dX7_is_8 (n_top (y := nI (to - fr)) (pk_sub (by omega)) ?_)
  refine lv_aload_n hx hb dX7_is_9 rfl (lv_at hl 1 rfl) ?_
  refine call_VR (As := []) (rest := [.int (nI (to - fr))]) (n := 0) C h (cJ_len l D dA B Z hZ _ sa sv lt (hs.up (fun x hx => List.mem_append_right _ hx)) hlb (by omega) hzs) (lw_V q2152 q785 q786 q156 q787) (by decide +kernel) (s_recv C h (hs.up (fun x hx => List.mem_append_right _ hx))) (by decide) (by decide) rfl hl rfl (Nat.le_of_ble_eq_true rfl) dX7_is_10 (by omega) (fun _ H locs _ h => ?_)
  refine n_icmp_ne (tgt := 20) hx hb (by omega) (by omega) dX7_is_13 (by decide) (fun c13 => ?_) (fun c13 => ?_)
  · refine lv_iconst (v := nI 0) hx hb dX7_is_20 (by decide) ?_
    refine n_top (y := bZ false) rfl ?_
    exact jn false (by simp [*]) _ _ h _ (lv_sub hl [0, 1] rfl)
  · refine lv_iconst (v := nI 1) hx hb dX7_is_16 (by decide) ?_
    refine lv_goto (tgt := 21) hx hb dX7_is_17 (by decide) ?_
    refine n_top (y := bZ true) rfl ?_
    exact jn true (by simp [*]) _ _ h _ (lv_sub hl [0, 1] rfl)
