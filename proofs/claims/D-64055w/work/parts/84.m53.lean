set_option maxRecDepth 100000

theorem sb_odd : ∀ c, c < 256 → sb_b c &&& nI 1 = nI (c % 2) := by decide +kernel
def kyOk (n e : List Nat) : Bool := !decide (bitsL n < nI 497) && !decide (nI 1024 < bitsL n) && !decide (bitsL e < nI 2) && !decide (nI 32 < bitsL e) && (decide (gD n (n.length - 1) % 2 = 1) && decide (gD e (e.length - 1) % 2 = 1))
theorem kNums_ky (l : List Nat) : kNums l = kyOk (kN l) (kE l) := rfl
theorem gD_take_eq {l k : List Nat} {i : Nat} (h1 : l.take i = k.take i) (h2 : i < l.length) (h3 : i < k.length) (h4 : gD l i = gD k i) : l.take (i + 1) = k.take (i + 1) := by
  rw [List.take_succ, List.take_succ, h1]
  congr 1
  rw [List.getElem?_eq_getElem h2, List.getElem?_eq_getElem h3]
  unfold gD at h4
  rw [List.getD_eq_getElem?_getD, List.getD_eq_getElem?_getD, List.getElem?_eq_getElem h2, List.getElem?_eq_getElem h3] at h4
  exact congrArg (fun z => (some z).toList) h4

set_option maxHeartbeats 400000 in
set_option maxRecDepth 100000 in
theorem c1_areAlike (l : Launch) (D : va_G) (dA : Nat → ClassId) (B : Nat) (Z : State → Prop) (hZ : Stab B Z) (ws : va_W) (a b : Nat) (la lb : List Nat) (hm : (a, bal dA la) ∈ ws) (hm2 : (b, bal dA lb) ∈ ws) (h1 : la.length < 1000000) (h2 : lb.length < 1000000) (hA : byt la) (hB : byt lb) :
    Ct (S := Unit) l D dA B Z yX1_areAlike cX1_areAlike 4 (some .boolean) 1 0 0 [.ref a, .ref b] (ws) (fun _ => True) (fun _ => some (.int (bZ (decide (la = lb))))) (fun _ => ws) := by
  refine Ct.mk2 (by decide) (Nat.le_of_ble_eq_true rfl) hZ ?_
  intro p e R s m args below meth c ls Q C hr hlocks hin hQ hl h
  have C0 := C
  obtain ⟨hx, hb, hml, hown, hts, -⟩ := C0
  have hl : lv_has ls 4 [(0, .ref a), (1, .ref b)] := hl
  refine lv_aload_n hx hb dX1_areAlike_0 rfl (lv_at hl 0 rfl) ?_
  refine lv_ifnull hx hb dX1_areAlike_1 ?_
  refine lv_aload_n hx hb dX1_areAlike_4 rfl (lv_at hl 1 rfl) ?_
  refine lv_ifnull hx hb dX1_areAlike_5 ?_
  refine lv_aload_n hx hb dX1_areAlike_8 rfl (lv_at hl 0 rfl) ?_
  refine n_balen C h (hm) dX1_areAlike_9 ?_
  refine lv_aload_n hx hb dX1_areAlike_10 rfl (lv_at hl 1 rfl) ?_
  refine n_balen C h (hm2) dX1_areAlike_11 ?_
  refine n_icmp_eq (tgt := 26) hx hb (by omega) (by omega) dX1_areAlike_12 (by decide) (fun c12 => ?_) (fun c12 => ?_)
  · refine lv_iconst (v := nI 1) hx hb dX1_areAlike_26 (by decide) ?_
    refine lv_istore_n (lv' := [(2, .int (nI 1)), (0, .ref a), (1, .ref b)]) hx hb dX1_areAlike_27 rfl hl (by decide) rfl (fun ls hl => ?_)
    refine lv_iconst (v := nI 0) hx hb dX1_areAlike_28 (by decide) ?_
    refine lv_istore_n (lv' := [(3, .int (nI 0)), (2, .int (nI 1)), (0, .ref a), (1, .ref b)]) hx hb dX1_areAlike_29 rfl hl (by decide) rfl (fun ls hl => ?_)
    have hl : lv_has ls 4 [(3, .int (nI 0)), (2, .int (bZ true)), (0, .ref a), (1, .ref b)] := hl
    have loop : ∀ (nn : Nat) (i : Nat) (t : Bool), (i ≤ la.length) → (t = true → la.take i = lb.take i) → (t = false → la ≠ lb) → la.length + 1 - i < nn → ∀ (H : Heap) (locs : List Loc), Wd D B s (ws) H locs → ∀ (ls : Array Slot), lv_has ls 4 [(3, .int (nI i)), (2, .int (bZ t)), (0, .ref a), (1, .ref b)] → W p l e R s m args below meth c H locs 0 0 Q (F0 m 30 ls []) := by
      intro nn
      induction nn with
      | zero => intro i  t  hi0 hi1 hi2 hme; exact absurd hme (Nat.not_lt_zero _)
      | succ nn ih =>
        intro i  t  hi0 hi1 hi2 hme H locs h ls hl
        refine lv_iload_n hx hb dX1_areAlike_30 rfl (lv_at hl 0 rfl) ?_
        refine lv_aload_n hx hb dX1_areAlike_31 rfl (lv_at hl 2 rfl) ?_
        refine n_balen C h (hm) dX1_areAlike_32 ?_
        refine n_icmp_ge (tgt := 61) hx hb (by omega) (by omega) dX1_areAlike_33 (by decide) (fun c33 => ?_) (fun c33 => ?_)
        · refine lv_iload_n hx hb dX1_areAlike_61 rfl (lv_at hl 1 rfl) ?_
          subst hQ
          have key : decide (la = lb) = t := by
            cases t with
            | false => exact decide_eq_false (hi2 rfl)
            | true =>
              refine decide_eq_true ?_
              have e9 := hi1 rfl
              first | (exfalso; exact absurd c37 (by decide)) | (rw [List.take_of_length_le (by omega), List.take_of_length_le (by omega)] at e9; exact e9)
          exact ret_z C hr hlocks h () trivial (by rw [key]) rfl (by omega) (by omega) dX1_areAlike_62
        · refine lv_iload_n hx hb dX1_areAlike_36 rfl (lv_at hl 1 rfl) ?_
          refine z_if_eq (tgt := 61) hx hb dX1_areAlike_37 (by decide) (fun c37 => ?_) (fun c37 => ?_)
          · refine lv_iload_n hx hb dX1_areAlike_61 rfl (lv_at hl 1 rfl) ?_
            subst hQ
            have key : decide (la = lb) = t := by
              cases t with
              | false => exact decide_eq_false (hi2 rfl)
              | true =>
                refine decide_eq_true ?_
                have e9 := hi1 rfl
                first | (exfalso; exact absurd c37 (by decide)) | (rw [List.take_of_length_le (by omega), List.take_of_length_le (by omega)] at e9; exact e9)
            exact ret_z C hr hlocks h () trivial (by rw [key]) rfl (by omega) (by omega) dX1_areAlike_62
          · have hba := byt_gD hA i
            have hbb := byt_gD hB i
            have jk : ∀ (tjk : Bool), (tjk = decide (gD la i = gD lb i)) → ∀ (H : Heap) (locs : List Loc), Wd D B s (ws) H locs → ∀ (ls : Array Slot), lv_has ls 4 [(3, .int (nI i)), (2, .int (bZ t)), (0, .ref a), (1, .ref b)] → W p l e R s m args below meth c H locs 0 0 Q (F0 m 54 ls [.int (bZ tjk)]) := by
              intro tjk  hjk H locs h ls hl
              refine lv_istore_n (lv' := [(2, .int (bZ tjk)), (3, .int (nI i)), (0, .ref a), (1, .ref b)]) hx hb dX1_areAlike_54 rfl hl (by decide) rfl (fun ls hl => ?_)
              refine lv_iinc (v := nI (i + 1)) (lv' := [(3, .int (nI (i + 1))), (2, .int (bZ tjk)), (0, .ref a), (1, .ref b)]) hx hb dX1_areAlike_55 hl (k := 1) rfl (nI_add i 1) (by decide) rfl (fun ls hl => ?_)
              refine lv_goto (tgt := 30) hx hb dX1_areAlike_58 (by decide) ?_
              exact ih (i + 1) _ (by omega) (fun q => gD_take_eq (hi1 c37) (by omega) (by omega) (of_decide_eq_true (hjk ▸ q))) (fun q z => of_decide_eq_false (hjk ▸ q) (by rw [z])) (by omega) _ _ h _ (lv_sub hl [0, 1, 2, 3] rfl)
            refine lv_aload_n hx hb dX1_areAlike_40 rfl (lv_at hl 2 rfl) ?_
            refine lv_iload_n hx hb dX1_areAlike_41 rfl (lv_at hl 0 rfl) ?_
            refine n_bald C h (v := (gD la) i) (hm) (show i < la.length by omega) (by omega) rfl dX1_areAlike_42 ?_
            refine lv_aload_n hx hb dX1_areAlike_43 rfl (lv_at hl 3 rfl) ?_
            refine lv_iload_n hx hb dX1_areAlike_44 rfl (lv_at hl 0 rfl) ?_
            refine n_bald C h (v := (gD lb) i) (hm2) (show i < lb.length by omega) (by omega) rfl dX1_areAlike_45 ?_
            refine lv_icmp_ne (tgt := 53) hx hb dX1_areAlike_46 (by decide) (fun c46 => ?_) (fun c46 => ?_)
            · refine lv_iconst (v := nI 0) hx hb dX1_areAlike_53 (by decide) ?_
              refine n_top (y := bZ false) rfl ?_
              exact jk false (by rw [decide_eq_false (fun z => c46 (congrArg sb_b z))]) _ _ h _ (lv_sub hl [0, 1, 2, 3] rfl)
            · refine lv_iconst (v := nI 1) hx hb dX1_areAlike_49 (by decide) ?_
              refine lv_goto (tgt := 54) hx hb dX1_areAlike_50 (by decide) ?_
              refine n_top (y := bZ true) rfl ?_
              exact jk true (by rw [decide_eq_true (sb_inj hba hbb c46)]) _ _ h _ (lv_sub hl [0, 1, 2, 3] rfl)
    exact loop _ 0 true (by omega) (fun _ => rfl) (fun q => by cases q) (Nat.lt_succ_self _) _ _ h _ (lv_sub hl [0, 1, 2, 3] rfl)
  · refine lv_aload_n hx hb dX1_areAlike_15 rfl (lv_at hl 0 rfl) ?_
    refine lv_aload_n hx hb dX1_areAlike_16 rfl (lv_at hl 1 rfl) ?_
    refine lv_acmp_ne (rx := some a) (ry := some b) (tgt := 24) hx hb dX1_areAlike_17 (by decide) (fun _ => ?_) (fun q => absurd (Option.some.inj q) (addr_ne h hm hm2 (bal_ne c12)))
    refine lv_iconst (v := nI 0) hx hb dX1_areAlike_24 (by decide) ?_
    subst hQ
    refine n_top (y := bZ false) rfl ?_
    exact ret_z C hr hlocks h () trivial (by rw [decide_eq_false (fun z => c12 (congrArg List.length z))]) rfl (by omega) (by omega) dX1_areAlike_25
set_option maxHeartbeats 400000 in
set_option maxRecDepth 100000 in
theorem c1_isKey (l : Launch) (D : va_G) (dA : Nat → ClassId) (B : Nat) (Z : State → Prop) (hZ : Stab B Z) (ws : va_W) (a b : Nat) (la lb : List Nat) (hm : (a, bal dA la) ∈ ws) (hm2 : (b, bal dA lb) ∈ ws) (h1 : la.length < 1000000) (h2 : lb.length < 1000000) (hA : byt la) (hB : byt lb) (h3 : 0 < la.length) (h4 : 0 < lb.length) :
    Ct (S := Unit) l D dA B Z yX1_isKey cX1_isKey 4 (some .boolean) 2 0 0 [.ref a, .ref b] (ws) (fun _ => True) (fun _ => some (.int (bZ (kyOk la lb)))) (fun _ => ws) := by
  refine Ct.mk2 (by decide) (Nat.le_of_ble_eq_true rfl) hZ ?_
  intro p e R s m args below meth c ls Q C hr hlocks hin hQ hl h
  have C0 := C
  obtain ⟨hx, hb, hml, hown, hts, -⟩ := C0
  have hl : lv_has ls 4 [(0, .ref a), (1, .ref b)] := hl
  have hx1 := byt_gD hA (la.length - 1)
  have hx2 := byt_gD hB (lb.length - 1)
  refine lv_aload_n hx hb dX1_isKey_0 rfl (lv_at hl 0 rfl) ?_
  refine call_S (As := [.ref a]) (rest := []) (n := 1) C h (c1_bitsOf l D dA B Z hZ ws a la.length (gD la) hm h3 h1 (byt_gD hA 0)) (lw_S q1139 q1134 q129 q1135) (by decide +kernel) (by decide) (by decide) rfl hl rfl (Nat.le_of_ble_eq_true rfl) dX1_isKey_1 (by omega) (fun _ H locs _ h => ?_)
  refine lv_istore_n (lv' := [(2, .int (bitsL la)), (0, .ref a), (1, .ref b)]) hx hb dX1_isKey_4 rfl hl (by decide) rfl (fun ls hl => ?_)
  refine lv_aload_n hx hb dX1_isKey_5 rfl (lv_at hl 2 rfl) ?_
  refine call_S (As := [.ref b]) (rest := []) (n := 1) C h (c1_bitsOf l D dA B Z hZ ws b lb.length (gD lb) hm2 h4 h2 (byt_gD hB 0)) (lw_S q1139 q1134 q129 q1135) (by decide +kernel) (by decide) (by decide) rfl hl rfl (Nat.le_of_ble_eq_true rfl) dX1_isKey_6 (by omega) (fun _ H locs _ h => ?_)
  refine lv_istore_n (lv' := [(3, .int (bitsL lb)), (2, .int (bitsL la)), (0, .ref a), (1, .ref b)]) hx hb dX1_isKey_9 rfl hl (by decide) rfl (fun ls hl => ?_)
  refine lv_iload_n hx hb dX1_isKey_10 rfl (lv_at hl 1 rfl) ?_
  refine lv_sipush (v := nI 497) hx hb dX1_isKey_11 (by decide) ?_
  refine lv_icmp_lt (tgt := 63) hx hb dX1_isKey_14 (by decide) (fun c14 => ?_) (fun c14 => ?_)
  · refine lv_iconst (v := nI 0) hx hb dX1_isKey_63 (by decide) ?_
    subst hQ
    have hfin : kyOk la lb = false := by unfold kyOk; first | (rw [decide_eq_true c14]; rfl) | (rw [decide_eq_true c21, Bool.not_true, Bool.and_false]; rfl) | (rw [decide_eq_true c26, Bool.not_true, Bool.and_false]; rfl) | (rw [decide_eq_true c32, Bool.not_true, Bool.and_false]; rfl) | (rw [decide_eq_false c44, Bool.false_and, Bool.and_false]) | (rw [decide_eq_false c56, Bool.and_false, Bool.and_false])
    refine n_top (y := bZ false) rfl ?_
    exact ret_z C hr hlocks h () trivial (by rw [hfin]) rfl (by omega) (by omega) dX1_isKey_64
  · refine lv_iload_n hx hb dX1_isKey_17 rfl (lv_at hl 1 rfl) ?_
    refine lv_sipush (v := nI 1024) hx hb dX1_isKey_18 (by decide) ?_
    refine lv_icmp_gt (tgt := 63) hx hb dX1_isKey_21 (by decide) (fun c21 => ?_) (fun c21 => ?_)
    · refine lv_iconst (v := nI 0) hx hb dX1_isKey_63 (by decide) ?_
      subst hQ
      have hfin : kyOk la lb = false := by unfold kyOk; first | (rw [decide_eq_true c14]; rfl) | (rw [decide_eq_true c21, Bool.not_true, Bool.and_false]; rfl) | (rw [decide_eq_true c26, Bool.not_true, Bool.and_false]; rfl) | (rw [decide_eq_true c32, Bool.not_true, Bool.and_false]; rfl) | (rw [decide_eq_false c44, Bool.false_and, Bool.and_false]) | (rw [decide_eq_false c56, Bool.and_false, Bool.and_false])
      refine n_top (y := bZ false) rfl ?_
      exact ret_z C hr hlocks h () trivial (by rw [hfin]) rfl (by omega) (by omega) dX1_isKey_64
    · refine lv_iload_n hx hb dX1_isKey_24 rfl (lv_at hl 0 rfl) ?_
      refine lv_iconst (v := nI 2) hx hb dX1_isKey_25 (by decide) ?_
      refine lv_icmp_lt (tgt := 63) hx hb dX1_isKey_26 (by decide) (fun c26 => ?_) (fun c26 => ?_)
      · refine lv_iconst (v := nI 0) hx hb dX1_isKey_63 (by decide) ?_
        subst hQ
        have hfin : kyOk la lb = false := by unfold kyOk; first | (rw [decide_eq_true c14]; rfl) | (rw [decide_eq_true c21, Bool.not_true, Bool.and_false]; rfl) | (rw [decide_eq_true c26, Bool.not_true, Bool.and_false]; rfl) | (rw [decide_eq_true c32, Bool.not_true, Bool.and_false]; rfl) | (rw [decide_eq_false c44, Bool.false_and, Bool.and_false]) | (rw [decide_eq_false c56, Bool.and_false, Bool.and_false])
        refine n_top (y := bZ false) rfl ?_
        exact ret_z C hr hlocks h () trivial (by rw [hfin]) rfl (by omega) (by omega) dX1_isKey_64
      · refine lv_iload_n hx hb dX1_isKey_29 rfl (lv_at hl 0 rfl) ?_
        refine lv_bipush (v := nI 32) hx hb dX1_isKey_30 (by decide) ?_
        refine lv_icmp_gt (tgt := 63) hx hb dX1_isKey_32 (by decide) (fun c32 => ?_) (fun c32 => ?_)
        · refine lv_iconst (v := nI 0) hx hb dX1_isKey_63 (by decide) ?_
          subst hQ
          have hfin : kyOk la lb = false := by unfold kyOk; first | (rw [decide_eq_true c14]; rfl) | (rw [decide_eq_true c21, Bool.not_true, Bool.and_false]; rfl) | (rw [decide_eq_true c26, Bool.not_true, Bool.and_false]; rfl) | (rw [decide_eq_true c32, Bool.not_true, Bool.and_false]; rfl) | (rw [decide_eq_false c44, Bool.false_and, Bool.and_false]) | (rw [decide_eq_false c56, Bool.and_false, Bool.and_false])
          refine n_top (y := bZ false) rfl ?_
          exact ret_z C hr hlocks h () trivial (by rw [hfin]) rfl (by omega) (by omega) dX1_isKey_64
        · refine lv_aload_n hx hb dX1_isKey_35 rfl (lv_at hl 2 rfl) ?_
          refine lv_aload_n hx hb dX1_isKey_36 rfl (lv_at hl 2 rfl) ?_
          refine n_balen C h (hm) dX1_isKey_37 ?_
          refine lv_iconst (v := nI 1) hx hb dX1_isKey_38 (by decide) ?_
          refine lv_isub hx hb dX1_isKey_39 (n_top (y := nI (la.length - 1)) (pk_sub (by omega)) ?_)
          refine n_bald C h (v := (gD la) (la.length - 1)) (hm) (show la.length - 1 < la.length by omega) (by omega) rfl dX1_isKey_40 ?_
          refine lv_iconst (v := nI 1) hx hb dX1_isKey_41 (by decide) ?_
          refine lv_iand hx hb dX1_isKey_42 ?_
          refine n_top (y := nI (gD la (la.length - 1) % 2)) (sb_odd _ hx1) ?_
          refine lv_iconst (v := nI 1) hx hb dX1_isKey_43 (by decide) ?_
          refine n_icmp_ne (tgt := 63) hx hb (by omega) (by omega) dX1_isKey_44 (by decide) (fun c44 => ?_) (fun c44 => ?_)
          · refine lv_iconst (v := nI 0) hx hb dX1_isKey_63 (by decide) ?_
            subst hQ
            have hfin : kyOk la lb = false := by unfold kyOk; first | (rw [decide_eq_true c14]; rfl) | (rw [decide_eq_true c21, Bool.not_true, Bool.and_false]; rfl) | (rw [decide_eq_true c26, Bool.not_true, Bool.and_false]; rfl) | (rw [decide_eq_true c32, Bool.not_true, Bool.and_false]; rfl) | (rw [decide_eq_false c44, Bool.false_and, Bool.and_false]) | (rw [decide_eq_false c56, Bool.and_false, Bool.and_false])
            refine n_top (y := bZ false) rfl ?_
            exact ret_z C hr hlocks h () trivial (by rw [hfin]) rfl (by omega) (by omega) dX1_isKey_64
          · refine lv_aload_n hx hb dX1_isKey_47 rfl (lv_at hl 3 rfl) ?_
            refine lv_aload_n hx hb dX1_isKey_48 rfl (lv_at hl 3 rfl) ?_
            refine n_balen C h (hm2) dX1_isKey_49 ?_
            refine lv_iconst (v := nI 1) hx hb dX1_isKey_50 (by decide) ?_
            refine lv_isub hx hb dX1_isKey_51 (n_top (y := nI (lb.length - 1)) (pk_sub (by omega)) ?_)
            refine n_bald C h (v := (gD lb) (lb.length - 1)) (hm2) (show lb.length - 1 < lb.length by omega) (by omega) rfl dX1_isKey_52 ?_
            refine lv_iconst (v := nI 1) hx hb dX1_isKey_53 (by decide) ?_
            refine lv_iand hx hb dX1_isKey_54 ?_
            refine n_top (y := nI (gD lb (lb.length - 1) % 2)) (sb_odd _ hx2) ?_
            refine lv_iconst (v := nI 1) hx hb dX1_isKey_55 (by decide) ?_
            refine n_icmp_ne (tgt := 63) hx hb (by omega) (by omega) dX1_isKey_56 (by decide) (fun c56 => ?_) (fun c56 => ?_)
            · refine lv_iconst (v := nI 0) hx hb dX1_isKey_63 (by decide) ?_
              subst hQ
              have hfin : kyOk la lb = false := by unfold kyOk; first | (rw [decide_eq_true c14]; rfl) | (rw [decide_eq_true c21, Bool.not_true, Bool.and_false]; rfl) | (rw [decide_eq_true c26, Bool.not_true, Bool.and_false]; rfl) | (rw [decide_eq_true c32, Bool.not_true, Bool.and_false]; rfl) | (rw [decide_eq_false c44, Bool.false_and, Bool.and_false]) | (rw [decide_eq_false c56, Bool.and_false, Bool.and_false])
              refine n_top (y := bZ false) rfl ?_
              exact ret_z C hr hlocks h () trivial (by rw [hfin]) rfl (by omega) (by omega) dX1_isKey_64
            · refine lv_iconst (v := nI 1) hx hb dX1_isKey_59 (by decide) ?_
              refine lv_goto (tgt := 64) hx hb dX1_isKey_60 (by decide) ?_
              subst hQ
              have hfin : kyOk la lb = true := by unfold kyOk; rw [decide_eq_false c14, decide_eq_false c21, decide_eq_false c26, decide_eq_false c32, decide_eq_true c44, decide_eq_true c56]; rfl
              refine n_top (y := bZ true) rfl ?_
              exact ret_z C hr hlocks h () trivial (by rw [hfin]) rfl (by omega) (by omega) dX1_isKey_64
set_option maxHeartbeats 400000 in
set_option maxRecDepth 100000 in
theorem c15_take (l : Launch) (D : va_G) (dA : Nat → ClassId) (B : Nat) (Z : State → Prop) (hZ : Stab B Z) (F : va_W) (p9 ba : Nat) (lb : List Nat) (u : OU) (hba : (ba, bal dA lb) ∈ F) (hlb : byt lb) (hll : lb.length < 100000) (hu : u.1 ≤ lb.length) :
    Ct (S := Unit) l D dA B Z yX15_take cX15_take 1 (some .int) 1 0 0 [.ref p9] ([(p9, .inr (12, [.ref ba, .int (nI u.1), .int (bZ u.2)]))] ++ F) (fun _ => True) (fun _ => some (.int (nI (oneS lb u).1))) (fun _ => [(p9, .inr (12, [.ref ba, .int (nI (oneS lb u).2.1), .int (bZ (oneS lb u).2.2)]))] ++ F) := by
  refine Ct.mk2 (by decide) (Nat.le_of_ble_eq_true rfl) hZ ?_
  intro p e R s m args below meth c ls Q C hr hlocks hin hQ hl h
  have C0 := C
  obtain ⟨hx, hb, hml, hown, hts, -⟩ := C0
  have hl : lv_has ls 1 [(0, .ref p9)] := hl
  have hb9 := byt_gD hlb u.1
  refine lv_aload_n hx hb dX15_take_0 rfl (lv_at hl 0 rfl) ?_
  refine o_get C h (RC := RX15) (T := TX15) (N := 3) (List.mem_of_getElem? (i := 0) rfl) rfl in_X15 1 (by decide) q1101 rfl (v := .int (nI u.1)) rfl dX15_take_1 ?_
  refine lv_aload_n hx hb dX15_take_4 rfl (lv_at hl 0 rfl) ?_
  refine o_get C h (RC := RX15) (T := TX15) (N := 3) (List.mem_of_getElem? (i := 0) rfl) rfl in_X15 0 (by decide) q1099 rfl (v := .ref ba) rfl dX15_take_5 ?_
  refine n_balen C h (List.mem_append_right _ hba) dX15_take_8 ?_
  refine n_icmp_lt (tgt := 19) hx hb (by omega) (by omega) dX15_take_9 (by decide) (fun c9 => ?_) (fun c9 => ?_)
  · refine lv_aload_n hx hb dX15_take_19 rfl (lv_at hl 0 rfl) ?_
    refine o_get C h (RC := RX15) (T := TX15) (N := 3) (List.mem_of_getElem? (i := 0) rfl) rfl in_X15 0 (by decide) q1099 rfl (v := .ref ba) rfl dX15_take_20 ?_
    refine lv_aload_n hx hb dX15_take_23 rfl (lv_at hl 0 rfl) ?_
    refine lv_dup hx hb dX15_take_24 rfl ?_
    refine o_get C h (RC := RX15) (T := TX15) (N := 3) (List.mem_of_getElem? (i := 0) rfl) rfl in_X15 1 (by decide) q1101 rfl (v := .int (nI u.1)) rfl dX15_take_25 ?_
    refine lv_dup_x1 hx hb dX15_take_28 rfl rfl ?_
    refine lv_iconst (v := nI 1) hx hb dX15_take_29 (by decide) ?_
    refine lv_iadd hx hb dX15_take_30 (n_top (y := nI (u.1 + 1)) (nI_add u.1 1) ?_)
    refine o_put C h 0 (RC := RX15) (T := TX15) (N := 3) (ws' := [(p9, .inr (12, [.ref ba, .int (nI (u.1 + 1)), .int (bZ u.2)]))] ++ F) rfl rfl in_X15 tyX15_ok nmX15 1 (by decide) q1101 rfl rfl (v := .int (nI (u.1 + 1))) rfl rfl (Nat.le_of_ble_eq_true rfl) rfl dX15_take_31 (fun H locs h => ?_)
    refine n_bald C h (v := (gD lb) u.1) (List.mem_append_right _ hba) (show u.1 < lb.length by omega) (by omega) rfl dX15_take_34 ?_
    refine lv_sipush (v := nI 255) hx hb dX15_take_35 (by decide) ?_
    refine lv_iand hx hb dX15_take_38 ?_
    refine n_top (y := nI (gD lb u.1)) ((sb_byte _ hb9).1) ?_
    subst hQ
    have hone : oneS lb u = (gD lb u.1, (u.1 + 1, u.2)) := by unfold oneS; rw [if_neg (by omega)]
    exact ret_i C hr hlocks h () trivial (by rw [hone]) (by rw [hone]) (by omega) (by omega) dX15_take_39
  · refine lv_aload_n hx hb dX15_take_12 rfl (lv_at hl 0 rfl) ?_
    refine lv_iconst (v := nI 0) hx hb dX15_take_13 (by decide) ?_
    refine n_top (y := bZ false) rfl ?_
    refine o_put C h 0 (RC := RX15) (T := TX15) (N := 3) (ws' := [(p9, .inr (12, [.ref ba, .int (nI u.1), .int (bZ false)]))] ++ F) rfl rfl in_X15 tyX15_ok nmX15 2 (by decide) q1104 rfl rfl (v := .int (bZ false)) (bZ_nar _) (bZ_fit _) (Nat.le_of_ble_eq_true rfl) rfl dX15_take_14 (fun H locs h => ?_)
    refine lv_iconst (v := nI 0) hx hb dX15_take_17 (by decide) ?_
    subst hQ
    have hone : oneS lb u = (0, (u.1, false)) := by unfold oneS; rw [if_pos (by omega)]
    exact ret_i C hr hlocks h () trivial (by rw [hone]) (by rw [hone]) (by omega) (by omega) dX15_take_18
