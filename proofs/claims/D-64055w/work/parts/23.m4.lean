set_option maxRecDepth 100000
set_option maxHeartbeats 400000 in
set_option maxRecDepth 100000 in
theorem c7_toDigits (l : Launch) (D : va_G) (dA : Nat → ClassId) (B : Nat) (Z : State → Prop) (hZ : Stab B Z) (h0 : Nat) (ad : Nat → Nat) (M : MS) (F : va_W) (a kt : Nat) (lb : List Nat) (hkt : kt ∈ mkL) (hkl : mlen kt = 40) (hb0 : (a, ial dA lb) ∈ F) (hby : byt lb) (h2 : lb.length ≤ 150) :
    Ct (S := Nat → Nat) l D dA B Z yX7_toDigits cX7_toDigits 3 none 1 0 0 [.ref a, .ref (ad kt)] (mw dA h0 ad M ++ F) (fun T => (∀ j, j < 40 → T j < 4294967296) ∧ dv 4294967296 T 40 = num lb) (fun _ => none) (fun T => mw dA h0 ad (sG M kt T) ++ F) := by
  refine Ct.mk2 (by decide) (Nat.le_of_ble_eq_true rfl) hZ ?_
  intro p e R s m args below meth c ls Q C hr hlocks hin hQ hl h
  have C0 := C
  obtain ⟨hx, hb, hml, hown, hts, -⟩ := C0
  have hl : lv_has ls 3 [(0, .ref a), (1, .ref (ad kt))] := hl
  have h : Wd D B s (mw dA h0 ad (sG M kt (mG M kt)) ++ F) s.heap [] := by rw [sG_id]; exact h
  refine lv_iconst (v := nI 0) hx hb dX7_toDigits_0 (by decide) ?_
  refine lv_istore_n (lv' := [(2, .int (nI 0)), (0, .ref a), (1, .ref (ad kt))]) hx hb dX7_toDigits_1 rfl hl (by decide) rfl (fun ls hl => ?_)
  have loop : ∀ (nn : Nat) (i : Nat) (T : Nat → Nat), (i ≤ 40) → (∀ j, j < i → T j = 0) → 40 - i < nn → ∀ (H : Heap) (locs : List Loc), Wd D B s (mw dA h0 ad (sG M kt T) ++ F) H locs → ∀ (ls : Array Slot), lv_has ls 3 [(2, .int (nI i)), (0, .ref a), (1, .ref (ad kt))] → W p l e R s m args below meth c H locs 0 0 Q (F0 m 2 ls []) := by
    intro nn
    induction nn with
    | zero => intro i  T  hi0 hi1 hme; exact absurd hme (Nat.not_lt_zero _)
    | succ nn ih =>
      intro i  T  hi0 hi1 hme H locs h ls hl
      refine lv_iload_n hx hb dX7_toDigits_2 rfl (lv_at hl 0 rfl) ?_
      refine lv_aload_n hx hb dX7_toDigits_3 rfl (lv_at hl 2 rfl) ?_
      refine n_lalen C h (mw_memLs hkt hkl) dX7_toDigits_4 ?_
      refine n_icmp_ge (tgt := 18) hx hb (by omega) (by omega) dX7_toDigits_5 (by decide) (fun c5 => ?_) (fun c5 => ?_)
      · refine lv_iconst (v := nI 0) hx hb dX7_toDigits_18 (by decide) ?_
        refine lv_istore_n (lv' := [(2, .int (nI 0)), (0, .ref a), (1, .ref (ad kt))]) hx hb dX7_toDigits_19 rfl hl (by decide) rfl (fun ls hl => ?_)
        have hz : ∀ j, j < 40 → T j = 0 := fun j hj => hi1 j (by omega)
        have loopT : ∀ (nnT : Nat) (i : Nat) (T : Nat → Nat), (i ≤ lb.length) → (∀ j, j < 40 → i ≤ 4 * j → T j = 0) → (T (i / 4) < 2 ^ (8 * (i % 4))) → (∀ j, j < 40 → T j < 4294967296) → (dv 4294967296 T 40 = num (lb.drop (lb.length - i))) → lb.length - i < nnT → ∀ (H : Heap) (locs : List Loc), Wd D B s (mw dA h0 ad (sG M kt T) ++ F) H locs → ∀ (ls : Array Slot), lv_has ls 3 [(2, .int (nI i)), (0, .ref a), (1, .ref (ad kt))] → W p l e R s m args below meth c H locs 0 0 Q (F0 m 20 ls []) := by
          intro nnT
          induction nnT with
          | zero => intro i  T  hj0 hj1 hj2 hj3 hj4 hme; exact absurd hme (Nat.not_lt_zero _)
          | succ nnT ihT =>
            intro i  T  hj0 hj1 hj2 hj3 hj4 hme H locs h ls hl
            refine lv_iload_n hx hb dX7_toDigits_20 rfl (lv_at hl 0 rfl) ?_
            refine lv_aload_n hx hb dX7_toDigits_21 rfl (lv_at hl 1 rfl) ?_
            refine n_alen C h (List.mem_append_right _ hb0) dX7_toDigits_22 ?_
            refine n_icmp_ge (tgt := 64) hx hb (by omega) (by omega) dX7_toDigits_23 (by decide) (fun c23 => ?_) (fun c23 => ?_)
            · subst hQ
              exact ret_v C hr hlocks h T (⟨hj3, by rw [hj4, show lb.length - i = 0 by omega, List.drop_zero]⟩) rfl rfl (by omega) (by omega) dX7_toDigits_64
            · refine lv_iload_n hx hb dX7_toDigits_26 rfl (lv_at hl 0 rfl) ?_
              refine lv_iconst (v := nI 4) hx hb dX7_toDigits_27 (by decide) ?_
              refine lv_aload_n hx hb dX7_toDigits_28 rfl (lv_at hl 2 rfl) ?_
              refine n_lalen C h (mw_memLs hkt hkl) dX7_toDigits_29 ?_
              refine lv_imul hx hb dX7_toDigits_30 (n_top (y := nI 160) (by decide) ?_)
              refine n_icmp_ge (tgt := 64) hx hb (by omega) (by omega) dX7_toDigits_31 (by decide) (fun c31 => by exfalso; omega) (fun c31 => ?_)
              have hx8 := byt_gD hby (lb.length - 1 - i)
              have ds := dig_step (T := T) (i := i) (x := gD lb (lb.length - 1 - i)) (by omega) hx8 hj1 hj2 hj3
              refine lv_aload_n hx hb dX7_toDigits_34 rfl (lv_at hl 2 rfl) ?_
              refine lv_iload_n hx hb dX7_toDigits_35 rfl (lv_at hl 0 rfl) ?_
              refine lv_iconst (v := nI 4) hx hb dX7_toDigits_36 (by decide) ?_
              refine lv_idiv hx hb dX7_toDigits_37 (by decide) (n_top (y := nI (i / 4)) (pk_div (by omega) (by omega) (by omega)) ?_)
              refine lv_dup2_11 hx hb dX7_toDigits_38 rfl rfl ?_
              refine n_lald C h (v := T (i / 4)) (mw_memLs hkt hkl) (show i / 4 < 40 by omega) (by decide) rfl dX7_toDigits_39 ?_
              refine lv_aload_n hx hb dX7_toDigits_40 rfl (lv_at hl 1 rfl) ?_
              refine lv_aload_n hx hb dX7_toDigits_41 rfl (lv_at hl 1 rfl) ?_
              refine n_alen C h (List.mem_append_right _ hb0) dX7_toDigits_42 ?_
              refine lv_iconst (v := nI 1) hx hb dX7_toDigits_43 (by decide) ?_
              refine lv_isub hx hb dX7_toDigits_44 (n_top (y := nI (lb.length - 1)) (pk_sub (by omega)) ?_)
              refine lv_iload_n hx hb dX7_toDigits_45 rfl (lv_at hl 0 rfl) ?_
              refine lv_isub hx hb dX7_toDigits_46 (n_top (y := nI ((lb.length - 1) - i)) (pk_sub (by omega)) ?_)
              refine n_iald C h (v := (gD lb) ((lb.length - 1) - i)) (List.mem_append_right _ hb0) (show (lb.length - 1) - i < lb.length by omega) (by omega) rfl dX7_toDigits_47 ?_
              refine lv_i2l (v := lN ((gD lb) ((lb.length - 1) - i))) hx hb dX7_toDigits_48 (nI_l (by omega)) ?_
              refine lv_bipush (v := nI 8) hx hb dX7_toDigits_49 (by decide) ?_
              refine lv_iload_n hx hb dX7_toDigits_51 rfl (lv_at hl 0 rfl) ?_
              refine lv_iconst (v := nI 4) hx hb dX7_toDigits_52 (by decide) ?_
              refine lv_irem hx hb dX7_toDigits_53 (by decide) (n_top (y := nI (i % 4)) (pk_rem (by omega) (by omega) (by omega)) ?_)
              refine lv_imul hx hb dX7_toDigits_54 (n_top (y := nI (8 * (i % 4))) (pk_mul 8 (i % 4)) ?_)
              refine n_lshl hx hb dX7_toDigits_55 ?_
              refine n_topl (y := lN (gD lb (lb.length - 1 - i) * 2 ^ (8 * (i % 4)))) (l_shlN (by omega)) ?_
              refine lv_ladd hx hb dX7_toDigits_56 (n_topl (y := lN ((T (i / 4)) + (gD lb (lb.length - 1 - i) * 2 ^ (8 * (i % 4))))) (lN_add (T (i / 4)) (gD lb (lb.length - 1 - i) * 2 ^ (8 * (i % 4)))) ?_)
              refine m_last C h kt (v := (T (i / 4)) + (gD lb (lb.length - 1 - i) * 2 ^ (8 * (i % 4)))) hkt (n := 40) hkl (by omega) dX7_toDigits_57 (fun H locs h => ?_)
              rw [sG_sG, sG_self] at h
              refine lv_iinc (v := nI (i + 1)) (lv' := [(2, .int (nI (i + 1))), (0, .ref a), (1, .ref (ad kt))]) hx hb dX7_toDigits_58 hl (k := 0) rfl (nI_add i 1) (by decide) rfl (fun ls hl => ?_)
              refine lv_goto (tgt := 20) hx hb dX7_toDigits_61 (by decide) ?_
              exact ihT (i + 1) _ (by omega) ds.1 (ds.2.1 (by omega)) ds.2.2.1 (by rw [ds.2.2.2, hj4, num_drop (by omega)]; omega) (by omega) _ _ h _ (lv_sub hl [0, 1, 2] rfl)
        exact loopT _ 0 _ (by omega) (fun j hj _ => hz j hj) (by rw [hz _ (by decide)]; decide) (fun j hj => by rw [hz j hj]; decide) (by rw [dv_congr (g := fun _ => 0) hz, List.drop_of_length_le (by omega)]; rfl) (Nat.lt_succ_self _) _ _ h _ (lv_sub hl [0, 1, 2] rfl)
      · refine lv_aload_n hx hb dX7_toDigits_8 rfl (lv_at hl 2 rfl) ?_
        refine lv_iload_n hx hb dX7_toDigits_9 rfl (lv_at hl 0 rfl) ?_
        refine lv_lconst (v := lN 0) hx hb dX7_toDigits_10 (by decide) ?_
        refine m_last C h kt (v := 0) hkt (n := 40) hkl (by omega) dX7_toDigits_11 (fun H locs h => ?_)
        rw [sG_sG, sG_self] at h
        refine lv_iinc (v := nI (i + 1)) (lv' := [(2, .int (nI (i + 1))), (0, .ref a), (1, .ref (ad kt))]) hx hb dX7_toDigits_12 hl (k := 0) rfl (nI_add i 1) (by decide) rfl (fun ls hl => ?_)
        refine lv_goto (tgt := 2) hx hb dX7_toDigits_15 (by decide) ?_
        exact ih (i + 1) _ (by omega) (fun j q => by
          rcases Nat.lt_or_ge j i with q2 | q2
          · rw [upN_n (by omega)]; exact hi1 j q2
          · rw [show j = i by omega, upN_s]) (by omega) _ _ h _ (lv_sub hl [0, 1, 2] rfl)
  exact loop _ 0 _ (by omega) (fun j q => absurd q (Nat.not_lt_zero _)) (Nat.lt_succ_self _) _ _ h _ (lv_sub hl [0, 1, 2] rfl)
set_option maxHeartbeats 400000 in
set_option maxRecDepth 100000 in
theorem c7_isGreat (l : Launch) (D : va_G) (dA : Nat → ClassId) (B : Nat) (Z : State → Prop) (hZ : Stab B Z) (h0 : Nat) (ad : Nat → Nat) (M : MS) (F : va_W) (d9 : Nat) (h1 : mI M 26 = nI d9) (hd1 : 1 ≤ d9) (hd2 : d9 ≤ 38) (hS : ∀ i, i ≤ d9 → mG M 28 i < 4294967296) (hMo : ∀ i, i < d9 → mG M 27 i < 4294967296) :
    Ct (S := Unit) l D dA B Z yX7_isGreat cX7_isGreat 2 (some .boolean) 1 0 0 [.ref h0] (mw dA h0 ad M ++ F) (fun _ => True) (fun _ => some (.int (bZ (decide (dv 4294967296 (mG M 27) d9 ≤ dv 4294967296 (mG M 28) (d9 + 1)))))) (fun _ => mw dA h0 ad M ++ F) := by
  refine Ct.mk2 (by decide) (Nat.le_of_ble_eq_true rfl) hZ ?_
  intro p e R s m args below meth c ls Q C hr hlocks hin hQ hl h
  have C0 := C
  obtain ⟨hx, hb, hml, hown, hts, -⟩ := C0
  have hl : lv_has ls 2 [(0, .ref h0)] := hl
  refine lv_aload_n hx hb dX7_isGreat_0 rfl (lv_at hl 0 rfl) ?_
  refine m_gc C h 28 (by decide) rfl rfl q1898 dX7_isGreat_1 ?_
  refine lv_aload_n hx hb dX7_isGreat_4 rfl (lv_at hl 0 rfl) ?_
  refine m_gi C h 26 (by decide) rfl rfl q1896 (v := nI d9) h1 dX7_isGreat_5 ?_
  refine n_lald C h (v := (mG M 28) d9) (mw_memL (k := 28) (by decide)) (show d9 < 42 by omega) (by decide) rfl dX7_isGreat_8 ?_
  have hsd := hS d9 (Nat.le_refl _)
  refine lv_lconst (v := lN 0) hx hb dX7_isGreat_9 (by decide) ?_
  refine n_lcmp_le (tgt := 16) hx hb (by omega) (by omega) dX7_isGreat_10 dX7_isGreat_11 (by decide) (fun c10 => ?_) (fun c10 => ?_)
  · refine lv_aload_n hx hb dX7_isGreat_16 rfl (lv_at hl 0 rfl) ?_
    refine m_gi C h 26 (by decide) rfl rfl q1896 (v := nI d9) h1 dX7_isGreat_17 ?_
    refine lv_iconst (v := nI 1) hx hb dX7_isGreat_20 (by decide) ?_
    refine lv_isub hx hb dX7_isGreat_21 ?_
    refine n_top (y := nI (d9 - 0) - nI 1) rfl ?_
    refine lv_istore_n (lv' := [(1, .int (nI (d9 - 0) - nI 1)), (0, .ref h0)]) hx hb dX7_isGreat_22 rfl hl (by decide) rfl (fun ls hl => ?_)
    have loop : ∀ (nn : Nat) (i : Nat), (i ≤ d9) → (∀ j, d9 - i ≤ j → j < d9 → mG M 28 j = mG M 27 j) → d9 - i < nn → ∀ (H : Heap) (locs : List Loc), Wd D B s (mw dA h0 ad M ++ F) H locs → ∀ (ls : Array Slot), lv_has ls 2 [(1, .int (nI (d9 - i) - nI 1)), (0, .ref h0)] → W p l e R s m args below meth c H locs 0 0 Q (F0 m 23 ls []) := by
      intro nn
      induction nn with
      | zero => intro i  hi0 hi1 hme; exact absurd hme (Nat.not_lt_zero _)
      | succ nn ih =>
        intro i  hi0 hi1 hme H locs h ls hl
        refine lv_iload_n hx hb dX7_isGreat_23 rfl (lv_at hl 0 rfl) ?_
        refine lv_if_lt (tgt := 71) hx hb dX7_isGreat_24 (by decide) (fun c24 => ?_) (fun c24 => ?_)
        · have hic : i = d9 := by
            rcases Nat.lt_or_ge i d9 with q | q
            · exact absurd c24 (by rw [pk_sub (by omega)]; exact nI_pos (by omega))
            · omega
          refine lv_iconst (v := nI 1) hx hb dX7_isGreat_71 (by decide) ?_
          subst hQ
          refine n_top (y := bZ true) rfl ?_
          exact ret_z C hr hlocks h () trivial (by
            rw [decide_eq_true]; rw [dv, dv_congr (f := mG M 28) (g := mG M 27) (fun j hj => hi1 j (by omega) hj)]
            exact Nat.le_add_right _ _) rfl (by omega) (by omega) dX7_isGreat_72
        · have hlt : i < d9 := by
            rcases Nat.lt_or_ge i d9 with q | q
            · exact q
            · exact absurd (by rw [show d9 - i = 0 by omega]; decide) c24
          have hk : nI (d9 - i) - nI 1 = nI (d9 - 1 - i) := by rw [pk_sub (by omega)]; congr 1; omega
          rw [hk] at hl
          have hs1 := hS (d9 - 1 - i) (by omega)
          have hm1 := hMo (d9 - 1 - i) (by omega)
          refine lv_aload_n hx hb dX7_isGreat_27 rfl (lv_at hl 1 rfl) ?_
          refine m_gc C h 28 (by decide) rfl rfl q1898 dX7_isGreat_28 ?_
          refine lv_iload_n hx hb dX7_isGreat_31 rfl (lv_at hl 0 rfl) ?_
          refine n_lald C h (v := (mG M 28) (d9 - 1 - i)) (mw_memL (k := 28) (by decide)) (show d9 - 1 - i < 42 by omega) (by decide) rfl dX7_isGreat_32 ?_
          refine lv_aload_n hx hb dX7_isGreat_33 rfl (lv_at hl 1 rfl) ?_
          refine m_gc C h 27 (by decide) rfl rfl q1897 dX7_isGreat_34 ?_
          refine lv_iload_n hx hb dX7_isGreat_37 rfl (lv_at hl 0 rfl) ?_
          refine n_lald C h (v := (mG M 27) (d9 - 1 - i)) (mw_memL (k := 27) (by decide)) (show d9 - 1 - i < 40 by omega) (by decide) rfl dX7_isGreat_38 ?_
          refine n_lcmp_eq (tgt := 65) hx hb (by omega) (by omega) dX7_isGreat_39 dX7_isGreat_40 (by decide) (fun c39 => ?_) (fun c39 => ?_)
          · refine lv_iinc (v := nI (d9 - (i + 1)) - nI 1) (lv' := [(1, .int (nI (d9 - (i + 1)) - nI 1)), (0, .ref h0)]) hx hb dX7_isGreat_65 hl (k := 0) rfl (by rw [show d9 - (i + 1) = d9 - 1 - i by omega]; exact n_m1 _) (by decide) rfl (fun ls hl => ?_)
            refine lv_goto (tgt := 23) hx hb dX7_isGreat_68 (by decide) ?_
            exact ih (i + 1) (by omega) (fun j q q2 => by
              rcases Nat.lt_or_ge j (d9 - i) with q3 | q3
              · rw [show j = d9 - 1 - i by omega]; exact c39
              · exact hi1 j q3 q2) (by omega) _ _ h _ (lv_sub hl [0, 1] rfl)
          · refine lv_aload_n hx hb dX7_isGreat_43 rfl (lv_at hl 1 rfl) ?_
            refine m_gc C h 28 (by decide) rfl rfl q1898 dX7_isGreat_44 ?_
            refine lv_iload_n hx hb dX7_isGreat_47 rfl (lv_at hl 0 rfl) ?_
            refine n_lald C h (v := (mG M 28) (d9 - 1 - i)) (mw_memL (k := 28) (by decide)) (show d9 - 1 - i < 42 by omega) (by decide) rfl dX7_isGreat_48 ?_
            refine lv_aload_n hx hb dX7_isGreat_49 rfl (lv_at hl 1 rfl) ?_
            refine m_gc C h 27 (by decide) rfl rfl q1897 dX7_isGreat_50 ?_
            refine lv_iload_n hx hb dX7_isGreat_53 rfl (lv_at hl 0 rfl) ?_
            refine n_lald C h (v := (mG M 27) (d9 - 1 - i)) (mw_memL (k := 27) (by decide)) (show d9 - 1 - i < 40 by omega) (by decide) rfl dX7_isGreat_54 ?_
            refine n_lcmp_le (tgt := 63) hx hb (by omega) (by omega) dX7_isGreat_55 dX7_isGreat_56 (by decide) (fun c55 => ?_) (fun c55 => ?_)
            · refine lv_iconst (v := nI 0) hx hb dX7_isGreat_63 (by decide) ?_
              subst hQ
              refine n_top (y := bZ false) rfl ?_
              exact ret_z C hr hlocks h () trivial (by
                rw [decide_eq_false]; rw [dv]
                have h5 := dv_cmp (b := 4294967296) (f := mG M 28) (g := mG M 27) (k := d9 - 1 - i) (n := d9) (by omega) (by omega) (fun j q q2 => hi1 j (by omega) q2) (fun j q => hS j (by omega))
                rw [show mG M 28 d9 = 0 by omega, Nat.zero_mul]
                omega) rfl (by omega) (by omega) dX7_isGreat_64
            · refine lv_iconst (v := nI 1) hx hb dX7_isGreat_59 (by decide) ?_
              refine lv_goto (tgt := 64) hx hb dX7_isGreat_60 (by decide) ?_
              subst hQ
              refine n_top (y := bZ true) rfl ?_
              exact ret_z C hr hlocks h () trivial (by
                rw [decide_eq_true]; rw [dv]
                have h5 := dv_cmp (b := 4294967296) (f := mG M 27) (g := mG M 28) (k := d9 - 1 - i) (n := d9) (by omega) c55 (fun j q q2 => (hi1 j (by omega) q2).symm) (fun j q => hMo j (by omega))
                omega) rfl (by omega) (by omega) dX7_isGreat_64
    exact loop _ 0 (by omega) (fun j q q2 => absurd q2 (by omega)) (Nat.lt_succ_self _) _ _ h _ (lv_sub hl [0, 1] rfl)
  · refine lv_iconst (v := nI 1) hx hb dX7_isGreat_14 (by decide) ?_
    subst hQ
    refine n_top (y := bZ true) rfl ?_
    exact ret_z C hr hlocks h () trivial (by
      rw [decide_eq_true]; rw [dv]
      have h5 := dv_lt (b := 4294967296) (g := mG M 27) (n := d9) hMo
      have h6 : 1 * 4294967296 ^ d9 ≤ mG M 28 d9 * 4294967296 ^ d9 := Nat.mul_le_mul_right _ (by omega)
      omega) rfl (by omega) (by omega) dX7_isGreat_15
set_option maxHeartbeats 400000 in
set_option maxRecDepth 100000 in
theorem c7_less (l : Launch) (D : va_G) (dA : Nat → ClassId) (B : Nat) (Z : State → Prop) (hZ : Stab B Z) (h0 : Nat) (ad : Nat → Nat) (M : MS) (F : va_W) (d9 : Nat) (h1 : mI M 26 = nI d9) (hd1 : 1 ≤ d9) (hd2 : d9 ≤ 38) (hS : ∀ i, i ≤ d9 → mG M 28 i < 4294967296) (hMo : ∀ i, i < d9 → mG M 27 i < 4294967296) (hle : dv 4294967296 (mG M 27) d9 ≤ dv 4294967296 (mG M 28) (d9 + 1)) :
    Ct (S := Nat → Nat) l D dA B Z yX7_less cX7_less 6 none 1 0 0 [.ref h0] (mw dA h0 ad M ++ F) (fun S => (∀ i, i ≤ d9 → S i < 4294967296) ∧ (∀ i, d9 < i → S i = mG M 28 i) ∧ dv 4294967296 S (d9 + 1) + dv 4294967296 (mG M 27) d9 = dv 4294967296 (mG M 28) (d9 + 1)) (fun _ => none) (fun S => mw dA h0 ad (sG M 28 S) ++ F) := by
  refine Ct.mk2 (by decide) (Nat.le_of_ble_eq_true rfl) hZ ?_
  intro p e R s m args below meth c ls Q C hr hlocks hin hQ hl h
  have C0 := C
  obtain ⟨hx, hb, hml, hown, hts, -⟩ := C0
  have hl : lv_has ls 6 [(0, .ref h0)] := hl
  have h : Wd D B s (mw dA h0 ad (sG M 28 (mG M 28)) ++ F) s.heap [] := by rw [sG_id]; exact h
  refine lv_lconst (v := lN 0) hx hb dX7_less_0 (by decide) ?_
  refine lv_lstore_n (lv' := [(1, .long (lN 0)), (0, .ref h0)]) hx hb dX7_less_1 rfl hl (by decide) rfl (fun ls hl => ?_)
  refine lv_iconst (v := nI 0) hx hb dX7_less_2 (by decide) ?_
  refine lv_istore_n (lv' := [(3, .int (nI 0)), (1, .long (lN 0)), (0, .ref h0)]) hx hb dX7_less_3 rfl hl (by decide) rfl (fun ls hl => ?_)
  have hl : lv_has ls 6 [(3, .int (nI 0)), (1, .long (mC 0)), (0, .ref h0)] := hl
  have loop : ∀ (nn : Nat) (k c1 : Nat) (S1 : Nat → Nat), (k ≤ d9 + 1) → (c1 ≤ 1) → (dv 4294967296 S1 k + dv 4294967296 (md d9 (mG M 27)) k = dv 4294967296 (mG M 28) k + c1 * 4294967296 ^ k) → (∀ i, k ≤ i → S1 i = mG M 28 i) → (∀ i, i < k → S1 i < 4294967296) → d9 + 1 - k < nn → ∀ (H : Heap) (locs : List Loc), Wd D B s (mw dA h0 ad (sG M 28 S1) ++ F) H locs → ∀ (ls : Array Slot), lv_has ls 6 [(3, .int (nI k)), (1, .long (mC c1)), (0, .ref h0)] → W p l e R s m args below meth c H locs 0 0 Q (F0 m 4 ls []) := by
    intro nn
    induction nn with
    | zero => intro k c1  S1  hi0 hi1 hi2 hi3 hi4 hme; exact absurd hme (Nat.not_lt_zero _)
    | succ nn ih =>
      intro k c1  S1  hi0 hi1 hi2 hi3 hi4 hme H locs h ls hl
      refine lv_iload_n hx hb dX7_less_4 rfl (lv_at hl 0 rfl) ?_
      refine lv_aload_n hx hb dX7_less_5 rfl (lv_at hl 2 rfl) ?_
      refine m_gi C h 26 (by decide) rfl rfl q1896 (v := nI d9) h1 dX7_less_6 ?_
      refine n_icmp_gt (tgt := 65) hx hb (by omega) (by omega) dX7_less_9 (by decide) (fun c9 => ?_) (fun c9 => ?_)
      · subst hQ
        obtain rfl : k = d9 + 1 := by omega
        rw [dv_md] at hi2
        have h7 := dv_lt (b := 4294967296) (g := S1) (n := d9 + 1) hi4
        have hc0 : c1 = 0 := by
          rcases (show c1 = 0 ∨ c1 = 1 by omega) with q | q
          · exact q
          · rw [q, Nat.one_mul] at hi2; omega
        rw [hc0, Nat.zero_mul, Nat.add_zero] at hi2
        exact ret_v C hr hlocks h S1 (⟨fun i hi => hi4 i (by omega), fun i hi => hi3 i (by omega), hi2⟩) rfl rfl (by omega) (by omega) dX7_less_65
      · have hsk := hS k (by omega)
        have hmk : (md d9 (mG M 27)) k < 4294967296 := by
          rcases Nat.lt_or_ge k d9 with q | q
          · rw [md_lt q]; exact hMo k q
          · rw [md_ge q]; decide
        refine lv_aload_n hx hb dX7_less_12 rfl (lv_at hl 2 rfl) ?_
        refine m_gc C h 28 (by decide) rfl rfl q1898 dX7_less_13 ?_
        refine lv_iload_n hx hb dX7_less_16 rfl (lv_at hl 0 rfl) ?_
        refine n_lald C h (v := S1 k) (mw_memL (k := 28) (by decide)) (show k < 42 by omega) (by decide) rfl dX7_less_17 ?_
        refine n_topl (y := lN (mG M 28 k)) (by rw [hi3 k (Nat.le_refl _)]) ?_
        have jm : ∀ (H : Heap) (locs : List Loc), Wd D B s (mw dA h0 ad (sG M 28 S1) ++ F) H locs → ∀ (ls : Array Slot), lv_has ls 6 [(3, .int (nI k)), (1, .long (mC c1)), (0, .ref h0)] → W p l e R s m args below meth c H locs 0 0 Q (F0 m 36 ls [.long (lN ((md d9 (mG M 27)) k)), .long (lN (mG M 28 k))]) := by
          intro   H locs h ls hl
          refine lv_lsub hx hb dX7_less_36 ?_
          refine n_topl (y := lN (mG M 28 k) - lN ((md d9 (mG M 27)) k)) rfl ?_
          refine lv_lload_n hx hb dX7_less_37 rfl (lv_at hl 1 rfl) ?_
          refine lv_ladd hx hb dX7_less_38 ?_
          refine lv_lstore (lv' := [(4, .long ((lN (mG M 28 k) - lN ((md d9 (mG M 27)) k)) + (mC c1))), (3, .int (nI k)), (1, .long (mC c1)), (0, .ref h0)]) hx hb dX7_less_39 hl (by decide) rfl (fun ls hl => ?_)
          refine lv_aload_n hx hb dX7_less_41 rfl (lv_at hl 3 rfl) ?_
          refine m_gc C h 28 (by decide) rfl rfl q1898 dX7_less_42 ?_
          refine lv_iload_n hx hb dX7_less_45 rfl (lv_at hl 1 rfl) ?_
          refine lv_lload hx hb dX7_less_46 (lv_at hl 0 rfl) ?_
          refine lv_ldc2 hx hb hown (hts _ q2376) dX7_less_48 ?_
          refine n_topl (y := lN 4294967295) (by decide) ?_
          refine lv_land hx hb dX7_less_51 ?_
          refine n_topl (y := lN ((mG M 28 k + 4294967296 - (md d9 (mG M 27)) k - c1) % 4294967296)) (sub_lo hsk hmk hi1) ?_
          refine m_last C h 28 (v := (mG M 28 k + 4294967296 - (md d9 (mG M 27)) k - c1) % 4294967296) (by decide) (n := 42) rfl (by omega) dX7_less_52 (fun H locs h => ?_)
          rw [sG_sG] at h
          refine lv_lload hx hb dX7_less_53 (lv_at hl 0 rfl) ?_
          refine lv_bipush (v := nI 32) hx hb dX7_less_55 (by decide) ?_
          refine n_lshr hx hb dX7_less_57 ?_
          refine n_topl (y := mC (if mG M 28 k < (md d9 (mG M 27)) k + c1 then 1 else 0)) (sub_hi hsk hmk hi1) ?_
          refine lv_lstore_n (lv' := [(1, .long (mC (if mG M 28 k < (md d9 (mG M 27)) k + c1 then 1 else 0))), (4, .long ((lN (mG M 28 k) - lN ((md d9 (mG M 27)) k)) + (mC c1))), (3, .int (nI k)), (0, .ref h0)]) hx hb dX7_less_58 rfl hl (by decide) rfl (fun ls hl => ?_)
          refine lv_iinc (v := nI (k + 1)) (lv' := [(3, .int (nI (k + 1))), (1, .long (mC (if mG M 28 k < (md d9 (mG M 27)) k + c1 then 1 else 0))), (4, .long ((lN (mG M 28 k) - lN ((md d9 (mG M 27)) k)) + (mC c1))), (0, .ref h0)]) hx hb dX7_less_59 hl (k := 2) rfl (nI_add k 1) (by decide) rfl (fun ls hl => ?_)
          refine lv_goto (tgt := 4) hx hb dX7_less_62 (by decide) ?_
          exact ih (k + 1) _ _ (by omega) (by split <;> omega) (sub_step (S := mG M 28) (Mo := (md d9 (mG M 27))) hi2 hi1 (hi3 k (Nat.le_refl _)) hsk hmk) (fun i q => by rw [upN_n (by omega)]; exact hi3 i (by omega)) (fun i q => by
            rcases Nat.lt_or_ge i k with q2 | q2
            · rw [upN_n (by omega)]; exact hi4 i q2
            · rw [show i = k by omega, upN_s]; exact Nat.mod_lt _ (by decide)) (by omega) _ _ h _ (lv_sub hl [0, 1, 3] rfl)
        refine lv_iload_n hx hb dX7_less_18 rfl (lv_at hl 0 rfl) ?_
        refine lv_aload_n hx hb dX7_less_19 rfl (lv_at hl 2 rfl) ?_
        refine m_gi C h 26 (by decide) rfl rfl q1896 (v := nI d9) h1 dX7_less_20 ?_
        refine n_icmp_ge (tgt := 35) hx hb (by omega) (by omega) dX7_less_23 (by decide) (fun c23 => ?_) (fun c23 => ?_)
        · refine lv_lconst (v := lN 0) hx hb dX7_less_35 (by decide) ?_
          refine n_topl (y := lN ((md d9 (mG M 27)) k)) (by rw [md_ge c23]) ?_
          exact jm   _ _ h _ (lv_sub hl [0, 1, 2] rfl)
        · refine lv_aload_n hx hb dX7_less_26 rfl (lv_at hl 2 rfl) ?_
          refine m_gc C h 27 (by decide) rfl rfl q1897 dX7_less_27 ?_
          refine lv_iload_n hx hb dX7_less_30 rfl (lv_at hl 0 rfl) ?_
          refine n_lald C h (v := (mG (sG M 28 S1) 27) k) (mw_memL (k := 27) (by decide)) (show k < 40 by omega) (by decide) rfl dX7_less_31 ?_
          refine lv_goto (tgt := 36) hx hb dX7_less_32 (by decide) ?_
          refine n_topl (y := lN ((md d9 (mG M 27)) k)) (by rw [md_lt c23]; rfl) ?_
          exact jm   _ _ h _ (lv_sub hl [0, 1, 2] rfl)
  exact loop _ 0 0 _ (by omega) (by omega) rfl (fun i _ => rfl) (fun i q => absurd q (Nat.not_lt_zero _)) (Nat.lt_succ_self _) _ _ h _ (lv_sub hl [0, 1, 2] rfl)
set_option maxHeartbeats 400000 in
set_option maxRecDepth 100000 in
theorem c7_product (l : Launch) (D : va_G) (dA : Nat → ClassId) (B : Nat) (Z : State → Prop) (hZ : Stab B Z) (h0 : Nat) (ad : Nat → Nat) (M : MS) (F : va_W) (d9 iv ax bx kt : Nat) (X Y : Nat → Nat) (h1 : mI M 26 = nI d9) (hd1 : 1 ≤ d9) (hd2 : d9 ≤ 32) (h29 : mL M 29 = lN iv) (hiv : iv < 4294967296) (hin0 : (iv * mG M 27 0 + 1) % 4294967296 = 0) (hMo : ∀ i, i < d9 → mG M 27 i < 4294967296) (hra : ∀ S : Nat → Nat, (ax, lar dA 40 X) ∈ mw dA h0 ad (sG M 28 S) ++ F) (hrb : ∀ S : Nat → Nat, (bx, lar dA 40 Y) ∈ mw dA h0 ad (sG M 28 S) ++ F) (hX : ∀ i, i < d9 → X i < 4294967296) (hY : ∀ i, i < d9 → Y i < 4294967296) (hYm : dv 4294967296 Y d9 < dv 4294967296 (mG M 27) d9) (hkt : kt ∈ mkL) (hkl : mlen kt = 40) (hk28 : 28 ≠ kt) :
    Ct (S := (Nat → Nat) × (Nat → Nat)) l D dA B Z yX7_product cX7_product 18 none 2 0 0 [.ref h0, .ref ax, .ref bx, .ref (ad kt)] (mw dA h0 ad M ++ F) (fun u => (∀ i, i < d9 → u.2 i < 4294967296) ∧ (∀ i, d9 ≤ i → u.2 i = mG M kt i) ∧ dv 4294967296 u.2 d9 < dv 4294967296 (mG M 27) d9 ∧ (dv 4294967296 u.2 d9 * 4294967296 ^ d9) % dv 4294967296 (mG M 27) d9 = (dv 4294967296 X d9 * dv 4294967296 Y d9) % dv 4294967296 (mG M 27) d9) (fun _ => none) (fun u => mw dA h0 ad (sG (sG M 28 u.1) kt u.2) ++ F) := by
  refine Ct.mk2 (by decide) (Nat.le_of_ble_eq_true rfl) hZ ?_
  intro p e R s m args below meth c ls Q C hr hlocks hin hQ hl h
  have C0 := C
  obtain ⟨hx, hb, hml, hown, hts, -⟩ := C0
  have hl : lv_has ls 18 [(0, .ref h0), (1, .ref ax), (2, .ref bx), (3, .ref (ad kt))] := hl
  obtain ⟨md9, hmd9⟩ : ∃ z, z = dv 4294967296 (mG M 27) d9 := ⟨_, rfl⟩
  obtain ⟨yd9, hyd9⟩ : ∃ z, z = dv 4294967296 Y d9 := ⟨_, rfl⟩
  rw [← hmd9, ← hyd9] at hYm
  have h : Wd D B s (mw dA h0 ad (sG M 28 (mG M 28)) ++ F) s.heap [] := by rw [sG_id]; exact h
  refine lv_iconst (v := nI 0) hx hb dX7_product_0 (by decide) ?_
  refine lv_istore (lv' := [(4, .int (nI 0)), (0, .ref h0), (1, .ref ax), (2, .ref bx), (3, .ref (ad kt))]) hx hb dX7_product_1 hl (by decide) rfl (fun ls hl => ?_)
  have loop : ∀ (nn : Nat) (i : Nat) (S1 : Nat → Nat), (i ≤ 42) → (∀ j, j < i → S1 j = 0) → 42 - i < nn → ∀ (H : Heap) (locs : List Loc), Wd D B s (mw dA h0 ad (sG M 28 S1) ++ F) H locs → ∀ (ls : Array Slot), lv_has ls 18 [(4, .int (nI i)), (0, .ref h0), (1, .ref ax), (2, .ref bx), (3, .ref (ad kt))] → W p l e R s m args below meth c H locs 0 0 Q (F0 m 3 ls []) := by
    intro nn
    induction nn with
    | zero => intro i  S1  hi0 hi1 hme; exact absurd hme (Nat.not_lt_zero _)
    | succ nn ih =>
      intro i  S1  hi0 hi1 hme H locs h ls hl
      refine lv_iload hx hb dX7_product_3 (lv_at hl 0 rfl) ?_
      refine lv_bipush (v := nI 42) hx hb dX7_product_5 (by decide) ?_
      refine n_icmp_ge (tgt := 24) hx hb (by omega) (by omega) dX7_product_7 (by decide) (fun c7 => ?_) (fun c7 => ?_)
      · refine lv_iconst (v := nI 0) hx hb dX7_product_24 (by decide) ?_
        refine lv_istore (lv' := [(4, .int (nI 0)), (0, .ref h0), (1, .ref ax), (2, .ref bx), (3, .ref (ad kt))]) hx hb dX7_product_25 hl (by decide) rfl (fun ls hl => ?_)
        have hz : ∀ j, j < 42 → S1 j = 0 := fun j hj => hi1 j (by omega)
        have hz0 : dv 4294967296 S1 (d9 + 1) = 0 := by
          rw [dv_congr (g := fun _ => 0) (fun j hj => hz j (by omega))]; exact dv_zero _ _
        have loopI : ∀ (nnI : Nat) (i Qn : Nat) (S1 : Nat → Nat), (i ≤ d9) → (∀ j, j ≤ d9 → S1 j < 4294967296) → (S1 (d9 + 1) = 0) → (dv 4294967296 S1 (d9 + 1) < yd9 + md9) → (dv 4294967296 S1 (d9 + 1) * 4294967296 ^ i = dv 4294967296 X i * yd9 + Qn * md9) → d9 - i < nnI → ∀ (H : Heap) (locs : List Loc), Wd D B s (mw dA h0 ad (sG M 28 S1) ++ F) H locs → ∀ (ls : Array Slot), lv_has ls 18 [(4, .int (nI i)), (0, .ref h0), (1, .ref ax), (2, .ref bx), (3, .ref (ad kt))] → W p l e R s m args below meth c H locs 0 0 Q (F0 m 27 ls []) := by
          intro nnI
          induction nnI with
          | zero => intro i Qn  S1  hI0 hI1 hI2 hI3 hI4 hme; exact absurd hme (Nat.not_lt_zero _)
          | succ nnI ihI =>
            intro i Qn  S1  hI0 hI1 hI2 hI3 hI4 hme H locs h ls hl
            refine lv_iload hx hb dX7_product_27 (lv_at hl 0 rfl) ?_
            refine lv_aload_n hx hb dX7_product_29 rfl (lv_at hl 1 rfl) ?_
            refine m_gi C h 26 (by decide) rfl rfl q1896 (v := nI d9) h1 dX7_product_30 ?_
            refine n_icmp_ge (tgt := 424) hx hb (by omega) (by omega) dX7_product_33 (by decide) (fun c33 => ?_) (fun c33 => ?_)
            · have hid : i = d9 := by omega
              rw [hid] at hI4
              have je : ∀ (S4 : Nat → Nat), (∀ j, j ≤ d9 → S4 j < 4294967296) → (dv 4294967296 S4 (d9 + 1) < md9) → ((dv 4294967296 S4 (d9 + 1) * 4294967296 ^ d9) % md9 = (dv 4294967296 X d9 * yd9) % md9) → ∀ (H : Heap) (locs : List Loc), Wd D B s (mw dA h0 ad (sG M 28 S4) ++ F) H locs → ∀ (ls : Array Slot), lv_has ls 18 [(4, .int (nI i)), (0, .ref h0), (1, .ref ax), (2, .ref bx), (3, .ref (ad kt))] → W p l e R s m args below meth c H locs 0 0 Q (F0 m 435 ls []) := by
                intro S4  hE0 hE1 hE2 H locs h ls hl
                refine lv_iconst (v := nI 0) hx hb dX7_product_435 (by decide) ?_
                refine lv_istore (lv' := [(4, .int (nI 0)), (0, .ref h0), (1, .ref ax), (2, .ref bx), (3, .ref (ad kt))]) hx hb dX7_product_436 hl (by decide) rfl (fun ls hl => ?_)
                have h : Wd D B s (mw dA h0 ad (sG (sG M 28 S4) kt (mG M kt)) ++ F) H locs := by
                  have e : sG (sG M 28 S4) kt (mG M kt) = sG M 28 S4 := by
                    have e0 : mG (sG M 28 S4) kt = mG M kt := upN_n (Ne.symm hk28)
                    rw [← e0]; exact sG_id _ _
                  rw [e]; exact h
                have loopT : ∀ (nnT : Nat) (k : Nat) (T1 : Nat → Nat), (k ≤ d9) → (∀ j, j < k → T1 j = S4 j) → (∀ j, k ≤ j → T1 j = mG M kt j) → d9 - k < nnT → ∀ (H : Heap) (locs : List Loc), Wd D B s (mw dA h0 ad (sG (sG M 28 S4) kt T1) ++ F) H locs → ∀ (ls : Array Slot), lv_has ls 18 [(4, .int (nI k)), (0, .ref h0), (1, .ref ax), (2, .ref bx), (3, .ref (ad kt))] → W p l e R s m args below meth c H locs 0 0 Q (F0 m 438 ls []) := by
                  intro nnT
                  induction nnT with
                  | zero => intro k  T1  hT0 hT1 hT2 hme; exact absurd hme (Nat.not_lt_zero _)
                  | succ nnT ihT =>
                    intro k  T1  hT0 hT1 hT2 hme H locs h ls hl
                    refine lv_iload hx hb dX7_product_438 (lv_at hl 0 rfl) ?_
                    refine lv_aload_n hx hb dX7_product_440 rfl (lv_at hl 1 rfl) ?_
                    refine m_gi C h 26 (by decide) rfl rfl q1896 (v := nI d9) h1 dX7_product_441 ?_
                    refine n_icmp_ge (tgt := 464) hx hb (by omega) (by omega) dX7_product_444 (by decide) (fun c444 => ?_) (fun c444 => ?_)
                    · subst hQ
                      have hkd : k = d9 := by omega
                      rw [hkd] at hT1 hT2
                      have hS4 : dv 4294967296 S4 (d9 + 1) = dv 4294967296 T1 d9 := by
                        have q : S4 d9 = 0 := by
                          rcases Nat.eq_zero_or_pos (S4 d9) with q | q
                          · exact q
                          · exfalso
                            have q2 : 1 * 4294967296 ^ d9 ≤ S4 d9 * 4294967296 ^ d9 := Nat.mul_le_mul_right _ q
                            have q3 := dv_lt (b := 4294967296) (g := mG M 27) (n := d9) hMo
                            rw [dv] at hE1; omega
                        rw [dv, q, Nat.zero_mul, Nat.add_zero]
                        exact dv_congr fun j hj => (hT1 j hj).symm
                      rw [hS4] at hE1 hE2
                      exact ret_v C hr hlocks h (S4, T1) (⟨fun j hj => by
                        show T1 j < 4294967296
                        rw [hT1 j hj]; exact hE0 j (by omega), hT2, by rw [← hmd9]; exact hE1, by rw [← hmd9, ← hyd9]; exact hE2⟩) rfl rfl (by omega) (by omega) dX7_product_464
                    · refine lv_aload_n hx hb dX7_product_447 rfl (lv_at hl 4 rfl) ?_
                      refine lv_iload hx hb dX7_product_448 (lv_at hl 0 rfl) ?_
                      refine lv_aload_n hx hb dX7_product_450 rfl (lv_at hl 1 rfl) ?_
                      refine m_gc C h 28 (by decide) rfl rfl q1898 dX7_product_451 ?_
                      refine lv_iload hx hb dX7_product_454 (lv_at hl 0 rfl) ?_
                      refine n_lald C h (v := S4 k) (mw_mem28 (Ne.symm hk28)) (show k < 42 by omega) (by decide) rfl dX7_product_456 ?_
                      refine m_last C h kt (v := S4 k) hkt (n := 40) hkl (by omega) dX7_product_457 (fun H locs h => ?_)
                      rw [sG_sG, sG_self] at h
                      refine lv_iinc (v := nI (k + 1)) (lv' := [(4, .int (nI (k + 1))), (0, .ref h0), (1, .ref ax), (2, .ref bx), (3, .ref (ad kt))]) hx hb dX7_product_458 hl (k := 0) rfl (nI_add k 1) (by decide) rfl (fun ls hl => ?_)
                      refine lv_goto (tgt := 438) hx hb dX7_product_461 (by decide) ?_
                      exact ihT (k + 1) _ (by omega) (fun j q => by
                        rcases Nat.lt_or_ge j k with q2 | q2
                        · rw [upN_n (by omega)]; exact hT1 j q2
                        · rw [show j = k by omega, upN_s]) (fun j q => by rw [upN_n (by omega)]; exact hT2 j (by omega)) (by omega) _ _ h _ (lv_sub hl [0, 1, 2, 3, 4] rfl)
                exact loopT _ 0 _ (by omega) (fun j q => absurd q (Nat.not_lt_zero _)) (fun j _ => rfl) (Nat.lt_succ_self _) _ _ h _ (lv_sub hl [0, 1, 2, 3, 4] rfl)
              refine lv_aload_n hx hb dX7_product_424 rfl (lv_at hl 1 rfl) ?_
              refine call_V (As := []) (rest := []) (n := 0) C h (c7_isGreat l D dA B Z hZ h0 ad (sG M 28 S1) F d9 h1 hd1 (by omega) hI1 hMo) (lw_V q2427 q2429 qs98 q138 q2430) (by decide +kernel) (ci := 5) rfl rfl mw_mem0 (by decide) (by decide) rfl hl rfl (Nat.le_of_ble_eq_true rfl) dX7_product_425 (by omega) (fun _ H locs _ h => ?_)
              refine z_if_eq (tgt := 435) hx hb dX7_product_428 (by decide) (fun c428 => ?_) (fun c428 => ?_)
              · exact je _ hI1 (by
                  have q : ¬ dv 4294967296 (mG M 27) d9 ≤ dv 4294967296 S1 (d9 + 1) := of_decide_eq_false c428
                  rw [← hmd9] at q; omega) (by rw [hI4, Nat.add_mul_mod_self_right]) _ _ h _ (lv_sub hl [0, 1, 2, 3, 4] rfl)
              · refine lv_aload_n hx hb dX7_product_431 rfl (lv_at hl 1 rfl) ?_
                refine call_V (As := []) (rest := []) (n := 0) C h (c7_less l D dA B Z hZ h0 ad (sG M 28 S1) F d9 h1 hd1 (by omega) hI1 hMo (of_decide_eq_true c428)) (lw_V q2431 q2433 qs99 q138 q2434) (by decide +kernel) (ci := 5) rfl rfl mw_mem0 (by decide) (by decide) rfl hl rfl (Nat.le_of_ble_eq_true rfl) dX7_product_432 (by omega) (fun S3 H locs hS3 h => ?_)
                rw [sG_sG] at h
                exact je _ hS3.1 (by
                  have q := hS3.2.2
                  have q2 : dv 4294967296 (mG (sG M 28 S1) 27) d9 = md9 := hmd9.symm
                  have q3 : dv 4294967296 (mG (sG M 28 S1) 28) (d9 + 1) = dv 4294967296 S1 (d9 + 1) := rfl
                  rw [q2, q3] at q; omega) (by
                  have q := hS3.2.2
                  have q2 : dv 4294967296 (mG (sG M 28 S1) 27) d9 = md9 := hmd9.symm
                  have q3 : dv 4294967296 (mG (sG M 28 S1) 28) (d9 + 1) = dv 4294967296 S1 (d9 + 1) := rfl
                  rw [q2, q3] at q
                  have q4 := congrArg (fun z => z * 4294967296 ^ d9) q
                  simp only [Nat.add_mul] at q4
                  rw [hI4, Nat.mul_comm md9] at q4
                  have q5 : (dv 4294967296 S3 (d9 + 1) * 4294967296 ^ d9 + 4294967296 ^ d9 * md9) % md9 = (dv 4294967296 X d9 * yd9 + Qn * md9) % md9 := by rw [q4]
                  rwa [Nat.add_mul_mod_self_right, Nat.add_mul_mod_self_right] at q5) _ _ h _ (lv_sub hl [0, 1, 2, 3, 4] rfl)
            · refine lv_lconst (v := lN 0) hx hb dX7_product_36 (by decide) ?_
              refine lv_lstore (lv' := [(5, .long (lN 0)), (4, .int (nI i)), (0, .ref h0), (1, .ref ax), (2, .ref bx), (3, .ref (ad kt))]) hx hb dX7_product_37 hl (by decide) rfl (fun ls hl => ?_)
              refine lv_iconst (v := nI 0) hx hb dX7_product_39 (by decide) ?_
              refine lv_istore (lv' := [(7, .int (nI 0)), (5, .long (lN 0)), (4, .int (nI i)), (0, .ref h0), (1, .ref ax), (2, .ref bx), (3, .ref (ad kt))]) hx hb dX7_product_40 hl (by decide) rfl (fun ls hl => ?_)
              have hxi := hX i (by omega)
              have loopK : ∀ (nnK : Nat) (k c1 : Nat) (S2 : Nat → Nat), (k ≤ d9) → (c1 < 4294967296) → (dv 4294967296 S2 k + c1 * 4294967296 ^ k = dv 4294967296 S1 k + X i * dv 4294967296 Y k) → (∀ j, k ≤ j → S2 j = S1 j) → (∀ j, j < k → S2 j < 4294967296) → d9 - k < nnK → ∀ (H : Heap) (locs : List Loc), Wd D B s (mw dA h0 ad (sG M 28 S2) ++ F) H locs → ∀ (ls : Array Slot), lv_has ls 18 [(7, .int (nI k)), (5, .long (lN c1)), (4, .int (nI i)), (0, .ref h0), (1, .ref ax), (2, .ref bx), (3, .ref (ad kt))] → W p l e R s m args below meth c H locs 0 0 Q (F0 m 42 ls []) := by
                intro nnK
                induction nnK with
                | zero => intro k c1  S2  hK0 hK1 hK2 hK3 hK4 hme; exact absurd hme (Nat.not_lt_zero _)
                | succ nnK ihK =>
                  intro k c1  S2  hK0 hK1 hK2 hK3 hK4 hme H locs h ls hl
                  refine lv_iload hx hb dX7_product_42 (lv_at hl 0 rfl) ?_
                  refine lv_aload_n hx hb dX7_product_44 rfl (lv_at hl 3 rfl) ?_
                  refine m_gi C h 26 (by decide) rfl rfl q1896 (v := nI d9) h1 dX7_product_45 ?_
                  refine n_icmp_ge (tgt := 157) hx hb (by omega) (by omega) dX7_product_48 (by decide) (fun c48 => ?_) (fun c48 => ?_)
                  · have hkd : k = d9 := by omega
                    have hsd := hI1 d9 (Nat.le_refl _)
                    rw [hkd] at hK2
                    refine lv_aload_n hx hb dX7_product_157 rfl (lv_at hl 3 rfl) ?_
                    refine m_gc C h 28 (by decide) rfl rfl q1898 dX7_product_158 ?_
                    refine lv_aload_n hx hb dX7_product_161 rfl (lv_at hl 3 rfl) ?_
                    refine m_gi C h 26 (by decide) rfl rfl q1896 (v := nI d9) h1 dX7_product_162 ?_
                    refine n_lald C h (v := S2 d9) (mw_memL (k := 28) (by decide)) (show d9 < 42 by omega) (by decide) rfl dX7_product_165 ?_
                    refine n_topl (y := lN (S1 d9)) (by rw [hK3 d9 (by omega)]) ?_
                    refine lv_lload hx hb dX7_product_166 (lv_at hl 1 rfl) ?_
                    refine lv_ladd hx hb dX7_product_168 (n_topl (y := lN (S1 d9 + c1)) (lN_add (S1 d9) c1) ?_)
                    refine lv_lstore (lv' := [(7, .long (lN (S1 d9 + c1))), (5, .long (lN c1)), (4, .int (nI i)), (0, .ref h0), (1, .ref ax), (2, .ref bx), (3, .ref (ad kt))]) hx hb dX7_product_169 hl (by decide) rfl (fun ls hl => ?_)
                    refine lv_aload_n hx hb dX7_product_171 rfl (lv_at hl 3 rfl) ?_
                    refine m_gc C h 28 (by decide) rfl rfl q1898 dX7_product_172 ?_
                    refine lv_aload_n hx hb dX7_product_175 rfl (lv_at hl 3 rfl) ?_
                    refine m_gi C h 26 (by decide) rfl rfl q1896 (v := nI d9) h1 dX7_product_176 ?_
                    refine lv_lload hx hb dX7_product_179 (lv_at hl 0 rfl) ?_
                    refine lv_ldc2 hx hb hown (hts _ q2376) dX7_product_181 ?_
                    refine n_topl (y := lN 4294967295) (by decide) ?_
                    refine lv_land hx hb dX7_product_184 (n_topl (y := lN ((S1 d9 + c1) % 4294967296)) (l_andN (k := 32) (by omega) (by decide)) ?_)
                    refine m_last C h 28 (v := (S1 d9 + c1) % 4294967296) (by decide) (n := 42) rfl (by omega) dX7_product_185 (fun H locs h => ?_)
                    rw [sG_sG] at h
                    have h : Wd D B s (mw dA h0 ad (sG M 28 (upN S2 d9 ((S1 d9 + c1) % 4294967296))) ++ F) H locs := h
                    refine lv_aload_n hx hb dX7_product_186 rfl (lv_at hl 3 rfl) ?_
                    refine m_gc C h 28 (by decide) rfl rfl q1898 dX7_product_187 ?_
                    refine lv_aload_n hx hb dX7_product_190 rfl (lv_at hl 3 rfl) ?_
                    refine m_gi C h 26 (by decide) rfl rfl q1896 (v := nI d9) h1 dX7_product_191 ?_
                    refine lv_iconst (v := nI 1) hx hb dX7_product_194 (by decide) ?_
                    refine lv_iadd hx hb dX7_product_195 (n_top (y := nI (d9 + 1)) (nI_add d9 1) ?_)
                    refine lv_lload hx hb dX7_product_196 (lv_at hl 0 rfl) ?_
                    refine lv_bipush (v := nI 32) hx hb dX7_product_198 (by decide) ?_
                    refine n_lushr hx hb dX7_product_200 (n_topl (y := lN ((S1 d9 + c1) / 4294967296)) (l_ushrN (k := 32) (by omega) (by decide)) ?_)
                    refine m_last C h 28 (v := (S1 d9 + c1) / 4294967296) (by decide) (n := 42) rfl (by omega) dX7_product_201 (fun H locs h => ?_)
                    rw [sG_sG] at h
                    have h : Wd D B s (mw dA h0 ad (sG M 28 (upN (upN S2 d9 ((S1 d9 + c1) % 4294967296)) (d9 + 1) ((S1 d9 + c1) / 4294967296))) ++ F) H locs := h
                    obtain ⟨U, hU⟩ : ∃ U, U = upN (upN S2 d9 ((S1 d9 + c1) % 4294967296)) (d9 + 1) ((S1 d9 + c1) / 4294967296) := ⟨_, rfl⟩
                    rw [← hU] at h
                    have hUv : dv 4294967296 U (d9 + 2) = dv 4294967296 S1 (d9 + 1) + X i * yd9 := by
                      rw [hU, dv_top, hyd9, dv]
                      have h8 := Nat.mod_add_div (S1 d9 + c1) 4294967296
                      have h9 := congrArg (fun z => z * 4294967296 ^ d9) h8
                      simp only [Nat.add_mul] at h9
                      rw [Nat.pow_succ, Nat.mul_comm (4294967296 ^ d9), ← Nat.mul_assoc, Nat.mul_comm _ 4294967296]
                      omega
                    have hUl : ∀ j, j ≤ d9 → U j < 4294967296 := by
                      intro j hj
                      rw [hU, upN_n (by omega)]
                      rcases Nat.lt_or_ge j d9 with q | q
                      · rw [upN_n (by omega)]; exact hK4 j (by omega)
                      · rw [show j = d9 by omega, upN_s]; exact Nat.mod_lt _ (by decide)
                    have hUt : U (d9 + 1) ≤ 1 := by rw [hU, upN_s]; omega
                    have hu0 := hUl 0 (by omega)
                    have huiv : U 0 * iv ≤ 4294967295 * 4294967295 := mul_le (by omega) (by omega)
                    refine lv_aload_n hx hb dX7_product_202 rfl (lv_at hl 3 rfl) ?_
                    refine m_gc C h 28 (by decide) rfl rfl q1898 dX7_product_203 ?_
                    refine lv_iconst (v := nI 0) hx hb dX7_product_206 (by decide) ?_
                    refine n_lald C h (v := U 0) (mw_memL (k := 28) (by decide)) (show 0 < 42 by omega) (by decide) rfl dX7_product_207 ?_
                    refine lv_aload_n hx hb dX7_product_208 rfl (lv_at hl 3 rfl) ?_
                    refine m_gl C h 29 (by decide) rfl rfl q1899 (v := lN iv) h29 dX7_product_209 ?_
                    refine lv_lmul hx hb dX7_product_212 (n_topl (y := lN ((U 0) * iv)) (lN_mul (U 0) iv) ?_)
                    refine lv_ldc2 hx hb hown (hts _ q2376) dX7_product_213 ?_
                    refine n_topl (y := lN 4294967295) (by decide) ?_
                    refine lv_land hx hb dX7_product_216 (n_topl (y := lN (((U 0) * iv) % 4294967296)) (l_andN (k := 32) (by omega) (by decide)) ?_)
                    refine lv_lstore (lv' := [(9, .long (lN (((U 0) * iv) % 4294967296))), (7, .long (lN (S1 d9 + c1))), (5, .long (lN c1)), (4, .int (nI i)), (0, .ref h0), (1, .ref ax), (2, .ref bx), (3, .ref (ad kt))]) hx hb dX7_product_217 hl (by decide) rfl (fun ls hl => ?_)
                    refine lv_lconst (v := lN 0) hx hb dX7_product_219 (by decide) ?_
                    refine lv_lstore (lv' := [(5, .long (lN 0)), (9, .long (lN (((U 0) * iv) % 4294967296))), (7, .long (lN (S1 d9 + c1))), (4, .int (nI i)), (0, .ref h0), (1, .ref ax), (2, .ref bx), (3, .ref (ad kt))]) hx hb dX7_product_220 hl (by decide) rfl (fun ls hl => ?_)
                    refine lv_iconst (v := nI 0) hx hb dX7_product_222 (by decide) ?_
                    refine lv_istore (lv' := [(11, .int (nI 0)), (5, .long (lN 0)), (9, .long (lN (((U 0) * iv) % 4294967296))), (7, .long (lN (S1 d9 + c1))), (4, .int (nI i)), (0, .ref h0), (1, .ref ax), (2, .ref bx), (3, .ref (ad kt))]) hx hb dX7_product_223 hl (by decide) rfl (fun ls hl => ?_)
                    obtain ⟨qx, hqx⟩ : ∃ qx, qx = U 0 * iv % 4294967296 := ⟨_, rfl⟩
                    rw [← hqx] at hl
                    have hqx1 : qx < 4294967296 := by rw [hqx]; exact Nat.mod_lt _ (by decide)
                    have hq0 : (U 0 + qx * mG M 27 0) % 4294967296 = 0 := by rw [hqx]; exact mont_q hin0
                    have hl : lv_has ls 18 [(11, .int (nI 0)), (5, .long (lN 0)), (9, .long (lN qx)), (7, .long (lN (S1 d9 + c1))), (4, .int (nI i)), (0, .ref h0), (1, .ref ax), (2, .ref bx), (3, .ref (ad kt))] := hl
                    have loopD : ∀ (nnD : Nat) (k c1 : Nat) (W1 : Nat → Nat), (k ≤ d9) → (c1 < 4294967296) → (4294967296 * dv 4294967296 W1 (k - 1) + c1 * 4294967296 ^ k = dv 4294967296 U k + qx * dv 4294967296 (mG M 27) k) → (∀ j, k ≤ j + 1 → W1 j = U j) → (∀ j, j < d9 → W1 j < 4294967296) → (k = 0 → c1 = 0) → d9 - k < nnD → ∀ (H : Heap) (locs : List Loc), Wd D B s (mw dA h0 ad (sG M 28 W1) ++ F) H locs → ∀ (ls : Array Slot), lv_has ls 18 [(11, .int (nI k)), (5, .long (lN c1)), (9, .long (lN qx)), (4, .int (nI i)), (0, .ref h0), (1, .ref ax), (2, .ref bx), (3, .ref (ad kt))] → W p l e R s m args below meth c H locs 0 0 Q (F0 m 225 ls []) := by
                      intro nnD
                      induction nnD with
                      | zero => intro k c1  W1  hD0 hD1 hD2 hD3 hD4 hD5 hme; exact absurd hme (Nat.not_lt_zero _)
                      | succ nnD ihD =>
                        intro k c1  W1  hD0 hD1 hD2 hD3 hD4 hD5 hme H locs h ls hl
                        refine lv_iload hx hb dX7_product_225 (lv_at hl 0 rfl) ?_
                        refine lv_aload_n hx hb dX7_product_227 rfl (lv_at hl 4 rfl) ?_
                        refine m_gi C h 26 (by decide) rfl rfl q1896 (v := nI d9) h1 dX7_product_228 ?_
                        refine n_icmp_ge (tgt := 349) hx hb (by omega) (by omega) dX7_product_231 (by decide) (fun c231 => ?_) (fun c231 => ?_)
                        · have hkd2 : k = d9 := by omega
                          rw [hkd2] at hD2
                          have hud := hUl d9 (Nat.le_refl _)
                          refine lv_aload_n hx hb dX7_product_349 rfl (lv_at hl 4 rfl) ?_
                          refine m_gc C h 28 (by decide) rfl rfl q1898 dX7_product_350 ?_
                          refine lv_aload_n hx hb dX7_product_353 rfl (lv_at hl 4 rfl) ?_
                          refine m_gi C h 26 (by decide) rfl rfl q1896 (v := nI d9) h1 dX7_product_354 ?_
                          refine n_lald C h (v := W1 d9) (mw_memL (k := 28) (by decide)) (show d9 < 42 by omega) (by decide) rfl dX7_product_357 ?_
                          refine n_topl (y := lN (U d9)) (by rw [hD3 d9 (by omega)]) ?_
                          refine lv_lload hx hb dX7_product_358 (lv_at hl 1 rfl) ?_
                          refine lv_ladd hx hb dX7_product_360 (n_topl (y := lN (U d9 + c1)) (lN_add (U d9) c1) ?_)
                          refine lv_lstore (lv' := [(11, .long (lN (U d9 + c1))), (5, .long (lN c1)), (9, .long (lN qx)), (4, .int (nI i)), (0, .ref h0), (1, .ref ax), (2, .ref bx), (3, .ref (ad kt))]) hx hb dX7_product_361 hl (by decide) rfl (fun ls hl => ?_)
                          refine lv_aload_n hx hb dX7_product_363 rfl (lv_at hl 4 rfl) ?_
                          refine m_gc C h 28 (by decide) rfl rfl q1898 dX7_product_364 ?_
                          refine lv_aload_n hx hb dX7_product_367 rfl (lv_at hl 4 rfl) ?_
                          refine m_gi C h 26 (by decide) rfl rfl q1896 (v := nI d9) h1 dX7_product_368 ?_
                          refine lv_iconst (v := nI 1) hx hb dX7_product_371 (by decide) ?_
                          refine lv_isub hx hb dX7_product_372 (n_top (y := nI (d9 - 1)) (pk_sub (by omega)) ?_)
                          refine lv_lload hx hb dX7_product_373 (lv_at hl 0 rfl) ?_
                          refine lv_ldc2 hx hb hown (hts _ q2376) dX7_product_375 ?_
                          refine n_topl (y := lN 4294967295) (by decide) ?_
                          refine lv_land hx hb dX7_product_378 (n_topl (y := lN ((U d9 + c1) % 4294967296)) (l_andN (k := 32) (by omega) (by decide)) ?_)
                          refine m_last C h 28 (v := (U d9 + c1) % 4294967296) (by decide) (n := 42) rfl (by omega) dX7_product_379 (fun H locs h => ?_)
                          rw [sG_sG] at h
                          have h : Wd D B s (mw dA h0 ad (sG M 28 (upN W1 (d9 - 1) ((U d9 + c1) % 4294967296))) ++ F) H locs := h
                          refine lv_aload_n hx hb dX7_product_380 rfl (lv_at hl 4 rfl) ?_
                          refine m_gc C h 28 (by decide) rfl rfl q1898 dX7_product_381 ?_
                          refine lv_aload_n hx hb dX7_product_384 rfl (lv_at hl 4 rfl) ?_
                          refine m_gi C h 26 (by decide) rfl rfl q1896 (v := nI d9) h1 dX7_product_385 ?_
                          refine lv_aload_n hx hb dX7_product_388 rfl (lv_at hl 4 rfl) ?_
                          refine m_gc C h 28 (by decide) rfl rfl q1898 dX7_product_389 ?_
                          refine lv_aload_n hx hb dX7_product_392 rfl (lv_at hl 4 rfl) ?_
                          refine m_gi C h 26 (by decide) rfl rfl q1896 (v := nI d9) h1 dX7_product_393 ?_
                          refine lv_iconst (v := nI 1) hx hb dX7_product_396 (by decide) ?_
                          refine lv_iadd hx hb dX7_product_397 (n_top (y := nI (d9 + 1)) (nI_add d9 1) ?_)
                          refine n_lald C h (v := (upN W1 (d9 - 1) ((U d9 + c1) % 4294967296)) (d9 + 1)) (mw_memL (k := 28) (by decide)) (show d9 + 1 < 42 by omega) (by decide) rfl dX7_product_398 ?_
                          refine n_topl (y := lN (U (d9 + 1))) (by rw [upN_n (by omega), hD3 (d9 + 1) (by omega)]) ?_
                          refine lv_lload hx hb dX7_product_399 (lv_at hl 0 rfl) ?_
                          refine lv_bipush (v := nI 32) hx hb dX7_product_401 (by decide) ?_
                          refine n_lushr hx hb dX7_product_403 (n_topl (y := lN ((U d9 + c1) / 4294967296)) (l_ushrN (k := 32) (by omega) (by decide)) ?_)
                          refine lv_ladd hx hb dX7_product_404 (n_topl (y := lN ((U (d9 + 1)) + ((U d9 + c1) / 4294967296))) (lN_add (U (d9 + 1)) ((U d9 + c1) / 4294967296)) ?_)
                          refine m_last C h 28 (v := (U (d9 + 1)) + ((U d9 + c1) / 4294967296)) (by decide) (n := 42) rfl (by omega) dX7_product_405 (fun H locs h => ?_)
                          rw [sG_sG] at h
                          have h : Wd D B s (mw dA h0 ad (sG M 28 (upN (upN W1 (d9 - 1) ((U d9 + c1) % 4294967296)) d9 ((U (d9 + 1)) + ((U d9 + c1) / 4294967296)))) ++ F) H locs := h
                          refine lv_aload_n hx hb dX7_product_406 rfl (lv_at hl 4 rfl) ?_
                          refine m_gc C h 28 (by decide) rfl rfl q1898 dX7_product_407 ?_
                          refine lv_aload_n hx hb dX7_product_410 rfl (lv_at hl 4 rfl) ?_
                          refine m_gi C h 26 (by decide) rfl rfl q1896 (v := nI d9) h1 dX7_product_411 ?_
                          refine lv_iconst (v := nI 1) hx hb dX7_product_414 (by decide) ?_
                          refine lv_iadd hx hb dX7_product_415 (n_top (y := nI (d9 + 1)) (nI_add d9 1) ?_)
                          refine lv_lconst (v := lN 0) hx hb dX7_product_416 (by decide) ?_
                          refine m_last C h 28 (v := 0) (by decide) (n := 42) rfl (by omega) dX7_product_417 (fun H locs h => ?_)
                          rw [sG_sG] at h
                          have h : Wd D B s (mw dA h0 ad (sG M 28 (upN (upN (upN W1 (d9 - 1) ((U d9 + c1) % 4294967296)) d9 ((U (d9 + 1)) + ((U d9 + c1) / 4294967296))) (d9 + 1) 0)) ++ F) H locs := h
                          obtain ⟨W3x, hW3⟩ : ∃ z, z = upN (upN (upN W1 (d9 - 1) ((U d9 + c1) % 4294967296)) d9 ((U (d9 + 1)) + ((U d9 + c1) / 4294967296))) (d9 + 1) 0 := ⟨_, rfl⟩
                          rw [← hW3] at h
                          have hre := round_end (W1 := W1) (d := d9) (c1 := c1) (u := U d9) (v := U (d9 + 1)) hd1 hD2
                          rw [← hW3] at hre
                          have hTn : 4294967296 * dv 4294967296 W3x (d9 + 1) = dv 4294967296 S1 (d9 + 1) + X i * yd9 + qx * md9 := by
                            rw [hre, hmd9, ← hUv, dv, dv]
                            omega
                          have hfin : (∀ j, j ≤ d9 → W3x j < 4294967296) ∧ dv 4294967296 W3x (d9 + 1) < yd9 + md9 ∧ dv 4294967296 W3x (d9 + 1) * 4294967296 ^ (i + 1) = dv 4294967296 X (i + 1) * yd9 + (Qn + qx * 4294967296 ^ i) * md9 := by
                            have hbd : dv 4294967296 W3x (d9 + 1) < yd9 + md9 := by
                              have q1 : X i * yd9 ≤ 4294967295 * yd9 := Nat.mul_le_mul_right _ (by omega)
                              have q2 : qx * md9 ≤ 4294967295 * md9 := Nat.mul_le_mul_right _ (by omega)
                              omega
                            refine ⟨fun j hj => ?_, hbd, ?_⟩
                            · rcases Nat.lt_or_ge j d9 with q | q
                              · rw [hW3, upN_n (by omega), upN_n (by omega)]
                                by_cases q2 : j = d9 - 1
                                · rw [q2, upN_s]; exact Nat.mod_lt _ (by decide)
                                · rw [upN_n q2]; exact hD4 j q
                              · rw [show j = d9 by omega, hW3, upN_n (by omega), upN_s]; omega
                            · rw [show dv 4294967296 X (i + 1) = dv 4294967296 X i + X i * 4294967296 ^ i from rfl, Nat.add_mul, Nat.add_mul, Nat.pow_succ, Nat.mul_comm (4294967296 ^ i), ← Nat.mul_assoc, Nat.mul_comm _ 4294967296, hTn, Nat.add_mul, Nat.add_mul, hI4]
                              have e1 : X i * yd9 * 4294967296 ^ i = X i * 4294967296 ^ i * yd9 := Nat.mul_right_comm _ _ _
                              have e2 : qx * md9 * 4294967296 ^ i = qx * 4294967296 ^ i * md9 := Nat.mul_right_comm _ _ _
                              rw [e1, e2]
                              omega
                          have hl : lv_has ls 18 [(11, .long (lN (U d9 + c1))), (5, .long (lN c1)), (9, .long (lN qx)), (4, .int (nI i)), (0, .ref h0), (1, .ref ax), (2, .ref bx), (3, .ref (ad kt))] := hl
                          have hz9 : W3x (d9 + 1) = 0 := by rw [hW3, upN_s]
                          refine lv_iinc (v := nI (i + 1)) (lv' := [(4, .int (nI (i + 1))), (11, .long (lN (U d9 + c1))), (5, .long (lN c1)), (9, .long (lN qx)), (0, .ref h0), (1, .ref ax), (2, .ref bx), (3, .ref (ad kt))]) hx hb dX7_product_418 hl (k := 3) rfl (nI_add i 1) (by decide) rfl (fun ls hl => ?_)
                          refine lv_goto (tgt := 27) hx hb dX7_product_421 (by decide) ?_
                          exact ihI (i + 1) _ _ (by omega) hfin.1 hz9 hfin.2.1 hfin.2.2 (by omega) _ _ h _ (lv_sub hl [0, 4, 5, 6, 7] rfl)
                        · have hmk := hMo k (by omega)
                          have hu1 := hUl k (by omega)
                          have hlo := mlo_lt (x := qx) hmk
                          have hhi := mhi_lt hqx1 hmk
                          have hmv := mv_lt (x := qx) (y := mG M 27 k) (k := c1) hu1
                          have hdn := down_step (U := U) (W1 := W1) (Y := mG M 27) (x := qx) hD2 (fun q => by
                            have h8 := mulstep (U k) qx (mG M 27 k) c1
                            rw [hD5 q] at h8 ⊢
                            subst q
                            omega)
                          refine lv_lload hx hb dX7_product_234 (lv_at hl 2 rfl) ?_
                          refine lv_ldc2 hx hb hown (hts _ q2439) dX7_product_236 ?_
                          refine n_topl (y := lN 65535) (by decide) ?_
                          refine lv_land hx hb dX7_product_239 (n_topl (y := lN (qx % 65536)) (l_andN (k := 16) (by omega) (by decide)) ?_)
                          refine lv_aload_n hx hb dX7_product_240 rfl (lv_at hl 4 rfl) ?_
                          refine m_gc C h 27 (by decide) rfl rfl q1897 dX7_product_241 ?_
                          refine lv_iload hx hb dX7_product_244 (lv_at hl 0 rfl) ?_
                          refine n_lald C h (v := (mG (sG M 28 W1) 27) k) (mw_memL (k := 27) (by decide)) (show k < 40 by omega) (by decide) rfl dX7_product_246 ?_
                          refine lv_lmul hx hb dX7_product_247 ?_
                          refine n_topl (y := lN (mlo qx (mG M 27 k))) (lN_mul _ _) ?_
                          refine lv_lstore (lv' := [(12, .long (lN (mlo qx (mG M 27 k)))), (11, .int (nI k)), (5, .long (lN c1)), (9, .long (lN qx)), (4, .int (nI i)), (0, .ref h0), (1, .ref ax), (2, .ref bx), (3, .ref (ad kt))]) hx hb dX7_product_248 hl (by decide) rfl (fun ls hl => ?_)
                          refine lv_lload hx hb dX7_product_250 (lv_at hl 3 rfl) ?_
                          refine lv_bipush (v := nI 16) hx hb dX7_product_252 (by decide) ?_
                          refine n_lushr hx hb dX7_product_254 (n_topl (y := lN (qx / 65536)) (l_ushrN (k := 16) (by omega) (by decide)) ?_)
                          refine lv_aload_n hx hb dX7_product_255 rfl (lv_at hl 5 rfl) ?_
                          refine m_gc C h 27 (by decide) rfl rfl q1897 dX7_product_256 ?_
                          refine lv_iload hx hb dX7_product_259 (lv_at hl 1 rfl) ?_
                          refine n_lald C h (v := (mG (sG M 28 W1) 27) k) (mw_memL (k := 27) (by decide)) (show k < 40 by omega) (by decide) rfl dX7_product_261 ?_
                          refine lv_lmul hx hb dX7_product_262 ?_
                          refine n_topl (y := lN (mhi qx (mG M 27 k))) (lN_mul _ _) ?_
                          refine lv_lstore (lv' := [(14, .long (lN (mhi qx (mG M 27 k)))), (12, .long (lN (mlo qx (mG M 27 k)))), (11, .int (nI k)), (5, .long (lN c1)), (9, .long (lN qx)), (4, .int (nI i)), (0, .ref h0), (1, .ref ax), (2, .ref bx), (3, .ref (ad kt))]) hx hb dX7_product_263 hl (by decide) rfl (fun ls hl => ?_)
                          refine lv_aload_n hx hb dX7_product_265 rfl (lv_at hl 6 rfl) ?_
                          refine m_gc C h 28 (by decide) rfl rfl q1898 dX7_product_266 ?_
                          refine lv_iload hx hb dX7_product_269 (lv_at hl 2 rfl) ?_
                          refine n_lald C h (v := W1 k) (mw_memL (k := 28) (by decide)) (show k < 42 by omega) (by decide) rfl dX7_product_271 ?_
                          refine n_topl (y := lN (U k)) (by rw [hD3 k (by omega)]) ?_
                          refine lv_lload hx hb dX7_product_272 (lv_at hl 1 rfl) ?_
                          refine lv_ldc2 hx hb hown (hts _ q2376) dX7_product_274 ?_
                          refine n_topl (y := lN 4294967295) (by decide) ?_
                          refine lv_land hx hb dX7_product_277 (n_topl (y := lN ((mlo qx (mG M 27 k)) % 4294967296)) (l_andN (k := 32) (by omega) (by decide)) ?_)
                          refine lv_ladd hx hb dX7_product_278 (n_topl (y := lN (U k + ((mlo qx (mG M 27 k)) % 4294967296))) (lN_add (U k) ((mlo qx (mG M 27 k)) % 4294967296)) ?_)
                          refine lv_lload hx hb dX7_product_279 (lv_at hl 0 rfl) ?_
                          refine lv_ldc2 hx hb hown (hts _ q2439) dX7_product_281 ?_
                          refine n_topl (y := lN 65535) (by decide) ?_
                          refine lv_land hx hb dX7_product_284 (n_topl (y := lN ((mhi qx (mG M 27 k)) % 65536)) (l_andN (k := 16) (by omega) (by decide)) ?_)
                          refine lv_bipush (v := nI 16) hx hb dX7_product_285 (by decide) ?_
                          refine n_lshl hx hb dX7_product_287 (n_topl (y := lN (((mhi qx (mG M 27 k)) % 65536) * 65536)) (l_shlN (k := 16) (by decide)) ?_)
                          refine lv_ladd hx hb dX7_product_288 (n_topl (y := lN ((U k + ((mlo qx (mG M 27 k)) % 4294967296)) + (((mhi qx (mG M 27 k)) % 65536) * 65536))) (lN_add (U k + ((mlo qx (mG M 27 k)) % 4294967296)) (((mhi qx (mG M 27 k)) % 65536) * 65536)) ?_)
                          refine lv_lload hx hb dX7_product_289 (lv_at hl 3 rfl) ?_
                          refine lv_ldc2 hx hb hown (hts _ q2376) dX7_product_291 ?_
                          refine n_topl (y := lN 4294967295) (by decide) ?_
                          refine lv_land hx hb dX7_product_294 (n_topl (y := lN (c1 % 4294967296)) (l_andN (k := 32) (by omega) (by decide)) ?_)
                          refine lv_ladd hx hb dX7_product_295 ?_
                          refine n_topl (y := lN (mv (U k) qx (mG M 27 k) c1)) (lN_add _ _) ?_
                          refine lv_lstore (lv' := [(16, .long (lN (mv (U k) qx (mG M 27 k) c1))), (14, .long (lN (mhi qx (mG M 27 k)))), (12, .long (lN (mlo qx (mG M 27 k)))), (11, .int (nI k)), (5, .long (lN c1)), (9, .long (lN qx)), (4, .int (nI i)), (0, .ref h0), (1, .ref ax), (2, .ref bx), (3, .ref (ad kt))]) hx hb dX7_product_296 hl (by decide) rfl (fun ls hl => ?_)
                          refine lv_lload hx hb dX7_product_298 (lv_at hl 4 rfl) ?_
                          refine lv_bipush (v := nI 32) hx hb dX7_product_300 (by decide) ?_
                          refine n_lushr hx hb dX7_product_302 (n_topl (y := lN (c1 / 4294967296)) (l_ushrN (k := 32) (by omega) (by decide)) ?_)
                          refine lv_lload hx hb dX7_product_303 (lv_at hl 2 rfl) ?_
                          refine lv_bipush (v := nI 32) hx hb dX7_product_305 (by decide) ?_
                          refine n_lushr hx hb dX7_product_307 (n_topl (y := lN ((mlo qx (mG M 27 k)) / 4294967296)) (l_ushrN (k := 32) (by omega) (by decide)) ?_)
                          refine lv_ladd hx hb dX7_product_308 (n_topl (y := lN ((c1 / 4294967296) + ((mlo qx (mG M 27 k)) / 4294967296))) (lN_add (c1 / 4294967296) ((mlo qx (mG M 27 k)) / 4294967296)) ?_)
                          refine lv_lload hx hb dX7_product_309 (lv_at hl 1 rfl) ?_
                          refine lv_bipush (v := nI 16) hx hb dX7_product_311 (by decide) ?_
                          refine n_lushr hx hb dX7_product_313 (n_topl (y := lN ((mhi qx (mG M 27 k)) / 65536)) (l_ushrN (k := 16) (by omega) (by decide)) ?_)
                          refine lv_ladd hx hb dX7_product_314 (n_topl (y := lN (((c1 / 4294967296) + ((mlo qx (mG M 27 k)) / 4294967296)) + ((mhi qx (mG M 27 k)) / 65536))) (lN_add ((c1 / 4294967296) + ((mlo qx (mG M 27 k)) / 4294967296)) ((mhi qx (mG M 27 k)) / 65536)) ?_)
                          refine lv_lload hx hb dX7_product_315 (lv_at hl 0 rfl) ?_
                          refine lv_bipush (v := nI 32) hx hb dX7_product_317 (by decide) ?_
                          refine n_lushr hx hb dX7_product_319 (n_topl (y := lN ((mv (U k) qx (mG M 27 k) c1) / 4294967296)) (l_ushrN (k := 32) (by omega) (by decide)) ?_)
                          refine lv_ladd hx hb dX7_product_320 ?_
                          refine n_topl (y := lN (mc4 (U k) qx (mG M 27 k) c1)) (lN_add _ _) ?_
                          refine lv_lstore (lv' := [(5, .long (lN (mc4 (U k) qx (mG M 27 k) c1))), (16, .long (lN (mv (U k) qx (mG M 27 k) c1))), (14, .long (lN (mhi qx (mG M 27 k)))), (12, .long (lN (mlo qx (mG M 27 k)))), (11, .int (nI k)), (9, .long (lN qx)), (4, .int (nI i)), (0, .ref h0), (1, .ref ax), (2, .ref bx), (3, .ref (ad kt))]) hx hb dX7_product_321 hl (by decide) rfl (fun ls hl => ?_)
                          have jd : ∀ (W2 : Nat → Nat), (4294967296 * dv 4294967296 W2 (k + 1 - 1) + mc4 (U k) qx (mG M 27 k) c1 * 4294967296 ^ (k + 1) = dv 4294967296 U (k + 1) + qx * dv 4294967296 (mG M 27) (k + 1)) → (∀ j, k + 1 ≤ j + 1 → W2 j = U j) → (∀ j, j < d9 → W2 j < 4294967296) → ∀ (H : Heap) (locs : List Loc), Wd D B s (mw dA h0 ad (sG M 28 W2) ++ F) H locs → ∀ (ls : Array Slot), lv_has ls 18 [(5, .long (lN (mc4 (U k) qx (mG M 27 k) c1))), (11, .int (nI k)), (9, .long (lN qx)), (4, .int (nI i)), (0, .ref h0), (1, .ref ax), (2, .ref bx), (3, .ref (ad kt))] → W p l e R s m args below meth c H locs 0 0 Q (F0 m 343 ls []) := by
                            intro W2  hdn hW2a hW2b H locs h ls hl
                            refine lv_iinc (v := nI (k + 1)) (lv' := [(11, .int (nI (k + 1))), (5, .long (lN (mc4 (U k) qx (mG M 27 k) c1))), (9, .long (lN qx)), (4, .int (nI i)), (0, .ref h0), (1, .ref ax), (2, .ref bx), (3, .ref (ad kt))]) hx hb dX7_product_343 hl (k := 1) rfl (nI_add k 1) (by decide) rfl (fun ls hl => ?_)
                            refine lv_goto (tgt := 225) hx hb dX7_product_346 (by decide) ?_
                            exact ihD (k + 1) _ _ (by omega) (mc4_lt hu1 hqx1 hmk hD1) hdn hW2a hW2b (fun q => absurd q (by omega)) (by omega) _ _ h _ (lv_sub hl [0, 1, 2, 3, 4, 5, 6, 7] rfl)
                          refine lv_iload hx hb dX7_product_323 (lv_at hl 4 rfl) ?_
                          refine n_if_le (tgt := 343) hx hb (by omega) dX7_product_325 (by decide) (fun c325 => ?_) (fun c325 => ?_)
                          · exact jd _ (by rw [if_pos c325] at hdn; exact hdn) (fun j q => hD3 j (by omega)) hD4 _ _ h _ (lv_sub hl [0, 4, 5, 6, 7, 8, 9, 10] rfl)
                          · refine lv_aload_n hx hb dX7_product_328 rfl (lv_at hl 7 rfl) ?_
                            refine m_gc C h 28 (by decide) rfl rfl q1898 dX7_product_329 ?_
                            refine lv_iload hx hb dX7_product_332 (lv_at hl 4 rfl) ?_
                            refine lv_iconst (v := nI 1) hx hb dX7_product_334 (by decide) ?_
                            refine lv_isub hx hb dX7_product_335 (n_top (y := nI (k - 1)) (pk_sub (by omega)) ?_)
                            refine lv_lload hx hb dX7_product_336 (lv_at hl 1 rfl) ?_
                            refine lv_ldc2 hx hb hown (hts _ q2376) dX7_product_338 ?_
                            refine n_topl (y := lN 4294967295) (by decide) ?_
                            refine lv_land hx hb dX7_product_341 (n_topl (y := lN ((mv (U k) qx (mG M 27 k) c1) % 4294967296)) (l_andN (k := 32) (by omega) (by decide)) ?_)
                            refine m_last C h 28 (v := (mv (U k) qx (mG M 27 k) c1) % 4294967296) (by decide) (n := 42) rfl (by omega) dX7_product_342 (fun H locs h => ?_)
                            rw [sG_sG] at h
                            have h : Wd D B s (mw dA h0 ad (sG M 28 (upN W1 (k - 1) ((mv (U k) qx (mG M 27 k) c1) % 4294967296))) ++ F) H locs := h
                            exact jd _ (by rw [if_neg (by omega)] at hdn; exact hdn) (fun j q => by rw [upN_n (by omega)]; exact hD3 j (by omega)) (fun j q => by
                              by_cases q2 : j = k - 1
                              · rw [q2, upN_s]; exact Nat.mod_lt _ (by decide)
                              · rw [upN_n q2]; exact hD4 j q) _ _ h _ (lv_sub hl [0, 4, 5, 6, 7, 8, 9, 10] rfl)
                    exact loopD _ 0 0 _ (by omega) (by omega) (by simp [dv]) (fun j _ => rfl) (fun j q => hUl j (by omega)) (fun _ => rfl) (Nat.lt_succ_self _) _ _ h _ (lv_sub hl [0, 1, 2, 4, 5, 6, 7, 8] rfl)
                  · have hyk := hY k (by omega)
                    have hs1 := hI1 k (by omega)
                    have hlo := mlo_lt (x := X i) hyk
                    have hhi := mhi_lt hxi hyk
                    have hmv := mv_lt (x := X i) (y := Y k) (k := c1) hs1
                    refine lv_aload_n hx hb dX7_product_51 rfl (lv_at hl 4 rfl) ?_
                    refine lv_iload hx hb dX7_product_52 (lv_at hl 2 rfl) ?_
                    refine n_lald C h (v := X i) (hra _) (show i < 40 by omega) (by decide) rfl dX7_product_54 ?_
                    refine lv_ldc2 hx hb hown (hts _ q2439) dX7_product_55 ?_
                    refine n_topl (y := lN 65535) (by decide) ?_
                    refine lv_land hx hb dX7_product_58 (n_topl (y := lN ((X i) % 65536)) (l_andN (k := 16) (by omega) (by decide)) ?_)
                    refine lv_aload_n hx hb dX7_product_59 rfl (lv_at hl 5 rfl) ?_
                    refine lv_iload hx hb dX7_product_60 (lv_at hl 0 rfl) ?_
                    refine n_lald C h (v := Y k) (hrb _) (show k < 40 by omega) (by decide) rfl dX7_product_62 ?_
                    refine lv_lmul hx hb dX7_product_63 ?_
                    refine n_topl (y := lN (mlo (X i) (Y k))) (lN_mul _ _) ?_
                    refine lv_lstore (lv' := [(8, .long (lN (mlo (X i) (Y k)))), (7, .int (nI k)), (5, .long (lN c1)), (4, .int (nI i)), (0, .ref h0), (1, .ref ax), (2, .ref bx), (3, .ref (ad kt))]) hx hb dX7_product_64 hl (by decide) rfl (fun ls hl => ?_)
                    refine lv_aload_n hx hb dX7_product_66 rfl (lv_at hl 5 rfl) ?_
                    refine lv_iload hx hb dX7_product_67 (lv_at hl 3 rfl) ?_
                    refine n_lald C h (v := X i) (hra _) (show i < 40 by omega) (by decide) rfl dX7_product_69 ?_
                    refine lv_bipush (v := nI 16) hx hb dX7_product_70 (by decide) ?_
                    refine n_lushr hx hb dX7_product_72 (n_topl (y := lN ((X i) / 65536)) (l_ushrN (k := 16) (by omega) (by decide)) ?_)
                    refine lv_aload_n hx hb dX7_product_73 rfl (lv_at hl 6 rfl) ?_
                    refine lv_iload hx hb dX7_product_74 (lv_at hl 1 rfl) ?_
                    refine n_lald C h (v := Y k) (hrb _) (show k < 40 by omega) (by decide) rfl dX7_product_76 ?_
                    refine lv_lmul hx hb dX7_product_77 ?_
                    refine n_topl (y := lN (mhi (X i) (Y k))) (lN_mul _ _) ?_
                    refine lv_lstore (lv' := [(10, .long (lN (mhi (X i) (Y k)))), (8, .long (lN (mlo (X i) (Y k)))), (7, .int (nI k)), (5, .long (lN c1)), (4, .int (nI i)), (0, .ref h0), (1, .ref ax), (2, .ref bx), (3, .ref (ad kt))]) hx hb dX7_product_78 hl (by decide) rfl (fun ls hl => ?_)
                    refine lv_aload_n hx hb dX7_product_80 rfl (lv_at hl 5 rfl) ?_
                    refine m_gc C h 28 (by decide) rfl rfl q1898 dX7_product_81 ?_
                    refine lv_iload hx hb dX7_product_84 (lv_at hl 2 rfl) ?_
                    refine n_lald C h (v := S2 k) (mw_memL (k := 28) (by decide)) (show k < 42 by omega) (by decide) rfl dX7_product_86 ?_
                    refine n_topl (y := lN (S1 k)) (by rw [hK3 k (Nat.le_refl _)]) ?_
                    refine lv_lload hx hb dX7_product_87 (lv_at hl 1 rfl) ?_
                    refine lv_ldc2 hx hb hown (hts _ q2376) dX7_product_89 ?_
                    refine n_topl (y := lN 4294967295) (by decide) ?_
                    refine lv_land hx hb dX7_product_92 (n_topl (y := lN ((mlo (X i) (Y k)) % 4294967296)) (l_andN (k := 32) (by omega) (by decide)) ?_)
                    refine lv_ladd hx hb dX7_product_93 (n_topl (y := lN (S1 k + ((mlo (X i) (Y k)) % 4294967296))) (lN_add (S1 k) ((mlo (X i) (Y k)) % 4294967296)) ?_)
                    refine lv_lload hx hb dX7_product_94 (lv_at hl 0 rfl) ?_
                    refine lv_ldc2 hx hb hown (hts _ q2439) dX7_product_96 ?_
                    refine n_topl (y := lN 65535) (by decide) ?_
                    refine lv_land hx hb dX7_product_99 (n_topl (y := lN ((mhi (X i) (Y k)) % 65536)) (l_andN (k := 16) (by omega) (by decide)) ?_)
                    refine lv_bipush (v := nI 16) hx hb dX7_product_100 (by decide) ?_
                    refine n_lshl hx hb dX7_product_102 (n_topl (y := lN (((mhi (X i) (Y k)) % 65536) * 65536)) (l_shlN (k := 16) (by decide)) ?_)
                    refine lv_ladd hx hb dX7_product_103 (n_topl (y := lN ((S1 k + ((mlo (X i) (Y k)) % 4294967296)) + (((mhi (X i) (Y k)) % 65536) * 65536))) (lN_add (S1 k + ((mlo (X i) (Y k)) % 4294967296)) (((mhi (X i) (Y k)) % 65536) * 65536)) ?_)
                    refine lv_lload hx hb dX7_product_104 (lv_at hl 3 rfl) ?_
                    refine lv_ldc2 hx hb hown (hts _ q2376) dX7_product_106 ?_
                    refine n_topl (y := lN 4294967295) (by decide) ?_
                    refine lv_land hx hb dX7_product_109 (n_topl (y := lN (c1 % 4294967296)) (l_andN (k := 32) (by omega) (by decide)) ?_)
                    refine lv_ladd hx hb dX7_product_110 ?_
                    refine n_topl (y := lN (mv (S1 k) (X i) (Y k) c1)) (lN_add _ _) ?_
                    refine lv_lstore (lv' := [(12, .long (lN (mv (S1 k) (X i) (Y k) c1))), (10, .long (lN (mhi (X i) (Y k)))), (8, .long (lN (mlo (X i) (Y k)))), (7, .int (nI k)), (5, .long (lN c1)), (4, .int (nI i)), (0, .ref h0), (1, .ref ax), (2, .ref bx), (3, .ref (ad kt))]) hx hb dX7_product_111 hl (by decide) rfl (fun ls hl => ?_)
                    refine lv_lload hx hb dX7_product_113 (lv_at hl 4 rfl) ?_
                    refine lv_bipush (v := nI 32) hx hb dX7_product_115 (by decide) ?_
                    refine n_lushr hx hb dX7_product_117 (n_topl (y := lN (c1 / 4294967296)) (l_ushrN (k := 32) (by omega) (by decide)) ?_)
                    refine lv_lload hx hb dX7_product_118 (lv_at hl 2 rfl) ?_
                    refine lv_bipush (v := nI 32) hx hb dX7_product_120 (by decide) ?_
                    refine n_lushr hx hb dX7_product_122 (n_topl (y := lN ((mlo (X i) (Y k)) / 4294967296)) (l_ushrN (k := 32) (by omega) (by decide)) ?_)
                    refine lv_ladd hx hb dX7_product_123 (n_topl (y := lN ((c1 / 4294967296) + ((mlo (X i) (Y k)) / 4294967296))) (lN_add (c1 / 4294967296) ((mlo (X i) (Y k)) / 4294967296)) ?_)
                    refine lv_lload hx hb dX7_product_124 (lv_at hl 1 rfl) ?_
                    refine lv_bipush (v := nI 16) hx hb dX7_product_126 (by decide) ?_
                    refine n_lushr hx hb dX7_product_128 (n_topl (y := lN ((mhi (X i) (Y k)) / 65536)) (l_ushrN (k := 16) (by omega) (by decide)) ?_)
                    refine lv_ladd hx hb dX7_product_129 (n_topl (y := lN (((c1 / 4294967296) + ((mlo (X i) (Y k)) / 4294967296)) + ((mhi (X i) (Y k)) / 65536))) (lN_add ((c1 / 4294967296) + ((mlo (X i) (Y k)) / 4294967296)) ((mhi (X i) (Y k)) / 65536)) ?_)
                    refine lv_lload hx hb dX7_product_130 (lv_at hl 0 rfl) ?_
                    refine lv_bipush (v := nI 32) hx hb dX7_product_132 (by decide) ?_
                    refine n_lushr hx hb dX7_product_134 (n_topl (y := lN ((mv (S1 k) (X i) (Y k) c1) / 4294967296)) (l_ushrN (k := 32) (by omega) (by decide)) ?_)
                    refine lv_ladd hx hb dX7_product_135 ?_
                    refine n_topl (y := lN (mc4 (S1 k) (X i) (Y k) c1)) (lN_add _ _) ?_
                    refine lv_lstore (lv' := [(5, .long (lN (mc4 (S1 k) (X i) (Y k) c1))), (12, .long (lN (mv (S1 k) (X i) (Y k) c1))), (10, .long (lN (mhi (X i) (Y k)))), (8, .long (lN (mlo (X i) (Y k)))), (7, .int (nI k)), (4, .int (nI i)), (0, .ref h0), (1, .ref ax), (2, .ref bx), (3, .ref (ad kt))]) hx hb dX7_product_136 hl (by decide) rfl (fun ls hl => ?_)
                    refine lv_aload_n hx hb dX7_product_138 rfl (lv_at hl 6 rfl) ?_
                    refine m_gc C h 28 (by decide) rfl rfl q1898 dX7_product_139 ?_
                    refine lv_iload hx hb dX7_product_142 (lv_at hl 4 rfl) ?_
                    refine lv_lload hx hb dX7_product_144 (lv_at hl 1 rfl) ?_
                    refine lv_ldc2 hx hb hown (hts _ q2376) dX7_product_146 ?_
                    refine n_topl (y := lN 4294967295) (by decide) ?_
                    refine lv_land hx hb dX7_product_149 (n_topl (y := lN ((mv (S1 k) (X i) (Y k) c1) % 4294967296)) (l_andN (k := 32) (by omega) (by decide)) ?_)
                    refine m_last C h 28 (v := (mv (S1 k) (X i) (Y k) c1) % 4294967296) (by decide) (n := 42) rfl (by omega) dX7_product_150 (fun H locs h => ?_)
                    rw [sG_sG] at h
                    have h : Wd D B s (mw dA h0 ad (sG M 28 (upN S2 k ((mv (S1 k) (X i) (Y k) c1) % 4294967296))) ++ F) H locs := h
                    refine lv_iinc (v := nI (k + 1)) (lv' := [(7, .int (nI (k + 1))), (5, .long (lN (mc4 (S1 k) (X i) (Y k) c1))), (12, .long (lN (mv (S1 k) (X i) (Y k) c1))), (10, .long (lN (mhi (X i) (Y k)))), (8, .long (lN (mlo (X i) (Y k)))), (4, .int (nI i)), (0, .ref h0), (1, .ref ax), (2, .ref bx), (3, .ref (ad kt))]) hx hb dX7_product_151 hl (k := 4) rfl (nI_add k 1) (by decide) rfl (fun ls hl => ?_)
                    refine lv_goto (tgt := 42) hx hb dX7_product_154 (by decide) ?_
                    exact ihK (k + 1) _ _ (by omega) (mc4_lt hs1 hxi hyk hK1) (row_step hK2 (hK3 k (Nat.le_refl _))) (fun j q => by rw [upN_n (by omega)]; exact hK3 j (by omega)) (fun j q => by
                      rcases Nat.lt_or_ge j k with q2 | q2
                      · rw [upN_n (by omega)]; exact hK4 j q2
                      · rw [show j = k by omega, upN_s]; exact Nat.mod_lt _ (by decide)) (by omega) _ _ h _ (lv_sub hl [0, 1, 5, 6, 7, 8, 9] rfl)
              exact loopK _ 0 0 _ (by omega) (by omega) (by simp [dv]) (fun j _ => rfl) (fun j q => absurd q (Nat.not_lt_zero _)) (Nat.lt_succ_self _) _ _ h _ (lv_sub hl [0, 1, 2, 3, 4, 5, 6] rfl)
        exact loopI _ 0 0 _ (by omega) (fun j hj => by rw [hz j (by omega)]; decide) (hz _ (by omega)) (by rw [hz0]; omega) (by rw [hz0]; simp [dv]) (Nat.lt_succ_self _) _ _ h _ (lv_sub hl [0, 1, 2, 3, 4] rfl)
      · refine lv_aload_n hx hb dX7_product_10 rfl (lv_at hl 1 rfl) ?_
        refine m_gc C h 28 (by decide) rfl rfl q1898 dX7_product_11 ?_
        refine lv_iload hx hb dX7_product_14 (lv_at hl 0 rfl) ?_
        refine lv_lconst (v := lN 0) hx hb dX7_product_16 (by decide) ?_
        refine m_last C h 28 (v := 0) (by decide) (n := 42) rfl (by omega) dX7_product_17 (fun H locs h => ?_)
        rw [sG_sG] at h
        have h : Wd D B s (mw dA h0 ad (sG M 28 (upN S1 i 0)) ++ F) H locs := h
        refine lv_iinc (v := nI (i + 1)) (lv' := [(4, .int (nI (i + 1))), (0, .ref h0), (1, .ref ax), (2, .ref bx), (3, .ref (ad kt))]) hx hb dX7_product_18 hl (k := 0) rfl (nI_add i 1) (by decide) rfl (fun ls hl => ?_)
        refine lv_goto (tgt := 3) hx hb dX7_product_21 (by decide) ?_
        exact ih (i + 1) _ (by omega) (fun j q => by
          rcases Nat.lt_or_ge j i with q2 | q2
          · rw [upN_n (by omega)]; exact hi1 j q2
          · rw [show j = i by omega, upN_s]) (by omega) _ _ h _ (lv_sub hl [0, 1, 2, 3, 4] rfl)
  exact loop _ 0 _ (by omega) (fun j q => absurd q (Nat.not_lt_zero _)) (Nat.lt_succ_self _) _ _ h _ (lv_sub hl [0, 1, 2, 3, 4] rfl)
