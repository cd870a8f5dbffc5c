set_option maxRecDepth 100000
set_option maxHeartbeats 400000 in
set_option maxRecDepth 100000 in
theorem c7_raise (l : Launch) (D : va_G) (dA : Nat → ClassId) (B : Nat) (Z : State → Prop) (hZ : Stab B Z) (h0 : Nat) (ad : Nat → Nat) (M : MS) (F : va_W) (ab ae an : Nat) (lb le ln : List Nat) (hbF : (ab, ial dA lb) ∈ F) (heF : (ae, ial dA le) ∈ F) (hnF : (an, ial dA ln) ∈ F) (hbb : byt lb) (heb : byt le) (hnb : byt ln) (hn0 : 0 < ln.length) (hn1 : ln.length ≤ 128) (hb1 : lb.length ≤ 150) (he1 : le.length ≤ 5000) (hodd : gD ln (ln.length - 1) % 2 = 1) (hlt : num lb < num ln) (hm1 : 1 < num ln) :
    Ct (S := Nat × PU) l D dA B Z yX7_raise cX7_raise 12 (some ((.array .int))) 3 1 ln.length [.ref h0, .ref ab, .ref ae, .ref an] (mw dA h0 ad M ++ F) (fun _ => True) (fun u => some (.ref u.1)) (fun u => mw dA h0 ad (pM M u.2) ++ (F ++ [(u.1, ial dA (be ln.length (num lb ^ num le % num ln)))])) := by
  refine Ct.mk2 (by decide) (Nat.le_of_ble_eq_true rfl) hZ ?_
  intro p e R s m args below meth c ls Q C hr hlocks hin hQ hl h
  have C0 := C
  obtain ⟨hx, hb, hml, hown, hts, -⟩ := C0
  have hl : lv_has ls 12 [(0, .ref h0), (1, .ref ab), (2, .ref ae), (3, .ref an)] := hl
  rw [← pM_id M] at h
  have h : Wd D B s (mw dA h0 ad (pM M (mI M 26, mL M 29, mG M 27, mG M 28, mG M 30, mG M 31, mG M 32)) ++ F) s.heap [] := h
  obtain ⟨mz, hmz⟩ : ∃ z, z = num ln := ⟨_, rfl⟩
  rw [← hmz] at hlt hm1
  have hmo := num_odd hn0 hodd
  rw [← hmz] at hmo
  obtain ⟨d9, hd9⟩ : ∃ z, z = (ln.length + 3) / 4 := ⟨_, rfl⟩
  have hmR : mz < 4294967296 ^ d9 := by rw [hmz]; exact Nat.lt_of_lt_of_le (num_lt hnb) (len_R (by omega))
  have hcop := cop_pow (m := mz) (d := d9) hmo
  refine lv_aload_n hx hb dX7_raise_0 rfl (lv_at hl 3 rfl) ?_
  refine lv_aload_n hx hb dX7_raise_1 rfl (lv_at hl 0 rfl) ?_
  refine m_gc C h 27 (by decide) rfl rfl q1897 dX7_raise_2 ?_
  refine call_S (As := [.ref an, .ref (ad 27)]) (rest := []) (n := 2) C h (c7_toDigits l D dA B Z hZ h0 ad (pM M (mI M 26, mL M 29, mG M 27, mG M 28, mG M 30, mG M 31, mG M 32)) F an 27 ln (by decide) rfl hnF hnb (by omega)) (lw_S q2422 q2423 q138 q2424) (by decide +kernel) (by decide) (by decide) rfl hl rfl (Nat.le_of_ble_eq_true rfl) dX7_raise_5 (by omega) (fun Mo H locs hT h => ?_)
  obtain ⟨hMo, hMv⟩ := hT
  rw [pM_27] at h
  have hMd : dv 4294967296 Mo d9 = mz := by
    have e := dv_low (b := 4294967296) (g := Mo) (d := d9) (by decide) (40 - d9) (by rw [show d9 + (40 - d9) = 40 by omega, hMv, ← hmz]; exact hmR)
    rw [← e, show d9 + (40 - d9) = 40 by omega, hMv, hmz]
  have hM0 : Mo 0 % 2 = 1 := by
    have e := dv_mod2 (g := Mo) 39
    rw [hMv, ← hmz] at e; omega
  refine lv_aload_n hx hb dX7_raise_8 rfl (lv_at hl 0 rfl) ?_
  refine lv_aload_n hx hb dX7_raise_9 rfl (lv_at hl 3 rfl) ?_
  refine n_alen C h (List.mem_append_right _ hnF) dX7_raise_10 ?_
  refine lv_iconst (v := nI 3) hx hb dX7_raise_11 (by decide) ?_
  refine lv_iadd hx hb dX7_raise_12 (n_top (y := nI (ln.length + 3)) (nI_add ln.length 3) ?_)
  refine lv_iconst (v := nI 4) hx hb dX7_raise_13 (by decide) ?_
  refine lv_idiv hx hb dX7_raise_14 (by decide) (n_top (y := nI ((ln.length + 3) / 4)) (pk_div (by omega) (by omega) (by omega)) ?_)
  refine m_pi C h 26 (v := nI ((ln.length + 3) / 4)) (by decide) rfl rfl rfl q1896 rfl rfl dX7_raise_15 (fun H locs h => ?_)
  rw [pM_26] at h
  have h : Wd D B s (mw dA h0 ad (pM M (nI ((ln.length + 3) / 4), mL M 29, Mo, mG M 28, mG M 30, mG M 31, mG M 32)) ++ F) H locs := h
  rw [← hd9] at h
  have hM0l := hMo 0 (by decide)
  refine lv_lconst (v := lN 1) hx hb dX7_raise_18 (by decide) ?_
  refine lv_lstore (lv' := [(4, .long (lN 1)), (0, .ref h0), (1, .ref ab), (2, .ref ae), (3, .ref an)]) hx hb dX7_raise_19 hl (by decide) rfl (fun ls hl => ?_)
  refine lv_iconst (v := nI 0) hx hb dX7_raise_21 (by decide) ?_
  refine lv_istore (lv' := [(6, .int (nI 0)), (4, .long (lN 1)), (0, .ref h0), (1, .ref ab), (2, .ref ae), (3, .ref an)]) hx hb dX7_raise_22 hl (by decide) rfl (fun ls hl => ?_)
  have loop : ∀ (nn : Nat) (kq v : Nat), (kq ≤ 6) → (v < 4294967296) → (((2 : Int) ^ ee kq) ∣ ((Mo 0 : Int) * v - 1)) → 6 - kq < nn → ∀ (H : Heap) (locs : List Loc), Wd D B s (mw dA h0 ad (pM M (nI d9, mL M 29, Mo, mG M 28, mG M 30, mG M 31, mG M 32)) ++ F) H locs → ∀ (ls : Array Slot), lv_has ls 12 [(6, .int (nI kq)), (4, .long (lN v)), (0, .ref h0), (1, .ref ab), (2, .ref ae), (3, .ref an)] → W p l e R s m args below meth c H locs (0 + 0) (0 + 0) Q (F0 m 24 ls []) := by
    intro nn
    induction nn with
    | zero => intro kq v  hi0 hi1 hi2 hme; exact absurd hme (Nat.not_lt_zero _)
    | succ nn ih =>
      intro kq v  hi0 hi1 hi2 hme H locs h ls hl
      refine lv_iload hx hb dX7_raise_24 (lv_at hl 0 rfl) ?_
      refine lv_bipush (v := nI 6) hx hb dX7_raise_26 (by decide) ?_
      refine n_icmp_ge (tgt := 59) hx hb (by omega) (by omega) dX7_raise_28 (by decide) (fun c28 => ?_) (fun c28 => ?_)
      · refine lv_aload_n hx hb dX7_raise_59 rfl (lv_at hl 2 rfl) ?_
        refine lv_ldc2 hx hb hown (hts _ q2426) dX7_raise_60 ?_
        refine n_topl (y := lN 4294967296) (by decide) ?_
        refine lv_lload hx hb dX7_raise_63 (lv_at hl 1 rfl) ?_
        refine lv_lsub hx hb dX7_raise_65 (n_topl (y := lN (4294967296 - v)) (lN_sub (by omega)) ?_)
        refine lv_ldc2 hx hb hown (hts _ q2376) dX7_raise_66 ?_
        refine n_topl (y := lN 4294967295) (by decide) ?_
        refine lv_land hx hb dX7_raise_69 (n_topl (y := lN ((4294967296 - v) % 4294967296)) (l_andN (k := 32) (by omega) (by decide)) ?_)
        refine m_pl C h 29 (v := lN ((4294967296 - v) % 4294967296)) (by decide) rfl rfl rfl q1899 rfl rfl dX7_raise_70 (fun H locs h => ?_)
        rw [pM_29] at h
        have h : Wd D B s (mw dA h0 ad (pM M (nI d9, lN ((4294967296 - v) % 4294967296), Mo, mG M 28, mG M 30, mG M 31, mG M 32)) ++ F) H locs := h
        have hkq : kq = 6 := by omega
        rw [hkq] at hi2
        have hin0 := newton_end hM0l hi1 hi2
        obtain ⟨iv, hiv⟩ : ∃ z, z = (4294967296 - v) % 4294967296 := ⟨_, rfl⟩
        rw [← hiv] at hin0 h
        have hiv1 : iv < 4294967296 := by rw [hiv]; exact Nat.mod_lt _ (by decide)
        refine lv_iconst (v := nI 0) hx hb dX7_raise_73 (by decide) ?_
        refine lv_istore (lv' := [(6, .int (nI 0)), (4, .long (lN v)), (0, .ref h0), (1, .ref ab), (2, .ref ae), (3, .ref an)]) hx hb dX7_raise_74 hl (by decide) rfl (fun ls hl => ?_)
        have loophz : ∀ (nnhz : Nat) (i : Nat) (G1 : Nat → Nat), (i ≤ 42) → (∀ j, j < i → G1 j = 0) → 42 - i < nnhz → ∀ (H : Heap) (locs : List Loc), Wd D B s (mw dA h0 ad (pM M (nI d9, lN iv, Mo, G1, mG M 30, mG M 31, mG M 32)) ++ F) H locs → ∀ (ls : Array Slot), lv_has ls 12 [(6, .int (nI i)), (0, .ref h0), (1, .ref ab), (2, .ref ae), (3, .ref an)] → W p l e R s m args below meth c H locs (0 + 0) (0 + 0) Q (F0 m 76 ls []) := by
          intro nnhz
          induction nnhz with
          | zero => intro i  G1  hz0 hz1 hme; exact absurd hme (Nat.not_lt_zero _)
          | succ nnhz ihhz =>
            intro i  G1  hz0 hz1 hme H locs h ls hl
            refine lv_iload hx hb dX7_raise_76 (lv_at hl 0 rfl) ?_
            refine lv_bipush (v := nI 42) hx hb dX7_raise_78 (by decide) ?_
            refine n_icmp_ge (tgt := 97) hx hb (by omega) (by omega) dX7_raise_80 (by decide) (fun c80 => ?_) (fun c80 => ?_)
            · refine lv_aload_n hx hb dX7_raise_97 rfl (lv_at hl 1 rfl) ?_
              refine m_gc C h 28 (by decide) rfl rfl q1898 dX7_raise_98 ?_
              refine lv_iconst (v := nI 0) hx hb dX7_raise_101 (by decide) ?_
              refine lv_lconst (v := lN 1) hx hb dX7_raise_102 (by decide) ?_
              refine m_last C h 28 (v := 1) (by decide) (n := 42) rfl (by omega) dX7_raise_103 (fun H locs h => ?_)
              rw [pM_28] at h
              have h : Wd D B s (mw dA h0 ad (pM M (nI d9, lN iv, Mo, upN G1 0 1, mG M 30, mG M 31, mG M 32)) ++ F) H locs := h
              refine lv_iconst (v := nI 0) hx hb dX7_raise_104 (by decide) ?_
              refine lv_istore (lv' := [(6, .int (nI 0)), (0, .ref h0), (1, .ref ab), (2, .ref ae), (3, .ref an)]) hx hb dX7_raise_105 hl (by decide) rfl (fun ls hl => ?_)
              obtain ⟨S0, hS0⟩ : ∃ z, z = upN G1 0 1 := ⟨_, rfl⟩
              rw [← hS0] at h
              have hS0v : ∀ n, n < 42 → dv 4294967296 S0 (n + 1) = 1 := by
                intro n hn
                induction n with
                | zero => simp [dv, hS0, upN_s]
                | succ n ih => rw [dv, ih (by omega), hS0, upN_n (by omega), hz1 _ (by omega), Nat.zero_mul]
              have hS0l : ∀ j, j ≤ d9 → S0 j < 4294967296 := by
                intro j hj
                rw [hS0, upN_if]; split
                · decide
                · rw [hz1 j (by omega)]; decide
              have loopQ : ∀ (nnQ : Nat) (kq : Nat) (S1 : Nat → Nat), (kq ≤ 64 * d9) → (∀ j, j ≤ d9 → S1 j < 4294967296) → (dv 4294967296 S1 (d9 + 1) = 2 ^ kq % mz) → 64 * d9 - kq < nnQ → ∀ (H : Heap) (locs : List Loc), Wd D B s (mw dA h0 ad (pM M (nI d9, lN iv, Mo, S1, mG M 30, mG M 31, mG M 32)) ++ F) H locs → ∀ (ls : Array Slot), lv_has ls 12 [(6, .int (nI kq)), (0, .ref h0), (1, .ref ab), (2, .ref ae), (3, .ref an)] → W p l e R s m args below meth c H locs (0 + 0) (0 + 0) Q (F0 m 107 ls []) := by
                intro nnQ
                induction nnQ with
                | zero => intro kq  S1  hQ0 hQ1 hQ2 hme; exact absurd hme (Nat.not_lt_zero _)
                | succ nnQ ihQ =>
                  intro kq  S1  hQ0 hQ1 hQ2 hme H locs h ls hl
                  refine lv_iload hx hb dX7_raise_107 (lv_at hl 0 rfl) ?_
                  refine lv_bipush (v := nI 64) hx hb dX7_raise_109 (by decide) ?_
                  refine lv_aload_n hx hb dX7_raise_111 rfl (lv_at hl 1 rfl) ?_
                  refine m_gi C h 26 (by decide) rfl rfl q1896 (v := nI d9) rfl dX7_raise_112 ?_
                  refine lv_imul hx hb dX7_raise_115 (n_top (y := nI (64 * d9)) (pk_mul 64 d9) ?_)
                  refine n_icmp_ge (tgt := 193) hx hb (by omega) (by omega) dX7_raise_116 (by decide) (fun c116 => ?_) (fun c116 => ?_)
                  · refine lv_iconst (v := nI 0) hx hb dX7_raise_193 (by decide) ?_
                    refine lv_istore (lv' := [(6, .int (nI 0)), (0, .ref h0), (1, .ref ab), (2, .ref ae), (3, .ref an)]) hx hb dX7_raise_194 hl (by decide) rfl (fun ls hl => ?_)
                    have hkq2 : kq = 64 * d9 := by omega
                    rw [hkq2] at hQ2
                    have loopC : ∀ (nnC : Nat) (k : Nat) (Q1 : Nat → Nat), (k ≤ d9) → (∀ j, j < k → Q1 j = S1 j) → d9 - k < nnC → ∀ (H : Heap) (locs : List Loc), Wd D B s (mw dA h0 ad (pM M (nI d9, lN iv, Mo, S1, mG M 30, mG M 31, Q1)) ++ F) H locs → ∀ (ls : Array Slot), lv_has ls 12 [(6, .int (nI k)), (0, .ref h0), (1, .ref ab), (2, .ref ae), (3, .ref an)] → W p l e R s m args below meth c H locs (0 + 0) (0 + 0) Q (F0 m 196 ls []) := by
                      intro nnC
                      induction nnC with
                      | zero => intro k  Q1  hC0 hC1 hme; exact absurd hme (Nat.not_lt_zero _)
                      | succ nnC ihC =>
                        intro k  Q1  hC0 hC1 hme H locs h ls hl
                        refine lv_iload hx hb dX7_raise_196 (lv_at hl 0 rfl) ?_
                        refine lv_aload_n hx hb dX7_raise_198 rfl (lv_at hl 1 rfl) ?_
                        refine m_gi C h 26 (by decide) rfl rfl q1896 (v := nI d9) rfl dX7_raise_199 ?_
                        refine n_icmp_ge (tgt := 225) hx hb (by omega) (by omega) dX7_raise_202 (by decide) (fun c202 => ?_) (fun c202 => ?_)
                        · have hkd3 : k = d9 := by omega
                          rw [hkd3] at hC1
                          have hQl : ∀ j, j < d9 → Q1 j < 4294967296 := fun j hj => by rw [hC1 j hj]; exact hQ1 j (by omega)
                          have hvm2 : 2 ^ (64 * d9) % mz < mz := Nat.mod_lt _ (by omega)
                          have hQv : dv 4294967296 Q1 d9 = 2 ^ (64 * d9) % mz := by
                            rw [dv_congr (f := Q1) (g := S1) hC1]
                            have q : S1 d9 = 0 := by
                              rcases Nat.eq_zero_or_pos (S1 d9) with q | q
                              · exact q
                              · exfalso
                                have q2 : 1 * 4294967296 ^ d9 ≤ S1 d9 * 4294967296 ^ d9 := Nat.mul_le_mul_right _ q
                                rw [dv] at hQ2; omega
                            rw [← hQ2, dv, q, Nat.zero_mul, Nat.add_zero]
                          have hQR : dv 4294967296 Q1 d9 % mz = (4294967296 ^ d9 * 4294967296 ^ d9) % mz := by rw [hQv, Nat.mod_mod, R_sq]
                          refine lv_aload_n hx hb dX7_raise_225 rfl (lv_at hl 2 rfl) ?_
                          refine lv_aload_n hx hb dX7_raise_226 rfl (lv_at hl 1 rfl) ?_
                          refine m_gc C h 30 (by decide) rfl rfl q1900 dX7_raise_227 ?_
                          refine call_S (As := [.ref ab, .ref (ad 30)]) (rest := []) (n := 2) C h (c7_toDigits l D dA B Z hZ h0 ad (pM M (nI d9, lN iv, Mo, S1, mG M 30, mG M 31, Q1)) F ab 30 lb (by decide) rfl hbF hbb hb1) (lw_S q2422 q2423 q138 q2424) (by decide +kernel) (by decide) (by decide) rfl hl rfl (Nat.le_of_ble_eq_true rfl) dX7_raise_230 (by omega) (fun B0 H locs hT2 h => ?_)
                          obtain ⟨hB0l, hB0v⟩ := hT2
                          rw [pM_30] at h
                          have hBd : dv 4294967296 B0 d9 = num lb := by
                            have e := dv_low (b := 4294967296) (g := B0) (d := d9) (by decide) (40 - d9) (by rw [show d9 + (40 - d9) = 40 by omega, hB0v]; omega)
                            rw [← e, show d9 + (40 - d9) = 40 by omega, hB0v]
                          refine lv_aload_n hx hb dX7_raise_233 rfl (lv_at hl 1 rfl) ?_
                          refine lv_aload_n hx hb dX7_raise_234 rfl (lv_at hl 1 rfl) ?_
                          refine m_gc C h 30 (by decide) rfl rfl q1900 dX7_raise_235 ?_
                          refine lv_aload_n hx hb dX7_raise_238 rfl (lv_at hl 1 rfl) ?_
                          refine m_gc C h 32 (by decide) rfl rfl q1902 dX7_raise_239 ?_
                          refine lv_aload_n hx hb dX7_raise_242 rfl (lv_at hl 1 rfl) ?_
                          refine m_gc C h 30 (by decide) rfl rfl q1900 dX7_raise_243 ?_
                          refine call_V (As := [.ref (ad 30), .ref (ad 32), .ref (ad 30)]) (rest := []) (n := 3) C h (c7_product l D dA B Z hZ h0 ad (pM M (nI d9, lN iv, Mo, S1, B0, mG M 31, Q1)) F d9 iv (ad 30) (ad 32) 30 B0 Q1 rfl (by omega) (by omega) rfl hiv1 hin0 (fun i hi => hMo i (by omega)) (fun _ => mw_memL (k := 30) (by decide)) (fun _ => mw_memL (k := 32) (by decide)) (fun i hi => hB0l i (by omega)) hQl (show dv 4294967296 Q1 d9 < dv 4294967296 Mo d9 by rw [hMd, hQv]; exact hvm2) (by decide) rfl (by decide)) (lw_V q2435 q2437 qs100 q138 q2438) (by decide +kernel) (ci := 5) rfl rfl mw_mem0 (by decide) (by decide) rfl hl rfl (Nat.le_of_ble_eq_true rfl) dX7_raise_246 (by omega) (fun u5 H locs hu5 h => ?_)
                          obtain ⟨S5, B1⟩ := u5
                          obtain ⟨hB1l, -, hB1m, hB1v⟩ := hu5
                          rw [pM_28, pM_30] at h
                          have hB1m : dv 4294967296 B1 d9 < mz := by rw [← hMd]; exact hB1m
                          have hB1l : ∀ i, i < d9 → B1 i < 4294967296 := hB1l
                          have hB1R : dv 4294967296 B1 d9 % mz = (num lb * 4294967296 ^ d9) % mz := by
                            have e : (dv 4294967296 B1 d9 * 4294967296 ^ d9) % dv 4294967296 Mo d9 = (dv 4294967296 B0 d9 * dv 4294967296 Q1 d9) % dv 4294967296 Mo d9 := hB1v
                            rw [hMd, hBd] at e
                            exact mont_in hcop hQR e
                          refine lv_iconst (v := nI 0) hx hb dX7_raise_249 (by decide) ?_
                          refine lv_istore (lv' := [(6, .int (nI 0)), (0, .ref h0), (1, .ref ab), (2, .ref ae), (3, .ref an)]) hx hb dX7_raise_250 hl (by decide) rfl (fun ls hl => ?_)
                          have loophy : ∀ (nnhy : Nat) (i : Nat) (G1 : Nat → Nat), (i ≤ 40) → (∀ j, j < i → G1 j = 0) → 40 - i < nnhy → ∀ (H : Heap) (locs : List Loc), Wd D B s (mw dA h0 ad (pM M (nI d9, lN iv, Mo, S5, B1, G1, Q1)) ++ F) H locs → ∀ (ls : Array Slot), lv_has ls 12 [(6, .int (nI i)), (0, .ref h0), (1, .ref ab), (2, .ref ae), (3, .ref an)] → W p l e R s m args below meth c H locs (0 + 0 + 0 + 0) (0 + 0 + 0 + 0) Q (F0 m 252 ls []) := by
                            intro nnhy
                            induction nnhy with
                            | zero => intro i  G1  hy0 hy1 hme; exact absurd hme (Nat.not_lt_zero _)
                            | succ nnhy ihhy =>
                              intro i  G1  hy0 hy1 hme H locs h ls hl
                              refine lv_iload hx hb dX7_raise_252 (lv_at hl 0 rfl) ?_
                              refine lv_bipush (v := nI 40) hx hb dX7_raise_254 (by decide) ?_
                              refine n_icmp_ge (tgt := 273) hx hb (by omega) (by omega) dX7_raise_256 (by decide) (fun c256 => ?_) (fun c256 => ?_)
                              · refine lv_aload_n hx hb dX7_raise_273 rfl (lv_at hl 1 rfl) ?_
                                refine m_gc C h 31 (by decide) rfl rfl q1901 dX7_raise_274 ?_
                                refine lv_iconst (v := nI 0) hx hb dX7_raise_277 (by decide) ?_
                                refine lv_lconst (v := lN 1) hx hb dX7_raise_278 (by decide) ?_
                                refine m_last C h 31 (v := 1) (by decide) (n := 40) rfl (by omega) dX7_raise_279 (fun H locs h => ?_)
                                rw [pM_31] at h
                                have h : Wd D B s (mw dA h0 ad (pM M (nI d9, lN iv, Mo, S5, B1, upN G1 0 1, Q1)) ++ F) H locs := h
                                obtain ⟨R0, hR0⟩ : ∃ z, z = upN G1 0 1 := ⟨_, rfl⟩
                                rw [← hR0] at h
                                have hR0v : ∀ n, n < 39 → dv 4294967296 R0 (n + 1) = 1 := by
                                  intro n hn
                                  induction n with
                                  | zero => simp [dv, hR0, upN_s]
                                  | succ n ih => rw [dv, ih (by omega), hR0, upN_n (by omega), hy1 _ (by omega), Nat.zero_mul]
                                have hR0d : dv 4294967296 R0 d9 = 1 := by
                                  have e := hR0v (d9 - 1) (by omega)
                                  rwa [show d9 - 1 + 1 = d9 by omega] at e
                                have hR0l : ∀ j, j < d9 → R0 j < 4294967296 := by
                                  intro j hj
                                  rw [hR0, upN_if]; split
                                  · decide
                                  · rw [hy1 j (by omega)]; decide
                                refine lv_aload_n hx hb dX7_raise_280 rfl (lv_at hl 1 rfl) ?_
                                refine lv_aload_n hx hb dX7_raise_281 rfl (lv_at hl 1 rfl) ?_
                                refine m_gc C h 31 (by decide) rfl rfl q1901 dX7_raise_282 ?_
                                refine lv_aload_n hx hb dX7_raise_285 rfl (lv_at hl 1 rfl) ?_
                                refine m_gc C h 32 (by decide) rfl rfl q1902 dX7_raise_286 ?_
                                refine lv_aload_n hx hb dX7_raise_289 rfl (lv_at hl 1 rfl) ?_
                                refine m_gc C h 31 (by decide) rfl rfl q1901 dX7_raise_290 ?_
                                refine call_V (As := [.ref (ad 31), .ref (ad 32), .ref (ad 31)]) (rest := []) (n := 3) C h (c7_product l D dA B Z hZ h0 ad (pM M (nI d9, lN iv, Mo, S5, B1, R0, Q1)) F d9 iv (ad 31) (ad 32) 31 R0 Q1 rfl (by omega) (by omega) rfl hiv1 hin0 (fun i hi => hMo i (by omega)) (fun _ => mw_memL (k := 31) (by decide)) (fun _ => mw_memL (k := 32) (by decide)) hR0l hQl (show dv 4294967296 Q1 d9 < dv 4294967296 Mo d9 by rw [hMd, hQv]; exact hvm2) (by decide) rfl (by decide)) (lw_V q2435 q2437 qs100 q138 q2438) (by decide +kernel) (ci := 5) rfl rfl mw_mem0 (by decide) (by decide) rfl hl rfl (Nat.le_of_ble_eq_true rfl) dX7_raise_293 (by omega) (fun u6 H locs hu6 h => ?_)
                                obtain ⟨S6, R1⟩ := u6
                                obtain ⟨hR1l, -, hR1m, hR1v⟩ := hu6
                                rw [pM_28, pM_31] at h
                                have hR1m : dv 4294967296 R1 d9 < mz := by rw [← hMd]; exact hR1m
                                have hR1l : ∀ i, i < d9 → R1 i < 4294967296 := hR1l
                                have hR1R : dv 4294967296 R1 d9 % mz = (num lb ^ num (le.take 0) * 4294967296 ^ d9) % mz := by
                                  have e : (dv 4294967296 R1 d9 * 4294967296 ^ d9) % dv 4294967296 Mo d9 = (dv 4294967296 R0 d9 * dv 4294967296 Q1 d9) % dv 4294967296 Mo d9 := hR1v
                                  rw [hMd, hR0d] at e
                                  have q := mont_in hcop hQR e
                                  rw [Nat.one_mul] at q
                                  rw [q, List.take_zero, show num [] = 0 from rfl, Nat.pow_zero, Nat.one_mul]
                                refine lv_iconst (v := nI 0) hx hb dX7_raise_296 (by decide) ?_
                                refine lv_istore (lv' := [(6, .int (nI 0)), (0, .ref h0), (1, .ref ab), (2, .ref ae), (3, .ref an)]) hx hb dX7_raise_297 hl (by decide) rfl (fun ls hl => ?_)
                                have loopE : ∀ (nnE : Nat) (i : Nat) (S7 R2 : Nat → Nat), (i ≤ le.length) → (∀ j, j < d9 → R2 j < 4294967296) → (dv 4294967296 R2 d9 < mz) → (dv 4294967296 R2 d9 % mz = (num lb ^ num (le.take i) * 4294967296 ^ d9) % mz) → le.length - i < nnE → ∀ (H : Heap) (locs : List Loc), Wd D B s (mw dA h0 ad (pM M (nI d9, lN iv, Mo, S7, B1, R2, Q1)) ++ F) H locs → ∀ (ls : Array Slot), lv_has ls 12 [(6, .int (nI i)), (0, .ref h0), (1, .ref ab), (2, .ref ae), (3, .ref an)] → W p l e R s m args below meth c H locs (0 + 0 + 0 + 0 + 0) (0 + 0 + 0 + 0 + 0) Q (F0 m 299 ls []) := by
                                  intro nnE
                                  induction nnE with
                                  | zero => intro i  S7 R2  hx0 hx1 hx2 hx3 hme; exact absurd hme (Nat.not_lt_zero _)
                                  | succ nnE ihE =>
                                    intro i  S7 R2  hx0 hx1 hx2 hx3 hme H locs h ls hl
                                    refine lv_iload hx hb dX7_raise_299 (lv_at hl 0 rfl) ?_
                                    refine lv_aload_n hx hb dX7_raise_301 rfl (lv_at hl 3 rfl) ?_
                                    refine n_alen C h (List.mem_append_right _ heF) dX7_raise_302 ?_
                                    refine n_icmp_ge (tgt := 372) hx hb (by omega) (by omega) dX7_raise_303 (by decide) (fun c303 => ?_) (fun c303 => ?_)
                                    · refine lv_iconst (v := nI 0) hx hb dX7_raise_372 (by decide) ?_
                                      refine lv_istore (lv' := [(6, .int (nI 0)), (0, .ref h0), (1, .ref ab), (2, .ref ae), (3, .ref an)]) hx hb dX7_raise_373 hl (by decide) rfl (fun ls hl => ?_)
                                      have hil : i = le.length := by omega
                                      rw [hil, List.take_of_length_le (Nat.le_refl _)] at hx3
                                      have loopO : ∀ (nnO : Nat) (k : Nat) (Q2 : Nat → Nat), (k ≤ 40) → (∀ j, j < k → Q2 j = if j = 0 then 1 else 0) → 40 - k < nnO → ∀ (H : Heap) (locs : List Loc), Wd D B s (mw dA h0 ad (pM M (nI d9, lN iv, Mo, S7, B1, R2, Q2)) ++ F) H locs → ∀ (ls : Array Slot), lv_has ls 12 [(6, .int (nI k)), (0, .ref h0), (1, .ref ab), (2, .ref ae), (3, .ref an)] → W p l e R s m args below meth c H locs (0 + 0 + 0 + 0 + 0) (0 + 0 + 0 + 0 + 0) Q (F0 m 375 ls []) := by
                                        intro nnO
                                        induction nnO with
                                        | zero => intro k  Q2  ho0 ho1 hme; exact absurd hme (Nat.not_lt_zero _)
                                        | succ nnO ihO =>
                                          intro k  Q2  ho0 ho1 hme H locs h ls hl
                                          refine lv_iload hx hb dX7_raise_375 (lv_at hl 0 rfl) ?_
                                          refine lv_bipush (v := nI 40) hx hb dX7_raise_377 (by decide) ?_
                                          refine n_icmp_ge (tgt := 405) hx hb (by omega) (by omega) dX7_raise_379 (by decide) (fun c379 => ?_) (fun c379 => ?_)
                                          · have hO1 : ∀ n, n < 39 → dv 4294967296 Q2 (n + 1) = 1 := by
                                              intro n hn
                                              induction n with
                                              | zero => simp [dv, ho1 0 (by omega)]
                                              | succ n ih => rw [dv, ih (by omega), ho1 _ (by omega), if_neg (by omega), Nat.zero_mul]
                                            have hOd : dv 4294967296 Q2 d9 = 1 := by
                                              have e := hO1 (d9 - 1) (by omega)
                                              rwa [show d9 - 1 + 1 = d9 by omega] at e
                                            have hOl : ∀ j, j < d9 → Q2 j < 4294967296 := fun j hj => by rw [ho1 j (by omega)]; split <;> decide
                                            refine lv_aload_n hx hb dX7_raise_405 rfl (lv_at hl 1 rfl) ?_
                                            refine lv_aload_n hx hb dX7_raise_406 rfl (lv_at hl 1 rfl) ?_
                                            refine m_gc C h 31 (by decide) rfl rfl q1901 dX7_raise_407 ?_
                                            refine lv_aload_n hx hb dX7_raise_410 rfl (lv_at hl 1 rfl) ?_
                                            refine m_gc C h 32 (by decide) rfl rfl q1902 dX7_raise_411 ?_
                                            refine lv_aload_n hx hb dX7_raise_414 rfl (lv_at hl 1 rfl) ?_
                                            refine m_gc C h 31 (by decide) rfl rfl q1901 dX7_raise_415 ?_
                                            refine call_V (As := [.ref (ad 31), .ref (ad 32), .ref (ad 31)]) (rest := []) (n := 3) C h (c7_product l D dA B Z hZ h0 ad (pM M (nI d9, lN iv, Mo, S7, B1, R2, Q2)) F d9 iv (ad 31) (ad 32) 31 R2 Q2 rfl (by omega) (by omega) rfl hiv1 hin0 (fun i hi => hMo i (by omega)) (fun _ => mw_memL (k := 31) (by decide)) (fun _ => mw_memL (k := 32) (by decide)) hx1 hOl (show dv 4294967296 Q2 d9 < dv 4294967296 Mo d9 by rw [hMd, hOd]; exact hm1) (by decide) rfl (by decide)) (lw_V q2435 q2437 qs100 q138 q2438) (by decide +kernel) (ci := 5) rfl rfl mw_mem0 (by decide) (by decide) rfl hl rfl (Nat.le_of_ble_eq_true rfl) dX7_raise_418 (by omega) (fun u9 H locs hu9 h => ?_)
                                            obtain ⟨S11, R5⟩ := u9
                                            obtain ⟨hR5l, -, hR5m, hR5v⟩ := hu9
                                            rw [pM_28, pM_31] at h
                                            have hR5m : dv 4294967296 R5 d9 < mz := by rw [← hMd]; exact hR5m
                                            have hR5l : ∀ i, i < d9 → R5 i < 4294967296 := hR5l
                                            have hR5R : dv 4294967296 R5 d9 = num lb ^ num le % mz := by
                                              have e : (dv 4294967296 R5 d9 * 4294967296 ^ d9) % dv 4294967296 Mo d9 = (dv 4294967296 R2 d9 * dv 4294967296 Q2 d9) % dv 4294967296 Mo d9 := hR5v
                                              rw [hMd, hOd] at e
                                              rw [← mont_out hcop hx3 e, Nat.mod_eq_of_lt hR5m]
                                            refine lv_aload_n hx hb dX7_raise_421 rfl (lv_at hl 4 rfl) ?_
                                            refine n_alen C h (List.mem_append_right _ hnF) dX7_raise_422 ?_
                                            refine n_newa C h (n := ln.length) (by omega) (by omega) (by omega) dX7_raise_423 (fun q1 H h => ?_)
                                            have h : Wd D B s (mw dA h0 ad (pM M (nI d9, lN iv, Mo, S11, B1, R5, Q2)) ++ (F ++ [(q1, iar dA ln.length (fun _ => 0))])) H locs := by simpa only [List.append_assoc] using h
                                            refine lv_astore (lv' := [(6, .ref q1), (0, .ref h0), (1, .ref ab), (2, .ref ae), (3, .ref an)]) hx hb dX7_raise_425 hl (by decide) rfl (fun ls hl => ?_)
                                            refine lv_iconst (v := nI 0) hx hb dX7_raise_427 (by decide) ?_
                                            refine lv_istore (lv' := [(7, .int (nI 0)), (6, .ref q1), (0, .ref h0), (1, .ref ab), (2, .ref ae), (3, .ref an)]) hx hb dX7_raise_428 hl (by decide) rfl (fun ls hl => ?_)
                                            have hG0 : (fun _ => 0 : Nat → Nat) = (fun j => if ln.length - 0 ≤ j ∧ j < ln.length then dv 4294967296 R5 d9 / 2 ^ (8 * (ln.length - 1 - j)) % 256 else 0) := by
                                              funext j; rw [if_neg (by omega)]
                                            rw [hG0] at h
                                            have loopZ : ∀ (nnZ : Nat) (i : Nat), (i ≤ ln.length) → ln.length - i < nnZ → ∀ (H : Heap) (locs : List Loc), Wd D B s (mw dA h0 ad (pM M (nI d9, lN iv, Mo, S11, B1, R5, Q2)) ++ (F ++ [(q1, iar dA ln.length (fun j => if ln.length - i ≤ j ∧ j < ln.length then dv 4294967296 R5 d9 / 2 ^ (8 * (ln.length - 1 - j)) % 256 else 0))])) H locs → ∀ (ls : Array Slot), lv_has ls 12 [(7, .int (nI i)), (6, .ref q1), (0, .ref h0), (1, .ref ab), (2, .ref ae), (3, .ref an)] → W p l e R s m args below meth c H locs (0 + 0 + 0 + 0 + 0 + 0 + 1) (0 + 0 + 0 + 0 + 0 + 0 + ln.length) Q (F0 m 430 ls []) := by
                                              intro nnZ
                                              induction nnZ with
                                              | zero => intro i  hi0 hme; exact absurd hme (Nat.not_lt_zero _)
                                              | succ nnZ ihZ =>
                                                intro i  hi0 hme H locs h ls hl
                                                refine lv_iload hx hb dX7_raise_430 (lv_at hl 0 rfl) ?_
                                                refine lv_aload hx hb dX7_raise_432 (lv_at hl 1 rfl) ?_
                                                refine n_alen C h (mem_last [] _) dX7_raise_434 ?_
                                                refine n_icmp_ge (tgt := 477) hx hb (by omega) (by omega) dX7_raise_435 (by decide) (fun c435 => ?_) (fun c435 => ?_)
                                                · refine lv_aload hx hb dX7_raise_477 (lv_at hl 1 rfl) ?_
                                                  subst hQ
                                                  have hiz : i = ln.length := by omega
                                                  have hfin : iar dA ln.length (fun j => if ln.length - i ≤ j ∧ j < ln.length then dv 4294967296 R5 d9 / 2 ^ (8 * (ln.length - 1 - j)) % 256 else 0) = ial dA (be ln.length (num lb ^ num le % num ln)) := by
                                                    unfold ial
                                                    rw [be_len, hiz, ← hmz, ← hR5R]
                                                    congr 1
                                                    funext j
                                                    by_cases q : j < ln.length
                                                    · rw [if_pos (by omega)]; unfold be; rw [sl_getD q, Nat.zero_add]
                                                    · rw [if_neg (by omega), List.getD_eq_getElem?_getD, List.getElem?_eq_none_iff.mpr (by rw [be_len]; omega)]; rfl
                                                  rw [hfin] at h
                                                  exact ret_a C hr (Or.inr ⟨_, rfl⟩) hlocks h (q1, (nI d9, lN iv, Mo, S11, B1, R5, Q2)) trivial (Or.inr ⟨_, rfl⟩) rfl rfl (by omega) (by omega) dX7_raise_479
                                                · refine lv_aload hx hb dX7_raise_438 (lv_at hl 1 rfl) ?_
                                                  refine lv_aload hx hb dX7_raise_440 (lv_at hl 1 rfl) ?_
                                                  refine n_alen C h (mem_last [] _) dX7_raise_442 ?_
                                                  refine lv_iconst (v := nI 1) hx hb dX7_raise_443 (by decide) ?_
                                                  refine lv_isub hx hb dX7_raise_444 (n_top (y := nI (ln.length - 1)) (pk_sub (by omega)) ?_)
                                                  refine lv_iload hx hb dX7_raise_445 (lv_at hl 0 rfl) ?_
                                                  refine lv_isub hx hb dX7_raise_447 (n_top (y := nI ((ln.length - 1) - i)) (pk_sub (by omega)) ?_)
                                                  refine lv_aload_n hx hb dX7_raise_448 rfl (lv_at hl 2 rfl) ?_
                                                  refine m_gc C h 31 (by decide) rfl rfl q1901 dX7_raise_449 ?_
                                                  refine lv_iload hx hb dX7_raise_452 (lv_at hl 0 rfl) ?_
                                                  refine lv_iconst (v := nI 4) hx hb dX7_raise_454 (by decide) ?_
                                                  refine lv_idiv hx hb dX7_raise_455 (by decide) (n_top (y := nI (i / 4)) (pk_div (by omega) (by omega) (by omega)) ?_)
                                                  refine n_lald C h (v := R5 (i / 4)) (mw_memL (k := 31) (by decide)) (show i / 4 < 40 by omega) (by decide) rfl dX7_raise_456 ?_
                                                  refine lv_bipush (v := nI 8) hx hb dX7_raise_457 (by decide) ?_
                                                  refine lv_iload hx hb dX7_raise_459 (lv_at hl 0 rfl) ?_
                                                  refine lv_iconst (v := nI 4) hx hb dX7_raise_461 (by decide) ?_
                                                  refine lv_irem hx hb dX7_raise_462 (by decide) (n_top (y := nI (i % 4)) (pk_rem (by omega) (by omega) (by omega)) ?_)
                                                  refine lv_imul hx hb dX7_raise_463 (n_top (y := nI (8 * (i % 4))) (pk_mul 8 (i % 4)) ?_)
                                                  refine n_lshr hx hb dX7_raise_464 ?_
                                                  refine n_topl (y := lN (R5 (i / 4) / 2 ^ (8 * (i % 4)))) (l_shrN (by have := hR5l (i / 4) (by omega); omega) (by omega)) ?_
                                                  refine lv_ldc2 hx hb hown (hts _ q2103) dX7_raise_465 ?_
                                                  refine n_topl (y := lN 255) (by decide) ?_
                                                  refine lv_land hx hb dX7_raise_468 ?_
                                                  refine n_topl (y := lN (R5 (i / 4) / 2 ^ (8 * (i % 4)) % 256)) (l_andN (k := 8) (Nat.lt_of_le_of_lt (Nat.div_le_self _ _) (by have := hR5l (i / 4) (by omega); omega)) (by decide)) ?_
                                                  refine lv_l2i (v := nI (R5 (i / 4) / 2 ^ (8 * (i % 4)) % 256)) hx hb dX7_raise_469 (lN_i _) ?_
                                                  refine n_iastF C h (i := (ln.length - 1) - i) (v := R5 (i / 4) / 2 ^ (8 * (i % 4)) % 256) (by omega) (by omega) dX7_raise_470 (fun H locs h => ?_)
                                                  have hGs : upN (fun j => if ln.length - i ≤ j ∧ j < ln.length then dv 4294967296 R5 d9 / 2 ^ (8 * (ln.length - 1 - j)) % 256 else 0) ((ln.length - 1) - i) (R5 (i / 4) / 2 ^ (8 * (i % 4)) % 256) = (fun j => if ln.length - (i + 1) ≤ j ∧ j < ln.length then dv 4294967296 R5 d9 / 2 ^ (8 * (ln.length - 1 - j)) % 256 else 0) := by
                                                    funext j
                                                    rw [upN_if]
                                                    by_cases q : j = ln.length - 1 - i
                                                    · rw [if_pos q, if_pos (by omega), q, show ln.length - 1 - (ln.length - 1 - i) = i by omega]; exact dv_byte hR5l (by omega)
                                                    · rw [if_neg q]
                                                      by_cases q2 : ln.length - i ≤ j ∧ j < ln.length
                                                      · rw [if_pos q2, if_pos (by omega)]
                                                      · rw [if_neg q2, if_neg (by omega)]
                                                  rw [hGs] at h
                                                  refine lv_iinc (v := nI (i + 1)) (lv' := [(7, .int (nI (i + 1))), (6, .ref q1), (0, .ref h0), (1, .ref ab), (2, .ref ae), (3, .ref an)]) hx hb dX7_raise_471 hl (k := 0) rfl (nI_add i 1) (by decide) rfl (fun ls hl => ?_)
                                                  refine lv_goto (tgt := 430) hx hb dX7_raise_474 (by decide) ?_
                                                  exact ihZ (i + 1) (by omega) (by omega) _ _ h _ (lv_sub hl [0, 1, 2, 3, 4, 5] rfl)
                                            exact loopZ _ 0 (by omega) (Nat.lt_succ_self _) _ _ h _ (lv_sub hl [0, 1, 2, 3, 4, 5] rfl)
                                          · refine lv_aload_n hx hb dX7_raise_382 rfl (lv_at hl 1 rfl) ?_
                                            refine m_gc C h 32 (by decide) rfl rfl q1902 dX7_raise_383 ?_
                                            refine lv_iload hx hb dX7_raise_386 (lv_at hl 0 rfl) ?_
                                            have jo : ∀ (H : Heap) (locs : List Loc), Wd D B s (mw dA h0 ad (pM M (nI d9, lN iv, Mo, S7, B1, R2, Q2)) ++ F) H locs → ∀ (ls : Array Slot), lv_has ls 12 [(6, .int (nI k)), (0, .ref h0), (1, .ref ab), (2, .ref ae), (3, .ref an)] → W p l e R s m args below meth c H locs (0 + 0 + 0 + 0 + 0) (0 + 0 + 0 + 0 + 0) Q (F0 m 398 ls [.long (lN (if k = 0 then 1 else 0)), .int (nI k), .ref (ad 32)]) := by
                                              intro   H locs h ls hl
                                              refine m_last C h 32 (v := if k = 0 then 1 else 0) (by decide) (n := 40) rfl (by omega) dX7_raise_398 (fun H locs h => ?_)
                                              rw [pM_32] at h
                                              have h : Wd D B s (mw dA h0 ad (pM M (nI d9, lN iv, Mo, S7, B1, R2, upN Q2 k (if k = 0 then 1 else 0))) ++ F) H locs := h
                                              refine lv_iinc (v := nI (k + 1)) (lv' := [(6, .int (nI (k + 1))), (0, .ref h0), (1, .ref ab), (2, .ref ae), (3, .ref an)]) hx hb dX7_raise_399 hl (k := 0) rfl (nI_add k 1) (by decide) rfl (fun ls hl => ?_)
                                              refine lv_goto (tgt := 375) hx hb dX7_raise_402 (by decide) ?_
                                              exact ihO (k + 1) _ (by omega) (fun j q => by
                                                rcases Nat.lt_or_ge j k with q2 | q2
                                                · rw [upN_n (by omega)]; exact ho1 j q2
                                                · rw [show j = k by omega, upN_s]) (by omega) _ _ h _ (lv_sub hl [0, 1, 2, 3, 4] rfl)
                                            refine lv_iload hx hb dX7_raise_388 (lv_at hl 0 rfl) ?_
                                            refine n_if_ne (tgt := 397) hx hb (by omega) dX7_raise_390 (by decide) (fun c390 => ?_) (fun c390 => ?_)
                                            · refine lv_lconst (v := lN 0) hx hb dX7_raise_397 (by decide) ?_
                                              refine n_topl (y := lN (if k = 0 then 1 else 0)) (by rw [if_neg (by assumption)]) ?_
                                              exact jo   _ _ h _ (lv_sub hl [0, 1, 2, 3, 4] rfl)
                                            · refine lv_lconst (v := lN 1) hx hb dX7_raise_393 (by decide) ?_
                                              refine lv_goto (tgt := 398) hx hb dX7_raise_394 (by decide) ?_
                                              refine n_topl (y := lN (if k = 0 then 1 else 0)) (by rw [if_pos (by assumption)]) ?_
                                              exact jo   _ _ h _ (lv_sub hl [0, 1, 2, 3, 4] rfl)
                                      exact loopO _ 0 _ (by omega) (fun j q => absurd q (Nat.not_lt_zero _)) (Nat.lt_succ_self _) _ _ h _ (lv_sub hl [0, 1, 2, 3, 4] rfl)
                                    · refine lv_bipush (v := nI 7) hx hb dX7_raise_306 (by decide) ?_
                                      refine lv_istore (lv' := [(7, .int (nI 7)), (6, .int (nI i)), (0, .ref h0), (1, .ref ab), (2, .ref ae), (3, .ref an)]) hx hb dX7_raise_308 hl (by decide) rfl (fun ls hl => ?_)
                                      have hei := byt_gD heb i
                                      have hl : lv_has ls 12 [(7, .int (nI (8 - 0) - nI 1)), (6, .int (nI i)), (0, .ref h0), (1, .ref ab), (2, .ref ae), (3, .ref an)] := hl
                                      have loopT : ∀ (nnT : Nat) (t : Nat) (S7 R2 : Nat → Nat), (t ≤ 8) → (∀ j, j < d9 → R2 j < 4294967296) → (dv 4294967296 R2 d9 < mz) → (dv 4294967296 R2 d9 % mz = (num lb ^ exB le i t * 4294967296 ^ d9) % mz) → 8 - t < nnT → ∀ (H : Heap) (locs : List Loc), Wd D B s (mw dA h0 ad (pM M (nI d9, lN iv, Mo, S7, B1, R2, Q1)) ++ F) H locs → ∀ (ls : Array Slot), lv_has ls 12 [(7, .int (nI (8 - t) - nI 1)), (6, .int (nI i)), (0, .ref h0), (1, .ref ab), (2, .ref ae), (3, .ref an)] → W p l e R s m args below meth c H locs (0 + 0 + 0 + 0 + 0) (0 + 0 + 0 + 0 + 0) Q (F0 m 310 ls []) := by
                                        intro nnT
                                        induction nnT with
                                        | zero => intro t  S7 R2  hb0x hb1x hb2x hb3x hme; exact absurd hme (Nat.not_lt_zero _)
                                        | succ nnT ihT =>
                                          intro t  S7 R2  hb0x hb1x hb2x hb3x hme H locs h ls hl
                                          refine lv_iload hx hb dX7_raise_310 (lv_at hl 0 rfl) ?_
                                          refine lv_if_lt (tgt := 366) hx hb dX7_raise_312 (by decide) (fun c312 => ?_) (fun c312 => ?_)
                                          · have ht8 : t = 8 := by
                                              rcases Nat.lt_or_ge t 8 with q | q
                                              · exact absurd c312 (by rw [pk_sub (by omega)]; exact nI_pos (by omega))
                                              · omega
                                            refine lv_iinc (v := nI (i + 1)) (lv' := [(6, .int (nI (i + 1))), (7, .int (nI (8 - t) - nI 1)), (0, .ref h0), (1, .ref ab), (2, .ref ae), (3, .ref an)]) hx hb dX7_raise_366 hl (k := 1) rfl (nI_add i 1) (by decide) rfl (fun ls hl => ?_)
                                            refine lv_goto (tgt := 299) hx hb dX7_raise_369 (by decide) ?_
                                            exact ihE (i + 1) _ _ (by omega) hb1x hb2x (by rw [hb3x, show t = 8 by omega, exB_8 (by omega)]) (by omega) _ _ h _ (lv_sub hl [0, 2, 3, 4, 5] rfl)
                                          · have htl : t < 8 := by
                                              rcases Nat.lt_or_ge t 8 with q | q
                                              · exact q
                                              · exact absurd (by rw [show 8 - t = 0 by omega]; decide) c312
                                            have hk : nI (8 - t) - nI 1 = nI (7 - t) := by rw [pk_sub (by omega)]; congr 1; omega
                                            rw [hk] at hl
                                            refine lv_aload_n hx hb dX7_raise_315 rfl (lv_at hl 2 rfl) ?_
                                            refine lv_aload_n hx hb dX7_raise_316 rfl (lv_at hl 2 rfl) ?_
                                            refine m_gc C h 31 (by decide) rfl rfl q1901 dX7_raise_317 ?_
                                            refine lv_aload_n hx hb dX7_raise_320 rfl (lv_at hl 2 rfl) ?_
                                            refine m_gc C h 31 (by decide) rfl rfl q1901 dX7_raise_321 ?_
                                            refine lv_aload_n hx hb dX7_raise_324 rfl (lv_at hl 2 rfl) ?_
                                            refine m_gc C h 31 (by decide) rfl rfl q1901 dX7_raise_325 ?_
                                            refine call_V (As := [.ref (ad 31), .ref (ad 31), .ref (ad 31)]) (rest := []) (n := 3) C h (c7_product l D dA B Z hZ h0 ad (pM M (nI d9, lN iv, Mo, S7, B1, R2, Q1)) F d9 iv (ad 31) (ad 31) 31 R2 R2 rfl (by omega) (by omega) rfl hiv1 hin0 (fun i hi => hMo i (by omega)) (fun _ => mw_memL (k := 31) (by decide)) (fun _ => mw_memL (k := 31) (by decide)) hb1x hb1x (show dv 4294967296 R2 d9 < dv 4294967296 Mo d9 by rw [hMd]; exact hb2x) (by decide) rfl (by decide)) (lw_V q2435 q2437 qs100 q138 q2438) (by decide +kernel) (ci := 5) rfl rfl mw_mem0 (by decide) (by decide) rfl hl rfl (Nat.le_of_ble_eq_true rfl) dX7_raise_328 (by omega) (fun u7 H locs hu7 h => ?_)
                                            obtain ⟨S8, R3⟩ := u7
                                            obtain ⟨hR3l, -, hR3m, hR3v⟩ := hu7
                                            rw [pM_28, pM_31] at h
                                            have hR3m : dv 4294967296 R3 d9 < mz := by rw [← hMd]; exact hR3m
                                            have hR3l : ∀ i, i < d9 → R3 i < 4294967296 := hR3l
                                            have hR3R : dv 4294967296 R3 d9 % mz = (num lb ^ exB le i t * num lb ^ exB le i t * 4294967296 ^ d9) % mz := by
                                              have e : (dv 4294967296 R3 d9 * 4294967296 ^ d9) % dv 4294967296 Mo d9 = (dv 4294967296 R2 d9 * dv 4294967296 R2 d9) % dv 4294967296 Mo d9 := hR3v
                                              rw [hMd] at e
                                              exact mont_mul hcop hb3x hb3x e
                                            have jb : ∀ (S9 R9 : Nat → Nat), (∀ j, j < d9 → R9 j < 4294967296) → (dv 4294967296 R9 d9 < mz) → (dv 4294967296 R9 d9 % mz = (num lb ^ exB le i (t + 1) * 4294967296 ^ d9) % mz) → ∀ (H : Heap) (locs : List Loc), Wd D B s (mw dA h0 ad (pM M (nI d9, lN iv, Mo, S9, B1, R9, Q1)) ++ F) H locs → ∀ (ls : Array Slot), lv_has ls 12 [(7, .int (nI (7 - t))), (6, .int (nI i)), (0, .ref h0), (1, .ref ab), (2, .ref ae), (3, .ref an)] → W p l e R s m args below meth c H locs (0 + 0 + 0 + 0 + 0 + 0) (0 + 0 + 0 + 0 + 0 + 0) Q (F0 m 360 ls []) := by
                                              intro S9 R9  hj0 hj1 hj2 H locs h ls hl
                                              refine lv_iinc (v := nI (8 - (t + 1)) - nI 1) (lv' := [(7, .int (nI (8 - (t + 1)) - nI 1)), (6, .int (nI i)), (0, .ref h0), (1, .ref ab), (2, .ref ae), (3, .ref an)]) hx hb dX7_raise_360 hl (k := 0) rfl (by rw [show 8 - (t + 1) = 7 - t by omega]; exact n_m1 _) (by decide) rfl (fun ls hl => ?_)
                                              refine lv_goto (tgt := 310) hx hb dX7_raise_363 (by decide) ?_
                                              exact ihT (t + 1) _ _ (by omega) hj0 hj1 hj2 (by omega) _ _ h _ (lv_sub hl [0, 1, 2, 3, 4, 5] rfl)
                                            refine lv_aload_n hx hb dX7_raise_331 rfl (lv_at hl 4 rfl) ?_
                                            refine lv_iload hx hb dX7_raise_332 (lv_at hl 1 rfl) ?_
                                            refine n_iald C h (v := (gD le) i) (List.mem_append_right _ heF) (show i < le.length by omega) (by omega) rfl dX7_raise_334 ?_
                                            refine lv_iload hx hb dX7_raise_335 (lv_at hl 0 rfl) ?_
                                            refine n_ishr hx hb dX7_raise_337 ?_
                                            refine n_top (y := nI (gD le i / 2 ^ (7 - t))) (n_shrN (by omega) (by omega)) ?_
                                            refine lv_iconst (v := nI 1) hx hb dX7_raise_338 (by decide) ?_
                                            refine lv_iand hx hb dX7_raise_339 ?_
                                            refine n_top (y := nI (gD le i / 2 ^ (7 - t) % 2)) (pk_andN (Nat.lt_of_le_of_lt (Nat.div_le_self _ _) (by omega)) 1 (by decide)) ?_
                                            refine lv_iconst (v := nI 1) hx hb dX7_raise_340 (by decide) ?_
                                            refine n_icmp_ne (tgt := 360) hx hb (by omega) (by omega) dX7_raise_341 (by decide) (fun c341 => ?_) (fun c341 => ?_)
                                            · exact jb _ _ hR3l hR3m (by
                                                rw [hR3R, exB_s htl, show gD le i / 2 ^ (7 - t) % 2 = 0 by omega, Nat.add_zero, Nat.two_mul, Nat.pow_add]) _ _ h _ (lv_sub hl [0, 1, 2, 3, 4, 5] rfl)
                                            · refine lv_aload_n hx hb dX7_raise_344 rfl (lv_at hl 2 rfl) ?_
                                              refine lv_aload_n hx hb dX7_raise_345 rfl (lv_at hl 2 rfl) ?_
                                              refine m_gc C h 31 (by decide) rfl rfl q1901 dX7_raise_346 ?_
                                              refine lv_aload_n hx hb dX7_raise_349 rfl (lv_at hl 2 rfl) ?_
                                              refine m_gc C h 30 (by decide) rfl rfl q1900 dX7_raise_350 ?_
                                              refine lv_aload_n hx hb dX7_raise_353 rfl (lv_at hl 2 rfl) ?_
                                              refine m_gc C h 31 (by decide) rfl rfl q1901 dX7_raise_354 ?_
                                              refine call_V (As := [.ref (ad 31), .ref (ad 30), .ref (ad 31)]) (rest := []) (n := 3) C h (c7_product l D dA B Z hZ h0 ad (pM M (nI d9, lN iv, Mo, S8, B1, R3, Q1)) F d9 iv (ad 31) (ad 30) 31 R3 B1 rfl (by omega) (by omega) rfl hiv1 hin0 (fun i hi => hMo i (by omega)) (fun _ => mw_memL (k := 31) (by decide)) (fun _ => mw_memL (k := 30) (by decide)) hR3l hB1l (show dv 4294967296 B1 d9 < dv 4294967296 Mo d9 by rw [hMd]; exact hB1m) (by decide) rfl (by decide)) (lw_V q2435 q2437 qs100 q138 q2438) (by decide +kernel) (ci := 5) rfl rfl mw_mem0 (by decide) (by decide) rfl hl rfl (Nat.le_of_ble_eq_true rfl) dX7_raise_357 (by omega) (fun u8 H locs hu8 h => ?_)
                                              obtain ⟨S10, R4⟩ := u8
                                              obtain ⟨hR4l, -, hR4m, hR4v⟩ := hu8
                                              rw [pM_28, pM_31] at h
                                              have hR4m : dv 4294967296 R4 d9 < mz := by rw [← hMd]; exact hR4m
                                              have hR4l : ∀ i, i < d9 → R4 i < 4294967296 := hR4l
                                              have hR4R : dv 4294967296 R4 d9 % mz = (num lb ^ exB le i t * num lb ^ exB le i t * num lb * 4294967296 ^ d9) % mz := by
                                                have e : (dv 4294967296 R4 d9 * 4294967296 ^ d9) % dv 4294967296 Mo d9 = (dv 4294967296 R3 d9 * dv 4294967296 B1 d9) % dv 4294967296 Mo d9 := hR4v
                                                rw [hMd] at e
                                                exact mont_mul hcop hR3R hB1R e
                                              exact jb _ _ hR4l hR4m (by
                                                rw [hR4R, exB_s htl, c341]
                                                congr 2
                                                rw [Nat.pow_succ, Nat.two_mul, Nat.pow_add]) _ _ h _ (lv_sub hl [0, 1, 2, 3, 4, 5] rfl)
                                      exact loopT _ 0 _ _ (by omega) hx1 hx2 (by rw [exB_0 _ _ hei]; exact hx3) (Nat.lt_succ_self _) _ _ h _ (lv_sub hl [0, 1, 2, 3, 4, 5] rfl)
                                exact loopE _ 0 _ _ (by omega) hR1l hR1m hR1R (Nat.lt_succ_self _) _ _ h _ (lv_sub hl [0, 1, 2, 3, 4] rfl)
                              · refine lv_aload_n hx hb dX7_raise_259 rfl (lv_at hl 1 rfl) ?_
                                refine m_gc C h 31 (by decide) rfl rfl q1901 dX7_raise_260 ?_
                                refine lv_iload hx hb dX7_raise_263 (lv_at hl 0 rfl) ?_
                                refine lv_lconst (v := lN 0) hx hb dX7_raise_265 (by decide) ?_
                                refine m_last C h 31 (v := 0) (by decide) (n := 40) rfl (by omega) dX7_raise_266 (fun H locs h => ?_)
                                rw [pM_31] at h
                                have h : Wd D B s (mw dA h0 ad (pM M (nI d9, lN iv, Mo, S5, B1, upN G1 i 0, Q1)) ++ F) H locs := h
                                refine lv_iinc (v := nI (i + 1)) (lv' := [(6, .int (nI (i + 1))), (0, .ref h0), (1, .ref ab), (2, .ref ae), (3, .ref an)]) hx hb dX7_raise_267 hl (k := 0) rfl (nI_add i 1) (by decide) rfl (fun ls hl => ?_)
                                refine lv_goto (tgt := 252) hx hb dX7_raise_270 (by decide) ?_
                                exact ihhy (i + 1) _ (by omega) (fun j q => by
                                  rcases Nat.lt_or_ge j i with q2 | q2
                                  · rw [upN_n (by omega)]; exact hy1 j q2
                                  · rw [show j = i by omega, upN_s]) (by omega) _ _ h _ (lv_sub hl [0, 1, 2, 3, 4] rfl)
                          exact loophy _ 0 _ (by omega) (fun j q => absurd q (Nat.not_lt_zero _)) (Nat.lt_succ_self _) _ _ h _ (lv_sub hl [0, 1, 2, 3, 4] rfl)
                        · refine lv_aload_n hx hb dX7_raise_205 rfl (lv_at hl 1 rfl) ?_
                          refine m_gc C h 32 (by decide) rfl rfl q1902 dX7_raise_206 ?_
                          refine lv_iload hx hb dX7_raise_209 (lv_at hl 0 rfl) ?_
                          refine lv_aload_n hx hb dX7_raise_211 rfl (lv_at hl 1 rfl) ?_
                          refine m_gc C h 28 (by decide) rfl rfl q1898 dX7_raise_212 ?_
                          refine lv_iload hx hb dX7_raise_215 (lv_at hl 0 rfl) ?_
                          refine n_lald C h (v := S1 k) (mw_memL (k := 28) (by decide)) (show k < 42 by omega) (by decide) rfl dX7_raise_217 ?_
                          refine m_last C h 32 (v := S1 k) (by decide) (n := 40) rfl (by omega) dX7_raise_218 (fun H locs h => ?_)
                          rw [pM_32] at h
                          have h : Wd D B s (mw dA h0 ad (pM M (nI d9, lN iv, Mo, S1, mG M 30, mG M 31, upN Q1 k (S1 k))) ++ F) H locs := h
                          refine lv_iinc (v := nI (k + 1)) (lv' := [(6, .int (nI (k + 1))), (0, .ref h0), (1, .ref ab), (2, .ref ae), (3, .ref an)]) hx hb dX7_raise_219 hl (k := 0) rfl (nI_add k 1) (by decide) rfl (fun ls hl => ?_)
                          refine lv_goto (tgt := 196) hx hb dX7_raise_222 (by decide) ?_
                          exact ihC (k + 1) _ (by omega) (fun j q => by
                            rcases Nat.lt_or_ge j k with q2 | q2
                            · rw [upN_n (by omega)]; exact hC1 j q2
                            · rw [show j = k by omega, upN_s]) (by omega) _ _ h _ (lv_sub hl [0, 1, 2, 3, 4] rfl)
                    exact loopC _ 0 _ (by omega) (fun j q => absurd q (Nat.not_lt_zero _)) (Nat.lt_succ_self _) _ _ h _ (lv_sub hl [0, 1, 2, 3, 4] rfl)
                  · refine lv_lconst (v := lN 0) hx hb dX7_raise_119 (by decide) ?_
                    refine lv_lstore (lv' := [(7, .long (lN 0)), (6, .int (nI kq)), (0, .ref h0), (1, .ref ab), (2, .ref ae), (3, .ref an)]) hx hb dX7_raise_120 hl (by decide) rfl (fun ls hl => ?_)
                    refine lv_iconst (v := nI 0) hx hb dX7_raise_122 (by decide) ?_
                    refine lv_istore (lv' := [(9, .int (nI 0)), (7, .long (lN 0)), (6, .int (nI kq)), (0, .ref h0), (1, .ref ab), (2, .ref ae), (3, .ref an)]) hx hb dX7_raise_123 hl (by decide) rfl (fun ls hl => ?_)
                    have loopK : ∀ (nnK : Nat) (k c1 : Nat) (S2 : Nat → Nat), (k ≤ d9 + 1) → (c1 ≤ 1) → (dv 4294967296 S2 k + c1 * 4294967296 ^ k = 2 * dv 4294967296 S1 k) → (∀ j, k ≤ j → S2 j = S1 j) → (∀ j, j < k → S2 j < 4294967296) → d9 + 1 - k < nnK → ∀ (H : Heap) (locs : List Loc), Wd D B s (mw dA h0 ad (pM M (nI d9, lN iv, Mo, S2, mG M 30, mG M 31, mG M 32)) ++ F) H locs → ∀ (ls : Array Slot), lv_has ls 12 [(9, .int (nI k)), (7, .long (lN c1)), (6, .int (nI kq)), (0, .ref h0), (1, .ref ab), (2, .ref ae), (3, .ref an)] → W p l e R s m args below meth c H locs (0 + 0) (0 + 0) Q (F0 m 125 ls []) := by
                      intro nnK
                      induction nnK with
                      | zero => intro k c1  S2  hK0 hK1 hK2 hK3 hK4 hme; exact absurd hme (Nat.not_lt_zero _)
                      | succ nnK ihK =>
                        intro k c1  S2  hK0 hK1 hK2 hK3 hK4 hme H locs h ls hl
                        refine lv_iload hx hb dX7_raise_125 (lv_at hl 0 rfl) ?_
                        refine lv_aload_n hx hb dX7_raise_127 rfl (lv_at hl 3 rfl) ?_
                        refine m_gi C h 26 (by decide) rfl rfl q1896 (v := nI d9) rfl dX7_raise_128 ?_
                        refine n_icmp_gt (tgt := 176) hx hb (by omega) (by omega) dX7_raise_131 (by decide) (fun c131 => ?_) (fun c131 => ?_)
                        · have hkd : k = d9 + 1 := by omega
                          rw [hkd, hQ2] at hK2
                          have hvm : 2 ^ kq % mz < mz := Nat.mod_lt _ (by omega)
                          have hp2 : 2 * 4294967296 ^ d9 ≤ 4294967296 ^ (d9 + 1) := by rw [Nat.pow_succ]; omega
                          have hc0 : c1 = 0 := by
                            rcases (show c1 = 0 ∨ c1 = 1 by omega) with q | q
                            · exact q
                            · rw [q, Nat.one_mul] at hK2; omega
                          rw [hc0, Nat.zero_mul, Nat.add_zero] at hK2
                          have hS2l : ∀ j, j ≤ d9 → S2 j < 4294967296 := fun j hj => hK4 j (by omega)
                          have hpm := pow2_mod (k := kq) (m := mz) (by omega) rfl
                          have je : ∀ (S4 : Nat → Nat), (∀ j, j ≤ d9 → S4 j < 4294967296) → (dv 4294967296 S4 (d9 + 1) = 2 ^ (kq + 1) % mz) → ∀ (H : Heap) (locs : List Loc), Wd D B s (mw dA h0 ad (pM M (nI d9, lN iv, Mo, S4, mG M 30, mG M 31, mG M 32)) ++ F) H locs → ∀ (ls : Array Slot), lv_has ls 12 [(6, .int (nI kq)), (0, .ref h0), (1, .ref ab), (2, .ref ae), (3, .ref an)] → W p l e R s m args below meth c H locs (0 + 0) (0 + 0) Q (F0 m 187 ls []) := by
                            intro S4  hE0 hE1 H locs h ls hl
                            refine lv_iinc (v := nI (kq + 1)) (lv' := [(6, .int (nI (kq + 1))), (0, .ref h0), (1, .ref ab), (2, .ref ae), (3, .ref an)]) hx hb dX7_raise_187 hl (k := 0) rfl (nI_add kq 1) (by decide) rfl (fun ls hl => ?_)
                            refine lv_goto (tgt := 107) hx hb dX7_raise_190 (by decide) ?_
                            exact ihQ (kq + 1) _ (by omega) hE0 hE1 (by omega) _ _ h _ (lv_sub hl [0, 1, 2, 3, 4] rfl)
                          refine lv_aload_n hx hb dX7_raise_176 rfl (lv_at hl 3 rfl) ?_
                          refine call_V (As := []) (rest := []) (n := 0) C h (c7_isGreat l D dA B Z hZ h0 ad (pM M (nI d9, lN iv, Mo, S2, mG M 30, mG M 31, mG M 32)) F d9 rfl (by omega) (by omega) hS2l (fun i hi => hMo i (by omega))) (lw_V q2427 q2429 qs98 q138 q2430) (by decide +kernel) (ci := 5) rfl rfl mw_mem0 (by decide) (by decide) rfl hl rfl (Nat.le_of_ble_eq_true rfl) dX7_raise_177 (by omega) (fun _ H locs _ h => ?_)
                          refine z_if_eq (tgt := 187) hx hb dX7_raise_180 (by decide) (fun c180 => ?_) (fun c180 => ?_)
                          · exact je _ hS2l (by
                              have q3 : ¬ dv 4294967296 Mo d9 ≤ dv 4294967296 S2 (d9 + 1) := of_decide_eq_false c180
                              rw [hMd, hK2] at q3
                              rw [hK2]; exact hpm.1 (by omega)) _ _ h _ (lv_sub hl [2, 3, 4, 5, 6] rfl)
                          · refine lv_aload_n hx hb dX7_raise_183 rfl (lv_at hl 3 rfl) ?_
                            refine call_V (As := []) (rest := []) (n := 0) C h (c7_less l D dA B Z hZ h0 ad (pM M (nI d9, lN iv, Mo, S2, mG M 30, mG M 31, mG M 32)) F d9 rfl (by omega) (by omega) hS2l (fun i hi => hMo i (by omega)) (of_decide_eq_true c180)) (lw_V q2431 q2433 qs99 q138 q2434) (by decide +kernel) (ci := 5) rfl rfl mw_mem0 (by decide) (by decide) rfl hl rfl (Nat.le_of_ble_eq_true rfl) dX7_raise_184 (by omega) (fun S3 H locs hS3 h => ?_)
                            rw [pM_28] at h
                            exact je _ hS3.1 (by
                              have q := hS3.2.2
                              have q2 : dv 4294967296 S3 (d9 + 1) + dv 4294967296 Mo d9 = dv 4294967296 S2 (d9 + 1) := q
                              have q3 : dv 4294967296 Mo d9 ≤ dv 4294967296 S2 (d9 + 1) := of_decide_eq_true c180
                              rw [hMd, hK2] at q2 q3
                              have := hpm.2 q3
                              omega) _ _ h _ (lv_sub hl [2, 3, 4, 5, 6] rfl)
                        · have hs1 := hQ1 k (by omega)
                          refine lv_ldc2 hx hb hown (hts _ q2425) dX7_raise_134 ?_
                          refine n_topl (y := lN 2) (by decide) ?_
                          refine lv_aload_n hx hb dX7_raise_137 rfl (lv_at hl 3 rfl) ?_
                          refine m_gc C h 28 (by decide) rfl rfl q1898 dX7_raise_138 ?_
                          refine lv_iload hx hb dX7_raise_141 (lv_at hl 0 rfl) ?_
                          refine n_lald C h (v := S2 k) (mw_memL (k := 28) (by decide)) (show k < 42 by omega) (by decide) rfl dX7_raise_143 ?_
                          refine n_topl (y := lN (S1 k)) (by rw [hK3 k (Nat.le_refl _)]) ?_
                          refine lv_lmul hx hb dX7_raise_144 (n_topl (y := lN (2 * (S1 k))) (lN_mul 2 (S1 k)) ?_)
                          refine lv_lload hx hb dX7_raise_145 (lv_at hl 1 rfl) ?_
                          refine lv_ladd hx hb dX7_raise_147 (n_topl (y := lN ((2 * (S1 k)) + c1)) (lN_add (2 * (S1 k)) c1) ?_)
                          refine lv_lstore (lv' := [(10, .long (lN ((2 * (S1 k)) + c1))), (9, .int (nI k)), (7, .long (lN c1)), (6, .int (nI kq)), (0, .ref h0), (1, .ref ab), (2, .ref ae), (3, .ref an)]) hx hb dX7_raise_148 hl (by decide) rfl (fun ls hl => ?_)
                          refine lv_aload_n hx hb dX7_raise_150 rfl (lv_at hl 4 rfl) ?_
                          refine m_gc C h 28 (by decide) rfl rfl q1898 dX7_raise_151 ?_
                          refine lv_iload hx hb dX7_raise_154 (lv_at hl 1 rfl) ?_
                          refine lv_lload hx hb dX7_raise_156 (lv_at hl 0 rfl) ?_
                          refine lv_ldc2 hx hb hown (hts _ q2376) dX7_raise_158 ?_
                          refine n_topl (y := lN 4294967295) (by decide) ?_
                          refine lv_land hx hb dX7_raise_161 (n_topl (y := lN (((2 * (S1 k)) + c1) % 4294967296)) (l_andN (k := 32) (by omega) (by decide)) ?_)
                          refine m_last C h 28 (v := ((2 * (S1 k)) + c1) % 4294967296) (by decide) (n := 42) rfl (by omega) dX7_raise_162 (fun H locs h => ?_)
                          rw [pM_28] at h
                          have h : Wd D B s (mw dA h0 ad (pM M (nI d9, lN iv, Mo, upN S2 k (((2 * (S1 k)) + c1) % 4294967296), mG M 30, mG M 31, mG M 32)) ++ F) H locs := h
                          refine lv_lload hx hb dX7_raise_163 (lv_at hl 0 rfl) ?_
                          refine lv_bipush (v := nI 32) hx hb dX7_raise_165 (by decide) ?_
                          refine n_lushr hx hb dX7_raise_167 (n_topl (y := lN (((2 * (S1 k)) + c1) / 4294967296)) (l_ushrN (k := 32) (by omega) (by decide)) ?_)
                          refine lv_lstore (lv' := [(7, .long (lN (((2 * (S1 k)) + c1) / 4294967296))), (10, .long (lN ((2 * (S1 k)) + c1))), (9, .int (nI k)), (6, .int (nI kq)), (0, .ref h0), (1, .ref ab), (2, .ref ae), (3, .ref an)]) hx hb dX7_raise_168 hl (by decide) rfl (fun ls hl => ?_)
                          refine lv_iinc (v := nI (k + 1)) (lv' := [(9, .int (nI (k + 1))), (7, .long (lN (((2 * (S1 k)) + c1) / 4294967296))), (10, .long (lN ((2 * (S1 k)) + c1))), (6, .int (nI kq)), (0, .ref h0), (1, .ref ab), (2, .ref ae), (3, .ref an)]) hx hb dX7_raise_170 hl (k := 2) rfl (nI_add k 1) (by decide) rfl (fun ls hl => ?_)
                          refine lv_goto (tgt := 125) hx hb dX7_raise_173 (by decide) ?_
                          exact ihK (k + 1) _ _ (by omega) (by omega) (dbl_step hK2) (fun j q => by rw [upN_n (by omega)]; exact hK3 j (by omega)) (fun j q => by
                            rcases Nat.lt_or_ge j k with q2 | q2
                            · rw [upN_n (by omega)]; exact hK4 j q2
                            · rw [show j = k by omega, upN_s]; exact Nat.mod_lt _ (by decide)) (by omega) _ _ h _ (lv_sub hl [0, 1, 3, 4, 5, 6, 7] rfl)
                    exact loopK _ 0 0 _ (by omega) (by omega) rfl (fun j _ => rfl) (fun j q => absurd q (Nat.not_lt_zero _)) (Nat.lt_succ_self _) _ _ h _ (lv_sub hl [0, 1, 2, 3, 4, 5, 6] rfl)
              exact loopQ _ 0 _ (by omega) hS0l (by rw [hS0v d9 (by omega)]; symm; exact Nat.mod_eq_of_lt hm1) (Nat.lt_succ_self _) _ _ h _ (lv_sub hl [0, 1, 2, 3, 4] rfl)
            · refine lv_aload_n hx hb dX7_raise_83 rfl (lv_at hl 1 rfl) ?_
              refine m_gc C h 28 (by decide) rfl rfl q1898 dX7_raise_84 ?_
              refine lv_iload hx hb dX7_raise_87 (lv_at hl 0 rfl) ?_
              refine lv_lconst (v := lN 0) hx hb dX7_raise_89 (by decide) ?_
              refine m_last C h 28 (v := 0) (by decide) (n := 42) rfl (by omega) dX7_raise_90 (fun H locs h => ?_)
              rw [pM_28] at h
              have h : Wd D B s (mw dA h0 ad (pM M (nI d9, lN iv, Mo, upN G1 i 0, mG M 30, mG M 31, mG M 32)) ++ F) H locs := h
              refine lv_iinc (v := nI (i + 1)) (lv' := [(6, .int (nI (i + 1))), (0, .ref h0), (1, .ref ab), (2, .ref ae), (3, .ref an)]) hx hb dX7_raise_91 hl (k := 0) rfl (nI_add i 1) (by decide) rfl (fun ls hl => ?_)
              refine lv_goto (tgt := 76) hx hb dX7_raise_94 (by decide) ?_
              exact ihhz (i + 1) _ (by omega) (fun j q => by
                rcases Nat.lt_or_ge j i with q2 | q2
                · rw [upN_n (by omega)]; exact hz1 j q2
                · rw [show j = i by omega, upN_s]) (by omega) _ _ h _ (lv_sub hl [0, 1, 2, 3, 4] rfl)
        exact loophz _ 0 _ (by omega) (fun j q => absurd q (Nat.not_lt_zero _)) (Nat.lt_succ_self _) _ _ h _ (lv_sub hl [0, 2, 3, 4, 5] rfl)
      · have hwv : Mo 0 * v ≤ 4294967295 * 4294967295 := mul_le (by omega) (by omega)
        refine lv_lload hx hb dX7_raise_31 (lv_at hl 1 rfl) ?_
        refine lv_ldc2 hx hb hown (hts _ q2425) dX7_raise_33 ?_
        refine n_topl (y := lN 2) (by decide) ?_
        refine lv_aload_n hx hb dX7_raise_36 rfl (lv_at hl 2 rfl) ?_
        refine m_gc C h 27 (by decide) rfl rfl q1897 dX7_raise_37 ?_
        refine lv_iconst (v := nI 0) hx hb dX7_raise_40 (by decide) ?_
        refine n_lald C h (v := Mo 0) (mw_memL (k := 27) (by decide)) (show 0 < 40 by omega) (by decide) rfl dX7_raise_41 ?_
        refine lv_lload hx hb dX7_raise_42 (lv_at hl 1 rfl) ?_
        refine lv_lmul hx hb dX7_raise_44 (n_topl (y := lN ((Mo 0) * v)) (lN_mul (Mo 0) v) ?_)
        refine lv_lsub hx hb dX7_raise_45 ?_
        refine n_topl (y := lN (2 + (18446744073709551616 - Mo 0 * v))) (lN_neg (by omega) 2) ?_
        refine lv_lmul hx hb dX7_raise_46 (n_topl (y := lN (v * (2 + (18446744073709551616 - Mo 0 * v)))) (lN_mul v (2 + (18446744073709551616 - Mo 0 * v))) ?_)
        refine lv_ldc2 hx hb hown (hts _ q2376) dX7_raise_47 ?_
        refine n_topl (y := lN 4294967295) (by decide) ?_
        refine lv_land hx hb dX7_raise_50 ?_
        refine n_topl (y := lN (v * (2 + (18446744073709551616 - Mo 0 * v)) % 4294967296)) (by rw [wb_mod, l_andN (k := 32) (Nat.mod_lt _ (by decide)) (by decide)]; congr 1; omega) ?_
        refine lv_lstore (lv' := [(4, .long (lN (v * (2 + (18446744073709551616 - Mo 0 * v)) % 4294967296))), (6, .int (nI kq)), (0, .ref h0), (1, .ref ab), (2, .ref ae), (3, .ref an)]) hx hb dX7_raise_51 hl (by decide) rfl (fun ls hl => ?_)
        refine lv_iinc (v := nI (kq + 1)) (lv' := [(6, .int (nI (kq + 1))), (4, .long (lN (v * (2 + (18446744073709551616 - Mo 0 * v)) % 4294967296))), (0, .ref h0), (1, .ref ab), (2, .ref ae), (3, .ref an)]) hx hb dX7_raise_53 hl (k := 1) rfl (nI_add kq 1) (by decide) rfl (fun ls hl => ?_)
        refine lv_goto (tgt := 24) hx hb dX7_raise_56 (by decide) ?_
        exact ih (kq + 1) _ (by omega) (Nat.mod_lt _ (by decide)) (newton (by omega) hM0l hi1 hi2) (by omega) _ _ h _ (lv_sub hl [0, 1, 2, 3, 4, 5] rfl)
  exact loop _ 0 1 (by omega) (by decide) (by
    show (2 : Int) ^ 1 ∣ _
    exact ⟨((Mo 0 : Int) - 1) / 2, by omega⟩) (Nat.lt_succ_self _) _ _ h _ (lv_sub hl [0, 1, 2, 3, 4, 5] rfl)
