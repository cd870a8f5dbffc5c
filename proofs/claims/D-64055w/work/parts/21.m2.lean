set_option maxRecDepth 100000
set_option maxHeartbeats 400000 in
set_option maxRecDepth 100000 in
theorem c7_firstHash (l : Launch) (D : va_G) (dA : Nat → ClassId) (B : Nat) (Z : State → Prop) (hZ : Stab B Z) (h0 : Nat) (ad : Nat → Nat) (M : MS) (F : va_W) (n : Nat) (h1 : mI M 20 = nI n) (h2 : n < 29900) (hby : ∀ j, mG M 21 j < 256) :
    Ct (S := Nat → Int32) l D dA B Z yX7_firstHash cX7_firstHash 17 none 4 0 0 [.ref h0] (mw dA h0 ad M ++ F) (fun _ => True) (fun _ => none) (fun Wf => mw dA h0 ad (sG (sW (apM M 21 20 n (pad n)) 23 Wf) 22 (appG (mG M 22) 0 (sha1 (sl (mG M 21) 0 n)))) ++ F) := by
  refine Ct.mk2 (by decide) (Nat.le_of_ble_eq_true rfl) hZ ?_
  intro p e R s m args below meth c ls Q C hr hlocks hin hQ hl h
  have C0 := C
  obtain ⟨hx, hb, hml, hown, hts, -⟩ := C0
  have hl : lv_has ls 17 [(0, .ref h0)] := hl
  refine lv_aload_n hx hb dX7_firstHash_0 rfl (lv_at hl 0 rfl) ?_
  refine call_V (As := []) (rest := []) (n := 0) C h (c7_close l D dA B Z hZ h0 ad M F n h1 h2) (lw_V q2268 q2270 qs72 q138 q2271) (by decide +kernel) (ci := 5) rfl rfl mw_mem0 (by decide) (by decide) rfl hl rfl (Nat.le_of_ble_eq_true rfl) dX7_firstHash_1 (by omega) (fun _ H locs _ h => ?_)
  obtain ⟨mm, hmm⟩ : ∃ mm, mm = padded (sl (mG M 21) 0 n) := ⟨_, rfl⟩
  have hlen : mm.length = n + (pad n).length := by rw [hmm]; unfold padded; rw [List.length_append, sl_len]
  have hg : sl (appG (mG M 21) n (pad n)) 0 mm.length = mm := by rw [hlen, sl_appG, hmm]; unfold padded; rw [sl_len]
  have h64 := pad_64 n
  have hpl := pad_len n
  rw [← hlen] at h64
  have hb8 : ∀ j, appG (mG M 21) n (pad n) j < 256 := appG_byte hby (fun x hx => pad_byte hx)
  obtain ⟨nb, hnb⟩ : ∃ nb, nb = mm.length / 64 := ⟨_, rfl⟩
  refine n_top (y := nI nb) (by rw [hnb, hlen]) ?_
  refine lv_istore_n (lv' := [(1, .int (nI nb)), (0, .ref h0)]) hx hb dX7_firstHash_4 rfl hl (by decide) rfl (fun ls hl => ?_)
  refine lv_ldc hx hb hown (hts _ q2273) dX7_firstHash_5 ?_
  refine n_top (y := nI 1732584193) (by decide) ?_
  refine lv_istore_n (lv' := [(2, .int (nI 1732584193)), (1, .int (nI nb)), (0, .ref h0)]) hx hb dX7_firstHash_7 rfl hl (by decide) rfl (fun ls hl => ?_)
  refine lv_ldc hx hb hown (hts _ q2274) dX7_firstHash_8 ?_
  refine lv_istore_n (lv' := [(3, .int (-271733879)), (2, .int (nI 1732584193)), (1, .int (nI nb)), (0, .ref h0)]) hx hb dX7_firstHash_10 rfl hl (by decide) rfl (fun ls hl => ?_)
  refine lv_ldc hx hb hown (hts _ q2275) dX7_firstHash_11 ?_
  refine lv_istore (lv' := [(4, .int (-1732584194)), (3, .int (-271733879)), (2, .int (nI 1732584193)), (1, .int (nI nb)), (0, .ref h0)]) hx hb dX7_firstHash_13 hl (by decide) rfl (fun ls hl => ?_)
  refine lv_ldc hx hb hown (hts _ q2276) dX7_firstHash_15 ?_
  refine n_top (y := nI 271733878) (by decide) ?_
  refine lv_istore (lv' := [(5, .int (nI 271733878)), (4, .int (-1732584194)), (3, .int (-271733879)), (2, .int (nI 1732584193)), (1, .int (nI nb)), (0, .ref h0)]) hx hb dX7_firstHash_17 hl (by decide) rfl (fun ls hl => ?_)
  refine lv_ldc hx hb hown (hts _ q2277) dX7_firstHash_19 ?_
  refine lv_istore (lv' := [(6, .int (-1009589776)), (5, .int (nI 271733878)), (4, .int (-1732584194)), (3, .int (-271733879)), (2, .int (nI 1732584193)), (1, .int (nI nb)), (0, .ref h0)]) hx hb dX7_firstHash_21 hl (by decide) rfl (fun ls hl => ?_)
  refine lv_iconst (v := nI 0) hx hb dX7_firstHash_23 (by decide) ?_
  refine lv_istore (lv' := [(7, .int (nI 0)), (6, .int (-1009589776)), (5, .int (nI 271733878)), (4, .int (-1732584194)), (3, .int (-271733879)), (2, .int (nI 1732584193)), (1, .int (nI nb)), (0, .ref h0)]) hx hb dX7_firstHash_24 hl (by decide) rfl (fun ls hl => ?_)
  have h : Wd D B s (mw dA h0 ad (sW (apM M 21 20 n (pad n)) 23 (mW M 23)) ++ F) H locs := by
    have e : sW (apM M 21 20 n (pad n)) 23 (mW M 23) = (apM M 21 20 n (pad n)) := sW_id (M := (apM M 21 20 n (pad n)))
    rw [e]; exact h
  have loopB : ∀ (nnB : Nat) (bi : Nat) (Wf : Nat → Int32), (bi ≤ nb) → nb - bi < nnB → ∀ (H : Heap) (locs : List Loc), Wd D B s (mw dA h0 ad (sW (apM M 21 20 n (pad n)) 23 Wf) ++ F) H locs → ∀ (ls : Array Slot), lv_has ls 17 [(7, .int (nI bi)), (2, .int ((hs1 mm bi).1)), (3, .int ((hs1 mm bi).2.1)), (4, .int ((hs1 mm bi).2.2.1)), (5, .int ((hs1 mm bi).2.2.2.1)), (6, .int ((hs1 mm bi).2.2.2.2)), (0, .ref h0), (1, .int (nI nb))] → W p l e R s m args below meth c H locs (0 + 0) (0 + 0) Q (F0 m 26 ls []) := by
    intro nnB
    induction nnB with
    | zero => intro bi  Wf  hi0 hme; exact absurd hme (Nat.not_lt_zero _)
    | succ nnB ihB =>
      intro bi  Wf  hi0 hme H locs h ls hl
      refine lv_iload hx hb dX7_firstHash_26 (lv_at hl 0 rfl) ?_
      refine lv_iload_n hx hb dX7_firstHash_28 rfl (lv_at hl 7 rfl) ?_
      refine n_icmp_ge (tgt := 348) hx hb (by omega) (by omega) dX7_firstHash_29 (by decide) (fun c29 => ?_) (fun c29 => ?_)
      · refine lv_aload_n hx hb dX7_firstHash_348 rfl (lv_at hl 6 rfl) ?_
        refine lv_iconst (v := nI 0) hx hb dX7_firstHash_349 (by decide) ?_
        refine lv_iload_n hx hb dX7_firstHash_350 rfl (lv_at hl 1 rfl) ?_
        refine call_V (As := [.int (nI 0), .int ((hs1 mm bi).1)]) (rest := []) (n := 2) C h (c7_keep l D dA B Z hZ h0 ad (sW (apM M 21 20 n (pad n)) 23 Wf) F 0 ((hs1 mm bi).1) (by decide)) (lw_V q2288 q2290 qs73 q138 q2291) (by decide +kernel) (ci := 5) rfl rfl mw_mem0 (by decide) (by decide) rfl hl rfl (Nat.le_of_ble_eq_true rfl) dX7_firstHash_351 (by omega) (fun _ H locs _ h => ?_)
        have h : Wd D B s (mw dA h0 ad (sG (sW (apM M 21 20 n (pad n)) 23 Wf) 22 (appG (mG (sW (apM M 21 20 n (pad n)) 23 Wf) 22) 0 (be 4 (uI (hs1 mm bi).1)))) ++ F) H locs := h
        refine lv_aload_n hx hb dX7_firstHash_354 rfl (lv_at hl 6 rfl) ?_
        refine lv_iconst (v := nI 1) hx hb dX7_firstHash_355 (by decide) ?_
        refine lv_iload_n hx hb dX7_firstHash_356 rfl (lv_at hl 2 rfl) ?_
        refine call_V (As := [.int (nI 1), .int ((hs1 mm bi).2.1)]) (rest := []) (n := 2) C h (c7_keep l D dA B Z hZ h0 ad (sG (sW (apM M 21 20 n (pad n)) 23 Wf) 22 (appG (mG (sW (apM M 21 20 n (pad n)) 23 Wf) 22) 0 (be 4 (uI (hs1 mm bi).1)))) F 1 ((hs1 mm bi).2.1) (by decide)) (lw_V q2288 q2290 qs73 q138 q2291) (by decide +kernel) (ci := 5) rfl rfl mw_mem0 (by decide) (by decide) rfl hl rfl (Nat.le_of_ble_eq_true rfl) dX7_firstHash_357 (by omega) (fun _ H locs _ h => ?_)
        rw [keep_step (M := (sW (apM M 21 20 n (pad n)) 23 Wf)) (k := 1) (by simp only [List.length_append, be_len])] at h
        refine lv_aload_n hx hb dX7_firstHash_360 rfl (lv_at hl 6 rfl) ?_
        refine lv_iconst (v := nI 2) hx hb dX7_firstHash_361 (by decide) ?_
        refine lv_iload hx hb dX7_firstHash_362 (lv_at hl 3 rfl) ?_
        refine call_V (As := [.int (nI 2), .int ((hs1 mm bi).2.2.1)]) (rest := []) (n := 2) C h (c7_keep l D dA B Z hZ h0 ad (sG (sW (apM M 21 20 n (pad n)) 23 Wf) 22 (appG (mG (sW (apM M 21 20 n (pad n)) 23 Wf) 22) 0 (be 4 (uI (hs1 mm bi).1) ++ be 4 (uI (hs1 mm bi).2.1)))) F 2 ((hs1 mm bi).2.2.1) (by decide)) (lw_V q2288 q2290 qs73 q138 q2291) (by decide +kernel) (ci := 5) rfl rfl mw_mem0 (by decide) (by decide) rfl hl rfl (Nat.le_of_ble_eq_true rfl) dX7_firstHash_364 (by omega) (fun _ H locs _ h => ?_)
        rw [keep_step (M := (sW (apM M 21 20 n (pad n)) 23 Wf)) (k := 2) (by simp only [List.length_append, be_len])] at h
        refine lv_aload_n hx hb dX7_firstHash_367 rfl (lv_at hl 6 rfl) ?_
        refine lv_iconst (v := nI 3) hx hb dX7_firstHash_368 (by decide) ?_
        refine lv_iload hx hb dX7_firstHash_369 (lv_at hl 4 rfl) ?_
        refine call_V (As := [.int (nI 3), .int ((hs1 mm bi).2.2.2.1)]) (rest := []) (n := 2) C h (c7_keep l D dA B Z hZ h0 ad (sG (sW (apM M 21 20 n (pad n)) 23 Wf) 22 (appG (mG (sW (apM M 21 20 n (pad n)) 23 Wf) 22) 0 (be 4 (uI (hs1 mm bi).1) ++ be 4 (uI (hs1 mm bi).2.1) ++ be 4 (uI (hs1 mm bi).2.2.1)))) F 3 ((hs1 mm bi).2.2.2.1) (by decide)) (lw_V q2288 q2290 qs73 q138 q2291) (by decide +kernel) (ci := 5) rfl rfl mw_mem0 (by decide) (by decide) rfl hl rfl (Nat.le_of_ble_eq_true rfl) dX7_firstHash_371 (by omega) (fun _ H locs _ h => ?_)
        rw [keep_step (M := (sW (apM M 21 20 n (pad n)) 23 Wf)) (k := 3) (by simp only [List.length_append, be_len])] at h
        refine lv_aload_n hx hb dX7_firstHash_374 rfl (lv_at hl 6 rfl) ?_
        refine lv_iconst (v := nI 4) hx hb dX7_firstHash_375 (by decide) ?_
        refine lv_iload hx hb dX7_firstHash_376 (lv_at hl 5 rfl) ?_
        refine call_V (As := [.int (nI 4), .int ((hs1 mm bi).2.2.2.2)]) (rest := []) (n := 2) C h (c7_keep l D dA B Z hZ h0 ad (sG (sW (apM M 21 20 n (pad n)) 23 Wf) 22 (appG (mG (sW (apM M 21 20 n (pad n)) 23 Wf) 22) 0 (be 4 (uI (hs1 mm bi).1) ++ be 4 (uI (hs1 mm bi).2.1) ++ be 4 (uI (hs1 mm bi).2.2.1) ++ be 4 (uI (hs1 mm bi).2.2.2.1)))) F 4 ((hs1 mm bi).2.2.2.2) (by decide)) (lw_V q2288 q2290 qs73 q138 q2291) (by decide +kernel) (ci := 5) rfl rfl mw_mem0 (by decide) (by decide) rfl hl rfl (Nat.le_of_ble_eq_true rfl) dX7_firstHash_378 (by omega) (fun _ H locs _ h => ?_)
        rw [keep_step (M := (sW (apM M 21 20 n (pad n)) 23 Wf)) (k := 4) (by simp only [List.length_append, be_len])] at h
        subst hQ
        obtain rfl : bi = nb := by omega
        exact ret_v C hr hlocks h Wf trivial rfl (by unfold sha1; rw [← hmm, ← hnb]; rfl) (by omega) (by omega) dX7_firstHash_381
      · refine lv_iload_n hx hb dX7_firstHash_32 rfl (lv_at hl 1 rfl) ?_
        refine lv_istore (lv' := [(8, .int ((hs1 mm bi).1)), (7, .int (nI bi)), (2, .int ((hs1 mm bi).1)), (3, .int ((hs1 mm bi).2.1)), (4, .int ((hs1 mm bi).2.2.1)), (5, .int ((hs1 mm bi).2.2.2.1)), (6, .int ((hs1 mm bi).2.2.2.2)), (0, .ref h0), (1, .int (nI nb))]) hx hb dX7_firstHash_33 hl (by decide) rfl (fun ls hl => ?_)
        refine lv_iload_n hx hb dX7_firstHash_35 rfl (lv_at hl 3 rfl) ?_
        refine lv_istore (lv' := [(9, .int ((hs1 mm bi).2.1)), (8, .int ((hs1 mm bi).1)), (7, .int (nI bi)), (2, .int ((hs1 mm bi).1)), (3, .int ((hs1 mm bi).2.1)), (4, .int ((hs1 mm bi).2.2.1)), (5, .int ((hs1 mm bi).2.2.2.1)), (6, .int ((hs1 mm bi).2.2.2.2)), (0, .ref h0), (1, .int (nI nb))]) hx hb dX7_firstHash_36 hl (by decide) rfl (fun ls hl => ?_)
        refine lv_iload hx hb dX7_firstHash_38 (lv_at hl 5 rfl) ?_
        refine lv_istore (lv' := [(10, .int ((hs1 mm bi).2.2.1)), (9, .int ((hs1 mm bi).2.1)), (8, .int ((hs1 mm bi).1)), (7, .int (nI bi)), (2, .int ((hs1 mm bi).1)), (3, .int ((hs1 mm bi).2.1)), (4, .int ((hs1 mm bi).2.2.1)), (5, .int ((hs1 mm bi).2.2.2.1)), (6, .int ((hs1 mm bi).2.2.2.2)), (0, .ref h0), (1, .int (nI nb))]) hx hb dX7_firstHash_40 hl (by decide) rfl (fun ls hl => ?_)
        refine lv_iload hx hb dX7_firstHash_42 (lv_at hl 7 rfl) ?_
        refine lv_istore (lv' := [(11, .int ((hs1 mm bi).2.2.2.1)), (10, .int ((hs1 mm bi).2.2.1)), (9, .int ((hs1 mm bi).2.1)), (8, .int ((hs1 mm bi).1)), (7, .int (nI bi)), (2, .int ((hs1 mm bi).1)), (3, .int ((hs1 mm bi).2.1)), (4, .int ((hs1 mm bi).2.2.1)), (5, .int ((hs1 mm bi).2.2.2.1)), (6, .int ((hs1 mm bi).2.2.2.2)), (0, .ref h0), (1, .int (nI nb))]) hx hb dX7_firstHash_44 hl (by decide) rfl (fun ls hl => ?_)
        refine lv_iload hx hb dX7_firstHash_46 (lv_at hl 9 rfl) ?_
        refine lv_istore (lv' := [(12, .int ((hs1 mm bi).2.2.2.2)), (11, .int ((hs1 mm bi).2.2.2.1)), (10, .int ((hs1 mm bi).2.2.1)), (9, .int ((hs1 mm bi).2.1)), (8, .int ((hs1 mm bi).1)), (7, .int (nI bi)), (2, .int ((hs1 mm bi).1)), (3, .int ((hs1 mm bi).2.1)), (4, .int ((hs1 mm bi).2.2.1)), (5, .int ((hs1 mm bi).2.2.2.1)), (6, .int ((hs1 mm bi).2.2.2.2)), (0, .ref h0), (1, .int (nI nb))]) hx hb dX7_firstHash_48 hl (by decide) rfl (fun ls hl => ?_)
        refine lv_iconst (v := nI 0) hx hb dX7_firstHash_50 (by decide) ?_
        refine lv_istore (lv' := [(13, .int (nI 0)), (12, .int ((hs1 mm bi).2.2.2.2)), (11, .int ((hs1 mm bi).2.2.2.1)), (10, .int ((hs1 mm bi).2.2.1)), (9, .int ((hs1 mm bi).2.1)), (8, .int ((hs1 mm bi).1)), (7, .int (nI bi)), (2, .int ((hs1 mm bi).1)), (3, .int ((hs1 mm bi).2.1)), (4, .int ((hs1 mm bi).2.2.1)), (5, .int ((hs1 mm bi).2.2.2.1)), (6, .int ((hs1 mm bi).2.2.2.2)), (0, .ref h0), (1, .int (nI nb))]) hx hb dX7_firstHash_51 hl (by decide) rfl (fun ls hl => ?_)
        obtain ⟨wv, hwv⟩ : ∃ wv, wv = sW1 (blkw mm bi) := ⟨_, rfl⟩
        obtain ⟨xv, hxv⟩ : ∃ xv, xv = hs1 mm bi := ⟨_, rfl⟩
        rw [← hxv] at hl
        have loopJ : ∀ (nnJ : Nat) (j : Nat) (Wf : Nat → Int32), (j ≤ 80) → (∀ i, i < j → Wf i = wv i) → 80 - j < nnJ → ∀ (H : Heap) (locs : List Loc), Wd D B s (mw dA h0 ad (sW (apM M 21 20 n (pad n)) 23 Wf) ++ F) H locs → ∀ (ls : Array Slot), lv_has ls 17 [(13, .int (nI j)), (8, .int ((rd1 wv j xv).1)), (9, .int ((rd1 wv j xv).2.1)), (10, .int ((rd1 wv j xv).2.2.1)), (11, .int ((rd1 wv j xv).2.2.2.1)), (12, .int ((rd1 wv j xv).2.2.2.2)), (7, .int (nI bi)), (2, .int xv.1), (3, .int xv.2.1), (4, .int xv.2.2.1), (5, .int xv.2.2.2.1), (6, .int xv.2.2.2.2), (0, .ref h0), (1, .int (nI nb))] → W p l e R s m args below meth c H locs (0 + 0) (0 + 0) Q (F0 m 53 ls []) := by
          intro nnJ
          induction nnJ with
          | zero => intro j  Wf  hi0 hi1 hme; exact absurd hme (Nat.not_lt_zero _)
          | succ nnJ ihJ =>
            intro j  Wf  hi0 hi1 hme H locs h ls hl
            refine lv_iload hx hb dX7_firstHash_53 (lv_at hl 0 rfl) ?_
            refine lv_bipush (v := nI 80) hx hb dX7_firstHash_55 (by decide) ?_
            refine n_icmp_ge (tgt := 311) hx hb (by omega) (by omega) dX7_firstHash_57 (by decide) (fun c57 => ?_) (fun c57 => ?_)
            · refine lv_iload_n hx hb dX7_firstHash_311 rfl (lv_at hl 7 rfl) ?_
              refine lv_iload hx hb dX7_firstHash_312 (lv_at hl 1 rfl) ?_
              refine lv_iadd hx hb dX7_firstHash_314 ?_
              refine n_top (y := (hs1 mm (bi + 1)).1) (by rw [show j = 80 by omega, hxv, hwv]; rfl) ?_
              refine lv_istore_n (lv' := [(2, .int ((hs1 mm (bi + 1)).1)), (13, .int (nI j)), (8, .int ((rd1 wv j xv).1)), (9, .int ((rd1 wv j xv).2.1)), (10, .int ((rd1 wv j xv).2.2.1)), (11, .int ((rd1 wv j xv).2.2.2.1)), (12, .int ((rd1 wv j xv).2.2.2.2)), (7, .int (nI bi)), (3, .int xv.2.1), (4, .int xv.2.2.1), (5, .int xv.2.2.2.1), (6, .int xv.2.2.2.2), (0, .ref h0), (1, .int (nI nb))]) hx hb dX7_firstHash_315 rfl hl (by decide) rfl (fun ls hl => ?_)
              refine lv_iload_n hx hb dX7_firstHash_316 rfl (lv_at hl 8 rfl) ?_
              refine lv_iload hx hb dX7_firstHash_317 (lv_at hl 3 rfl) ?_
              refine lv_iadd hx hb dX7_firstHash_319 ?_
              refine n_top (y := (hs1 mm (bi + 1)).2.1) (by rw [show j = 80 by omega, hxv, hwv]; rfl) ?_
              refine lv_istore_n (lv' := [(3, .int ((hs1 mm (bi + 1)).2.1)), (2, .int ((hs1 mm (bi + 1)).1)), (13, .int (nI j)), (8, .int ((rd1 wv j xv).1)), (9, .int ((rd1 wv j xv).2.1)), (10, .int ((rd1 wv j xv).2.2.1)), (11, .int ((rd1 wv j xv).2.2.2.1)), (12, .int ((rd1 wv j xv).2.2.2.2)), (7, .int (nI bi)), (4, .int xv.2.2.1), (5, .int xv.2.2.2.1), (6, .int xv.2.2.2.2), (0, .ref h0), (1, .int (nI nb))]) hx hb dX7_firstHash_320 rfl hl (by decide) rfl (fun ls hl => ?_)
              refine lv_iload hx hb dX7_firstHash_321 (lv_at hl 9 rfl) ?_
              refine lv_iload hx hb dX7_firstHash_323 (lv_at hl 5 rfl) ?_
              refine lv_iadd hx hb dX7_firstHash_325 ?_
              refine n_top (y := (hs1 mm (bi + 1)).2.2.1) (by rw [show j = 80 by omega, hxv, hwv]; rfl) ?_
              refine lv_istore (lv' := [(4, .int ((hs1 mm (bi + 1)).2.2.1)), (3, .int ((hs1 mm (bi + 1)).2.1)), (2, .int ((hs1 mm (bi + 1)).1)), (13, .int (nI j)), (8, .int ((rd1 wv j xv).1)), (9, .int ((rd1 wv j xv).2.1)), (10, .int ((rd1 wv j xv).2.2.1)), (11, .int ((rd1 wv j xv).2.2.2.1)), (12, .int ((rd1 wv j xv).2.2.2.2)), (7, .int (nI bi)), (5, .int xv.2.2.2.1), (6, .int xv.2.2.2.2), (0, .ref h0), (1, .int (nI nb))]) hx hb dX7_firstHash_326 hl (by decide) rfl (fun ls hl => ?_)
              refine lv_iload hx hb dX7_firstHash_328 (lv_at hl 10 rfl) ?_
              refine lv_iload hx hb dX7_firstHash_330 (lv_at hl 7 rfl) ?_
              refine lv_iadd hx hb dX7_firstHash_332 ?_
              refine n_top (y := (hs1 mm (bi + 1)).2.2.2.1) (by rw [show j = 80 by omega, hxv, hwv]; rfl) ?_
              refine lv_istore (lv' := [(5, .int ((hs1 mm (bi + 1)).2.2.2.1)), (4, .int ((hs1 mm (bi + 1)).2.2.1)), (3, .int ((hs1 mm (bi + 1)).2.1)), (2, .int ((hs1 mm (bi + 1)).1)), (13, .int (nI j)), (8, .int ((rd1 wv j xv).1)), (9, .int ((rd1 wv j xv).2.1)), (10, .int ((rd1 wv j xv).2.2.1)), (11, .int ((rd1 wv j xv).2.2.2.1)), (12, .int ((rd1 wv j xv).2.2.2.2)), (7, .int (nI bi)), (6, .int xv.2.2.2.2), (0, .ref h0), (1, .int (nI nb))]) hx hb dX7_firstHash_333 hl (by decide) rfl (fun ls hl => ?_)
              refine lv_iload hx hb dX7_firstHash_335 (lv_at hl 11 rfl) ?_
              refine lv_iload hx hb dX7_firstHash_337 (lv_at hl 9 rfl) ?_
              refine lv_iadd hx hb dX7_firstHash_339 ?_
              refine n_top (y := (hs1 mm (bi + 1)).2.2.2.2) (by rw [show j = 80 by omega, hxv, hwv]; rfl) ?_
              refine lv_istore (lv' := [(6, .int ((hs1 mm (bi + 1)).2.2.2.2)), (5, .int ((hs1 mm (bi + 1)).2.2.2.1)), (4, .int ((hs1 mm (bi + 1)).2.2.1)), (3, .int ((hs1 mm (bi + 1)).2.1)), (2, .int ((hs1 mm (bi + 1)).1)), (13, .int (nI j)), (8, .int ((rd1 wv j xv).1)), (9, .int ((rd1 wv j xv).2.1)), (10, .int ((rd1 wv j xv).2.2.1)), (11, .int ((rd1 wv j xv).2.2.2.1)), (12, .int ((rd1 wv j xv).2.2.2.2)), (7, .int (nI bi)), (0, .ref h0), (1, .int (nI nb))]) hx hb dX7_firstHash_340 hl (by decide) rfl (fun ls hl => ?_)
              refine lv_iinc (v := nI (bi + 1)) (lv' := [(7, .int (nI (bi + 1))), (6, .int ((hs1 mm (bi + 1)).2.2.2.2)), (5, .int ((hs1 mm (bi + 1)).2.2.2.1)), (4, .int ((hs1 mm (bi + 1)).2.2.1)), (3, .int ((hs1 mm (bi + 1)).2.1)), (2, .int ((hs1 mm (bi + 1)).1)), (13, .int (nI j)), (8, .int ((rd1 wv j xv).1)), (9, .int ((rd1 wv j xv).2.1)), (10, .int ((rd1 wv j xv).2.2.1)), (11, .int ((rd1 wv j xv).2.2.2.1)), (12, .int ((rd1 wv j xv).2.2.2.2)), (0, .ref h0), (1, .int (nI nb))]) hx hb dX7_firstHash_342 hl (k := 11) rfl (nI_add bi 1) (by decide) rfl (fun ls hl => ?_)
              refine lv_goto (tgt := 26) hx hb dX7_firstHash_345 (by decide) ?_
              exact ihB (bi + 1) _ (by omega) (by omega) _ _ h _ (lv_sub hl [0, 5, 4, 3, 2, 1, 12, 13] rfl)
            · refine lv_aload_n hx hb dX7_firstHash_60 rfl (lv_at hl 12 rfl) ?_
              refine m_gc C h 23 (by decide) rfl rfl q1893 dX7_firstHash_61 ?_
              refine lv_iload hx hb dX7_firstHash_64 (lv_at hl 0 rfl) ?_
              have jw : ∀ (H : Heap) (locs : List Loc), Wd D B s (mw dA h0 ad (sW (apM M 21 20 n (pad n)) 23 Wf) ++ F) H locs → ∀ (ls : Array Slot), lv_has ls 17 [(13, .int (nI j)), (8, .int ((rd1 wv j xv).1)), (9, .int ((rd1 wv j xv).2.1)), (10, .int ((rd1 wv j xv).2.2.1)), (11, .int ((rd1 wv j xv).2.2.2.1)), (12, .int ((rd1 wv j xv).2.2.2.2)), (7, .int (nI bi)), (2, .int xv.1), (3, .int xv.2.1), (4, .int xv.2.2.1), (5, .int xv.2.2.2.1), (6, .int xv.2.2.2.2), (0, .ref h0), (1, .int (nI nb))] → W p l e R s m args below meth c H locs (0 + 0) (0 + 0) Q (F0 m 141 ls [.int (wv j), .int (nI j), .ref (ad 23)]) := by
                intro   H locs h ls hl
                refine m_wast C h 23 (v := wv j) (by decide) (n := 80) rfl (by omega) dX7_firstHash_141 (fun H locs h => ?_)
                have jf : ∀ (H : Heap) (locs : List Loc), Wd D B s (mw dA h0 ad (sW (sW (apM M 21 20 n (pad n)) 23 Wf) 23 (upN Wf j (wv j))) ++ F) H locs → ∀ (ls : Array Slot), lv_has ls 17 [(13, .int (nI j)), (8, .int ((rd1 wv j xv).1)), (9, .int ((rd1 wv j xv).2.1)), (10, .int ((rd1 wv j xv).2.2.1)), (11, .int ((rd1 wv j xv).2.2.2.1)), (12, .int ((rd1 wv j xv).2.2.2.2)), (7, .int (nI bi)), (2, .int xv.1), (3, .int xv.2.1), (4, .int xv.2.2.1), (5, .int xv.2.2.2.1), (6, .int xv.2.2.2.2), (0, .ref h0), (1, .int (nI nb))] → W p l e R s m args below meth c H locs (0 + 0) (0 + 0) Q (F0 m 213 ls [.int (f1 j ((rd1 wv j xv).2.1) ((rd1 wv j xv).2.2.1) ((rd1 wv j xv).2.2.2.1))]) := by
                  intro   H locs h ls hl
                  refine lv_istore (lv' := [(14, .int (f1 j ((rd1 wv j xv).2.1) ((rd1 wv j xv).2.2.1) ((rd1 wv j xv).2.2.2.1))), (13, .int (nI j)), (8, .int ((rd1 wv j xv).1)), (9, .int ((rd1 wv j xv).2.1)), (10, .int ((rd1 wv j xv).2.2.1)), (11, .int ((rd1 wv j xv).2.2.2.1)), (12, .int ((rd1 wv j xv).2.2.2.2)), (7, .int (nI bi)), (2, .int xv.1), (3, .int xv.2.1), (4, .int xv.2.2.1), (5, .int xv.2.2.2.1), (6, .int xv.2.2.2.2), (0, .ref h0), (1, .int (nI nb))]) hx hb dX7_firstHash_213 hl (by decide) rfl (fun ls hl => ?_)
                  have jk : ∀ (H : Heap) (locs : List Loc), Wd D B s (mw dA h0 ad (sW (sW (apM M 21 20 n (pad n)) 23 Wf) 23 (upN Wf j (wv j))) ++ F) H locs → ∀ (ls : Array Slot), lv_has ls 17 [(14, .int (f1 j ((rd1 wv j xv).2.1) ((rd1 wv j xv).2.2.1) ((rd1 wv j xv).2.2.2.1))), (13, .int (nI j)), (8, .int ((rd1 wv j xv).1)), (9, .int ((rd1 wv j xv).2.1)), (10, .int ((rd1 wv j xv).2.2.1)), (11, .int ((rd1 wv j xv).2.2.2.1)), (12, .int ((rd1 wv j xv).2.2.2.2)), (7, .int (nI bi)), (2, .int xv.1), (3, .int xv.2.1), (4, .int xv.2.2.1), (5, .int xv.2.2.2.1), (6, .int xv.2.2.2.2), (0, .ref h0), (1, .int (nI nb))] → W p l e R s m args below meth c H locs (0 + 0) (0 + 0) Q (F0 m 253 ls [.int (k1 j)]) := by
                    intro   H locs h ls hl
                    refine lv_istore (lv' := [(15, .int (k1 j)), (14, .int (f1 j ((rd1 wv j xv).2.1) ((rd1 wv j xv).2.2.1) ((rd1 wv j xv).2.2.2.1))), (13, .int (nI j)), (8, .int ((rd1 wv j xv).1)), (9, .int ((rd1 wv j xv).2.1)), (10, .int ((rd1 wv j xv).2.2.1)), (11, .int ((rd1 wv j xv).2.2.2.1)), (12, .int ((rd1 wv j xv).2.2.2.2)), (7, .int (nI bi)), (2, .int xv.1), (3, .int xv.2.1), (4, .int xv.2.2.1), (5, .int xv.2.2.2.1), (6, .int xv.2.2.2.2), (0, .ref h0), (1, .int (nI nb))]) hx hb dX7_firstHash_253 hl (by decide) rfl (fun ls hl => ?_)
                    refine lv_iload hx hb dX7_firstHash_255 (lv_at hl 3 rfl) ?_
                    refine lv_iconst (v := nI 5) hx hb dX7_firstHash_257 (by decide) ?_
                    refine call_S (As := [.int ((rd1 wv j xv).1), .int (nI 5)]) (rest := []) (n := 2) C h (c7_left l D dA B Z hZ _ ((rd1 wv j xv).1) (nI 5)) (lw_S q2281 q2282 q138 q2283) (by decide +kernel) (by decide) (by decide) rfl hl rfl (Nat.le_of_ble_eq_true rfl) dX7_firstHash_258 (by omega) (fun _ H locs _ h => ?_)
                    refine lv_iload hx hb dX7_firstHash_261 (lv_at hl 1 rfl) ?_
                    refine lv_iadd hx hb dX7_firstHash_263 ?_
                    refine lv_iload hx hb dX7_firstHash_264 (lv_at hl 7 rfl) ?_
                    refine lv_iadd hx hb dX7_firstHash_266 ?_
                    refine lv_iload hx hb dX7_firstHash_267 (lv_at hl 0 rfl) ?_
                    refine lv_iadd hx hb dX7_firstHash_269 ?_
                    refine lv_aload_n hx hb dX7_firstHash_270 rfl (lv_at hl 14 rfl) ?_
                    refine m_gc C h 23 (by decide) rfl rfl q1893 dX7_firstHash_271 ?_
                    refine lv_iload hx hb dX7_firstHash_274 (lv_at hl 2 rfl) ?_
                    refine n_wald C h (v := (upN Wf j (wv j)) j) (mw_memW (k := 23) (by decide)) (show j < 80 by omega) (by decide) rfl dX7_firstHash_276 ?_
                    refine n_top (y := wv j) upN_s ?_
                    refine lv_iadd hx hb dX7_firstHash_277 ?_
                    refine n_top (y := (rd1 wv (j + 1) xv).1) rfl ?_
                    refine lv_istore (lv' := [(16, .int ((rd1 wv (j + 1) xv).1)), (15, .int (k1 j)), (14, .int (f1 j ((rd1 wv j xv).2.1) ((rd1 wv j xv).2.2.1) ((rd1 wv j xv).2.2.2.1))), (13, .int (nI j)), (8, .int ((rd1 wv j xv).1)), (9, .int ((rd1 wv j xv).2.1)), (10, .int ((rd1 wv j xv).2.2.1)), (11, .int ((rd1 wv j xv).2.2.2.1)), (12, .int ((rd1 wv j xv).2.2.2.2)), (7, .int (nI bi)), (2, .int xv.1), (3, .int xv.2.1), (4, .int xv.2.2.1), (5, .int xv.2.2.2.1), (6, .int xv.2.2.2.2), (0, .ref h0), (1, .int (nI nb))]) hx hb dX7_firstHash_278 hl (by decide) rfl (fun ls hl => ?_)
                    refine lv_iload hx hb dX7_firstHash_280 (lv_at hl 7 rfl) ?_
                    refine lv_istore (lv' := [(12, .int ((rd1 wv j xv).2.2.2.1)), (16, .int ((rd1 wv (j + 1) xv).1)), (15, .int (k1 j)), (14, .int (f1 j ((rd1 wv j xv).2.1) ((rd1 wv j xv).2.2.1) ((rd1 wv j xv).2.2.2.1))), (13, .int (nI j)), (8, .int ((rd1 wv j xv).1)), (9, .int ((rd1 wv j xv).2.1)), (10, .int ((rd1 wv j xv).2.2.1)), (11, .int ((rd1 wv j xv).2.2.2.1)), (7, .int (nI bi)), (2, .int xv.1), (3, .int xv.2.1), (4, .int xv.2.2.1), (5, .int xv.2.2.2.1), (6, .int xv.2.2.2.2), (0, .ref h0), (1, .int (nI nb))]) hx hb dX7_firstHash_282 hl (by decide) rfl (fun ls hl => ?_)
                    refine lv_iload hx hb dX7_firstHash_284 (lv_at hl 7 rfl) ?_
                    refine lv_istore (lv' := [(11, .int ((rd1 wv j xv).2.2.1)), (12, .int ((rd1 wv j xv).2.2.2.1)), (16, .int ((rd1 wv (j + 1) xv).1)), (15, .int (k1 j)), (14, .int (f1 j ((rd1 wv j xv).2.1) ((rd1 wv j xv).2.2.1) ((rd1 wv j xv).2.2.2.1))), (13, .int (nI j)), (8, .int ((rd1 wv j xv).1)), (9, .int ((rd1 wv j xv).2.1)), (10, .int ((rd1 wv j xv).2.2.1)), (7, .int (nI bi)), (2, .int xv.1), (3, .int xv.2.1), (4, .int xv.2.2.1), (5, .int xv.2.2.2.1), (6, .int xv.2.2.2.2), (0, .ref h0), (1, .int (nI nb))]) hx hb dX7_firstHash_286 hl (by decide) rfl (fun ls hl => ?_)
                    refine lv_iload hx hb dX7_firstHash_288 (lv_at hl 7 rfl) ?_
                    refine lv_bipush (v := nI 30) hx hb dX7_firstHash_290 (by decide) ?_
                    refine call_S (As := [.int ((rd1 wv j xv).2.1), .int (nI 30)]) (rest := []) (n := 2) C h (c7_left l D dA B Z hZ _ ((rd1 wv j xv).2.1) (nI 30)) (lw_S q2281 q2282 q138 q2283) (by decide +kernel) (by decide) (by decide) rfl hl rfl (Nat.le_of_ble_eq_true rfl) dX7_firstHash_292 (by omega) (fun _ H locs _ h => ?_)
                    refine lv_istore (lv' := [(10, .int (rotl ((rd1 wv j xv).2.1) (nI 30))), (11, .int ((rd1 wv j xv).2.2.1)), (12, .int ((rd1 wv j xv).2.2.2.1)), (16, .int ((rd1 wv (j + 1) xv).1)), (15, .int (k1 j)), (14, .int (f1 j ((rd1 wv j xv).2.1) ((rd1 wv j xv).2.2.1) ((rd1 wv j xv).2.2.2.1))), (13, .int (nI j)), (8, .int ((rd1 wv j xv).1)), (9, .int ((rd1 wv j xv).2.1)), (7, .int (nI bi)), (2, .int xv.1), (3, .int xv.2.1), (4, .int xv.2.2.1), (5, .int xv.2.2.2.1), (6, .int xv.2.2.2.2), (0, .ref h0), (1, .int (nI nb))]) hx hb dX7_firstHash_295 hl (by decide) rfl (fun ls hl => ?_)
                    refine lv_iload hx hb dX7_firstHash_297 (lv_at hl 7 rfl) ?_
                    refine lv_istore (lv' := [(9, .int ((rd1 wv j xv).1)), (10, .int (rotl ((rd1 wv j xv).2.1) (nI 30))), (11, .int ((rd1 wv j xv).2.2.1)), (12, .int ((rd1 wv j xv).2.2.2.1)), (16, .int ((rd1 wv (j + 1) xv).1)), (15, .int (k1 j)), (14, .int (f1 j ((rd1 wv j xv).2.1) ((rd1 wv j xv).2.2.1) ((rd1 wv j xv).2.2.2.1))), (13, .int (nI j)), (8, .int ((rd1 wv j xv).1)), (7, .int (nI bi)), (2, .int xv.1), (3, .int xv.2.1), (4, .int xv.2.2.1), (5, .int xv.2.2.2.1), (6, .int xv.2.2.2.2), (0, .ref h0), (1, .int (nI nb))]) hx hb dX7_firstHash_299 hl (by decide) rfl (fun ls hl => ?_)
                    refine lv_iload hx hb dX7_firstHash_301 (lv_at hl 4 rfl) ?_
                    refine lv_istore (lv' := [(8, .int ((rd1 wv (j + 1) xv).1)), (9, .int ((rd1 wv j xv).1)), (10, .int (rotl ((rd1 wv j xv).2.1) (nI 30))), (11, .int ((rd1 wv j xv).2.2.1)), (12, .int ((rd1 wv j xv).2.2.2.1)), (16, .int ((rd1 wv (j + 1) xv).1)), (15, .int (k1 j)), (14, .int (f1 j ((rd1 wv j xv).2.1) ((rd1 wv j xv).2.2.1) ((rd1 wv j xv).2.2.2.1))), (13, .int (nI j)), (7, .int (nI bi)), (2, .int xv.1), (3, .int xv.2.1), (4, .int xv.2.2.1), (5, .int xv.2.2.2.1), (6, .int xv.2.2.2.2), (0, .ref h0), (1, .int (nI nb))]) hx hb dX7_firstHash_303 hl (by decide) rfl (fun ls hl => ?_)
                    refine lv_iinc (v := nI (j + 1)) (lv' := [(13, .int (nI (j + 1))), (8, .int ((rd1 wv (j + 1) xv).1)), (9, .int ((rd1 wv j xv).1)), (10, .int (rotl ((rd1 wv j xv).2.1) (nI 30))), (11, .int ((rd1 wv j xv).2.2.1)), (12, .int ((rd1 wv j xv).2.2.2.1)), (16, .int ((rd1 wv (j + 1) xv).1)), (15, .int (k1 j)), (14, .int (f1 j ((rd1 wv j xv).2.1) ((rd1 wv j xv).2.2.1) ((rd1 wv j xv).2.2.2.1))), (7, .int (nI bi)), (2, .int xv.1), (3, .int xv.2.1), (4, .int xv.2.2.1), (5, .int xv.2.2.2.1), (6, .int xv.2.2.2.2), (0, .ref h0), (1, .int (nI nb))]) hx hb dX7_firstHash_305 hl (k := 8) rfl (nI_add j 1) (by decide) rfl (fun ls hl => ?_)
                    refine lv_goto (tgt := 53) hx hb dX7_firstHash_308 (by decide) ?_
                    exact ihJ (j + 1) _ (by omega) (fun i q => by
                      rcases Nat.lt_or_ge i j with q2 | q2
                      · rw [upN_n (by omega)]; exact hi1 i q2
                      · rw [show i = j by omega, upN_s]) (by omega) _ _ h _ (lv_sub hl [0, 1, 2, 3, 4, 5, 9, 10, 11, 12, 13, 14, 15, 16] rfl)
                  refine lv_iload hx hb dX7_firstHash_215 (lv_at hl 1 rfl) ?_
                  refine lv_bipush (v := nI 20) hx hb dX7_firstHash_217 (by decide) ?_
                  refine n_icmp_ge (tgt := 227) hx hb (by omega) (by omega) dX7_firstHash_219 (by decide) (fun c219 => ?_) (fun c219 => ?_)
                  · refine lv_iload hx hb dX7_firstHash_227 (lv_at hl 1 rfl) ?_
                    refine lv_bipush (v := nI 40) hx hb dX7_firstHash_229 (by decide) ?_
                    refine n_icmp_ge (tgt := 239) hx hb (by omega) (by omega) dX7_firstHash_231 (by decide) (fun c231 => ?_) (fun c231 => ?_)
                    · refine lv_iload hx hb dX7_firstHash_239 (lv_at hl 1 rfl) ?_
                      refine lv_bipush (v := nI 60) hx hb dX7_firstHash_241 (by decide) ?_
                      refine n_icmp_ge (tgt := 251) hx hb (by omega) (by omega) dX7_firstHash_243 (by decide) (fun c243 => ?_) (fun c243 => ?_)
                      · refine lv_ldc hx hb hown (hts _ q2287) dX7_firstHash_251 ?_
                        refine n_top (y := k1 j) (by unfold k1; first | rw [if_pos (by omega)] | rw [if_neg (by omega), if_pos (by omega)] | rw [if_neg (by omega), if_neg (by omega), if_pos (by omega)] | rw [if_neg (by omega), if_neg (by omega), if_neg (by omega)]) ?_
                        exact jk   _ _ h _ (lv_sub hl [0, 1, 2, 3, 4, 5, 6, 7, 8, 9, 10, 11, 12, 13, 14] rfl)
                      · refine lv_ldc hx hb hown (hts _ q2286) dX7_firstHash_246 ?_
                        refine lv_goto (tgt := 253) hx hb dX7_firstHash_248 (by decide) ?_
                        refine n_top (y := k1 j) (by unfold k1; first | rw [if_pos (by omega)] | rw [if_neg (by omega), if_pos (by omega)] | rw [if_neg (by omega), if_neg (by omega), if_pos (by omega)] | rw [if_neg (by omega), if_neg (by omega), if_neg (by omega)]) ?_
                        exact jk   _ _ h _ (lv_sub hl [0, 1, 2, 3, 4, 5, 6, 7, 8, 9, 10, 11, 12, 13, 14] rfl)
                    · refine lv_ldc hx hb hown (hts _ q2285) dX7_firstHash_234 ?_
                      refine n_top (y := nI 1859775393) (by decide) ?_
                      refine lv_goto (tgt := 253) hx hb dX7_firstHash_236 (by decide) ?_
                      refine n_top (y := k1 j) (by unfold k1; first | rw [if_pos (by omega)] | rw [if_neg (by omega), if_pos (by omega)] | rw [if_neg (by omega), if_neg (by omega), if_pos (by omega)] | rw [if_neg (by omega), if_neg (by omega), if_neg (by omega)]) ?_
                      exact jk   _ _ h _ (lv_sub hl [0, 1, 2, 3, 4, 5, 6, 7, 8, 9, 10, 11, 12, 13, 14] rfl)
                  · refine lv_ldc hx hb hown (hts _ q2284) dX7_firstHash_222 ?_
                    refine n_top (y := nI 1518500249) (by decide) ?_
                    refine lv_goto (tgt := 253) hx hb dX7_firstHash_224 (by decide) ?_
                    refine n_top (y := k1 j) (by unfold k1; first | rw [if_pos (by omega)] | rw [if_neg (by omega), if_pos (by omega)] | rw [if_neg (by omega), if_neg (by omega), if_pos (by omega)] | rw [if_neg (by omega), if_neg (by omega), if_neg (by omega)]) ?_
                    exact jk   _ _ h _ (lv_sub hl [0, 1, 2, 3, 4, 5, 6, 7, 8, 9, 10, 11, 12, 13, 14] rfl)
                refine lv_iload hx hb dX7_firstHash_142 (lv_at hl 0 rfl) ?_
                refine lv_bipush (v := nI 20) hx hb dX7_firstHash_144 (by decide) ?_
                refine n_icmp_ge (tgt := 163) hx hb (by omega) (by omega) dX7_firstHash_146 (by decide) (fun c146 => ?_) (fun c146 => ?_)
                · refine lv_iload hx hb dX7_firstHash_163 (lv_at hl 0 rfl) ?_
                  refine lv_bipush (v := nI 40) hx hb dX7_firstHash_165 (by decide) ?_
                  refine n_icmp_ge (tgt := 181) hx hb (by omega) (by omega) dX7_firstHash_167 (by decide) (fun c167 => ?_) (fun c167 => ?_)
                  · refine lv_iload hx hb dX7_firstHash_181 (lv_at hl 0 rfl) ?_
                    refine lv_bipush (v := nI 60) hx hb dX7_firstHash_183 (by decide) ?_
                    refine n_icmp_ge (tgt := 205) hx hb (by omega) (by omega) dX7_firstHash_185 (by decide) (fun c185 => ?_) (fun c185 => ?_)
                    · refine lv_iload hx hb dX7_firstHash_205 (lv_at hl 2 rfl) ?_
                      refine lv_iload hx hb dX7_firstHash_207 (lv_at hl 3 rfl) ?_
                      refine lv_ixor hx hb dX7_firstHash_209 ?_
                      refine lv_iload hx hb dX7_firstHash_210 (lv_at hl 4 rfl) ?_
                      refine lv_ixor hx hb dX7_firstHash_212 ?_
                      refine n_top (y := f1 j ((rd1 wv j xv).2.1) ((rd1 wv j xv).2.2.1) ((rd1 wv j xv).2.2.2.1)) (by unfold f1; first | rw [if_pos (by omega)] | rw [if_neg (by omega), if_pos (by omega)] | rw [if_neg (by omega), if_neg (by omega), if_pos (by omega)] | rw [if_neg (by omega), if_neg (by omega), if_neg (by omega)]) ?_
                      exact jf   _ _ h _ (lv_sub hl [0, 1, 2, 3, 4, 5, 6, 7, 8, 9, 10, 11, 12, 13] rfl)
                    · refine lv_iload hx hb dX7_firstHash_188 (lv_at hl 2 rfl) ?_
                      refine lv_iload hx hb dX7_firstHash_190 (lv_at hl 3 rfl) ?_
                      refine lv_iand hx hb dX7_firstHash_192 ?_
                      refine lv_iload hx hb dX7_firstHash_193 (lv_at hl 4 rfl) ?_
                      refine lv_iload hx hb dX7_firstHash_195 (lv_at hl 2 rfl) ?_
                      refine lv_iload hx hb dX7_firstHash_197 (lv_at hl 3 rfl) ?_
                      refine lv_ior hx hb dX7_firstHash_199 ?_
                      refine lv_iand hx hb dX7_firstHash_200 ?_
                      refine lv_ior hx hb dX7_firstHash_201 ?_
                      refine lv_goto (tgt := 213) hx hb dX7_firstHash_202 (by decide) ?_
                      refine n_top (y := f1 j ((rd1 wv j xv).2.1) ((rd1 wv j xv).2.2.1) ((rd1 wv j xv).2.2.2.1)) (by unfold f1; first | rw [if_pos (by omega)] | rw [if_neg (by omega), if_pos (by omega)] | rw [if_neg (by omega), if_neg (by omega), if_pos (by omega)] | rw [if_neg (by omega), if_neg (by omega), if_neg (by omega)]) ?_
                      exact jf   _ _ h _ (lv_sub hl [0, 1, 2, 3, 4, 5, 6, 7, 8, 9, 10, 11, 12, 13] rfl)
                  · refine lv_iload hx hb dX7_firstHash_170 (lv_at hl 2 rfl) ?_
                    refine lv_iload hx hb dX7_firstHash_172 (lv_at hl 3 rfl) ?_
                    refine lv_ixor hx hb dX7_firstHash_174 ?_
                    refine lv_iload hx hb dX7_firstHash_175 (lv_at hl 4 rfl) ?_
                    refine lv_ixor hx hb dX7_firstHash_177 ?_
                    refine lv_goto (tgt := 213) hx hb dX7_firstHash_178 (by decide) ?_
                    refine n_top (y := f1 j ((rd1 wv j xv).2.1) ((rd1 wv j xv).2.2.1) ((rd1 wv j xv).2.2.2.1)) (by unfold f1; first | rw [if_pos (by omega)] | rw [if_neg (by omega), if_pos (by omega)] | rw [if_neg (by omega), if_neg (by omega), if_pos (by omega)] | rw [if_neg (by omega), if_neg (by omega), if_neg (by omega)]) ?_
                    exact jf   _ _ h _ (lv_sub hl [0, 1, 2, 3, 4, 5, 6, 7, 8, 9, 10, 11, 12, 13] rfl)
                · refine lv_iload hx hb dX7_firstHash_149 (lv_at hl 4 rfl) ?_
                  refine lv_iload hx hb dX7_firstHash_151 (lv_at hl 2 rfl) ?_
                  refine lv_iload hx hb dX7_firstHash_153 (lv_at hl 3 rfl) ?_
                  refine lv_iload hx hb dX7_firstHash_155 (lv_at hl 4 rfl) ?_
                  refine lv_ixor hx hb dX7_firstHash_157 ?_
                  refine lv_iand hx hb dX7_firstHash_158 ?_
                  refine lv_ixor hx hb dX7_firstHash_159 ?_
                  refine lv_goto (tgt := 213) hx hb dX7_firstHash_160 (by decide) ?_
                  refine n_top (y := f1 j ((rd1 wv j xv).2.1) ((rd1 wv j xv).2.2.1) ((rd1 wv j xv).2.2.2.1)) (by unfold f1; first | rw [if_pos (by omega)] | rw [if_neg (by omega), if_pos (by omega)] | rw [if_neg (by omega), if_neg (by omega), if_pos (by omega)] | rw [if_neg (by omega), if_neg (by omega), if_neg (by omega)]) ?_
                  exact jf   _ _ h _ (lv_sub hl [0, 1, 2, 3, 4, 5, 6, 7, 8, 9, 10, 11, 12, 13] rfl)
              refine lv_iload hx hb dX7_firstHash_66 (lv_at hl 0 rfl) ?_
              refine lv_bipush (v := nI 16) hx hb dX7_firstHash_68 (by decide) ?_
              refine n_icmp_ge (tgt := 95) hx hb (by omega) (by omega) dX7_firstHash_70 (by decide) (fun c70 => ?_) (fun c70 => ?_)
              · refine lv_aload_n hx hb dX7_firstHash_95 rfl (lv_at hl 12 rfl) ?_
                refine m_gc C h 23 (by decide) rfl rfl q1893 dX7_firstHash_96 ?_
                refine lv_iload hx hb dX7_firstHash_99 (lv_at hl 0 rfl) ?_
                refine lv_iconst (v := nI 3) hx hb dX7_firstHash_101 (by decide) ?_
                refine lv_isub hx hb dX7_firstHash_102 (n_top (y := nI (j - 3)) (pk_sub (by omega)) ?_)
                refine n_wald C h (v := Wf (j - 3)) (mw_memW (k := 23) (by decide)) (show j - 3 < 80 by omega) (by decide) rfl dX7_firstHash_103 ?_
                refine n_top (y := sW1 (blkw mm bi) (j - 3)) (by rw [hi1 _ (by omega), hwv]) ?_
                refine lv_aload_n hx hb dX7_firstHash_104 rfl (lv_at hl 12 rfl) ?_
                refine m_gc C h 23 (by decide) rfl rfl q1893 dX7_firstHash_105 ?_
                refine lv_iload hx hb dX7_firstHash_108 (lv_at hl 0 rfl) ?_
                refine lv_bipush (v := nI 8) hx hb dX7_firstHash_110 (by decide) ?_
                refine lv_isub hx hb dX7_firstHash_112 (n_top (y := nI (j - 8)) (pk_sub (by omega)) ?_)
                refine n_wald C h (v := Wf (j - 8)) (mw_memW (k := 23) (by decide)) (show j - 8 < 80 by omega) (by decide) rfl dX7_firstHash_113 ?_
                refine n_top (y := sW1 (blkw mm bi) (j - 8)) (by rw [hi1 _ (by omega), hwv]) ?_
                refine lv_ixor hx hb dX7_firstHash_114 ?_
                refine lv_aload_n hx hb dX7_firstHash_115 rfl (lv_at hl 12 rfl) ?_
                refine m_gc C h 23 (by decide) rfl rfl q1893 dX7_firstHash_116 ?_
                refine lv_iload hx hb dX7_firstHash_119 (lv_at hl 0 rfl) ?_
                refine lv_bipush (v := nI 14) hx hb dX7_firstHash_121 (by decide) ?_
                refine lv_isub hx hb dX7_firstHash_123 (n_top (y := nI (j - 14)) (pk_sub (by omega)) ?_)
                refine n_wald C h (v := Wf (j - 14)) (mw_memW (k := 23) (by decide)) (show j - 14 < 80 by omega) (by decide) rfl dX7_firstHash_124 ?_
                refine n_top (y := sW1 (blkw mm bi) (j - 14)) (by rw [hi1 _ (by omega), hwv]) ?_
                refine lv_ixor hx hb dX7_firstHash_125 ?_
                refine lv_aload_n hx hb dX7_firstHash_126 rfl (lv_at hl 12 rfl) ?_
                refine m_gc C h 23 (by decide) rfl rfl q1893 dX7_firstHash_127 ?_
                refine lv_iload hx hb dX7_firstHash_130 (lv_at hl 0 rfl) ?_
                refine lv_bipush (v := nI 16) hx hb dX7_firstHash_132 (by decide) ?_
                refine lv_isub hx hb dX7_firstHash_134 (n_top (y := nI (j - 16)) (pk_sub (by omega)) ?_)
                refine n_wald C h (v := Wf (j - 16)) (mw_memW (k := 23) (by decide)) (show j - 16 < 80 by omega) (by decide) rfl dX7_firstHash_135 ?_
                refine n_top (y := sW1 (blkw mm bi) (j - 16)) (by rw [hi1 _ (by omega), hwv]) ?_
                refine lv_ixor hx hb dX7_firstHash_136 ?_
                refine lv_iconst (v := nI 1) hx hb dX7_firstHash_137 (by decide) ?_
                refine call_S (As := [.int ((((sW1 (blkw mm bi) (j - 3)) ^^^ (sW1 (blkw mm bi) (j - 8))) ^^^ (sW1 (blkw mm bi) (j - 14))) ^^^ (sW1 (blkw mm bi) (j - 16))), .int (nI 1)]) (rest := [.int (nI j), .ref (ad 23)]) (n := 2) C h (c7_left l D dA B Z hZ _ ((((sW1 (blkw mm bi) (j - 3)) ^^^ (sW1 (blkw mm bi) (j - 8))) ^^^ (sW1 (blkw mm bi) (j - 14))) ^^^ (sW1 (blkw mm bi) (j - 16))) (nI 1)) (lw_S q2281 q2282 q138 q2283) (by decide +kernel) (by decide) (by decide) rfl hl rfl (Nat.le_of_ble_eq_true rfl) dX7_firstHash_138 (by omega) (fun _ H locs _ h => ?_)
                refine n_top (y := wv j) (by rw [hwv, sW1_hi (k := j) (by omega)]) ?_
                exact jw   _ _ h _ (lv_sub hl [0, 1, 2, 3, 4, 5, 6, 7, 8, 9, 10, 11, 12, 13] rfl)
              · refine lv_aload_n hx hb dX7_firstHash_73 rfl (lv_at hl 12 rfl) ?_
                refine m_gc C h 21 (by decide) rfl rfl q1891 dX7_firstHash_74 ?_
                refine lv_bipush (v := nI 64) hx hb dX7_firstHash_77 (by decide) ?_
                refine lv_iload hx hb dX7_firstHash_79 (lv_at hl 6 rfl) ?_
                refine lv_imul hx hb dX7_firstHash_81 (n_top (y := nI (64 * bi)) (pk_mul 64 bi) ?_)
                refine lv_iconst (v := nI 4) hx hb dX7_firstHash_82 (by decide) ?_
                refine lv_iload hx hb dX7_firstHash_83 (lv_at hl 0 rfl) ?_
                refine lv_imul hx hb dX7_firstHash_85 (n_top (y := nI (4 * j)) (pk_mul 4 j) ?_)
                refine lv_iadd hx hb dX7_firstHash_86 (n_top (y := nI ((64 * bi) + (4 * j))) (nI_add (64 * bi) (4 * j)) ?_)
                refine lv_iconst (v := nI 4) hx hb dX7_firstHash_87 (by decide) ?_
                refine call_S (As := [.ref (ad 21), .int (nI ((64 * bi) + (4 * j))), .int (nI 4)]) (rest := [.int (nI j), .ref (ad 23)]) (n := 3) C h (c7_number l D dA B Z hZ _ (ad 21) 30000 (appG (mG M 21) n (pad n)) (64 * bi + 4 * j) 4 (mw_memG (k := 21) (by decide)) (by omega) (by decide) (fun i _ => Nat.lt_trans (hb8 i) (by decide))) (lw_S q2278 q2279 q138 q2280) (by decide +kernel) (by decide) (by decide) rfl hl rfl (Nat.le_of_ble_eq_true rfl) dX7_firstHash_88 (by omega) (fun _ H locs _ h => ?_)
                refine lv_l2i (v := nI (num (sl (appG (mG M 21) n (pad n)) (64 * bi + 4 * j) 4))) hx hb dX7_firstHash_91 (lN_i _) ?_
                refine lv_goto (tgt := 141) hx hb dX7_firstHash_92 (by decide) ?_
                refine n_top (y := wv j) (by rw [hwv, sW1_lo (by omega)]; exact blkw_eq hg (by omega)) ?_
                exact jw   _ _ h _ (lv_sub hl [0, 1, 2, 3, 4, 5, 6, 7, 8, 9, 10, 11, 12, 13] rfl)
        exact loopJ _ 0 _ (by omega) (fun i q => absurd q (Nat.not_lt_zero _)) (Nat.lt_succ_self _) _ _ h _ (lv_sub hl [0, 5, 4, 3, 2, 1, 6, 7, 8, 9, 10, 11, 12, 13] rfl)
  exact loopB _ 0 _ (by omega) (Nat.lt_succ_self _) _ _ h _ (lv_sub hl [0, 5, 4, 3, 2, 1, 7, 6] rfl)
set_option maxHeartbeats 400000 in
set_option maxRecDepth 100000 in
theorem c7_secondHash (l : Launch) (D : va_G) (dA : Nat → ClassId) (B : Nat) (Z : State → Prop) (hZ : Stab B Z) (h0 : Nat) (ad : Nat → Nat) (M : MS) (F : va_W) (n : Nat) (hzR : ∀ U : State, Z U → ∃ t, va_Z "SignetRingModel" "ROUNDS" "[I" (.ref t) (bA B) U U.heap ∧ va_T .int t 64 (fun j => .int (K2 j)) (bA B) U U.heap) (h1 : mI M 20 = nI n) (h2 : n < 29900) (hby : ∀ j, mG M 21 j < 256) :
    Ct (S := (Nat → Int32) × (Nat → Int32) × (Nat → Int32)) l D dA B Z yX7_secondHash cX7_secondHash 12 none 4 0 0 [.ref h0] (mw dA h0 ad M ++ F) (fun _ => True) (fun _ => none) (fun u => mw dA h0 ad (sG (W3 (apM M 21 20 n (pad n)) u.1 u.2.1 u.2.2) 22 (appG (mG M 22) 0 (sha2 (sl (mG M 21) 0 n)))) ++ F) := by
  refine Ct.mk2 (by decide) (Nat.le_of_ble_eq_true rfl) hZ ?_
  intro p e R s m args below meth c ls Q C hr hlocks hin hQ hl h
  have C0 := C
  obtain ⟨hx, hb, hml, hown, hts, -⟩ := C0
  have hl : lv_has ls 12 [(0, .ref h0)] := hl
  obtain ⟨tR, hzZ, hzT⟩ := hzR s C.2.2.2.2.2.2.2.1
  refine lv_aload_n hx hb dX7_secondHash_0 rfl (lv_at hl 0 rfl) ?_
  refine call_V (As := []) (rest := []) (n := 0) C h (c7_close l D dA B Z hZ h0 ad M F n h1 h2) (lw_V q2268 q2270 qs72 q138 q2271) (by decide +kernel) (ci := 5) rfl rfl mw_mem0 (by decide) (by decide) rfl hl rfl (Nat.le_of_ble_eq_true rfl) dX7_secondHash_1 (by omega) (fun _ H locs _ h => ?_)
  obtain ⟨mm, hmm⟩ : ∃ mm, mm = padded (sl (mG M 21) 0 n) := ⟨_, rfl⟩
  have hlen : mm.length = n + (pad n).length := by rw [hmm]; unfold padded; rw [List.length_append, sl_len]
  have hg : sl (appG (mG M 21) n (pad n)) 0 mm.length = mm := by rw [hlen, sl_appG, hmm]; unfold padded; rw [sl_len]
  have h64 := pad_64 n
  have hpl := pad_len n
  rw [← hlen] at h64
  have hb8 : ∀ j, appG (mG M 21) n (pad n) j < 256 := appG_byte hby (fun x hx => pad_byte hx)
  obtain ⟨nb, hnb⟩ : ∃ nb, nb = mm.length / 64 := ⟨_, rfl⟩
  refine n_top (y := nI nb) (by rw [hnb, hlen]) ?_
  rw [← W3_id (apM M 21 20 n (pad n))] at h
  obtain ⟨A0, hA0⟩ : ∃ A0, A0 = mW (apM M 21 20 n (pad n)) 23 := ⟨_, rfl⟩
  obtain ⟨B0, hB0⟩ : ∃ B0, B0 = mW (apM M 21 20 n (pad n)) 24 := ⟨_, rfl⟩
  obtain ⟨C1, hC1⟩ : ∃ C1, C1 = mW (apM M 21 20 n (pad n)) 25 := ⟨_, rfl⟩
  rw [← hA0, ← hB0, ← hC1] at h
  refine lv_istore_n (lv' := [(1, .int (nI nb)), (0, .ref h0)]) hx hb dX7_secondHash_4 rfl hl (by decide) rfl (fun ls hl => ?_)
  refine lv_aload_n hx hb dX7_secondHash_5 rfl (lv_at hl 1 rfl) ?_
  refine m_gc C h 24 (by decide) rfl rfl q1894 dX7_secondHash_6 ?_
  refine lv_iconst (v := nI 0) hx hb dX7_secondHash_9 (by decide) ?_
  refine lv_ldc hx hb hown (hts _ q2296) dX7_secondHash_10 ?_
  refine n_top (y := nI 1779033703) (by decide) ?_
  refine m_wast C h 24 (v := nI 1779033703) (by decide) (n := 8) rfl (by omega) dX7_secondHash_12 (fun H locs h => ?_)
  rw [W3_24] at h
  have h : Wd D B s (mw dA h0 ad (W3 (apM M 21 20 n (pad n)) A0 (upN B0 0 (nI 1779033703)) C1) ++ F) H locs := h
  refine lv_aload_n hx hb dX7_secondHash_13 rfl (lv_at hl 1 rfl) ?_
  refine m_gc C h 24 (by decide) rfl rfl q1894 dX7_secondHash_14 ?_
  refine lv_iconst (v := nI 1) hx hb dX7_secondHash_17 (by decide) ?_
  refine lv_ldc hx hb hown (hts _ q2297) dX7_secondHash_18 ?_
  refine m_wast C h 24 (v := (-1150833019)) (by decide) (n := 8) rfl (by omega) dX7_secondHash_20 (fun H locs h => ?_)
  rw [W3_24] at h
  have h : Wd D B s (mw dA h0 ad (W3 (apM M 21 20 n (pad n)) A0 (upN (upN B0 0 (nI 1779033703)) 1 (-1150833019)) C1) ++ F) H locs := h
  refine lv_aload_n hx hb dX7_secondHash_21 rfl (lv_at hl 1 rfl) ?_
  refine m_gc C h 24 (by decide) rfl rfl q1894 dX7_secondHash_22 ?_
  refine lv_iconst (v := nI 2) hx hb dX7_secondHash_25 (by decide) ?_
  refine lv_ldc hx hb hown (hts _ q2298) dX7_secondHash_26 ?_
  refine n_top (y := nI 1013904242) (by decide) ?_
  refine m_wast C h 24 (v := nI 1013904242) (by decide) (n := 8) rfl (by omega) dX7_secondHash_28 (fun H locs h => ?_)
  rw [W3_24] at h
  have h : Wd D B s (mw dA h0 ad (W3 (apM M 21 20 n (pad n)) A0 (upN (upN (upN B0 0 (nI 1779033703)) 1 (-1150833019)) 2 (nI 1013904242)) C1) ++ F) H locs := h
  refine lv_aload_n hx hb dX7_secondHash_29 rfl (lv_at hl 1 rfl) ?_
  refine m_gc C h 24 (by decide) rfl rfl q1894 dX7_secondHash_30 ?_
  refine lv_iconst (v := nI 3) hx hb dX7_secondHash_33 (by decide) ?_
  refine lv_ldc hx hb hown (hts _ q2299) dX7_secondHash_34 ?_
  refine m_wast C h 24 (v := (-1521486534)) (by decide) (n := 8) rfl (by omega) dX7_secondHash_36 (fun H locs h => ?_)
  rw [W3_24] at h
  have h : Wd D B s (mw dA h0 ad (W3 (apM M 21 20 n (pad n)) A0 (upN (upN (upN (upN B0 0 (nI 1779033703)) 1 (-1150833019)) 2 (nI 1013904242)) 3 (-1521486534)) C1) ++ F) H locs := h
  refine lv_aload_n hx hb dX7_secondHash_37 rfl (lv_at hl 1 rfl) ?_
  refine m_gc C h 24 (by decide) rfl rfl q1894 dX7_secondHash_38 ?_
  refine lv_iconst (v := nI 4) hx hb dX7_secondHash_41 (by decide) ?_
  refine lv_ldc hx hb hown (hts _ q2300) dX7_secondHash_42 ?_
  refine n_top (y := nI 1359893119) (by decide) ?_
  refine m_wast C h 24 (v := nI 1359893119) (by decide) (n := 8) rfl (by omega) dX7_secondHash_44 (fun H locs h => ?_)
  rw [W3_24] at h
  have h : Wd D B s (mw dA h0 ad (W3 (apM M 21 20 n (pad n)) A0 (upN (upN (upN (upN (upN B0 0 (nI 1779033703)) 1 (-1150833019)) 2 (nI 1013904242)) 3 (-1521486534)) 4 (nI 1359893119)) C1) ++ F) H locs := h
  refine lv_aload_n hx hb dX7_secondHash_45 rfl (lv_at hl 1 rfl) ?_
  refine m_gc C h 24 (by decide) rfl rfl q1894 dX7_secondHash_46 ?_
  refine lv_iconst (v := nI 5) hx hb dX7_secondHash_49 (by decide) ?_
  refine lv_ldc hx hb hown (hts _ q2301) dX7_secondHash_50 ?_
  refine m_wast C h 24 (v := (-1694144372)) (by decide) (n := 8) rfl (by omega) dX7_secondHash_52 (fun H locs h => ?_)
  rw [W3_24] at h
  have h : Wd D B s (mw dA h0 ad (W3 (apM M 21 20 n (pad n)) A0 (upN (upN (upN (upN (upN (upN B0 0 (nI 1779033703)) 1 (-1150833019)) 2 (nI 1013904242)) 3 (-1521486534)) 4 (nI 1359893119)) 5 (-1694144372)) C1) ++ F) H locs := h
  refine lv_aload_n hx hb dX7_secondHash_53 rfl (lv_at hl 1 rfl) ?_
  refine m_gc C h 24 (by decide) rfl rfl q1894 dX7_secondHash_54 ?_
  refine lv_bipush (v := nI 6) hx hb dX7_secondHash_57 (by decide) ?_
  refine lv_ldc hx hb hown (hts _ q2302) dX7_secondHash_59 ?_
  refine n_top (y := nI 528734635) (by decide) ?_
  refine m_wast C h 24 (v := nI 528734635) (by decide) (n := 8) rfl (by omega) dX7_secondHash_61 (fun H locs h => ?_)
  rw [W3_24] at h
  have h : Wd D B s (mw dA h0 ad (W3 (apM M 21 20 n (pad n)) A0 (upN (upN (upN (upN (upN (upN (upN B0 0 (nI 1779033703)) 1 (-1150833019)) 2 (nI 1013904242)) 3 (-1521486534)) 4 (nI 1359893119)) 5 (-1694144372)) 6 (nI 528734635)) C1) ++ F) H locs := h
  refine lv_aload_n hx hb dX7_secondHash_62 rfl (lv_at hl 1 rfl) ?_
  refine m_gc C h 24 (by decide) rfl rfl q1894 dX7_secondHash_63 ?_
  refine lv_bipush (v := nI 7) hx hb dX7_secondHash_66 (by decide) ?_
  refine lv_ldc hx hb hown (hts _ q2303) dX7_secondHash_68 ?_
  refine n_top (y := nI 1541459225) (by decide) ?_
  refine m_wast C h 24 (v := nI 1541459225) (by decide) (n := 8) rfl (by omega) dX7_secondHash_70 (fun H locs h => ?_)
  rw [W3_24] at h
  have h : Wd D B s (mw dA h0 ad (W3 (apM M 21 20 n (pad n)) A0 (upN (upN (upN (upN (upN (upN (upN (upN B0 0 (nI 1779033703)) 1 (-1150833019)) 2 (nI 1013904242)) 3 (-1521486534)) 4 (nI 1359893119)) 5 (-1694144372)) 6 (nI 528734635)) 7 (nI 1541459225)) C1) ++ F) H locs := h
  refine lv_iconst (v := nI 0) hx hb dX7_secondHash_71 (by decide) ?_
  refine lv_istore_n (lv' := [(2, .int (nI 0)), (1, .int (nI nb)), (0, .ref h0)]) hx hb dX7_secondHash_72 rfl hl (by decide) rfl (fun ls hl => ?_)
  have hin2 : ∀ i, i < 8 → (upN (upN (upN (upN (upN (upN (upN (upN B0 0 (nI 1779033703)) 1 (-1150833019)) 2 (nI 1013904242)) 3 (-1521486534)) 4 (nI 1359893119)) 5 (-1694144372)) 6 (nI 528734635)) 7 (nI 1541459225)) i = in2 i := by
    intro i hi
    rcases (show i = 0 ∨ i = 1 ∨ i = 2 ∨ i = 3 ∨ i = 4 ∨ i = 5 ∨ i = 6 ∨ i = 7 by omega) with rfl | rfl | rfl | rfl | rfl | rfl | rfl | rfl <;> rfl
  have loopB : ∀ (nnB : Nat) (bi : Nat) (Wf Sf Nf : Nat → Int32), (bi ≤ nb) → (∀ i, i < 8 → Sf i = hs2 mm bi i) → nb - bi < nnB → ∀ (H : Heap) (locs : List Loc), Wd D B s (mw dA h0 ad (W3 (apM M 21 20 n (pad n)) Wf Sf Nf) ++ F) H locs → ∀ (ls : Array Slot), lv_has ls 12 [(2, .int (nI bi)), (1, .int (nI nb)), (0, .ref h0)] → W p l e R s m args below meth c H locs (0 + 0) (0 + 0) Q (F0 m 73 ls []) := by
    intro nnB
    induction nnB with
    | zero => intro bi  Wf Sf Nf  hi0 hi1 hme; exact absurd hme (Nat.not_lt_zero _)
    | succ nnB ihB =>
      intro bi  Wf Sf Nf  hi0 hi1 hme H locs h ls hl
      refine lv_iload_n hx hb dX7_secondHash_73 rfl (lv_at hl 0 rfl) ?_
      refine lv_iload_n hx hb dX7_secondHash_74 rfl (lv_at hl 1 rfl) ?_
      refine n_icmp_ge (tgt := 498) hx hb (by omega) (by omega) dX7_secondHash_75 (by decide) (fun c75 => ?_) (fun c75 => ?_)
      · refine lv_iconst (v := nI 0) hx hb dX7_secondHash_498 (by decide) ?_
        refine lv_istore_n (lv' := [(2, .int (nI 0)), (1, .int (nI nb)), (0, .ref h0)]) hx hb dX7_secondHash_499 rfl hl (by decide) rfl (fun ls hl => ?_)
        obtain rfl : bi = nb := by omega
        have h : Wd D B s (mw dA h0 ad (sG (W3 (apM M 21 20 n (pad n)) Wf Sf Nf) 22 (appG (mG (W3 (apM M 21 20 n (pad n)) Wf Sf Nf) 22) 0 (dg2 Sf 0))) ++ F) H locs := by
          have e : sG (W3 (apM M 21 20 n (pad n)) Wf Sf Nf) 22 (appG (mG (W3 (apM M 21 20 n (pad n)) Wf Sf Nf) 22) 0 (dg2 Sf 0)) = (W3 (apM M 21 20 n (pad n)) Wf Sf Nf) := by
            rw [show dg2 Sf 0 = [] from rfl, appG_nil]; exact sG_id _ _
          rw [e]; exact h
        have loopD : ∀ (nnD : Nat) (k : Nat), (k ≤ 8) → 8 - k < nnD → ∀ (H : Heap) (locs : List Loc), Wd D B s (mw dA h0 ad (sG (W3 (apM M 21 20 n (pad n)) Wf Sf Nf) 22 (appG (mG (W3 (apM M 21 20 n (pad n)) Wf Sf Nf) 22) 0 (dg2 Sf k))) ++ F) H locs → ∀ (ls : Array Slot), lv_has ls 12 [(2, .int (nI k)), (1, .int (nI bi)), (0, .ref h0)] → W p l e R s m args below meth c H locs (0 + 0) (0 + 0) Q (F0 m 500 ls []) := by
          intro nnD
          induction nnD with
          | zero => intro k  hi0 hme; exact absurd hme (Nat.not_lt_zero _)
          | succ nnD ihD =>
            intro k  hi0 hme H locs h ls hl
            refine lv_iload_n hx hb dX7_secondHash_500 rfl (lv_at hl 0 rfl) ?_
            refine lv_bipush (v := nI 8) hx hb dX7_secondHash_501 (by decide) ?_
            refine n_icmp_ge (tgt := 523) hx hb (by omega) (by omega) dX7_secondHash_503 (by decide) (fun c503 => ?_) (fun c503 => ?_)
            · subst hQ
              obtain rfl : k = 8 := by omega
              exact ret_v C hr hlocks h (Wf, Sf, Nf) trivial rfl (by unfold sha2; rw [← hmm, ← hnb, dg2_congr (x := Sf) hi1]; rfl) (by omega) (by omega) dX7_secondHash_523
            · refine lv_aload_n hx hb dX7_secondHash_506 rfl (lv_at hl 2 rfl) ?_
              refine lv_iload_n hx hb dX7_secondHash_507 rfl (lv_at hl 0 rfl) ?_
              refine lv_aload_n hx hb dX7_secondHash_508 rfl (lv_at hl 2 rfl) ?_
              refine m_gc C h 24 (by decide) rfl rfl q1894 dX7_secondHash_509 ?_
              refine lv_iload_n hx hb dX7_secondHash_512 rfl (lv_at hl 0 rfl) ?_
              refine n_wald C h (v := Sf k) (mw_memW (k := 24) (by decide)) (show k < 8 by omega) (by decide) rfl dX7_secondHash_513 ?_
              refine call_V (As := [.int (nI k), .int (Sf k)]) (rest := []) (n := 2) C h (c7_keep l D dA B Z hZ h0 ad (sG (W3 (apM M 21 20 n (pad n)) Wf Sf Nf) 22 (appG (mG (W3 (apM M 21 20 n (pad n)) Wf Sf Nf) 22) 0 (dg2 Sf k))) F k (Sf k) (by omega)) (lw_V q2288 q2290 qs73 q138 q2291) (by decide +kernel) (ci := 5) rfl rfl mw_mem0 (by decide) (by decide) rfl hl rfl (Nat.le_of_ble_eq_true rfl) dX7_secondHash_514 (by omega) (fun _ H locs _ h => ?_)
              rw [keep_step (M := (W3 (apM M 21 20 n (pad n)) Wf Sf Nf)) (k := k) (dg2_len _ _), ← dg2_succ] at h
              refine lv_iinc (v := nI (k + 1)) (lv' := [(2, .int (nI (k + 1))), (1, .int (nI bi)), (0, .ref h0)]) hx hb dX7_secondHash_517 hl (k := 0) rfl (nI_add k 1) (by decide) rfl (fun ls hl => ?_)
              refine lv_goto (tgt := 500) hx hb dX7_secondHash_520 (by decide) ?_
              exact ihD (k + 1) (by omega) (by omega) _ _ h _ (lv_sub hl [0, 1, 2] rfl)
        exact loopD _ 0 (by omega) (Nat.lt_succ_self _) _ _ h _ (lv_sub hl [0, 1, 2] rfl)
      · refine lv_iconst (v := nI 0) hx hb dX7_secondHash_78 (by decide) ?_
        refine lv_istore_n (lv' := [(3, .int (nI 0)), (2, .int (nI bi)), (1, .int (nI nb)), (0, .ref h0)]) hx hb dX7_secondHash_79 rfl hl (by decide) rfl (fun ls hl => ?_)
        obtain ⟨wv, hwv⟩ : ∃ wv, wv = sW2 (blkw mm bi) := ⟨_, rfl⟩
        obtain ⟨xv, hxv⟩ : ∃ xv, xv = hs2 mm bi := ⟨_, rfl⟩
        have loopN : ∀ (nnN : Nat) (k : Nat) (Nf : Nat → Int32), (k ≤ 8) → (∀ i, i < k → Nf i = xv i) → 8 - k < nnN → ∀ (H : Heap) (locs : List Loc), Wd D B s (mw dA h0 ad (W3 (apM M 21 20 n (pad n)) Wf Sf Nf) ++ F) H locs → ∀ (ls : Array Slot), lv_has ls 12 [(3, .int (nI k)), (2, .int (nI bi)), (1, .int (nI nb)), (0, .ref h0)] → W p l e R s m args below meth c H locs (0 + 0) (0 + 0) Q (F0 m 80 ls []) := by
          intro nnN
          induction nnN with
          | zero => intro k  Nf  hiN0 hiN1 hme; exact absurd hme (Nat.not_lt_zero _)
          | succ nnN ihN =>
            intro k  Nf  hiN0 hiN1 hme H locs h ls hl
            refine lv_iload_n hx hb dX7_secondHash_80 rfl (lv_at hl 0 rfl) ?_
            refine lv_bipush (v := nI 8) hx hb dX7_secondHash_81 (by decide) ?_
            refine n_icmp_ge (tgt := 104) hx hb (by omega) (by omega) dX7_secondHash_83 (by decide) (fun c83 => ?_) (fun c83 => ?_)
            · refine lv_iconst (v := nI 0) hx hb dX7_secondHash_104 (by decide) ?_
              refine lv_istore_n (lv' := [(3, .int (nI 0)), (2, .int (nI bi)), (1, .int (nI nb)), (0, .ref h0)]) hx hb dX7_secondHash_105 rfl hl (by decide) rfl (fun ls hl => ?_)
              have loopJ : ∀ (nnJ : Nat) (k : Nat) (Wf Nf : Nat → Int32), (k ≤ 64) → (∀ i, i < k → Wf i = wv i) → (∀ i, i < 8 → Nf (((64 - k) % 8 + i) % 8) = rd2 wv k xv i) → 64 - k < nnJ → ∀ (H : Heap) (locs : List Loc), Wd D B s (mw dA h0 ad (W3 (apM M 21 20 n (pad n)) Wf Sf Nf) ++ F) H locs → ∀ (ls : Array Slot), lv_has ls 12 [(3, .int (nI k)), (2, .int (nI bi)), (1, .int (nI nb)), (0, .ref h0)] → W p l e R s m args below meth c H locs (0 + 0) (0 + 0) Q (F0 m 106 ls []) := by
                intro nnJ
                induction nnJ with
                | zero => intro k  Wf Nf  hiJ0 hiJ1 hiJ2 hme; exact absurd hme (Nat.not_lt_zero _)
                | succ nnJ ihJ =>
                  intro k  Wf Nf  hiJ0 hiJ1 hiJ2 hme H locs h ls hl
                  refine lv_iload_n hx hb dX7_secondHash_106 rfl (lv_at hl 0 rfl) ?_
                  refine lv_bipush (v := nI 64) hx hb dX7_secondHash_107 (by decide) ?_
                  refine n_icmp_ge (tgt := 463) hx hb (by omega) (by omega) dX7_secondHash_109 (by decide) (fun c109 => ?_) (fun c109 => ?_)
                  · refine lv_iconst (v := nI 0) hx hb dX7_secondHash_463 (by decide) ?_
                    refine lv_istore_n (lv' := [(3, .int (nI 0)), (2, .int (nI bi)), (1, .int (nI nb)), (0, .ref h0)]) hx hb dX7_secondHash_464 rfl hl (by decide) rfl (fun ls hl => ?_)
                    have hk64 : k = 64 := by omega
                    have hE : ∀ i, i < 8 → Nf i = rd2 wv 64 xv i := fun i hi => by
                      have e := hiJ2 i hi
                      rw [hk64, show ((64 - 64) % 8 + i) % 8 = i by omega] at e; exact e
                    have loopS : ∀ (nnS : Nat) (k : Nat) (Sg : Nat → Int32), (k ≤ 8) → (∀ i, i < k → Sg i = hs2 mm (bi + 1) i) → (∀ i, i < 8 → k ≤ i → Sg i = hs2 mm bi i) → 8 - k < nnS → ∀ (H : Heap) (locs : List Loc), Wd D B s (mw dA h0 ad (W3 (apM M 21 20 n (pad n)) Wf Sg Nf) ++ F) H locs → ∀ (ls : Array Slot), lv_has ls 12 [(3, .int (nI k)), (2, .int (nI bi)), (1, .int (nI nb)), (0, .ref h0)] → W p l e R s m args below meth c H locs (0 + 0) (0 + 0) Q (F0 m 465 ls []) := by
                      intro nnS
                      induction nnS with
                      | zero => intro k  Sg  hiS0 hiS1 hiS2 hme; exact absurd hme (Nat.not_lt_zero _)
                      | succ nnS ihS =>
                        intro k  Sg  hiS0 hiS1 hiS2 hme H locs h ls hl
                        refine lv_iload_n hx hb dX7_secondHash_465 rfl (lv_at hl 0 rfl) ?_
                        refine lv_bipush (v := nI 8) hx hb dX7_secondHash_466 (by decide) ?_
                        refine n_icmp_ge (tgt := 492) hx hb (by omega) (by omega) dX7_secondHash_468 (by decide) (fun c468 => ?_) (fun c468 => ?_)
                        · refine lv_iinc (v := nI (bi + 1)) (lv' := [(2, .int (nI (bi + 1))), (3, .int (nI k)), (1, .int (nI nb)), (0, .ref h0)]) hx hb dX7_secondHash_492 hl (k := 1) rfl (nI_add bi 1) (by decide) rfl (fun ls hl => ?_)
                          refine lv_goto (tgt := 73) hx hb dX7_secondHash_495 (by decide) ?_
                          exact ihB (bi + 1) _ _ _ (by omega) (fun i hi => hiS1 i (by omega)) (by omega) _ _ h _ (lv_sub hl [0, 2, 3] rfl)
                        · refine lv_aload_n hx hb dX7_secondHash_471 rfl (lv_at hl 3 rfl) ?_
                          refine m_gc C h 24 (by decide) rfl rfl q1894 dX7_secondHash_472 ?_
                          refine lv_iload_n hx hb dX7_secondHash_475 rfl (lv_at hl 0 rfl) ?_
                          refine lv_dup2_11 hx hb dX7_secondHash_476 rfl rfl ?_
                          refine n_wald C h (v := Sg k) (mw_memW (k := 24) (by decide)) (show k < 8 by omega) (by decide) rfl dX7_secondHash_477 ?_
                          refine lv_aload_n hx hb dX7_secondHash_478 rfl (lv_at hl 3 rfl) ?_
                          refine m_gc C h 25 (by decide) rfl rfl q1895 dX7_secondHash_479 ?_
                          refine lv_iload_n hx hb dX7_secondHash_482 rfl (lv_at hl 0 rfl) ?_
                          refine n_wald C h (v := Nf k) (mw_memW (k := 25) (by decide)) (show k < 8 by omega) (by decide) rfl dX7_secondHash_483 ?_
                          refine lv_iadd hx hb dX7_secondHash_484 ?_
                          refine m_wast C h 24 (v := (Sg k) + (Nf k)) (by decide) (n := 8) rfl (by omega) dX7_secondHash_485 (fun H locs h => ?_)
                          rw [W3_24] at h
                          have h : Wd D B s (mw dA h0 ad (W3 (apM M 21 20 n (pad n)) Wf (upN Sg k ((Sg k) + (Nf k))) Nf) ++ F) H locs := h
                          refine lv_iinc (v := nI (k + 1)) (lv' := [(3, .int (nI (k + 1))), (2, .int (nI bi)), (1, .int (nI nb)), (0, .ref h0)]) hx hb dX7_secondHash_486 hl (k := 0) rfl (nI_add k 1) (by decide) rfl (fun ls hl => ?_)
                          refine lv_goto (tgt := 465) hx hb dX7_secondHash_489 (by decide) ?_
                          exact ihS (k + 1) _ (by omega) (fun i q => by
                            rcases Nat.lt_or_ge i k with q2 | q2
                            · rw [upN_n (by omega)]; exact hiS1 i q2
                            · rw [show i = k by omega, upN_s, hiS2 k (by omega) (by omega), hE k (by omega), hwv, hxv]; rfl) (fun i q q2 => by rw [upN_n (by omega)]; exact hiS2 i q (by omega)) (by omega) _ _ h _ (lv_sub hl [0, 1, 2, 3] rfl)
                    exact loopS _ 0 _ (by omega) (fun i q => absurd q (Nat.not_lt_zero _)) (fun i q _ => hi1 i q) (Nat.lt_succ_self _) _ _ h _ (lv_sub hl [0, 1, 2, 3] rfl)
                  · have jw : ∀ (Wg : Nat → Int32), (∀ i, i < k + 1 → Wg i = wv i) → ∀ (H : Heap) (locs : List Loc), Wd D B s (mw dA h0 ad (W3 (apM M 21 20 n (pad n)) Wg Sf Nf) ++ F) H locs → ∀ (ls : Array Slot), lv_has ls 12 [(3, .int (nI k)), (2, .int (nI bi)), (1, .int (nI nb)), (0, .ref h0)] → W p l e R s m args below meth c H locs (0 + 0) (0 + 0) Q (F0 m 233 ls []) := by
                      intro Wg  hWk H locs h ls hl
                      refine lv_bipush (v := nI 64) hx hb dX7_secondHash_233 (by decide) ?_
                      refine lv_iload_n hx hb dX7_secondHash_235 rfl (lv_at hl 0 rfl) ?_
                      refine lv_isub hx hb dX7_secondHash_236 (n_top (y := nI (64 - k)) (pk_sub (by omega)) ?_)
                      refine lv_bipush (v := nI 7) hx hb dX7_secondHash_237 (by decide) ?_
                      refine lv_iand hx hb dX7_secondHash_239 (n_top (y := nI ((64 - k) % 8)) (pk_andN (by omega) 3 (by decide)) ?_)
                      refine lv_istore (lv' := [(4, .int (nI ((64 - k) % 8))), (3, .int (nI k)), (2, .int (nI bi)), (1, .int (nI nb)), (0, .ref h0)]) hx hb dX7_secondHash_240 hl (by decide) rfl (fun ls hl => ?_)
                      refine lv_aload_n hx hb dX7_secondHash_242 rfl (lv_at hl 4 rfl) ?_
                      refine m_gc C h 25 (by decide) rfl rfl q1895 dX7_secondHash_243 ?_
                      refine lv_iload hx hb dX7_secondHash_246 (lv_at hl 0 rfl) ?_
                      refine lv_iconst (v := nI 4) hx hb dX7_secondHash_248 (by decide) ?_
                      refine lv_iadd hx hb dX7_secondHash_249 (n_top (y := nI (((64 - k) % 8) + 4)) (nI_add ((64 - k) % 8) 4) ?_)
                      refine lv_bipush (v := nI 7) hx hb dX7_secondHash_250 (by decide) ?_
                      refine lv_iand hx hb dX7_secondHash_252 (n_top (y := nI ((((64 - k) % 8) + 4) % 8)) (pk_andN (by omega) 3 (by decide)) ?_)
                      refine n_wald C h (v := Nf ((((64 - k) % 8) + 4) % 8)) (mw_memW (k := 25) (by decide)) (show (((64 - k) % 8) + 4) % 8 < 8 by omega) (by decide) rfl dX7_secondHash_253 ?_
                      refine n_top (y := rd2 wv k xv 4) (hiJ2 4 (by decide)) ?_
                      refine lv_istore (lv' := [(5, .int (rd2 wv k xv 4)), (4, .int (nI ((64 - k) % 8))), (3, .int (nI k)), (2, .int (nI bi)), (1, .int (nI nb)), (0, .ref h0)]) hx hb dX7_secondHash_254 hl (by decide) rfl (fun ls hl => ?_)
                      refine lv_aload_n hx hb dX7_secondHash_256 rfl (lv_at hl 5 rfl) ?_
                      refine m_gc C h 25 (by decide) rfl rfl q1895 dX7_secondHash_257 ?_
                      refine lv_iload hx hb dX7_secondHash_260 (lv_at hl 1 rfl) ?_
                      refine lv_iconst (v := nI 5) hx hb dX7_secondHash_262 (by decide) ?_
                      refine lv_iadd hx hb dX7_secondHash_263 (n_top (y := nI (((64 - k) % 8) + 5)) (nI_add ((64 - k) % 8) 5) ?_)
                      refine lv_bipush (v := nI 7) hx hb dX7_secondHash_264 (by decide) ?_
                      refine lv_iand hx hb dX7_secondHash_266 (n_top (y := nI ((((64 - k) % 8) + 5) % 8)) (pk_andN (by omega) 3 (by decide)) ?_)
                      refine n_wald C h (v := Nf ((((64 - k) % 8) + 5) % 8)) (mw_memW (k := 25) (by decide)) (show (((64 - k) % 8) + 5) % 8 < 8 by omega) (by decide) rfl dX7_secondHash_267 ?_
                      refine n_top (y := rd2 wv k xv 5) (hiJ2 5 (by decide)) ?_
                      refine lv_istore (lv' := [(6, .int (rd2 wv k xv 5)), (5, .int (rd2 wv k xv 4)), (4, .int (nI ((64 - k) % 8))), (3, .int (nI k)), (2, .int (nI bi)), (1, .int (nI nb)), (0, .ref h0)]) hx hb dX7_secondHash_268 hl (by decide) rfl (fun ls hl => ?_)
                      refine lv_aload_n hx hb dX7_secondHash_270 rfl (lv_at hl 6 rfl) ?_
                      refine m_gc C h 25 (by decide) rfl rfl q1895 dX7_secondHash_271 ?_
                      refine lv_iload hx hb dX7_secondHash_274 (lv_at hl 2 rfl) ?_
                      refine lv_bipush (v := nI 6) hx hb dX7_secondHash_276 (by decide) ?_
                      refine lv_iadd hx hb dX7_secondHash_278 (n_top (y := nI (((64 - k) % 8) + 6)) (nI_add ((64 - k) % 8) 6) ?_)
                      refine lv_bipush (v := nI 7) hx hb dX7_secondHash_279 (by decide) ?_
                      refine lv_iand hx hb dX7_secondHash_281 (n_top (y := nI ((((64 - k) % 8) + 6) % 8)) (pk_andN (by omega) 3 (by decide)) ?_)
                      refine n_wald C h (v := Nf ((((64 - k) % 8) + 6) % 8)) (mw_memW (k := 25) (by decide)) (show (((64 - k) % 8) + 6) % 8 < 8 by omega) (by decide) rfl dX7_secondHash_282 ?_
                      refine n_top (y := rd2 wv k xv 6) (hiJ2 6 (by decide)) ?_
                      refine lv_istore (lv' := [(7, .int (rd2 wv k xv 6)), (6, .int (rd2 wv k xv 5)), (5, .int (rd2 wv k xv 4)), (4, .int (nI ((64 - k) % 8))), (3, .int (nI k)), (2, .int (nI bi)), (1, .int (nI nb)), (0, .ref h0)]) hx hb dX7_secondHash_283 hl (by decide) rfl (fun ls hl => ?_)
                      refine lv_aload_n hx hb dX7_secondHash_285 rfl (lv_at hl 7 rfl) ?_
                      refine m_gc C h 25 (by decide) rfl rfl q1895 dX7_secondHash_286 ?_
                      refine lv_iload hx hb dX7_secondHash_289 (lv_at hl 3 rfl) ?_
                      refine lv_bipush (v := nI 7) hx hb dX7_secondHash_291 (by decide) ?_
                      refine lv_iadd hx hb dX7_secondHash_293 (n_top (y := nI (((64 - k) % 8) + 7)) (nI_add ((64 - k) % 8) 7) ?_)
                      refine lv_bipush (v := nI 7) hx hb dX7_secondHash_294 (by decide) ?_
                      refine lv_iand hx hb dX7_secondHash_296 (n_top (y := nI ((((64 - k) % 8) + 7) % 8)) (pk_andN (by omega) 3 (by decide)) ?_)
                      refine n_wald C h (v := Nf ((((64 - k) % 8) + 7) % 8)) (mw_memW (k := 25) (by decide)) (show (((64 - k) % 8) + 7) % 8 < 8 by omega) (by decide) rfl dX7_secondHash_297 ?_
                      refine n_top (y := rd2 wv k xv 7) (hiJ2 7 (by decide)) ?_
                      refine lv_iload hx hb dX7_secondHash_298 (lv_at hl 2 rfl) ?_
                      refine lv_bipush (v := nI 26) hx hb dX7_secondHash_300 (by decide) ?_
                      refine call_S (As := [.int (rd2 wv k xv 4), .int (nI 26)]) (rest := [.int (rd2 wv k xv 7)]) (n := 2) C h (c7_left l D dA B Z hZ _ (rd2 wv k xv 4) (nI 26)) (lw_S q2281 q2282 q138 q2283) (by decide +kernel) (by decide) (by decide) rfl hl rfl (Nat.le_of_ble_eq_true rfl) dX7_secondHash_302 (by omega) (fun _ H locs _ h => ?_)
                      refine lv_iload hx hb dX7_secondHash_305 (lv_at hl 2 rfl) ?_
                      refine lv_bipush (v := nI 21) hx hb dX7_secondHash_307 (by decide) ?_
                      refine call_S (As := [.int (rd2 wv k xv 4), .int (nI 21)]) (rest := [.int (rotl (rd2 wv k xv 4) (nI 26)), .int (rd2 wv k xv 7)]) (n := 2) C h (c7_left l D dA B Z hZ _ (rd2 wv k xv 4) (nI 21)) (lw_S q2281 q2282 q138 q2283) (by decide +kernel) (by decide) (by decide) rfl hl rfl (Nat.le_of_ble_eq_true rfl) dX7_secondHash_309 (by omega) (fun _ H locs _ h => ?_)
                      refine lv_ixor hx hb dX7_secondHash_312 ?_
                      refine lv_iload hx hb dX7_secondHash_313 (lv_at hl 2 rfl) ?_
                      refine lv_bipush (v := nI 7) hx hb dX7_secondHash_315 (by decide) ?_
                      refine call_S (As := [.int (rd2 wv k xv 4), .int (nI 7)]) (rest := [.int ((rotl (rd2 wv k xv 4) (nI 26)) ^^^ (rotl (rd2 wv k xv 4) (nI 21))), .int (rd2 wv k xv 7)]) (n := 2) C h (c7_left l D dA B Z hZ _ (rd2 wv k xv 4) (nI 7)) (lw_S q2281 q2282 q138 q2283) (by decide +kernel) (by decide) (by decide) rfl hl rfl (Nat.le_of_ble_eq_true rfl) dX7_secondHash_317 (by omega) (fun _ H locs _ h => ?_)
                      refine lv_ixor hx hb dX7_secondHash_320 ?_
                      refine lv_iadd hx hb dX7_secondHash_321 ?_
                      refine lv_iload hx hb dX7_secondHash_322 (lv_at hl 0 rfl) ?_
                      refine lv_iload hx hb dX7_secondHash_324 (lv_at hl 2 rfl) ?_
                      refine lv_iload hx hb dX7_secondHash_326 (lv_at hl 1 rfl) ?_
                      refine lv_iload hx hb dX7_secondHash_328 (lv_at hl 0 rfl) ?_
                      refine lv_ixor hx hb dX7_secondHash_330 ?_
                      refine lv_iand hx hb dX7_secondHash_331 ?_
                      refine lv_ixor hx hb dX7_secondHash_332 ?_
                      refine lv_iadd hx hb dX7_secondHash_333 ?_
                      refine va_gets hx hb hzZ h.2.2 hown (hts _ q2304) (fun _ h9 => h9) dX7_secondHash_334 ?_
                      refine lv_iload_n hx hb dX7_secondHash_337 rfl (lv_at hl 4 rfl) ?_
                      refine va_ti hx hb hzT h.2.2 (vp_in_nI (n := k) (by omega) (by decide)) (v := .int (K2 k)) (by rw [nI_clamp (by omega)]) dX7_secondHash_338 ?_
                      refine lv_iadd hx hb dX7_secondHash_339 ?_
                      refine lv_aload_n hx hb dX7_secondHash_340 rfl (lv_at hl 7 rfl) ?_
                      refine m_gc C h 23 (by decide) rfl rfl q1893 dX7_secondHash_341 ?_
                      refine lv_iload_n hx hb dX7_secondHash_344 rfl (lv_at hl 4 rfl) ?_
                      refine n_wald C h (v := Wg k) (mw_memW (k := 23) (by decide)) (show k < 80 by omega) (by decide) rfl dX7_secondHash_345 ?_
                      refine n_top (y := wv k) (hWk k (by omega)) ?_
                      refine lv_iadd hx hb dX7_secondHash_346 ?_
                      refine n_top (y := one2 wv k (rd2 wv k xv)) rfl ?_
                      refine lv_istore (lv' := [(8, .int (one2 wv k (rd2 wv k xv))), (7, .int (rd2 wv k xv 6)), (6, .int (rd2 wv k xv 5)), (5, .int (rd2 wv k xv 4)), (4, .int (nI ((64 - k) % 8))), (3, .int (nI k)), (2, .int (nI bi)), (1, .int (nI nb)), (0, .ref h0)]) hx hb dX7_secondHash_347 hl (by decide) rfl (fun ls hl => ?_)
                      refine lv_aload_n hx hb dX7_secondHash_349 rfl (lv_at hl 8 rfl) ?_
                      refine m_gc C h 25 (by decide) rfl rfl q1895 dX7_secondHash_350 ?_
                      refine lv_iload hx hb dX7_secondHash_353 (lv_at hl 4 rfl) ?_
                      refine n_wald C h (v := Nf ((64 - k) % 8)) (mw_memW (k := 25) (by decide)) (show (64 - k) % 8 < 8 by omega) (by decide) rfl dX7_secondHash_355 ?_
                      refine n_top (y := rd2 wv k xv 0) (by
                        have e := hiJ2 0 (by decide)
                        rw [show ((64 - k) % 8 + 0) % 8 = (64 - k) % 8 by omega] at e; exact e) ?_
                      refine lv_istore (lv' := [(9, .int (rd2 wv k xv 0)), (8, .int (one2 wv k (rd2 wv k xv))), (7, .int (rd2 wv k xv 6)), (6, .int (rd2 wv k xv 5)), (5, .int (rd2 wv k xv 4)), (4, .int (nI ((64 - k) % 8))), (3, .int (nI k)), (2, .int (nI bi)), (1, .int (nI nb)), (0, .ref h0)]) hx hb dX7_secondHash_356 hl (by decide) rfl (fun ls hl => ?_)
                      refine lv_aload_n hx hb dX7_secondHash_358 rfl (lv_at hl 9 rfl) ?_
                      refine m_gc C h 25 (by decide) rfl rfl q1895 dX7_secondHash_359 ?_
                      refine lv_iload hx hb dX7_secondHash_362 (lv_at hl 5 rfl) ?_
                      refine lv_iconst (v := nI 1) hx hb dX7_secondHash_364 (by decide) ?_
                      refine lv_iadd hx hb dX7_secondHash_365 (n_top (y := nI (((64 - k) % 8) + 1)) (nI_add ((64 - k) % 8) 1) ?_)
                      refine lv_bipush (v := nI 7) hx hb dX7_secondHash_366 (by decide) ?_
                      refine lv_iand hx hb dX7_secondHash_368 (n_top (y := nI ((((64 - k) % 8) + 1) % 8)) (pk_andN (by omega) 3 (by decide)) ?_)
                      refine n_wald C h (v := Nf ((((64 - k) % 8) + 1) % 8)) (mw_memW (k := 25) (by decide)) (show (((64 - k) % 8) + 1) % 8 < 8 by omega) (by decide) rfl dX7_secondHash_369 ?_
                      refine n_top (y := rd2 wv k xv 1) (hiJ2 1 (by decide)) ?_
                      refine lv_istore (lv' := [(10, .int (rd2 wv k xv 1)), (9, .int (rd2 wv k xv 0)), (8, .int (one2 wv k (rd2 wv k xv))), (7, .int (rd2 wv k xv 6)), (6, .int (rd2 wv k xv 5)), (5, .int (rd2 wv k xv 4)), (4, .int (nI ((64 - k) % 8))), (3, .int (nI k)), (2, .int (nI bi)), (1, .int (nI nb)), (0, .ref h0)]) hx hb dX7_secondHash_370 hl (by decide) rfl (fun ls hl => ?_)
                      refine lv_aload_n hx hb dX7_secondHash_372 rfl (lv_at hl 10 rfl) ?_
                      refine m_gc C h 25 (by decide) rfl rfl q1895 dX7_secondHash_373 ?_
                      refine lv_iload hx hb dX7_secondHash_376 (lv_at hl 6 rfl) ?_
                      refine lv_iconst (v := nI 2) hx hb dX7_secondHash_378 (by decide) ?_
                      refine lv_iadd hx hb dX7_secondHash_379 (n_top (y := nI (((64 - k) % 8) + 2)) (nI_add ((64 - k) % 8) 2) ?_)
                      refine lv_bipush (v := nI 7) hx hb dX7_secondHash_380 (by decide) ?_
                      refine lv_iand hx hb dX7_secondHash_382 (n_top (y := nI ((((64 - k) % 8) + 2) % 8)) (pk_andN (by omega) 3 (by decide)) ?_)
                      refine n_wald C h (v := Nf ((((64 - k) % 8) + 2) % 8)) (mw_memW (k := 25) (by decide)) (show (((64 - k) % 8) + 2) % 8 < 8 by omega) (by decide) rfl dX7_secondHash_383 ?_
                      refine n_top (y := rd2 wv k xv 2) (hiJ2 2 (by decide)) ?_
                      refine lv_istore (lv' := [(11, .int (rd2 wv k xv 2)), (10, .int (rd2 wv k xv 1)), (9, .int (rd2 wv k xv 0)), (8, .int (one2 wv k (rd2 wv k xv))), (7, .int (rd2 wv k xv 6)), (6, .int (rd2 wv k xv 5)), (5, .int (rd2 wv k xv 4)), (4, .int (nI ((64 - k) % 8))), (3, .int (nI k)), (2, .int (nI bi)), (1, .int (nI nb)), (0, .ref h0)]) hx hb dX7_secondHash_384 hl (by decide) rfl (fun ls hl => ?_)
                      refine lv_aload_n hx hb dX7_secondHash_386 rfl (lv_at hl 11 rfl) ?_
                      refine m_gc C h 25 (by decide) rfl rfl q1895 dX7_secondHash_387 ?_
                      refine lv_iload hx hb dX7_secondHash_390 (lv_at hl 7 rfl) ?_
                      refine lv_iconst (v := nI 3) hx hb dX7_secondHash_392 (by decide) ?_
                      refine lv_iadd hx hb dX7_secondHash_393 (n_top (y := nI (((64 - k) % 8) + 3)) (nI_add ((64 - k) % 8) 3) ?_)
                      refine lv_bipush (v := nI 7) hx hb dX7_secondHash_394 (by decide) ?_
                      refine lv_iand hx hb dX7_secondHash_396 (n_top (y := nI ((((64 - k) % 8) + 3) % 8)) (pk_andN (by omega) 3 (by decide)) ?_)
                      refine lv_dup2_11 hx hb dX7_secondHash_397 rfl rfl ?_
                      refine n_wald C h (v := Nf ((((64 - k) % 8) + 3) % 8)) (mw_memW (k := 25) (by decide)) (show (((64 - k) % 8) + 3) % 8 < 8 by omega) (by decide) rfl dX7_secondHash_398 ?_
                      refine n_top (y := rd2 wv k xv 3) (hiJ2 3 (by decide)) ?_
                      refine lv_iload hx hb dX7_secondHash_399 (lv_at hl 3 rfl) ?_
                      refine lv_iadd hx hb dX7_secondHash_401 ?_
                      refine n_top (y := rd2 wv k xv 3 + one2 wv k (rd2 wv k xv)) rfl ?_
                      refine m_wast C h 25 (v := rd2 wv k xv 3 + one2 wv k (rd2 wv k xv)) (by decide) (n := 8) rfl (by omega) dX7_secondHash_402 (fun H locs h => ?_)
                      rw [W3_25] at h
                      have h : Wd D B s (mw dA h0 ad (W3 (apM M 21 20 n (pad n)) Wg Sf (upN Nf ((((64 - k) % 8) + 3) % 8) (rd2 wv k xv 3 + one2 wv k (rd2 wv k xv)))) ++ F) H locs := h
                      refine lv_aload_n hx hb dX7_secondHash_403 rfl (lv_at hl 11 rfl) ?_
                      refine m_gc C h 25 (by decide) rfl rfl q1895 dX7_secondHash_404 ?_
                      refine lv_iload hx hb dX7_secondHash_407 (lv_at hl 7 rfl) ?_
                      refine lv_bipush (v := nI 7) hx hb dX7_secondHash_409 (by decide) ?_
                      refine lv_iadd hx hb dX7_secondHash_411 (n_top (y := nI (((64 - k) % 8) + 7)) (nI_add ((64 - k) % 8) 7) ?_)
                      refine lv_bipush (v := nI 7) hx hb dX7_secondHash_412 (by decide) ?_
                      refine lv_iand hx hb dX7_secondHash_414 (n_top (y := nI ((((64 - k) % 8) + 7) % 8)) (pk_andN (by omega) 3 (by decide)) ?_)
                      refine lv_iload hx hb dX7_secondHash_415 (lv_at hl 3 rfl) ?_
                      refine lv_iload hx hb dX7_secondHash_417 (lv_at hl 2 rfl) ?_
                      refine lv_bipush (v := nI 30) hx hb dX7_secondHash_419 (by decide) ?_
                      refine call_S (As := [.int (rd2 wv k xv 0), .int (nI 30)]) (rest := [.int (one2 wv k (rd2 wv k xv)), .int (nI ((((64 - k) % 8) + 7) % 8)), .ref (ad 25)]) (n := 2) C h (c7_left l D dA B Z hZ _ (rd2 wv k xv 0) (nI 30)) (lw_S q2281 q2282 q138 q2283) (by decide +kernel) (by decide) (by decide) rfl hl rfl (Nat.le_of_ble_eq_true rfl) dX7_secondHash_421 (by omega) (fun _ H locs _ h => ?_)
                      refine lv_iload hx hb dX7_secondHash_424 (lv_at hl 2 rfl) ?_
                      refine lv_bipush (v := nI 19) hx hb dX7_secondHash_426 (by decide) ?_
                      refine call_S (As := [.int (rd2 wv k xv 0), .int (nI 19)]) (rest := [.int (rotl (rd2 wv k xv 0) (nI 30)), .int (one2 wv k (rd2 wv k xv)), .int (nI ((((64 - k) % 8) + 7) % 8)), .ref (ad 25)]) (n := 2) C h (c7_left l D dA B Z hZ _ (rd2 wv k xv 0) (nI 19)) (lw_S q2281 q2282 q138 q2283) (by decide +kernel) (by decide) (by decide) rfl hl rfl (Nat.le_of_ble_eq_true rfl) dX7_secondHash_428 (by omega) (fun _ H locs _ h => ?_)
                      refine lv_ixor hx hb dX7_secondHash_431 ?_
                      refine lv_iload hx hb dX7_secondHash_432 (lv_at hl 2 rfl) ?_
                      refine lv_bipush (v := nI 10) hx hb dX7_secondHash_434 (by decide) ?_
                      refine call_S (As := [.int (rd2 wv k xv 0), .int (nI 10)]) (rest := [.int ((rotl (rd2 wv k xv 0) (nI 30)) ^^^ (rotl (rd2 wv k xv 0) (nI 19))), .int (one2 wv k (rd2 wv k xv)), .int (nI ((((64 - k) % 8) + 7) % 8)), .ref (ad 25)]) (n := 2) C h (c7_left l D dA B Z hZ _ (rd2 wv k xv 0) (nI 10)) (lw_S q2281 q2282 q138 q2283) (by decide +kernel) (by decide) (by decide) rfl hl rfl (Nat.le_of_ble_eq_true rfl) dX7_secondHash_436 (by omega) (fun _ H locs _ h => ?_)
                      refine lv_ixor hx hb dX7_secondHash_439 ?_
                      refine lv_iadd hx hb dX7_secondHash_440 ?_
                      refine lv_iload hx hb dX7_secondHash_441 (lv_at hl 2 rfl) ?_
                      refine lv_iload hx hb dX7_secondHash_443 (lv_at hl 1 rfl) ?_
                      refine lv_iand hx hb dX7_secondHash_445 ?_
                      refine lv_iload hx hb dX7_secondHash_446 (lv_at hl 0 rfl) ?_
                      refine lv_iload hx hb dX7_secondHash_448 (lv_at hl 2 rfl) ?_
                      refine lv_iload hx hb dX7_secondHash_450 (lv_at hl 1 rfl) ?_
                      refine lv_ior hx hb dX7_secondHash_452 ?_
                      refine lv_iand hx hb dX7_secondHash_453 ?_
                      refine lv_ior hx hb dX7_secondHash_454 ?_
                      refine lv_iadd hx hb dX7_secondHash_455 ?_
                      refine n_top (y := new2 wv k (rd2 wv k xv)) rfl ?_
                      refine m_wast C h 25 (v := new2 wv k (rd2 wv k xv)) (by decide) (n := 8) rfl (by omega) dX7_secondHash_456 (fun H locs h => ?_)
                      rw [W3_25] at h
                      have h : Wd D B s (mw dA h0 ad (W3 (apM M 21 20 n (pad n)) Wg Sf (upN (upN Nf ((((64 - k) % 8) + 3) % 8) (rd2 wv k xv 3 + one2 wv k (rd2 wv k xv))) ((((64 - k) % 8) + 7) % 8) (new2 wv k (rd2 wv k xv)))) ++ F) H locs := h
                      refine lv_iinc (v := nI (k + 1)) (lv' := [(3, .int (nI (k + 1))), (11, .int (rd2 wv k xv 2)), (10, .int (rd2 wv k xv 1)), (9, .int (rd2 wv k xv 0)), (8, .int (one2 wv k (rd2 wv k xv))), (7, .int (rd2 wv k xv 6)), (6, .int (rd2 wv k xv 5)), (5, .int (rd2 wv k xv 4)), (4, .int (nI ((64 - k) % 8))), (2, .int (nI bi)), (1, .int (nI nb)), (0, .ref h0)]) hx hb dX7_secondHash_457 hl (k := 8) rfl (nI_add k 1) (by decide) rfl (fun ls hl => ?_)
                      refine lv_goto (tgt := 106) hx hb dX7_secondHash_460 (by decide) ?_
                      exact ihJ (k + 1) _ _ (by omega) hWk (fun i q => turn8 (x := rd2 wv k xv) (w := wv) (by omega) hiJ2 i q) (by omega) _ _ h _ (lv_sub hl [0, 9, 10, 11] rfl)
                    refine lv_iload_n hx hb dX7_secondHash_112 rfl (lv_at hl 0 rfl) ?_
                    refine lv_bipush (v := nI 16) hx hb dX7_secondHash_113 (by decide) ?_
                    refine n_icmp_ge (tgt := 144) hx hb (by omega) (by omega) dX7_secondHash_115 (by decide) (fun c115 => ?_) (fun c115 => ?_)
                    · refine lv_aload_n hx hb dX7_secondHash_144 rfl (lv_at hl 3 rfl) ?_
                      refine m_gc C h 23 (by decide) rfl rfl q1893 dX7_secondHash_145 ?_
                      refine lv_iload_n hx hb dX7_secondHash_148 rfl (lv_at hl 0 rfl) ?_
                      refine lv_bipush (v := nI 15) hx hb dX7_secondHash_149 (by decide) ?_
                      refine lv_isub hx hb dX7_secondHash_151 (n_top (y := nI (k - 15)) (pk_sub (by omega)) ?_)
                      refine n_wald C h (v := Wf (k - 15)) (mw_memW (k := 23) (by decide)) (show k - 15 < 80 by omega) (by decide) rfl dX7_secondHash_152 ?_
                      refine n_top (y := sW2 (blkw mm bi) (k - 15)) (by rw [hiJ1 _ (by omega), hwv]) ?_
                      refine lv_istore (lv' := [(4, .int (sW2 (blkw mm bi) (k - 15))), (3, .int (nI k)), (2, .int (nI bi)), (1, .int (nI nb)), (0, .ref h0)]) hx hb dX7_secondHash_153 hl (by decide) rfl (fun ls hl => ?_)
                      refine lv_aload_n hx hb dX7_secondHash_155 rfl (lv_at hl 4 rfl) ?_
                      refine m_gc C h 23 (by decide) rfl rfl q1893 dX7_secondHash_156 ?_
                      refine lv_iload_n hx hb dX7_secondHash_159 rfl (lv_at hl 1 rfl) ?_
                      refine lv_iconst (v := nI 2) hx hb dX7_secondHash_160 (by decide) ?_
                      refine lv_isub hx hb dX7_secondHash_161 (n_top (y := nI (k - 2)) (pk_sub (by omega)) ?_)
                      refine n_wald C h (v := Wf (k - 2)) (mw_memW (k := 23) (by decide)) (show k - 2 < 80 by omega) (by decide) rfl dX7_secondHash_162 ?_
                      refine n_top (y := sW2 (blkw mm bi) (k - 2)) (by rw [hiJ1 _ (by omega), hwv]) ?_
                      refine lv_istore (lv' := [(5, .int (sW2 (blkw mm bi) (k - 2))), (4, .int (sW2 (blkw mm bi) (k - 15))), (3, .int (nI k)), (2, .int (nI bi)), (1, .int (nI nb)), (0, .ref h0)]) hx hb dX7_secondHash_163 hl (by decide) rfl (fun ls hl => ?_)
                      refine lv_aload_n hx hb dX7_secondHash_165 rfl (lv_at hl 5 rfl) ?_
                      refine m_gc C h 23 (by decide) rfl rfl q1893 dX7_secondHash_166 ?_
                      refine lv_iload_n hx hb dX7_secondHash_169 rfl (lv_at hl 2 rfl) ?_
                      refine lv_aload_n hx hb dX7_secondHash_170 rfl (lv_at hl 5 rfl) ?_
                      refine m_gc C h 23 (by decide) rfl rfl q1893 dX7_secondHash_171 ?_
                      refine lv_iload_n hx hb dX7_secondHash_174 rfl (lv_at hl 2 rfl) ?_
                      refine lv_bipush (v := nI 16) hx hb dX7_secondHash_175 (by decide) ?_
                      refine lv_isub hx hb dX7_secondHash_177 (n_top (y := nI (k - 16)) (pk_sub (by omega)) ?_)
                      refine n_wald C h (v := Wf (k - 16)) (mw_memW (k := 23) (by decide)) (show k - 16 < 80 by omega) (by decide) rfl dX7_secondHash_178 ?_
                      refine n_top (y := sW2 (blkw mm bi) (k - 16)) (by rw [hiJ1 _ (by omega), hwv]) ?_
                      refine lv_aload_n hx hb dX7_secondHash_179 rfl (lv_at hl 5 rfl) ?_
                      refine m_gc C h 23 (by decide) rfl rfl q1893 dX7_secondHash_180 ?_
                      refine lv_iload_n hx hb dX7_secondHash_183 rfl (lv_at hl 2 rfl) ?_
                      refine lv_bipush (v := nI 7) hx hb dX7_secondHash_184 (by decide) ?_
                      refine lv_isub hx hb dX7_secondHash_186 (n_top (y := nI (k - 7)) (pk_sub (by omega)) ?_)
                      refine n_wald C h (v := Wf (k - 7)) (mw_memW (k := 23) (by decide)) (show k - 7 < 80 by omega) (by decide) rfl dX7_secondHash_187 ?_
                      refine n_top (y := sW2 (blkw mm bi) (k - 7)) (by rw [hiJ1 _ (by omega), hwv]) ?_
                      refine lv_iadd hx hb dX7_secondHash_188 ?_
                      refine lv_iload hx hb dX7_secondHash_189 (lv_at hl 1 rfl) ?_
                      refine lv_bipush (v := nI 25) hx hb dX7_secondHash_191 (by decide) ?_
                      refine call_S (As := [.int (sW2 (blkw mm bi) (k - 15)), .int (nI 25)]) (rest := [.int ((sW2 (blkw mm bi) (k - 16)) + (sW2 (blkw mm bi) (k - 7))), .int (nI k), .ref (ad 23)]) (n := 2) C h (c7_left l D dA B Z hZ _ (sW2 (blkw mm bi) (k - 15)) (nI 25)) (lw_S q2281 q2282 q138 q2283) (by decide +kernel) (by decide) (by decide) rfl hl rfl (Nat.le_of_ble_eq_true rfl) dX7_secondHash_193 (by omega) (fun _ H locs _ h => ?_)
                      refine lv_iload hx hb dX7_secondHash_196 (lv_at hl 1 rfl) ?_
                      refine lv_bipush (v := nI 14) hx hb dX7_secondHash_198 (by decide) ?_
                      refine call_S (As := [.int (sW2 (blkw mm bi) (k - 15)), .int (nI 14)]) (rest := [.int (rotl (sW2 (blkw mm bi) (k - 15)) (nI 25)), .int ((sW2 (blkw mm bi) (k - 16)) + (sW2 (blkw mm bi) (k - 7))), .int (nI k), .ref (ad 23)]) (n := 2) C h (c7_left l D dA B Z hZ _ (sW2 (blkw mm bi) (k - 15)) (nI 14)) (lw_S q2281 q2282 q138 q2283) (by decide +kernel) (by decide) (by decide) rfl hl rfl (Nat.le_of_ble_eq_true rfl) dX7_secondHash_200 (by omega) (fun _ H locs _ h => ?_)
                      refine lv_ixor hx hb dX7_secondHash_203 ?_
                      refine lv_iload hx hb dX7_secondHash_204 (lv_at hl 1 rfl) ?_
                      refine lv_iconst (v := nI 3) hx hb dX7_secondHash_206 (by decide) ?_
                      refine n_iushr hx hb dX7_secondHash_207 ?_
                      refine lv_ixor hx hb dX7_secondHash_208 ?_
                      refine lv_iadd hx hb dX7_secondHash_209 ?_
                      refine lv_iload hx hb dX7_secondHash_210 (lv_at hl 0 rfl) ?_
                      refine lv_bipush (v := nI 15) hx hb dX7_secondHash_212 (by decide) ?_
                      refine call_S (As := [.int (sW2 (blkw mm bi) (k - 2)), .int (nI 15)]) (rest := [.int (((sW2 (blkw mm bi) (k - 16)) + (sW2 (blkw mm bi) (k - 7))) + (((rotl (sW2 (blkw mm bi) (k - 15)) (nI 25)) ^^^ (rotl (sW2 (blkw mm bi) (k - 15)) (nI 14))) ^^^ (ushr (sW2 (blkw mm bi) (k - 15)) (nI 3)))), .int (nI k), .ref (ad 23)]) (n := 2) C h (c7_left l D dA B Z hZ _ (sW2 (blkw mm bi) (k - 2)) (nI 15)) (lw_S q2281 q2282 q138 q2283) (by decide +kernel) (by decide) (by decide) rfl hl rfl (Nat.le_of_ble_eq_true rfl) dX7_secondHash_214 (by omega) (fun _ H locs _ h => ?_)
                      refine lv_iload hx hb dX7_secondHash_217 (lv_at hl 0 rfl) ?_
                      refine lv_bipush (v := nI 13) hx hb dX7_secondHash_219 (by decide) ?_
                      refine call_S (As := [.int (sW2 (blkw mm bi) (k - 2)), .int (nI 13)]) (rest := [.int (rotl (sW2 (blkw mm bi) (k - 2)) (nI 15)), .int (((sW2 (blkw mm bi) (k - 16)) + (sW2 (blkw mm bi) (k - 7))) + (((rotl (sW2 (blkw mm bi) (k - 15)) (nI 25)) ^^^ (rotl (sW2 (blkw mm bi) (k - 15)) (nI 14))) ^^^ (ushr (sW2 (blkw mm bi) (k - 15)) (nI 3)))), .int (nI k), .ref (ad 23)]) (n := 2) C h (c7_left l D dA B Z hZ _ (sW2 (blkw mm bi) (k - 2)) (nI 13)) (lw_S q2281 q2282 q138 q2283) (by decide +kernel) (by decide) (by decide) rfl hl rfl (Nat.le_of_ble_eq_true rfl) dX7_secondHash_221 (by omega) (fun _ H locs _ h => ?_)
                      refine lv_ixor hx hb dX7_secondHash_224 ?_
                      refine lv_iload hx hb dX7_secondHash_225 (lv_at hl 0 rfl) ?_
                      refine lv_bipush (v := nI 10) hx hb dX7_secondHash_227 (by decide) ?_
                      refine n_iushr hx hb dX7_secondHash_229 ?_
                      refine lv_ixor hx hb dX7_secondHash_230 ?_
                      refine lv_iadd hx hb dX7_secondHash_231 ?_
                      refine n_top (y := wv k) (by rw [hwv, sW2_hi (k := k) (by omega)]; rfl) ?_
                      refine m_wast C h 23 (v := wv k) (by decide) (n := 80) rfl (by omega) dX7_secondHash_232 (fun H locs h => ?_)
                      rw [W3_23] at h
                      have h : Wd D B s (mw dA h0 ad (W3 (apM M 21 20 n (pad n)) (upN Wf k (wv k)) Sf Nf) ++ F) H locs := h
                      exact jw _ (fun i q => by
                        rcases Nat.lt_or_ge i k with q2 | q2
                        · rw [upN_n (by omega)]; exact hiJ1 i q2
                        · rw [show i = k by omega, upN_s]) _ _ h _ (lv_sub hl [2, 3, 4, 5] rfl)
                    · refine lv_aload_n hx hb dX7_secondHash_118 rfl (lv_at hl 3 rfl) ?_
                      refine m_gc C h 23 (by decide) rfl rfl q1893 dX7_secondHash_119 ?_
                      refine lv_iload_n hx hb dX7_secondHash_122 rfl (lv_at hl 0 rfl) ?_
                      refine lv_aload_n hx hb dX7_secondHash_123 rfl (lv_at hl 3 rfl) ?_
                      refine m_gc C h 21 (by decide) rfl rfl q1891 dX7_secondHash_124 ?_
                      refine lv_bipush (v := nI 64) hx hb dX7_secondHash_127 (by decide) ?_
                      refine lv_iload_n hx hb dX7_secondHash_129 rfl (lv_at hl 1 rfl) ?_
                      refine lv_imul hx hb dX7_secondHash_130 (n_top (y := nI (64 * bi)) (pk_mul 64 bi) ?_)
                      refine lv_iconst (v := nI 4) hx hb dX7_secondHash_131 (by decide) ?_
                      refine lv_iload_n hx hb dX7_secondHash_132 rfl (lv_at hl 0 rfl) ?_
                      refine lv_imul hx hb dX7_secondHash_133 (n_top (y := nI (4 * k)) (pk_mul 4 k) ?_)
                      refine lv_iadd hx hb dX7_secondHash_134 (n_top (y := nI ((64 * bi) + (4 * k))) (nI_add (64 * bi) (4 * k)) ?_)
                      refine lv_iconst (v := nI 4) hx hb dX7_secondHash_135 (by decide) ?_
                      refine call_S (As := [.ref (ad 21), .int (nI ((64 * bi) + (4 * k))), .int (nI 4)]) (rest := [.int (nI k), .ref (ad 23)]) (n := 3) C h (c7_number l D dA B Z hZ _ (ad 21) 30000 (appG (mG M 21) n (pad n)) (64 * bi + 4 * k) 4 (mw_memG (k := 21) (by decide)) (by omega) (by decide) (fun i _ => Nat.lt_trans (hb8 i) (by decide))) (lw_S q2278 q2279 q138 q2280) (by decide +kernel) (by decide) (by decide) rfl hl rfl (Nat.le_of_ble_eq_true rfl) dX7_secondHash_136 (by omega) (fun _ H locs _ h => ?_)
                      refine lv_l2i (v := nI (num (sl (appG (mG M 21) n (pad n)) (64 * bi + 4 * k) 4))) hx hb dX7_secondHash_139 (lN_i _) ?_
                      refine n_top (y := wv k) (by rw [hwv, sW2_lo (by omega)]; exact blkw_eq hg (by omega)) ?_
                      refine m_wast C h 23 (v := wv k) (by decide) (n := 80) rfl (by omega) dX7_secondHash_140 (fun H locs h => ?_)
                      rw [W3_23] at h
                      have h : Wd D B s (mw dA h0 ad (W3 (apM M 21 20 n (pad n)) (upN Wf k (wv k)) Sf Nf) ++ F) H locs := h
                      refine lv_goto (tgt := 233) hx hb dX7_secondHash_141 (by decide) ?_
                      exact jw _ (fun i q => by
                        rcases Nat.lt_or_ge i k with q2 | q2
                        · rw [upN_n (by omega)]; exact hiJ1 i q2
                        · rw [show i = k by omega, upN_s]) _ _ h _ (lv_sub hl [0, 1, 2, 3] rfl)
              exact loopJ _ 0 _ _ (by omega) (fun i q => absurd q (Nat.not_lt_zero _)) (fun i q => by rw [show ((64 - 0) % 8 + i) % 8 = i by omega]; exact hiN1 i (by omega)) (Nat.lt_succ_self _) _ _ h _ (lv_sub hl [0, 1, 2, 3] rfl)
            · refine lv_aload_n hx hb dX7_secondHash_86 rfl (lv_at hl 3 rfl) ?_
              refine m_gc C h 25 (by decide) rfl rfl q1895 dX7_secondHash_87 ?_
              refine lv_iload_n hx hb dX7_secondHash_90 rfl (lv_at hl 0 rfl) ?_
              refine lv_aload_n hx hb dX7_secondHash_91 rfl (lv_at hl 3 rfl) ?_
              refine m_gc C h 24 (by decide) rfl rfl q1894 dX7_secondHash_92 ?_
              refine lv_iload_n hx hb dX7_secondHash_95 rfl (lv_at hl 0 rfl) ?_
              refine n_wald C h (v := Sf k) (mw_memW (k := 24) (by decide)) (show k < 8 by omega) (by decide) rfl dX7_secondHash_96 ?_
              refine m_wast C h 25 (v := Sf k) (by decide) (n := 8) rfl (by omega) dX7_secondHash_97 (fun H locs h => ?_)
              rw [W3_25] at h
              have h : Wd D B s (mw dA h0 ad (W3 (apM M 21 20 n (pad n)) Wf Sf (upN Nf k (Sf k))) ++ F) H locs := h
              refine lv_iinc (v := nI (k + 1)) (lv' := [(3, .int (nI (k + 1))), (2, .int (nI bi)), (1, .int (nI nb)), (0, .ref h0)]) hx hb dX7_secondHash_98 hl (k := 0) rfl (nI_add k 1) (by decide) rfl (fun ls hl => ?_)
              refine lv_goto (tgt := 80) hx hb dX7_secondHash_101 (by decide) ?_
              exact ihN (k + 1) _ (by omega) (fun i q => by
                rcases Nat.lt_or_ge i k with q2 | q2
                · rw [upN_n (by omega)]; exact hiN1 i q2
                · rw [show i = k by omega, upN_s, hi1 k (by omega), hxv]) (by omega) _ _ h _ (lv_sub hl [0, 1, 2, 3] rfl)
        exact loopN _ 0 _ (by omega) (fun i q => absurd q (Nat.not_lt_zero _)) (Nat.lt_succ_self _) _ _ h _ (lv_sub hl [0, 1, 2, 3] rfl)
  exact loopB _ 0 _ _ _ (by omega) hin2 (Nat.lt_succ_self _) _ _ h _ (lv_sub hl [0, 1, 2] rfl)
