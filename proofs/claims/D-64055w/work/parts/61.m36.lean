set_option maxRecDepth 100000

theorem MSt.th {dA : Nat → ClassId} {F : va_W} {ad : Nat → Nat} {M : MS} {tp dc ou : List Nat} {L : List PK} (h : MSt dA F ad M tp dc ou L) (x : Int32) : MSt dA F ad (sI M 0 x) tp dc ou L := h

set_option maxHeartbeats 400000 in
set_option maxRecDepth 100000 in
theorem c7_keys (l : Launch) (D : va_G) (dA : Nat → ClassId) (B : Nat) (Z : State → Prop) (hZ : Stab B Z) (h0 : Nat) (ad : Nat → Nat) (M : MS) (F : va_W) (tp dc ou : List Nat) (L : List PK) (hS : MSt dA F ad M tp dc ou L) (hR : CurR dA F ad M L) (hPK : PKs L) (hLl : L.length ≤ 4650) :
    Ct (S := Unit) l D dA B Z yX7_keys cX7_keys 3 (some .int) 1 0 0 [.ref h0] (mw dA h0 ad M ++ F) (fun _ => True) (fun _ => some (.int (nI (cntF L 6 L.length 0)))) (fun _ => mw dA h0 ad (sI M 0 (nI 0)) ++ F) := by
  refine Ct.mk2 (by decide) (Nat.le_of_ble_eq_true rfl) hZ ?_
  intro p e R s m args below meth c ls Q C hr hlocks hin hQ hl h
  have C0 := C
  obtain ⟨hx, hb, hml, hown, hts, -⟩ := C0
  have hl : lv_has ls 3 [(0, .ref h0)] := hl
  have hR0 : CurR dA F ad (sI M 0 (nI 0)) L := hR
  refine lv_aload_n hx hb dX7_keys_0 rfl (lv_at hl 0 rfl) ?_
  refine lv_iconst (v := nI 0) hx hb dX7_keys_1 (by decide) ?_
  refine m_pi C h 0 (v := nI 0) (by decide) rfl rfl rfl q1870 rfl rfl dX7_keys_2 (fun H locs h => ?_)
  have h : Wd D B s (mw dA h0 ad (sI M 0 (nI 0)) ++ F) H locs := h
  refine lv_iconst (v := nI 0) hx hb dX7_keys_5 (by decide) ?_
  refine lv_istore_n (lv' := [(1, .int (nI 0)), (0, .ref h0)]) hx hb dX7_keys_6 rfl hl (by decide) rfl (fun ls hl => ?_)
  refine lv_iconst (v := nI 0) hx hb dX7_keys_7 (by decide) ?_
  refine lv_istore_n (lv' := [(2, .int (nI 0)), (1, .int (nI 0)), (0, .ref h0)]) hx hb dX7_keys_8 rfl hl (by decide) rfl (fun ls hl => ?_)
  have hl : lv_has ls 3 [(2, .int (nI (0 + 0))), (1, .int (nI (cntF L 6 0 0))), (0, .ref h0)] := hl
  have loop : ∀ (nn : Nat) (i : Nat), (i ≤ L.length) → L.length - i < nn → ∀ (H : Heap) (locs : List Loc), Wd D B s (mw dA h0 ad (sI M 0 (nI 0)) ++ F) H locs → ∀ (ls : Array Slot), lv_has ls 3 [(0, .ref h0), (1, .int (nI (cntF L 6 i 0))), (2, .int (nI (0 + i)))] → W p l e R s m args below meth c H locs 0 0 Q (F0 m 9 ls []) := by
    intro nn
    induction nn with
    | zero => intro i  hi0 hme; exact absurd hme (Nat.not_lt_zero _)
    | succ nn ih =>
      intro i  hi0 hme H locs h ls hl
      refine lv_iload_n hx hb dX7_keys_9 rfl (lv_at hl 2 rfl) ?_
      refine lv_aload_n hx hb dX7_keys_10 rfl (lv_at hl 0 rfl) ?_
      refine m_gi C h 12 (by decide) rfl rfl q1882 (v := nI L.length) hR0.2.1 dX7_keys_11 ?_
      refine n_icmp_ge (tgt := 42) hx hb (by omega) (by omega) dX7_keys_14 (by decide) (fun c14 => ?_) (fun c14 => ?_)
      · refine lv_iload_n hx hb dX7_keys_42 rfl (lv_at hl 1 rfl) ?_
        subst hQ
        have hie : L.length = i := by omega
        exact ret_i C hr hlocks h () trivial (by rw [hie]) rfl (by omega) (by omega) dX7_keys_43
      · have hR := hR0
        obtain ⟨x9, hx9⟩ : ∃ z, L[0 + i]? = some z := ⟨_, List.getElem?_eq_getElem (by omega)⟩
        obtain ⟨hx9k, hx9b, hx9s⟩ := hR.1 _ _ hx9
        have hx9o := hPK.at hx9
        have hx91 := hx9o.1
        have hcl := cntF_le L 6 i 0
        have jc : ∀ (H : Heap) (locs : List Loc), Wd D B s (mw dA h0 ad (sI M 0 (nI 0)) ++ F) H locs → ∀ (ls : Array Slot), lv_has ls 3 [(0, .ref h0), (1, .int (nI (cntF L 6 i 0))), (2, .int (nI (0 + i)))] → W p l e R s m args below meth c H locs 0 0 Q (F0 m 35 ls [.int (nI (cntF L 6 (i + 1) 0))]) := by
          intro   H locs h ls hl
          refine lv_istore_n (lv' := [(1, .int (nI (cntF L 6 (i + 1) 0))), (0, .ref h0), (2, .int (nI (0 + i)))]) hx hb dX7_keys_35 rfl hl (by decide) rfl (fun ls hl => ?_)
          refine lv_iinc (v := nI (0 + i + 1)) (lv' := [(2, .int (nI (0 + i + 1))), (1, .int (nI (cntF L 6 (i + 1) 0))), (0, .ref h0)]) hx hb dX7_keys_36 hl (k := 2) rfl (nI_add (0 + i) 1) (by decide) rfl (fun ls hl => ?_)
          refine lv_goto (tgt := 9) hx hb dX7_keys_39 (by decide) ?_
          exact ih (i + 1) (by omega) (by omega) _ _ h _ (lv_sub hl [2, 1, 0] rfl)
        refine lv_aload_n hx hb dX7_keys_17 rfl (lv_at hl 0 rfl) ?_
        refine m_gr C h 13 (by decide) rfl rfl q1883 (v := some (ad 13)) hR0.2.2.1 dX7_keys_18 ?_
        refine lv_iload_n hx hb dX7_keys_21 rfl (lv_at hl 2 rfl) ?_
        refine n_iald C h (v := (mG (sI M 0 (nI 0)) 13) (0 + i)) (mw_memG (k := 13) (by decide)) (show 0 + i < 4700 by omega) (by decide) rfl dX7_keys_22 ?_
        refine n_top (y := nI x9.1) (congrArg nI hx9k) ?_
        refine lv_bipush (v := nI 6) hx hb dX7_keys_23 (by decide) ?_
        refine n_icmp_ne (tgt := 34) hx hb (by omega) (by omega) dX7_keys_25 (by decide) (fun c25 => ?_) (fun c25 => ?_)
        · refine lv_iload_n hx hb dX7_keys_34 rfl (lv_at hl 1 rfl) ?_
          refine n_top (y := nI (cntF L 6 (i + 1) 0)) (by rw [cntF, hx9, Option.map_some]; first | (rw [if_pos (congrArg some c25)]; done) | (rw [if_neg (fun z => c25 (Option.some.inj z))]; rfl)) ?_
          exact jc   _ _ h _ (lv_sub hl [0, 1, 2] rfl)
        · refine lv_iload_n hx hb dX7_keys_28 rfl (lv_at hl 1 rfl) ?_
          refine lv_iconst (v := nI 1) hx hb dX7_keys_29 (by decide) ?_
          refine lv_iadd hx hb dX7_keys_30 (n_top (y := nI (cntF L 6 i 0 + 1)) (nI_add (cntF L 6 i 0) 1) ?_)
          refine lv_goto (tgt := 35) hx hb dX7_keys_31 (by decide) ?_
          refine n_top (y := nI (cntF L 6 (i + 1) 0)) (by rw [cntF, hx9, Option.map_some]; first | (rw [if_pos (congrArg some c25)]; done) | (rw [if_neg (fun z => c25 (Option.some.inj z))]; rfl)) ?_
          exact jc   _ _ h _ (lv_sub hl [0, 1, 2] rfl)
  exact loop _ 0 (by omega) (Nat.lt_succ_self _) _ _ h _ (lv_sub hl [2, 1, 0] rfl)
