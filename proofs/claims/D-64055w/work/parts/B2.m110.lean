set_option maxRecDepth 100000

theorem wB_b (y : Int64) : (y.toInt32.toInt8.toInt32).toInt8.toInt32 = sb_b (uL y % 256) := by
  rw [Int8.toInt8_toInt32]
  unfold sb_b
  congr 1
  apply Int8.toBitVec_inj.mp
  rw [Int32.toBitVec_toInt8, Int64.toBitVec_toInt32, Int32.toBitVec_toInt8, BitVec.signExtend_eq_setWidth_of_le _ (by decide), BitVec.signExtend_eq_setWidth_of_le _ (by decide), BitVec.signExtend_eq_setWidth_of_le _ (by decide)]
  apply BitVec.eq_of_toNat_eq
  rw [BitVec.toNat_setWidth, BitVec.toNat_setWidth, BitVec.toNat_setWidth]
  show uL y % 2 ^ 32 % 2 ^ 8 = (BitVec.ofNat 32 (uL y % 256)).toNat % 2 ^ 8
  rw [BitVec.toNat_ofNat]
  omega
theorem rC_0 {cap m : Nat} (h : gro cap m = cap) : rC cap m = 0 ∧ rS cap m = 0 := by unfold rC rS; rw [h]; omega
theorem rC_mono {cap m m' : Nat} (h0 : 0 < cap) (h : m ≤ m') : rC cap m ≤ rC cap m' ∧ rS cap m ≤ rS cap m' := by
  have := gro_mono h0 h
  unfold rC rS
  omega
theorem rmG_at (g : Nat → Option Nat) {i n j : Nat} (hi : i < n) (hj : j < n - 1) : rmG g i n j = if j < i then g j else g (j + 1) := by
  unfold rmG
  rw [if_neg (by omega)]
  by_cases q : j < i
  · rw [if_neg (by omega), if_pos q]
  · rw [if_pos ⟨by omega, hj⟩, if_neg q]
theorem alS_rm {x : LD} {Ry : List KY} {i : Nat} (h : LsR x Ry) (hi : i < Ry.length) : ∃ ed cap g, x.2.2 = some (ed, cap, g) ∧ Ry.length ≤ cap ∧ cap < 10000 ∧ (∀ j, j < Ry.length → g j = some (gD (Ry.map Prod.fst) j)) ∧ LsR (x.1, x.2.1 + nI 1, some (ed, cap, rmG g i Ry.length)) (Ry.eraseIdx i) := by
  obtain ⟨la, mo, o⟩ := x
  obtain ⟨h1, h2, h3⟩ := h
  cases o with
  | none =>
    have e : Ry.map Prod.fst = [] := h1
    have e2 : (Ry.map Prod.fst).length = 0 := by rw [e]; rfl
    rw [List.length_map] at e2
    omega
  | some o =>
    obtain ⟨ed, cap, g⟩ := o
    obtain ⟨a1, a2, a3, a4⟩ := h1
    dsimp only at a1 a2 a3 a4
    rw [List.length_map] at a1 a4
    refine ⟨ed, cap, g, rfl, a1, a2, a4, ?_, ?_, ?_⟩
    · refine ⟨?_, a2, a3, ?_⟩
      · show ((Ry.eraseIdx i).map Prod.fst).length ≤ cap
        rw [List.length_map, List.length_eraseIdx, if_pos hi]; omega
      · show ∀ j, j < ((Ry.eraseIdx i).map Prod.fst).length → rmG g i Ry.length j = some (gD ((Ry.eraseIdx i).map Prod.fst) j)
        intro j hj
        rw [List.length_map, List.length_eraseIdx, if_pos hi] at hj
        have e1 : gD ((Ry.eraseIdx i).map Prod.fst) j = gD (Ry.map Prod.fst) (if j < i then j else j + 1) := by
          unfold gD
          rw [List.getD_eq_getElem?_getD, List.getD_eq_getElem?_getD, List.getElem?_map, List.getElem?_map, List.getElem?_eraseIdx]
          split <;> rfl
        rw [rmG_at g hi hj, e1]
        by_cases q : j < i
        · rw [if_pos q, if_pos q]; exact a4 j (by omega)
        · rw [if_neg q, if_neg q]; exact a4 (j + 1) (by omega)
    · exact trivial
    · show (Ry.eraseIdx i).length ≤ 16
      rw [List.length_eraseIdx, if_pos hi]
      have : Ry.length ≤ 16 := h3
      omega

set_option maxHeartbeats 400000 in
set_option maxRecDepth 100000 in
theorem c1_add (l : Launch) (D : va_G) (dA : Nat → ClassId) (B : Nat) (Z : State → Prop) (hZ : Stab B Z) (F : va_W) (A : Nat → Nat) (dc rg : Nat) (gB : Nat → Nat) (tp : List Nat) (wd : Int64) (n : Int32) (hsB : SBis gB 4096 tp) :
    Ct (S := Nat → Nat) l D dA B Z yX1_add cX1_add 5 (some .boolean) 1 0 0 [.ref (A 24), .long wd, .int n] ([((A 24), .inr (0, [.ref (A 23), .int (nI tp.length), .ref dc, .ref (A 17), .ref rg, .ref (A 0), .ref (A 5), .ref (A 11), .ref (A 12), .ref (A 18), .ref (A 19), .ref (A 20), .ref (A 21), .ref (A 22)])), ((A 23), bar dA 4096 gB)] ++ F) (fun u => SBis u 4096 (addS tp wd n).2) (fun _ => some (.int (bZ (addS tp wd n).1))) (fun u => [((A 24), .inr (0, [.ref (A 23), .int (nI ((addS tp wd n).2.length)), .ref dc, .ref (A 17), .ref rg, .ref (A 0), .ref (A 5), .ref (A 11), .ref (A 12), .ref (A 18), .ref (A 19), .ref (A 20), .ref (A 21), .ref (A 22)])), ((A 23), bar dA 4096 u)] ++ F) := by
  refine Ct.mk2 (by decide) (Nat.le_of_ble_eq_true rfl) hZ ?_
  intro p e R s m args below meth c ls Q C hr hlocks hin hQ hl h
  have C0 := C
  obtain ⟨hx, hb, hml, hown, hts, -⟩ := C0
  have hl : lv_has ls 5 [(0, .ref (A 24)), (1, .long wd), (3, .int n)] := hl
  have hl4 := hsB.1
  refine lv_iload_n hx hb dX1_add_0 rfl (lv_at hl 2 rfl) ?_
  refine lv_iconst (v := nI 1) hx hb dX1_add_1 (by decide) ?_
  refine lv_icmp_lt (tgt := 23) hx hb dX1_add_2 (by decide) (fun c2 => ?_) (fun c2 => ?_)
  · have hU := addS_f (tp := tp) (w := wd) (Or.inl c2)
    refine lv_iconst (v := nI 0) hx hb dX1_add_23 (by decide) ?_
    subst hQ
    refine n_top (y := bZ false) rfl ?_
    exact ret_z C hr hlocks h gB (by rw [hU]; exact hsB) (by rw [hU]) (by rw [hU]) (by omega) (by omega) dX1_add_24
  · refine lv_iload_n hx hb dX1_add_5 rfl (lv_at hl 2 rfl) ?_
    refine lv_bipush (v := nI 8) hx hb dX1_add_6 (by decide) ?_
    refine lv_icmp_gt (tgt := 23) hx hb dX1_add_8 (by decide) (fun c8 => ?_) (fun c8 => ?_)
    · have hU := addS_f (tp := tp) (w := wd) (Or.inr c8)
      refine lv_iconst (v := nI 0) hx hb dX1_add_23 (by decide) ?_
      subst hQ
      refine n_top (y := bZ false) rfl ?_
      exact ret_z C hr hlocks h gB (by rw [hU]; exact hsB) (by rw [hU]) (by rw [hU]) (by omega) (by omega) dX1_add_24
    · obtain ⟨k, hk1, hk8, hnk, hkt⟩ := i8 c2 c8
      have hU := addS_k (tp := tp) (w := wd) c2 c8 hkt
      have hl : lv_has ls 5 [(0, .ref (A 24)), (1, .long wd), (3, .int (nI k))] := by rw [hnk] at hl; exact hl
      refine lv_aload_n hx hb dX1_add_11 rfl (lv_at hl 0 rfl) ?_
      refine o_get C h (RC := RX1) (T := TX1) (N := 14) (List.mem_of_getElem? (i := 0) rfl) rfl in_X1 1 (by decide) q309 rfl (v := .int (nI tp.length)) rfl dX1_add_12 ?_
      refine lv_iload_n hx hb dX1_add_15 rfl (lv_at hl 2 rfl) ?_
      refine lv_iadd hx hb dX1_add_16 (n_top (y := nI (tp.length + k)) (nI_add tp.length k) ?_)
      refine lv_sipush (v := nI 4096) hx hb dX1_add_17 (by decide) ?_
      refine n_icmp_le (tgt := 25) hx hb (by omega) (by omega) dX1_add_20 (by decide) (fun c20 => ?_) (fun c20 => ?_)
      · rw [if_neg (by omega)] at hU
        refine lv_iconst (v := nI 0) hx hb dX1_add_25 (by decide) ?_
        refine lv_istore (lv' := [(4, .int (nI 0)), (0, .ref (A 24)), (1, .long wd), (3, .int (nI k))]) hx hb dX1_add_26 hl (by decide) rfl (fun ls hl => ?_)
        have h : Wd D B s ([((A 24), .inr (0, [.ref (A 23), .int (nI (tp.length + 0)), .ref dc, .ref (A 17), .ref rg, .ref (A 0), .ref (A 5), .ref (A 11), .ref (A 12), .ref (A 18), .ref (A 19), .ref (A 20), .ref (A 21), .ref (A 22)])), ((A 23), bar dA 4096 gB)] ++ F) s.heap [] := h
        have loop : ∀ (nn : Nat) (i : Nat) (g : Nat → Nat), (i ≤ k) → (SBis g 4096 (tp ++ sl (wB wd) 0 i)) → k - i < nn → ∀ (H : Heap) (locs : List Loc), Wd D B s ([((A 24), .inr (0, [.ref (A 23), .int (nI (tp.length + i)), .ref dc, .ref (A 17), .ref rg, .ref (A 0), .ref (A 5), .ref (A 11), .ref (A 12), .ref (A 18), .ref (A 19), .ref (A 20), .ref (A 21), .ref (A 22)])), ((A 23), bar dA 4096 g)] ++ F) H locs → ∀ (ls : Array Slot), lv_has ls 5 [(4, .int (nI i)), (0, .ref (A 24)), (1, .long wd), (3, .int (nI k))] → W p l e R s m args below meth c H locs 0 0 Q (F0 m 28 ls []) := by
          intro nn
          induction nn with
          | zero => intro i  g  hi0 hi1 hme; exact absurd hme (Nat.not_lt_zero _)
          | succ nn ih =>
            intro i  g  hi0 hi1 hme H locs h ls hl
            refine lv_iload hx hb dX1_add_28 (lv_at hl 0 rfl) ?_
            refine lv_iload_n hx hb dX1_add_30 rfl (lv_at hl 3 rfl) ?_
            refine n_icmp_ge (tgt := 65) hx hb (by omega) (by omega) dX1_add_31 (by decide) (fun c31 => ?_) (fun c31 => ?_)
            · refine lv_iconst (v := nI 1) hx hb dX1_add_65 (by decide) ?_
              subst hQ
              have hik : i = k := by omega
              rw [hik] at h hi1
              refine n_top (y := bZ true) rfl ?_
              exact ret_z C hr hlocks h g (by rw [hU]; exact hi1) (by rw [hU]) (by rw [hU]; show _ = _; rw [show (tp ++ addB wd k).length = tp.length + k by rw [List.length_append]; exact congrArg _ (sl_len _ _ _)]) (by omega) (by omega) dX1_add_66
            · refine lv_aload_n hx hb dX1_add_34 rfl (lv_at hl 1 rfl) ?_
              refine o_get C h (RC := RX1) (T := TX1) (N := 14) (List.mem_of_getElem? (i := 0) rfl) rfl in_X1 0 (by decide) q308 rfl (v := .ref (A 23)) rfl dX1_add_35 ?_
              refine lv_aload_n hx hb dX1_add_38 rfl (lv_at hl 1 rfl) ?_
              refine lv_dup hx hb dX1_add_39 rfl ?_
              refine o_get C h (RC := RX1) (T := TX1) (N := 14) (List.mem_of_getElem? (i := 0) rfl) rfl in_X1 1 (by decide) q309 rfl (v := .int (nI (tp.length + i))) rfl dX1_add_40 ?_
              refine lv_dup_x1 hx hb dX1_add_43 rfl rfl ?_
              refine lv_iconst (v := nI 1) hx hb dX1_add_44 (by decide) ?_
              refine lv_iadd hx hb dX1_add_45 (n_top (y := nI (tp.length + i + 1)) (nI_add (tp.length + i) 1) ?_)
              refine o_put C h 0 (RC := RX1) (T := TX1) (N := 14) (ws' := [((A 24), .inr (0, [.ref (A 23), .int (nI (tp.length + i + 1)), .ref dc, .ref (A 17), .ref rg, .ref (A 0), .ref (A 5), .ref (A 11), .ref (A 12), .ref (A 18), .ref (A 19), .ref (A 20), .ref (A 21), .ref (A 22)])), ((A 23), bar dA 4096 g)] ++ F) rfl rfl in_X1 tyX1_ok nmX1 1 (by decide) q309 rfl rfl (v := .int (nI (tp.length + i + 1))) rfl rfl (Nat.le_of_ble_eq_true rfl) rfl dX1_add_46 (fun H locs h => ?_)
              refine lv_lload_n hx hb dX1_add_49 rfl (lv_at hl 2 rfl) ?_
              refine lv_bipush (v := nI 8) hx hb dX1_add_50 (by decide) ?_
              refine lv_iload hx hb dX1_add_52 (lv_at hl 0 rfl) ?_
              refine lv_imul hx hb dX1_add_54 (n_top (y := nI (8 * i)) (pk_mul 8 i) ?_)
              refine n_lshr hx hb dX1_add_55 ?_
              refine lv_l2i (v := (lshr wd (nI (8 * i))).toInt32) hx hb dX1_add_56 rfl ?_
              refine lv_i2b (v := ((lshr wd (nI (8 * i))).toInt32).toInt8.toInt32) hx hb dX1_add_57 rfl ?_
              refine x_bast C h 1 (v := wB wd i) (ws' := [((A 24), .inr (0, [.ref (A 23), .int (nI (tp.length + i + 1)), .ref dc, .ref (A 17), .ref rg, .ref (A 0), .ref (A 5), .ref (A 11), .ref (A 12), .ref (A 18), .ref (A 19), .ref (A 20), .ref (A 21), .ref (A 22)])), ((A 23), bar dA 4096 (upN g (tp.length + i) (wB wd i)))] ++ F) rfl (by omega) (by decide) (wB_b _) rfl dX1_add_58 (fun H locs h => ?_)
              refine lv_iinc (v := nI (i + 1)) (lv' := [(4, .int (nI (i + 1))), (0, .ref (A 24)), (1, .long wd), (3, .int (nI k))]) hx hb dX1_add_59 hl (k := 0) rfl (nI_add i 1) (by decide) rfl (fun ls hl => ?_)
              refine lv_goto (tgt := 28) hx hb dX1_add_62 (by decide) ?_
              exact ih (i + 1) _ (by omega) (by
                have z := hi1.one (wB wd i) (by rw [List.length_append, sl_len]; omega)
                rw [List.append_assoc, show [wB wd i] = [wB wd (0 + i)] by rw [Nat.zero_add], ← sl_succ, List.length_append, sl_len] at z
                exact z) (by omega) _ _ h _ (lv_sub hl [0, 1, 2, 3] rfl)
        exact loop _ 0 gB (by omega) (by rw [sl_0, List.append_nil]; exact hsB) (Nat.lt_succ_self _) _ _ h _ (lv_sub hl [0, 1, 2, 3] rfl)
      · rw [if_pos c20] at hU
        refine lv_iconst (v := nI 0) hx hb dX1_add_23 (by decide) ?_
        subst hQ
        refine n_top (y := bZ false) rfl ?_
        exact ret_z C hr hlocks h gB (by rw [hU]; exact hsB) (by rw [hU]) (by rw [hU]) (by omega) (by omega) dX1_add_24
set_option maxHeartbeats 400000 in
set_option maxRecDepth 100000 in
theorem c1_document (l : Launch) (D : va_G) (dA : Nat → ClassId) (B : Nat) (Z : State → Prop) (hZ : Stab B Z) (F : va_W) (A : Nat → Nat) (dc rg : Nat) (gB : Nat → Nat) (tp : List Nat) (hbs : (A 23, bar dA 4096 gB) ∈ F) (hsB : SBis gB 4096 tp) :
    Ct (S := Nat) l D dA B Z yX1_document cX1_document 1 (some .int) 3 1 tp.length [.ref (A 24)] ([((A 24), .inr (0, [.ref (A 23), .int (nI tp.length), .ref dc, .ref (A 17), .ref rg, .ref (A 0), .ref (A 5), .ref (A 11), .ref (A 12), .ref (A 18), .ref (A 19), .ref (A 20), .ref (A 21), .ref (A 22)]))] ++ F) (fun _ => True) (fun _ => some (.int (nI tp.length))) (fun q => [((A 24), .inr (0, [.ref (A 23), .int (nI 0), .ref q, .ref (A 17), .ref rg, .ref (A 0), .ref (A 5), .ref (A 11), .ref (A 12), .ref (A 18), .ref (A 19), .ref (A 20), .ref (A 21), .ref (A 22)]))] ++ (F ++ [(q, bal dA tp)])) := by
  refine Ct.mk2 (by decide) (Nat.le_of_ble_eq_true rfl) hZ ?_
  intro p e R s m args below meth c ls Q C hr hlocks hin hQ hl h
  have C0 := C
  obtain ⟨hx, hb, hml, hown, hts, -⟩ := C0
  have hl : lv_has ls 1 [(0, .ref (A 24))] := hl
  have hl4 := hsB.1
  refine lv_aload_n hx hb dX1_document_0 rfl (lv_at hl 0 rfl) ?_
  refine lv_aload_n hx hb dX1_document_1 rfl (lv_at hl 0 rfl) ?_
  refine o_get C h (RC := RX1) (T := TX1) (N := 14) (List.mem_of_getElem? (i := 0) rfl) rfl in_X1 0 (by decide) q308 rfl (v := .ref (A 23)) rfl dX1_document_2 ?_
  refine lv_aload_n hx hb dX1_document_5 rfl (lv_at hl 0 rfl) ?_
  refine o_get C h (RC := RX1) (T := TX1) (N := 14) (List.mem_of_getElem? (i := 0) rfl) rfl in_X1 1 (by decide) q309 rfl (v := .int (nI tp.length)) rfl dX1_document_6 ?_
  refine call_S (As := [.ref (A 23), .int (nI tp.length)]) (rest := [.ref (A 24)]) (n := 2) C h (cJ_copyOf l D dA B Z hZ ([((A 24), .inr (0, [.ref (A 23), .int (nI tp.length), .ref dc, .ref (A 17), .ref rg, .ref (A 0), .ref (A 5), .ref (A 11), .ref (A 12), .ref (A 18), .ref (A 19), .ref (A 20), .ref (A 21), .ref (A 22)]))] ++ F) (A 23) 4096 tp.length gB (List.mem_append_right _ hbs) (by omega) (by omega)) (lw_S q1142 q566 q143 q567) (by decide +kernel) (by decide) (by decide) rfl hl rfl (Nat.le_of_ble_eq_true rfl) dX1_document_9 (by omega) (fun q9 H locs _ h => ?_)
  have h : Wd D B s ([(q9, bar dA tp.length (cutF 4096 gB))] ++ ([((A 24), .inr (0, [.ref (A 23), .int (nI tp.length), .ref dc, .ref (A 17), .ref rg, .ref (A 0), .ref (A 5), .ref (A 11), .ref (A 12), .ref (A 18), .ref (A 19), .ref (A 20), .ref (A 21), .ref (A 22)]))] ++ F)) H locs := h.permL (perm_add (fun g f p0 p1 p2 => by (try simp only [p0, p1, p2]) <;> omega))
  have h : Wd D B s ([(q9, bal dA tp)] ++ ([((A 24), .inr (0, [.ref (A 23), .int (nI tp.length), .ref dc, .ref (A 17), .ref rg, .ref (A 0), .ref (A 5), .ref (A 11), .ref (A 12), .ref (A 18), .ref (A 19), .ref (A 20), .ref (A 21), .ref (A 22)]))] ++ F)) H locs := Wd.same h 0 rfl (bar_same (fun j hj => (hsB.cut (k := tp.length) (Nat.le_refl _)).2 j hj)) rfl
  have h : Wd D B s ([((A 24), .inr (0, [.ref (A 23), .int (nI tp.length), .ref dc, .ref (A 17), .ref rg, .ref (A 0), .ref (A 5), .ref (A 11), .ref (A 12), .ref (A 18), .ref (A 19), .ref (A 20), .ref (A 21), .ref (A 22)]))] ++ (F ++ [(q9, bal dA tp)])) H locs := h.permL (perm_add (fun g f p0 p1 p2 => by (try simp only [p0, p1, p2]) <;> omega))
  refine o_put C h 0 (RC := RX1) (T := TX1) (N := 14) (ws' := [((A 24), .inr (0, [.ref (A 23), .int (nI tp.length), .ref q9, .ref (A 17), .ref rg, .ref (A 0), .ref (A 5), .ref (A 11), .ref (A 12), .ref (A 18), .ref (A 19), .ref (A 20), .ref (A 21), .ref (A 22)]))] ++ (F ++ [(q9, bal dA tp)])) rfl rfl in_X1 tyX1_ok nmX1 2 (by decide) q310 rfl rfl (v := .ref q9) rfl rfl (Nat.le_of_ble_eq_true rfl) rfl dX1_document_12 (fun H locs h => ?_)
  refine lv_aload_n hx hb dX1_document_15 rfl (lv_at hl 0 rfl) ?_
  refine lv_iconst (v := nI 0) hx hb dX1_document_16 (by decide) ?_
  refine o_put C h 0 (RC := RX1) (T := TX1) (N := 14) (ws' := [((A 24), .inr (0, [.ref (A 23), .int (nI 0), .ref q9, .ref (A 17), .ref rg, .ref (A 0), .ref (A 5), .ref (A 11), .ref (A 12), .ref (A 18), .ref (A 19), .ref (A 20), .ref (A 21), .ref (A 22)]))] ++ (F ++ [(q9, bal dA tp)])) rfl rfl in_X1 tyX1_ok nmX1 1 (by decide) q309 rfl rfl (v := .int (nI 0)) rfl rfl (Nat.le_of_ble_eq_true rfl) rfl dX1_document_17 (fun H locs h => ?_)
  refine lv_aload_n hx hb dX1_document_20 rfl (lv_at hl 0 rfl) ?_
  refine o_get C h (RC := RX1) (T := TX1) (N := 14) (List.mem_of_getElem? (i := 0) rfl) rfl in_X1 2 (by decide) q310 rfl (v := .ref q9) rfl dX1_document_21 ?_
  refine n_balen C h (List.mem_append_right _ (List.mem_append_right _ List.mem_cons_self)) dX1_document_24 ?_
  subst hQ
  exact ret_i C hr hlocks h q9 trivial rfl rfl (by omega) (by omega) dX1_document_25
set_option maxHeartbeats 400000 in
set_option maxRecDepth 100000 in
theorem c1_takeP (l : Launch) (D : va_G) (dA : Nat → ClassId) (B : Nat) (Z : State → Prop) (hZ : Stab B Z) (F : va_W) (A : Nat → Nat) (sz dc rg : Nat) (gB : Nat → Nat) (ob oc : Nat) (og : Nat → Nat) (ou : List Nat) (hou : (A 17, .inr (1, [.ref ob, .int (nI ou.length)])) ∈ F) (hob : (ob, bar dA oc og) ∈ F) (hso : SBis og oc ou) (hoc : oc < 400000) :
    Ct (S := Nat → Nat) l D dA B Z yX1_take cX1_take 1 (some .int) 2 0 0 [.ref (A 24)] ([((A 24), .inr (0, [.ref (A 23), .int (nI sz), .ref dc, .ref (A 17), .ref rg, .ref (A 0), .ref (A 5), .ref (A 11), .ref (A 12), .ref (A 18), .ref (A 19), .ref (A 20), .ref (A 21), .ref (A 22)])), ((A 23), bar dA 4096 gB)] ++ F) (fun u => SBis u 4096 (ou.take 4096)) (fun _ => some (.int (nI (ou.take 4096).length))) (fun u => [((A 24), .inr (0, [.ref (A 23), .int (nI ((ou.take 4096).length)), .ref dc, .ref (A 17), .ref rg, .ref (A 0), .ref (A 5), .ref (A 11), .ref (A 12), .ref (A 18), .ref (A 19), .ref (A 20), .ref (A 21), .ref (A 22)])), ((A 23), bar dA 4096 u)] ++ F) := by
  refine Ct.mk2 (by decide) (Nat.le_of_ble_eq_true rfl) hZ ?_
  intro p e R s m args below meth c ls Q C hr hlocks hin hQ hl h
  have C0 := C
  obtain ⟨hx, hb, hml, hown, hts, -⟩ := C0
  have hl : lv_has ls 1 [(0, .ref (A 24))] := hl
  have hol := hso.1
  have htl : (ou.take 4096).length = min 4096 ou.length := List.length_take ..
  refine lv_aload_n hx hb dX1_take_0 rfl (lv_at hl 0 rfl) ?_
  refine lv_sipush (v := nI 4096) hx hb dX1_take_1 (by decide) ?_
  refine lv_aload_n hx hb dX1_take_4 rfl (lv_at hl 0 rfl) ?_
  refine o_get C h (RC := RX1) (T := TX1) (N := 14) (List.mem_of_getElem? (i := 0) rfl) rfl in_X1 3 (by decide) q311 rfl (v := .ref (A 17)) rfl dX1_take_5 ?_
  refine o_get C h (RC := RX2) (T := TX2) (N := 2) (List.mem_append_right _ hou) rfl in_X2 1 (by decide) q192 rfl (v := .int (nI ou.length)) rfl dX1_take_8 ?_
  refine n_mmin C h (a := 4096) (b := ou.length) (by omega) (by omega) q1435 q474 q144 q475 hl.1 (by decide) (Nat.le_of_ble_eq_true rfl) (by omega) (by omega) dX1_take_11 ?_
  refine n_top (y := nI ((ou.take 4096).length)) (by rw [htl]) ?_
  refine o_put C h 0 (RC := RX1) (T := TX1) (N := 14) (ws' := [((A 24), .inr (0, [.ref (A 23), .int (nI ((ou.take 4096).length)), .ref dc, .ref (A 17), .ref rg, .ref (A 0), .ref (A 5), .ref (A 11), .ref (A 12), .ref (A 18), .ref (A 19), .ref (A 20), .ref (A 21), .ref (A 22)])), ((A 23), bar dA 4096 gB)] ++ F) rfl rfl in_X1 tyX1_ok nmX1 1 (by decide) q309 rfl rfl (v := .int (nI ((ou.take 4096).length))) rfl rfl (Nat.le_of_ble_eq_true rfl) rfl dX1_take_14 (fun H locs h => ?_)
  refine lv_aload_n hx hb dX1_take_17 rfl (lv_at hl 0 rfl) ?_
  refine o_get C h (RC := RX1) (T := TX1) (N := 14) (List.mem_of_getElem? (i := 0) rfl) rfl in_X1 3 (by decide) q311 rfl (v := .ref (A 17)) rfl dX1_take_18 ?_
  refine o_get C h (RC := RX2) (T := TX2) (N := 2) (List.mem_append_right _ hou) rfl in_X2 0 (by decide) q188 rfl (v := .ref ob) rfl dX1_take_21 ?_
  refine lv_iconst (v := nI 0) hx hb dX1_take_24 (by decide) ?_
  refine lv_aload_n hx hb dX1_take_25 rfl (lv_at hl 0 rfl) ?_
  refine o_get C h (RC := RX1) (T := TX1) (N := 14) (List.mem_of_getElem? (i := 0) rfl) rfl in_X1 0 (by decide) q308 rfl (v := .ref (A 23)) rfl dX1_take_26 ?_
  refine lv_iconst (v := nI 0) hx hb dX1_take_29 (by decide) ?_
  refine lv_aload_n hx hb dX1_take_30 rfl (lv_at hl 0 rfl) ?_
  refine o_get C h (RC := RX1) (T := TX1) (N := 14) (List.mem_of_getElem? (i := 0) rfl) rfl in_X1 1 (by decide) q309 rfl (v := .int (nI ((ou.take 4096).length))) rfl dX1_take_31 ?_
  refine x_copyb C h 1 (n := (ou.take 4096).length) (dp := 0) (sp := 0) (ws' := [((A 24), .inr (0, [.ref (A 23), .int (nI ((ou.take 4096).length)), .ref dc, .ref (A 17), .ref rg, .ref (A 0), .ref (A 5), .ref (A 11), .ref (A 12), .ref (A 18), .ref (A 19), .ref (A 20), .ref (A 21), .ref (A 22)])), ((A 23), bar dA 4096 (va_cpy og gB 0 0 ((ou.take 4096).length)))] ++ F) (List.mem_append_right _ hob) rfl q1252 q478 q477 q145 (by omega) (by omega) (by omega) (by omega) hl.1 (by decide) (Nat.le_of_ble_eq_true rfl) rfl dX1_take_34 (fun H locs h => ?_)
  refine lv_aload_n hx hb dX1_take_37 rfl (lv_at hl 0 rfl) ?_
  refine o_get C h (RC := RX1) (T := TX1) (N := 14) (List.mem_of_getElem? (i := 0) rfl) rfl in_X1 1 (by decide) q309 rfl (v := .int (nI ((ou.take 4096).length))) rfl dX1_take_38 ?_
  subst hQ
  have hpo : SBis (va_cpy og gB 0 0 (ou.take 4096).length) 4096 (ou.take 4096) := ⟨by rw [htl]; omega, fun j hj => by rw [cpy_lo hj, hso.2 j (by rw [htl] at hj; omega)]; unfold gD; rw [List.getD_eq_getElem?_getD, List.getD_eq_getElem?_getD, List.getElem?_take, if_pos (by rw [htl] at hj; omega)]⟩
  exact ret_i C hr hlocks h (va_cpy og gB 0 0 (ou.take 4096).length) hpo rfl rfl (by omega) (by omega) dX1_take_41
set_option maxHeartbeats 400000 in
set_option maxRecDepth 100000 in
theorem c1_out (l : Launch) (D : va_G) (dA : Nat → ClassId) (B : Nat) (Z : State → Prop) (hZ : Stab B Z) (F : va_W) (A : Nat → Nat) (sz dc rg : Nat) (ob oc : Nat) (og : Nat → Nat) (ou : List Nat) (x : Int32) (hlt : l.stackTraces = false) (hzx : ZX B Z) (hme : meC A sz dc rg ∈ F) (hou : (A 17, .inr (1, [.ref ob, .int (nI ou.length)])) ∈ F) (hob : (ob, bar dA oc og) ∈ F) (hso : SBis og oc ou) (hoc : oc < 400000) (hbo : byt ou) :
    CtX (S := Unit) (SX := Nat) l D dA B Z yX1_out cX1_out 2 (some .int) 7 1 6 [.ref (A 24), .int x] (F) (fun _ => (outS ou x).1 = 0) (fun _ => some (.int (nI (outS ou x).2))) (fun _ => F) (fun _ => (outS ou x).1 = 1) (fun u => u) (fun _ => "java/lang/ArrayIndexOutOfBoundsException") (fun _ => F) := by
  refine CtX.mk2 (by decide) (Nat.le_of_ble_eq_true rfl) hZ ?_
  intro p e R s m args below meth c ls Q C hr hlocks hin hex hQ hl h
  have C0 := C
  obtain ⟨hx, hb, hml, hown, hts, -⟩ := C0
  have hl : lv_has ls 2 [(0, .ref (A 24)), (1, .int x)] := hl
  have hol := hso.1
  refine lv_iload_n hx hb dX1_out_0 rfl (lv_at hl 1 rfl) ?_
  refine lv_if_lt (tgt := 15) hx hb dX1_out_1 (by decide) (fun c1 => ?_) (fun c1 => ?_)
  · subst hQ
    exact x_throw0 C (fun x hx9 => (hex x hx9).elim) hlocks hlt hzx h hl (by decide +kernel) (by decide +kernel) q1834 q168 (ex_AOB C hzx) eg_AOB (fun q9 => q9) (fun _ => rfl) (fun _ => rfl) (fun q9 => by show (outS ou x).1 = 1; unfold outS; rw [if_pos (by first | exact Or.inl c1 | exact Or.inr c12)]) (fun _ => rfl) (by decide) (Nat.le_of_ble_eq_true rfl) (by omega) (by omega) dX1_out_15 dX1_out_18 dX1_out_19 dX1_out_22
  · refine lv_iload_n hx hb dX1_out_4 rfl (lv_at hl 1 rfl) ?_
    refine lv_aload_n hx hb dX1_out_5 rfl (lv_at hl 0 rfl) ?_
    refine o_get C h (RC := RX1) (T := TX1) (N := 14) (hme) rfl in_X1 3 (by decide) q311 rfl (v := .ref (A 17)) rfl dX1_out_6 ?_
    refine o_get C h (RC := RX2) (T := TX2) (N := 2) (hou) rfl in_X2 1 (by decide) q192 rfl (v := .int (nI ou.length)) rfl dX1_out_9 ?_
    refine lv_icmp_lt (tgt := 23) hx hb dX1_out_12 (by decide) (fun c12 => ?_) (fun c12 => ?_)
    · obtain ⟨k, hk, hxk, hkt⟩ := i_lt (n := ou.length) (by omega) c1 c12
      have hU := outS_k c1 c12 hkt
      have hgk := hso.2 k hk
      have hgb := byt_gD hbo k
      have hl : lv_has ls 2 [(0, .ref (A 24)), (1, .int (nI k))] := by rw [hxk] at hl; exact hl
      refine lv_aload_n hx hb dX1_out_23 rfl (lv_at hl 0 rfl) ?_
      refine o_get C h (RC := RX1) (T := TX1) (N := 14) (hme) rfl in_X1 3 (by decide) q311 rfl (v := .ref (A 17)) rfl dX1_out_24 ?_
      refine lv_iload_n hx hb dX1_out_27 rfl (lv_at hl 1 rfl) ?_
      refine call_VR (As := [.int (nI k)]) (rest := []) (n := 1) C h (cM_at l D dA B Z hZ _ (A 17) ob oc og ou k hou hob (by omega) (by omega) (by omega)) (lw_V q579 q580 q581 q130 q582) (by decide +kernel) (o_recv C h (RC := RX2) (T := TX2) (N := 2) (hou) rfl) (by decide) (by decide) rfl hl rfl (Nat.le_of_ble_eq_true rfl) dX1_out_28 (by omega) (fun _ H locs _ h => ?_)
      subst hQ
      refine vy_ret ?_
      exact ret_i C hr hlocks h () (by rw [hU]) (by rw [hU, hgk]) rfl (by omega) (by omega) dX1_out_31
    · subst hQ
      exact x_throw0 C (fun x hx9 => (hex x hx9).elim) hlocks hlt hzx h hl (by decide +kernel) (by decide +kernel) q1834 q168 (ex_AOB C hzx) eg_AOB (fun q9 => q9) (fun _ => rfl) (fun _ => rfl) (fun q9 => by show (outS ou x).1 = 1; unfold outS; rw [if_pos (by first | exact Or.inl c1 | exact Or.inr c12)]) (fun _ => rfl) (by decide) (Nat.le_of_ble_eq_true rfl) (by omega) (by omega) dX1_out_15 dX1_out_18 dX1_out_19 dX1_out_22
set_option maxHeartbeats 400000 in
set_option maxRecDepth 100000 in
theorem c1_sum (l : Launch) (D : va_G) (dA : Nat → ClassId) (B : Nat) (Z : State → Prop) (hZ : Stab B Z) (F : va_W) (A : Nat → Nat) (sz dc rg : Nat) (ob oc : Nat) (og : Nat → Nat) (ou : List Nat) (hme : meC A sz dc rg ∈ F) (hou : (A 17, .inr (1, [.ref ob, .int (nI ou.length)])) ∈ F) (hob : (ob, bar dA oc og) ∈ F) (hso : SBis og oc ou) (hoc : oc < 400000) (hbo : byt ou) :
    Ct (S := Unit) l D dA B Z yX1_sum cX1_sum 1 (some .int) 2 0 0 [.ref (A 24)] (F) (fun _ => True) (fun _ => some (.int (nI (crcS ou)))) (fun _ => F) := by
  refine Ct.mk2 (by decide) (Nat.le_of_ble_eq_true rfl) hZ ?_
  intro p e R s m args below meth c ls Q C hr hlocks hin hQ hl h
  have C0 := C
  obtain ⟨hx, hb, hml, hown, hts, -⟩ := C0
  have hl : lv_has ls 1 [(0, .ref (A 24))] := hl
  have hol := hso.1
  have hsl : sl og 0 ou.length = ou := hso.sl
  refine lv_aload_n hx hb dX1_sum_0 rfl (lv_at hl 0 rfl) ?_
  refine o_get C h (RC := RX1) (T := TX1) (N := 14) (hme) rfl in_X1 3 (by decide) q311 rfl (v := .ref (A 17)) rfl dX1_sum_1 ?_
  refine o_get C h (RC := RX2) (T := TX2) (N := 2) (hou) rfl in_X2 0 (by decide) q188 rfl (v := .ref ob) rfl dX1_sum_4 ?_
  refine lv_aload_n hx hb dX1_sum_7 rfl (lv_at hl 0 rfl) ?_
  refine o_get C h (RC := RX1) (T := TX1) (N := 14) (hme) rfl in_X1 3 (by decide) q311 rfl (v := .ref (A 17)) rfl dX1_sum_8 ?_
  refine o_get C h (RC := RX2) (T := TX2) (N := 2) (hou) rfl in_X2 1 (by decide) q192 rfl (v := .int (nI ou.length)) rfl dX1_sum_11 ?_
  refine call_S (As := [.ref ob, .int (nI ou.length)]) (rest := []) (n := 2) C h (c1_sumOf l D dA B Z hZ _ ob oc og ou.length hob hol (by omega) (fun j hj => by rw [hso.2 j hj]; exact byt_gD hbo j)) (lw_S q1430 q1000 q129 q1001) (by decide +kernel) (by decide) (by decide) rfl hl rfl (Nat.le_of_ble_eq_true rfl) dX1_sum_14 (by omega) (fun _ H locs _ h => ?_)
  refine n_top (y := nI (crcS ou)) (by rw [hsl]) ?_
  subst hQ
  exact ret_i C hr hlocks h () trivial rfl rfl (by omega) (by omega) dX1_sum_17
set_option maxHeartbeats 400000 in
set_option maxRecDepth 100000 in
theorem c1_drop (l : Launch) (D : va_G) (dA : Nat → ClassId) (B : Nat) (Z : State → Prop) (hZ : Stab B Z) (F : va_W) (A : Nat → Nat) (sz dc e0 : Nat) (rl : LD) (Ry : List KY) (x : Int32) (hlt : l.stackTraces = false) (hzx : ZX B Z) (hme : meC A sz dc rl.1 ∈ F) (hRk : LsR rl Ry) (hel : ∀ k ∈ Ry, kyc k ∈ F) :
    CtX (S := LD) (SX := Nat) l D dA B Z yX1_drop cX1_drop 2 (some .int) 7 1 6 [.ref (A 24), .int x] (lW dA e0 rl Ry.length ++ F) (fun u => ∃ i, ixO Ry.length x = some i ∧ i < Ry.length ∧ LsR u (Ry.eraseIdx i) ∧ u.1 = rl.1) (fun _ => some (.int (nI (Ry.length - 1)))) (fun u => lW dA e0 u (Ry.length - 1) ++ F) (fun _ => ixO Ry.length x = none) (fun u => u) (fun _ => "java/lang/IndexOutOfBoundsException") (fun _ => lW dA e0 rl Ry.length ++ F) := by
  refine CtX.mk2 (by decide) (Nat.le_of_ble_eq_true rfl) hZ ?_
  intro p e R s m args below meth c ls Q C hr hlocks hin hex hQ hl h
  have C0 := C
  obtain ⟨hx, hb, hml, hown, hts, -⟩ := C0
  have hl : lv_has ls 2 [(0, .ref (A 24)), (1, .int x)] := hl
  have hLI : LIn dA e0 (lW dA e0 rl Ry.length ++ F) rl (Ry.map Prod.fst) := ⟨by rw [List.length_map]; exact fun z hz => List.mem_append_left _ hz, hRk.1⟩
  obtain ⟨ed9, hcl9⟩ := hLI.cell
  have hR16 := hRk.2.2
  have jn : ∀ (tjn : Bool) (cc cs : Nat), (tjn = decide (¬ x < 0 ∧ ¬ nI Ry.length ≤ x)) → (cc ≤ 0) → (cs ≤ 0) → ∀ (H : Heap) (locs : List Loc), Wd D B s ((lW dA e0 rl Ry.length ++ F)) H locs → ∀ (ls : Array Slot), lv_has ls 2 [(0, .ref (A 24)), (1, .int x)] → W p l e R s m args below meth c H locs cc cs Q (F0 m 20 ls [.int (bZ tjn)]) := by
    intro tjn  cc cs  hjn hcc hcs H locs h ls hl
    refine call_SX (As := [.int (bZ tjn)]) (rest := []) (n := 1) C h (c1_index l D dA B Z hZ _ tjn hlt hzx) (lw_S q1680 q1681 q129 q1682) (by decide +kernel) (by decide) (by decide) rfl hl rfl (Nat.le_of_ble_eq_true rfl) dX1_drop_20 (by omega) (fun ux ce9 H locs hbx h hce9 hcv9 hcl9 => ?_) (fun _ H locs hb9 h => ?_)
    · subst hQ
      exact thr_out C hex hlocks h ux rfl rfl (ixO_n (fun q9 => by rw [hjn, decide_eq_true q9] at hbx; cases hbx)) rfl hce9 hcv9 hcl9 (by omega) (by omega)
    have hpp : ¬ x < 0 ∧ ¬ nI Ry.length ≤ x := of_decide_eq_true (hjn ▸ hb9)
    obtain ⟨i, hi, hxi, hti⟩ := i_lt (n := Ry.length) (by omega) hpp.1 (Int32.not_le.mp hpp.2)
    obtain ⟨ed, cap, g, hx3, hc1, hc2, hg9, hnew⟩ := alS_rm hRk hi
    have hlw : lW dA e0 rl Ry.length = [(rl.1, .inr (16, [.int rl.2.1, .ref ed, .int (nI Ry.length)])), (ed, oar dA cap g)] := by unfold lW; rw [hx3]; rfl
    rw [hlw] at h
    have h : Wd D B s ([(rl.1, .inr (16, [.int rl.2.1, .ref ed, .int (nI Ry.length)])), (ed, oar dA cap g)] ++ F) H locs := h
    refine lv_aload_n hx hb dX1_drop_23 rfl (lv_at hl 0 rfl) ?_
    refine o_get C h (RC := RX1) (T := TX1) (N := 14) (List.mem_append_right _ hme) rfl in_X1 4 (by decide) q312 rfl (v := .ref rl.1) rfl dX1_drop_24 ?_
    refine lv_iload_n hx hb dX1_drop_27 rfl (lv_at hl 1 rfl) ?_
    refine n_top (y := nI i) hxi ?_
    have hgi := hg9 i hi
    have hel9 : ∀ j, j < Ry.length → ∀ y, g j = some y → ∃ fs, (y, .inr (6, fs)) ∈ F := fun j hj y hy => by
      obtain ⟨k9, hk9⟩ := at_lt (l := Ry) hj
      rw [hg9 j hj] at hy
      have e9 : gD (Ry.map Prod.fst) j = k9.1 := by unfold gD; rw [List.getD_eq_getElem?_getD, List.getElem?_map, hk9]; rfl
      rw [← Option.some.inj hy, e9]
      exact ⟨_, hel k9 (List.mem_of_getElem? hk9)⟩
    refine call_VR (As := [.int (nI i)]) (rest := []) (n := 1) C h (cJ_remove l D dA B Z hZ F rl.1 ed Ry.length cap i rl.2.1 g 6 _ rfl q2627 _ hi hc1 hc2 hel9 hgi) (lw_V q1846 q1847 q1848 q133 q1849) (by decide +kernel) (o_recv C h (RC := RJ2) (T := TJ2) (N := 3) (List.mem_of_getElem? (i := 0) rfl) rfl) (by decide) (by decide) rfl hl rfl (Nat.le_of_ble_eq_true rfl) dX1_drop_28 (by omega) (fun _ H locs _ h => ?_)
    have h : Wd D B s ([(rl.1, .inr (16, [.int (rl.2.1 + nI 1), .ref ed, .int (nI (Ry.length - 1))])), (ed, oar dA cap (rmG g i Ry.length))] ++ F) H locs := h
    refine lv_pop hx hb dX1_drop_31 rfl ?_
    refine lv_aload_n hx hb dX1_drop_32 rfl (lv_at hl 0 rfl) ?_
    refine o_get C h (RC := RX1) (T := TX1) (N := 14) (List.mem_append_right _ hme) rfl in_X1 4 (by decide) q312 rfl (v := .ref rl.1) rfl dX1_drop_33 ?_
    refine call_VR (As := []) (rest := []) (n := 0) C h (cJ_alSize l D dA B Z hZ _ rl.1 ed (Ry.length - 1) (rl.2.1 + nI 1) (List.mem_of_getElem? (i := 0) rfl)) (lw_V q360 q361 q362 q133 q363) (by decide +kernel) (o_recv C h (RC := RJ2) (T := TJ2) (N := 3) (List.mem_of_getElem? (i := 0) rfl) rfl) (by decide) (by decide) rfl hl rfl (Nat.le_of_ble_eq_true rfl) dX1_drop_36 (by omega) (fun _ H locs _ h => ?_)
    subst hQ
    refine vy_ret ?_
    exact ret_i C hr hlocks h (rl.1, rl.2.1 + nI 1, some (ed, cap, rmG g i Ry.length)) (⟨i, ixO_s hpp hti, hi, hnew, rfl⟩) rfl rfl (by omega) (by omega) dX1_drop_39
  refine lv_iload_n hx hb dX1_drop_0 rfl (lv_at hl 1 rfl) ?_
  refine lv_if_lt (tgt := 19) hx hb dX1_drop_1 (by decide) (fun c1 => ?_) (fun c1 => ?_)
  · refine lv_iconst (v := nI 0) hx hb dX1_drop_19 (by decide) ?_
    refine n_top (y := bZ false) rfl ?_
    exact jn false _ _ (by symm; exact decide_eq_false (fun q9 => by first | exact q9.1 c1 | exact q9.2 c12)) (by omega) (by omega) _ _ h _ (lv_sub hl [0, 1] rfl)
  · refine lv_iload_n hx hb dX1_drop_4 rfl (lv_at hl 1 rfl) ?_
    refine lv_aload_n hx hb dX1_drop_5 rfl (lv_at hl 0 rfl) ?_
    refine o_get C h (RC := RX1) (T := TX1) (N := 14) (List.mem_append_right _ hme) rfl in_X1 4 (by decide) q312 rfl (v := .ref rl.1) rfl dX1_drop_6 ?_
    refine call_VR (As := []) (rest := [.int x]) (n := 0) C h (cA_size l D dA B Z hZ _ e0 rl _ hLI) (lw_V q360 q361 q362 q133 q363) (by decide +kernel) (o_recv C h (RC := RJ2) (T := TJ2) (N := 3) (hcl9) rfl) (by decide) (by decide) rfl hl rfl (Nat.le_of_ble_eq_true rfl) dX1_drop_9 (by omega) (fun _ H locs _ h => ?_)
    refine n_top (y := nI Ry.length) (by rw [List.length_map]) ?_
    refine lv_icmp_ge (tgt := 19) hx hb dX1_drop_12 (by decide) (fun c12 => ?_) (fun c12 => ?_)
    · refine lv_iconst (v := nI 0) hx hb dX1_drop_19 (by decide) ?_
      refine n_top (y := bZ false) rfl ?_
      exact jn false _ _ (by symm; exact decide_eq_false (fun q9 => by first | exact q9.1 c1 | exact q9.2 c12)) (by omega) (by omega) _ _ h _ (lv_sub hl [0, 1] rfl)
    · refine lv_iconst (v := nI 1) hx hb dX1_drop_15 (by decide) ?_
      refine lv_goto (tgt := 20) hx hb dX1_drop_16 (by decide) ?_
      refine n_top (y := bZ true) rfl ?_
      exact jn true _ _ ((decide_eq_true ⟨c1, c12⟩).symm) (by omega) (by omega) _ _ h _ (lv_sub hl [0, 1] rfl)
