set_option maxRecDepth 100000

theorem labF_hit {tx : List Nat} {fr to k : Nat} (hk : k < 3) (h : sl (gD tx) fr (to - fr) = bgL k) : labF tx fr to 3 = some k := by
  unfold labF labF labF
  rw [h]
  rcases (show k = 0 ∨ k = 1 ∨ k = 2 by omega) with q | q | q
  · subst q; rw [if_neg (by decide), if_neg (by decide), if_pos rfl]
  · subst q; rw [if_neg (by decide), if_pos rfl]
  · subst q; rw [if_pos rfl]
theorem labF_miss {tx : List Nat} {fr to : Nat} (h0 : ¬ sl (gD tx) fr (to - fr) = bgL 0) (h1 : ¬ sl (gD tx) fr (to - fr) = bgL 1) (h2 : ¬ sl (gD tx) fr (to - fr) = bgL 2) : labF tx fr to 3 = none := by
  unfold labF labF labF
  rw [if_neg h2, if_neg h1, if_neg h0]
  rfl
theorem bgL_128 {k : Nat} (hk : k < 3) : ∀ x ∈ bgL k, x < 128 := by
  rcases (show k = 0 ∨ k = 1 ∨ k = 2 by omega) with q | q | q <;> subst q <;> decide
theorem labL_128 {k : Nat} (hk : k < 3) : ∀ x ∈ labL k, x < 128 := by
  rcases (show k = 0 ∨ k = 1 ∨ k = 2 by omega) with q | q | q <;> subst q <;> decide

set_option maxHeartbeats 400000 in
set_option maxRecDepth 100000 in
theorem c1_labels (l : Launch) (D : va_G) (dA : Nat → ClassId) (B : Nat) (Z : State → Prop) (hZ : Stab B Z) (F : va_W) (hzs : ZS dA B Z) :
    Ct (S := Nat × (Nat → Option Nat)) l D dA B Z yX1_labels cX1_labels 0 (some ((.array (.object "java/lang/String")))) 1 1 3 [] (F) (fun u => ∀ k, k < 3 → ∃ a v, u.2 k = some a ∧ StrV dA B Z [] a v (labL k)) (fun u => some (.ref u.1)) (fun u => F ++ [(u.1, sar dA 3 u.2)]) := by
  refine Ct.mk2 (by decide) (Nat.le_of_ble_eq_true rfl) hZ ?_
  intro p e R s m args below meth c ls Q C hr hlocks hin hQ hl h
  have C0 := C
  obtain ⟨hx, hb, hml, hown, hts, -⟩ := C0
  have hl : lv_has ls 0 [] := hl
  obtain ⟨sa17, sv17, hr17, hk17⟩ := hzs.2.2.1 _ (List.mem_of_getElem? (l := strTab) (i := 0) rfl)
  obtain ⟨sa19, sv19, hr19, hk19⟩ := hzs.2.2.1 _ (List.mem_of_getElem? (l := strTab) (i := 1) rfl)
  obtain ⟨sa21, sv21, hr21, hk21⟩ := hzs.2.2.1 _ (List.mem_of_getElem? (l := strTab) (i := 2) rfl)
  refine lv_iconst (v := nI 3) hx hb dX1_labels_0 (by decide) ?_
  refine n_news C h (n := 3) hzs q694 (by decide) (by omega) (by omega) dX1_labels_1 (fun o1 H h => ?_)
  have h := Wd.toFront h
  have h : Wd D B s ([(o1, sar dA 3 (fun _ => none))] ++ F) H [] := h
  refine lv_dup hx hb dX1_labels_4 rfl ?_
  refine lv_iconst (v := nI 0) hx hb dX1_labels_5 (by decide) ?_
  refine s_ldc C h hr17 dX1_labels_6 ?_
  refine x_Sast C h 0 (i := 0) (ws' := [(o1, sar dA 3 (upN (fun _ => none) 0 (some sa17)))] ++ F) rfl (nilup hk17 _) (by decide) (by decide) rfl dX1_labels_8 (fun H locs h => ?_)
  refine lv_dup hx hb dX1_labels_9 rfl ?_
  refine lv_iconst (v := nI 1) hx hb dX1_labels_10 (by decide) ?_
  refine s_ldc C h hr19 dX1_labels_11 ?_
  refine x_Sast C h 0 (i := 1) (ws' := [(o1, sar dA 3 (upN (upN (fun _ => none) 0 (some sa17)) 1 (some sa19)))] ++ F) rfl (nilup hk19 _) (by decide) (by decide) rfl dX1_labels_13 (fun H locs h => ?_)
  refine lv_dup hx hb dX1_labels_14 rfl ?_
  refine lv_iconst (v := nI 2) hx hb dX1_labels_15 (by decide) ?_
  refine s_ldc C h hr21 dX1_labels_16 ?_
  refine x_Sast C h 0 (i := 2) (ws' := [(o1, sar dA 3 (upN (upN (upN (fun _ => none) 0 (some sa17)) 1 (some sa19)) 2 (some sa21)))] ++ F) rfl (nilup hk21 _) (by decide) (by decide) rfl dX1_labels_18 (fun H locs h => ?_)
  subst hQ
  have h : Wd D B s (F ++ [(o1, sar dA 3 (upN (upN (upN (fun _ => none) 0 (some sa17)) 1 (some sa19)) 2 (some sa21)))]) H locs := h.permL (perm_add (fun g f p0 p1 p2 => by (try simp only [p0, p1, p2]) <;> omega))
  have hpo : ∀ k, k < 3 → ∃ a v, (upN (upN (upN (fun _ => none) 0 (some sa17)) 1 (some sa19)) 2 (some sa21)) k = some a ∧ StrV dA B Z [] a v (labL k) := by
    intro k hk
    rcases (show k = 0 ∨ k = 1 ∨ k = 2 by omega) with q | q | q
    · subst q; exact ⟨sa17, sv17, rfl, hk17⟩
    · subst q; exact ⟨sa19, sv19, rfl, hk19⟩
    · subst q; exact ⟨sa21, sv21, rfl, hk21⟩
  exact ret_a C hr (Or.inr ⟨_, rfl⟩) hlocks h (o1, upN (upN (upN (fun _ => none) 0 (some sa17)) 1 (some sa19)) 2 (some sa21)) hpo (Or.inr ⟨_, rfl⟩) rfl rfl (by omega) (by omega) dX1_labels_19
set_option maxHeartbeats 1000000 in
set_option maxRecDepth 100000 in
theorem c1_labelOf (l : Launch) (D : va_G) (dA : Nat → ClassId) (B : Nat) (Z : State → Prop) (hZ : Stab B Z) (F : va_W) (li tx n0 : Nat) (gt : Nat → Nat) (lt : List Nat) (nx fr to : Nat) (hlt : l.stackTraces = false) (hzx : ZX B Z) (hzs : ZS dA B Z) (htx : (tx, bar dA n0 gt) ∈ F) (hsb : SBis gt n0 lt) (hbt : byt lt) (hn0 : n0 < 1000000) (hl4 : lt.length ≤ 4096) (h1 : fr ≤ to) (h2 : to ≤ lt.length) :
    CtX (S := Nat × Nat × Nat × va_W) (SX := Nat × va_W) l D dA B Z yX1_labelOf cX1_labelOf 5 (some ((.object "java/lang/String"))) 10 24 2100 [.ref li] ([(li, .inr (9, [.ref tx, .int (nI lt.length), .int (nI nx), .int (nI fr), .int (nI to)]))] ++ F) (fun u => u.2.2.1 < 3 ∧ labF lt fr to 3 = some u.2.2.1 ∧ StrV dA B Z [] u.1 u.2.1 (labL u.2.2.1) ∧ ∀ x ∈ F, x ∈ u.2.2.2) (fun u => some (.ref u.1)) (fun u => [(li, .inr (9, [.ref tx, .int (nI lt.length), .int (nI nx), .int (nI fr), .int (nI to)]))] ++ u.2.2.2) (fun u => labF lt fr to 3 = none ∧ FaultIn u.2 u.1 (-100000 - nI fr) ∧ ∀ x ∈ F, x ∈ u.2) (fun u => u.1) (fun _ => "SignetRing$Fault") (fun u => [(li, .inr (9, [.ref tx, .int (nI lt.length), .int (nI nx), .int (nI fr), .int (nI to)]))] ++ u.2) := by
  refine CtX.mk2 (by decide) (Nat.le_of_ble_eq_true rfl) hZ ?_
  intro p e R s m args below meth c ls Q C hr hlocks hin hex hQ hl h
  have C0 := C
  obtain ⟨hx, hb, hml, hown, hts, -⟩ := C0
  have hl : lv_has ls 5 [(0, .ref li)] := hl
  have hsl := hsb.1
  obtain ⟨sa44, sv44, hr44, hk44⟩ := hzs.2.2.1 _ (List.mem_of_getElem? (l := strTab) (i := 3) rfl)
  obtain ⟨sa167, sv167, hr167, hk167⟩ := hzs.2.2.1 _ (List.mem_of_getElem? (l := strTab) (i := 7) rfl)
  refine call_S (As := []) (rest := []) (n := 0) C h (c1_labels l D dA B Z hZ ([(li, .inr (9, [.ref tx, .int (nI lt.length), .int (nI nx), .int (nI fr), .int (nI to)]))] ++ F) hzs) (lw_S q691 q692 q129 q693) (by decide +kernel) (by decide) (by decide) rfl hl rfl (Nat.le_of_ble_eq_true rfl) dX1_labelOf_0 (by omega) (fun u8 H locs hu8 h => ?_)
  obtain ⟨la, gl⟩ := u8
  dsimp only at hu8 h
  have h := Wd.toFront h
  have h : Wd D B s ([(la, sar dA 3 gl), (li, .inr (9, [.ref tx, .int (nI lt.length), .int (nI nx), .int (nI fr), .int (nI to)]))] ++ F) H locs := h
  show W p l e R s m args below meth c H locs (0 + 1) (0 + 3) Q (F0 m 3 ls [.ref la])
  refine lv_astore_n (lv' := [(1, .ref la), (0, .ref li)]) hx hb dX1_labelOf_3 rfl hl (by decide) rfl (fun ls hl => ?_)
  refine lv_aload_n hx hb dX1_labelOf_4 rfl (lv_at hl 0 rfl) ?_
  refine n_Salen C h (List.mem_of_getElem? (i := 0) rfl) dX1_labelOf_5 ?_
  refine lv_istore_n (lv' := [(2, .int (nI 3)), (1, .ref la), (0, .ref li)]) hx hb dX1_labelOf_6 rfl hl (by decide) rfl (fun ls hl => ?_)
  refine lv_iconst (v := nI 0) hx hb dX1_labelOf_7 (by decide) ?_
  refine lv_istore_n (lv' := [(3, .int (nI 0)), (2, .int (nI 3)), (1, .ref la), (0, .ref li)]) hx hb dX1_labelOf_8 rfl hl (by decide) rfl (fun ls hl => ?_)
  have loop : ∀ (nn : Nat) (i : Nat) (F2 : va_W) (cc cs : Nat), (i ≤ 3) → (∀ x ∈ F, x ∈ F2) → (∀ j, j < i → ¬ sl (gD lt) fr (to - fr) = bgL j) → (cc ≤ 1 + 7 * i) → (cs ≤ 3 + 694 * i) → 3 - i < nn → ∀ (H : Heap) (locs : List Loc), Wd D B s ([(la, sar dA 3 gl), (li, .inr (9, [.ref tx, .int (nI lt.length), .int (nI nx), .int (nI fr), .int (nI to)]))] ++ F2) H locs → ∀ (ls : Array Slot), lv_has ls 5 [(0, .ref li), (1, .ref la), (2, .int (nI 3)), (3, .int (nI i))] → W p l e R s m args below meth c H locs cc cs Q (F0 m 9 ls []) := by
    intro nn
    induction nn with
    | zero => intro i  F2  cc cs  hi3 hsub hmi hcc hcs hme; exact absurd hme (Nat.not_lt_zero _)
    | succ nn ih =>
      intro i  F2  cc cs  hi3 hsub hmi hcc hcs hme H locs h ls hl
      refine lv_iload_n hx hb dX1_labelOf_9 rfl (lv_at hl 3 rfl) ?_
      refine lv_iload_n hx hb dX1_labelOf_10 rfl (lv_at hl 2 rfl) ?_
      refine n_icmp_ge (tgt := 60) hx hb (by omega) (by omega) dX1_labelOf_11 (by decide) (fun c11 => ?_) (fun c11 => ?_)
      · refine lv_aload_n hx hb dX1_labelOf_60 rfl (lv_at hl 0 rfl) ?_
        refine lv_aload_n hx hb dX1_labelOf_61 rfl (lv_at hl 0 rfl) ?_
        refine o_get C h (RC := RX12) (T := TX12) (N := 5) (List.mem_of_getElem? (i := 1) rfl) rfl in_X12 3 (by decide) q594 rfl (v := .int (nI fr)) rfl dX1_labelOf_62 ?_
        refine call_VR (As := [.int (nI fr)]) (rest := []) (n := 1) C h (c12_fault l D dA B Z hZ _ li fr hlt hzx) (lw_V q972 q613 q614 q149 q615) (by decide +kernel) (o_recv C h (RC := RX12) (T := TX12) (N := 5) (List.mem_of_getElem? (i := 1) rfl) rfl) (by decide) (by decide) rfl hl rfl (Nat.le_of_ble_eq_true rfl) dX1_labelOf_65 (by omega) (fun u9 H locs _ h => ?_)
        obtain ⟨q9, x9⟩ := u9
        have h : Wd D B s ([(q9, .inr (10, fts x9 (-100000 - nI fr)))] ++ ([(la, sar dA 3 gl), (li, .inr (9, [.ref tx, .int (nI lt.length), .int (nI nx), .int (nI fr), .int (nI to)]))] ++ F2)) H locs := h
        have h : Wd D B s ([(q9, .inr (10, fts x9 (-100000 - nI fr))), (la, sar dA 3 gl), (li, .inr (9, [.ref tx, .int (nI lt.length), .int (nI nx), .int (nI fr), .int (nI to)]))] ++ F2) H locs := h
        subst hQ
        have h : Wd D B s ([(li, .inr (9, [.ref tx, .int (nI lt.length), .int (nI nx), .int (nI fr), .int (nI to)]))] ++ ([(q9, .inr (10, fts x9 (-100000 - nI fr)))] ++ ([(la, sar dA 3 gl)] ++ F2))) H locs := h.permL (perm_add (fun g f p0 p1 p2 => by (try simp only [p0, p1, p2]) <;> omega))
        exact x_athrow C hex hlocks h (List.mem_append_right _ (List.mem_append_left _ List.mem_cons_self)) rfl (q9, [(q9, .inr (10, fts x9 (-100000 - nI fr)))] ++ ([(la, sar dA 3 gl)] ++ F2)) rfl rfl (⟨labF_miss (hmi 0 (by omega)) (hmi 1 (by omega)) (hmi 2 (by omega)), ⟨x9, List.mem_append_left _ List.mem_cons_self⟩, fun x hx => List.mem_append_right _ (List.mem_append_right _ (hsub x hx))⟩) rfl (by omega) (by omega) dX1_labelOf_68
      · refine lv_aload_n hx hb dX1_labelOf_14 rfl (lv_at hl 1 rfl) ?_
        refine lv_iload_n hx hb dX1_labelOf_15 rfl (lv_at hl 3 rfl) ?_
        obtain ⟨a9, v9, e9, s9⟩ := hu8 i (by omega)
        refine n_Sald C h (i := i) (o := some a9) (List.mem_of_getElem? (i := 0) rfl) (by omega) (by decide) e9 dX1_labelOf_16 ?_
        refine lv_astore (lv' := [(4, .ref a9), (0, .ref li), (1, .ref la), (2, .int (nI 3)), (3, .int (nI i))]) hx hb dX1_labelOf_17 hl (by decide) rfl (fun ls hl => ?_)
        refine lv_aload_n hx hb dX1_labelOf_19 rfl (lv_at hl 1 rfl) ?_
        have hlk := labL_len i
        refine o_new C h (RC := RJ12) (T := TJ12) (N := 4) (ci := 18) (fs := [.null, .int 0, .int (bZ false), .int 0]) rfl in_J12 tyJ12_ok q699 q700 q155 dv_J12 (by omega) (by omega) dX1_labelOf_20 (fun o1 H h => ?_)
        have h := Wd.toFront h
        have h : Wd D B s ([(o1, .inr (18, [.null, .int 0, .int (bZ false), .int 0])), (la, sar dA 3 gl), (li, .inr (9, [.ref tx, .int (nI lt.length), .int (nI nx), .int (nI fr), .int (nI to)]))] ++ F2) H locs := h
        refine lv_dup hx hb dX1_labelOf_23 rfl ?_
        refine call_I (As := []) (rest := [.ref o1, .ref li]) (n := 0) C h (cJ_sbInit l D dA B Z hZ ([(la, sar dA 3 gl), (li, .inr (9, [.ref tx, .int (nI lt.length), .int (nI nx), .int (nI fr), .int (nI to)]))] ++ F2) o1 hzs) (lw_meth q703) q155 q701 q702 rfl (by decide +kernel) (by decide) (by decide) rfl hl rfl (Nat.le_of_ble_eq_true rfl) dX1_labelOf_24 (by omega) (fun v0x H locs _ h => ?_)
        have h : Wd D B s ([(o1, .inr (18, [.ref v0x, .int (nI 0), .int (bZ false), .int (nI (([] : List Nat).length))])), (v0x, bar dA 16 (fun _ => 0)), (la, sar dA 3 gl), (li, .inr (9, [.ref tx, .int (nI lt.length), .int (nI nx), .int (nI fr), .int (nI to)]))] ++ F2) H locs := h
        have hnl9 : ([] : List Nat).length = 0 := rfl
        have hsb0x := SBis_0
        have hnn0x : (16 : Nat) ≤ 16 := Nat.le_refl _
        refine s_ldc C h hr44 dX1_labelOf_27 ?_
        have hle1x : ([45, 45, 45, 45, 45, 66, 69, 71, 73, 78, 32]).length ≤ 20 := by decide
        refine call_VR (As := [.ref sa44]) (rest := [.ref li]) (n := 1) C h (cJ_append l D dA B Z hZ ([(la, sar dA 3 gl), (li, .inr (9, [.ref tx, .int (nI lt.length), .int (nI nx), .int (nI fr), .int (nI to)]))] ++ F2) o1 v0x 16 (fun _ => 0) false ([] : List Nat) sa44 sv44 ([45, 45, 45, 45, 45, 66, 69, 71, 73, 78, 32]) (nilup hk44 _) (by intro x hx; revert x; decide) (by omega) hzs hsb0x (by omega) (by (try simp only [List.length_append, List.length_nil]) <;> omega)) (lw_V q731 q732 q733 q155 q734) (by decide +kernel) (o_recv C h (RC := RJ12) (T := TJ12) (N := 4) (List.mem_of_getElem? (i := 0) rfl) rfl) (by decide) (by decide) rfl hl rfl (Nat.le_of_ble_eq_true rfl) dX1_labelOf_29 (by omega) (fun u1x H locs hu1x h => ?_)
        obtain ⟨v1x, n1x, g1x, E1x⟩ := u1x
        obtain ⟨hsb1x, hnn1x⟩ := hu1x
        have h : Wd D B s ([(o1, .inr (18, [.ref v1x, .int (nI 0), .int (bZ false), .int (nI ((([] : List Nat) ++ [45, 45, 45, 45, 45, 66, 69, 71, 73, 78, 32]).length))])), (v1x, bar dA n1x g1x), (la, sar dA 3 gl), (li, .inr (9, [.ref tx, .int (nI lt.length), .int (nI nx), .int (nI fr), .int (nI to)]))] ++ (F2 ++ E1x)) H locs := h
        have hsb1x : SBis g1x n1x (([] : List Nat) ++ [45, 45, 45, 45, 45, 66, 69, 71, 73, 78, 32]) := hsb1x
        have hnn1x : n1x ≤ 2 * 16 + 2 + ((([] : List Nat)).length + ([45, 45, 45, 45, 45, 66, 69, 71, 73, 78, 32]).length) := hnn1x
        have hll1x : (([] : List Nat) ++ [45, 45, 45, 45, 45, 66, 69, 71, 73, 78, 32]).length ≤ 20 := by simp only [List.length_append, List.length_nil] at *; omega
        have hnz1x : n1x ≤ 54 := by simp only [List.length_nil] at hnn1x; omega
        refine lv_aload hx hb dX1_labelOf_32 (lv_at hl 0 rfl) ?_
        have hle2x : (labL i).length ≤ 20 := by omega
        refine call_VR (As := [.ref a9]) (rest := [.ref li]) (n := 1) C h (cJ_append l D dA B Z hZ ([(la, sar dA 3 gl), (li, .inr (9, [.ref tx, .int (nI lt.length), .int (nI nx), .int (nI fr), .int (nI to)]))] ++ (F2 ++ E1x)) o1 v1x n1x g1x false (([] : List Nat) ++ [45, 45, 45, 45, 45, 66, 69, 71, 73, 78, 32]) a9 v9 (labL i) (nilup s9 _) (fun x hx => Nat.lt_trans (labL_128 (k := i) (by omega) x hx) (by decide)) (by omega) hzs hsb1x (by omega) (by (try simp only [List.length_append, List.length_nil]) <;> omega)) (lw_V q731 q732 q733 q155 q734) (by decide +kernel) (o_recv C h (RC := RJ12) (T := TJ12) (N := 4) (List.mem_of_getElem? (i := 0) rfl) rfl) (by decide) (by decide) rfl hl rfl (Nat.le_of_ble_eq_true rfl) dX1_labelOf_34 (by omega) (fun u2x H locs hu2x h => ?_)
        obtain ⟨v2x, n2x, g2x, E2x⟩ := u2x
        obtain ⟨hsb2x, hnn2x⟩ := hu2x
        have h : Wd D B s ([(o1, .inr (18, [.ref v2x, .int (nI 0), .int (bZ false), .int (nI ((([] : List Nat) ++ [45, 45, 45, 45, 45, 66, 69, 71, 73, 78, 32] ++ labL i).length))])), (v2x, bar dA n2x g2x), (la, sar dA 3 gl), (li, .inr (9, [.ref tx, .int (nI lt.length), .int (nI nx), .int (nI fr), .int (nI to)]))] ++ ((F2 ++ E1x) ++ E2x)) H locs := h
        have hsb2x : SBis g2x n2x (([] : List Nat) ++ [45, 45, 45, 45, 45, 66, 69, 71, 73, 78, 32] ++ labL i) := hsb2x
        have hnn2x : n2x ≤ 2 * n1x + 2 + ((([] : List Nat) ++ [45, 45, 45, 45, 45, 66, 69, 71, 73, 78, 32]).length + (labL i).length) := hnn2x
        have hll2x : (([] : List Nat) ++ [45, 45, 45, 45, 45, 66, 69, 71, 73, 78, 32] ++ labL i).length ≤ 40 := by simp only [List.length_append, List.length_nil] at *; omega
        have hnz2x : n2x ≤ 150 := by omega
        refine s_ldc C h hr167 dX1_labelOf_37 ?_
        have hle3x : ([45, 45, 45, 45, 45]).length ≤ 20 := by decide
        refine call_VR (As := [.ref sa167]) (rest := [.ref li]) (n := 1) C h (cJ_append l D dA B Z hZ ([(la, sar dA 3 gl), (li, .inr (9, [.ref tx, .int (nI lt.length), .int (nI nx), .int (nI fr), .int (nI to)]))] ++ ((F2 ++ E1x) ++ E2x)) o1 v2x n2x g2x false (([] : List Nat) ++ [45, 45, 45, 45, 45, 66, 69, 71, 73, 78, 32] ++ labL i) sa167 sv167 ([45, 45, 45, 45, 45]) (nilup hk167 _) (by intro x hx; revert x; decide) (by omega) hzs hsb2x (by omega) (by (try simp only [List.length_append, List.length_nil]) <;> omega)) (lw_V q731 q732 q733 q155 q734) (by decide +kernel) (o_recv C h (RC := RJ12) (T := TJ12) (N := 4) (List.mem_of_getElem? (i := 0) rfl) rfl) (by decide) (by decide) rfl hl rfl (Nat.le_of_ble_eq_true rfl) dX1_labelOf_39 (by omega) (fun u3x H locs hu3x h => ?_)
        obtain ⟨v3x, n3x, g3x, E3x⟩ := u3x
        obtain ⟨hsb3x, hnn3x⟩ := hu3x
        have h : Wd D B s ([(o1, .inr (18, [.ref v3x, .int (nI 0), .int (bZ false), .int (nI ((([] : List Nat) ++ [45, 45, 45, 45, 45, 66, 69, 71, 73, 78, 32] ++ labL i ++ [45, 45, 45, 45, 45]).length))])), (v3x, bar dA n3x g3x), (la, sar dA 3 gl), (li, .inr (9, [.ref tx, .int (nI lt.length), .int (nI nx), .int (nI fr), .int (nI to)]))] ++ (((F2 ++ E1x) ++ E2x) ++ E3x)) H locs := h
        have hsb3x : SBis g3x n3x (([] : List Nat) ++ [45, 45, 45, 45, 45, 66, 69, 71, 73, 78, 32] ++ labL i ++ [45, 45, 45, 45, 45]) := hsb3x
        have hnn3x : n3x ≤ 2 * n2x + 2 + ((([] : List Nat) ++ [45, 45, 45, 45, 45, 66, 69, 71, 73, 78, 32] ++ labL i).length + ([45, 45, 45, 45, 45]).length) := hnn3x
        have hll3x : (([] : List Nat) ++ [45, 45, 45, 45, 45, 66, 69, 71, 73, 78, 32] ++ labL i ++ [45, 45, 45, 45, 45]).length ≤ 60 := by simp only [List.length_append, List.length_nil] at *; omega
        have hnz3x : n3x ≤ 370 := by omega
        refine call_VR (As := []) (rest := [.ref li]) (n := 0) C h (cJ_toString l D dA B Z hZ ([(la, sar dA 3 gl), (li, .inr (9, [.ref tx, .int (nI lt.length), .int (nI nx), .int (nI fr), .int (nI to)]))] ++ (((F2 ++ E1x) ++ E2x) ++ E3x)) o1 v3x n3x g3x false (([] : List Nat) ++ [45, 45, 45, 45, 45, 66, 69, 71, 73, 78, 32] ++ labL i ++ [45, 45, 45, 45, 45]) hzs hsb3x (by omega)) (lw_V q828 q829 q830 q155 q831) (by decide +kernel) (o_recv C h (RC := RJ12) (T := TJ12) (N := 4) (List.mem_of_getElem? (i := 0) rfl) rfl) (by decide) (by decide) rfl hl rfl (Nat.le_of_ble_eq_true rfl) dX1_labelOf_42 (by omega) (fun usx H locs _ h => ?_)
        obtain ⟨srx, sqx⟩ := usx
        have h : Wd D B s ([(srx, .inr (17, [.ref sqx, .int (nI 0), .int 0, .int (bZ false)])), (sqx, bal dA (([] : List Nat) ++ [45, 45, 45, 45, 45, 66, 69, 71, 73, 78, 32] ++ labL i ++ [45, 45, 45, 45, 45])), (o1, .inr (18, [.ref v3x, .int (nI 0), .int (bZ false), .int (nI ((([] : List Nat) ++ [45, 45, 45, 45, 45, 66, 69, 71, 73, 78, 32] ++ labL i ++ [45, 45, 45, 45, 45]).length))])), (v3x, bar dA n3x g3x), (la, sar dA 3 gl), (li, .inr (9, [.ref tx, .int (nI lt.length), .int (nI nx), .int (nI fr), .int (nI to)]))] ++ (((F2 ++ E1x) ++ E2x) ++ E3x)) H locs := h
        obtain ⟨Lx, hLx⟩ : ∃ z, z = ([] : List Nat) ++ [45, 45, 45, 45, 45, 66, 69, 71, 73, 78, 32] ++ labL i ++ [45, 45, 45, 45, 45] := ⟨_, rfl⟩
        have h : Wd D B s ([(la, sar dA 3 gl), (li, .inr (9, [.ref tx, .int (nI lt.length), .int (nI nx), .int (nI fr), .int (nI to)])), (srx, .inr (17, [.ref sqx, .int (nI 0), .int 0, .int (bZ false)])), (sqx, bal dA (([] : List Nat) ++ [45, 45, 45, 45, 45, 66, 69, 71, 73, 78, 32] ++ labL i ++ [45, 45, 45, 45, 45])), (o1, .inr (18, [.ref v3x, .int (nI 0), .int (bZ false), .int (nI ((([] : List Nat) ++ [45, 45, 45, 45, 45, 66, 69, 71, 73, 78, 32] ++ labL i ++ [45, 45, 45, 45, 45]).length))])), (v3x, bar dA n3x g3x)] ++ (((F2 ++ E1x) ++ E2x) ++ E3x)) H locs := h.perm [4, 5, 0, 1, 2, 3] rfl rfl
        rw [← hLx] at h
        obtain ⟨Fx, hFx⟩ : ∃ z, z = [(srx, .inr (17, [.ref sqx, .int (nI 0), .int 0, .int (bZ false)])), (sqx, bal dA Lx), (o1, .inr (18, [.ref v3x, .int (nI 0), .int (bZ false), .int (nI Lx.length)])), (v3x, bar dA n3x g3x)] ++ (((F2 ++ E1x) ++ E2x) ++ E3x) := ⟨_, rfl⟩
        have hfsx : ∀ x ∈ (((F2 ++ E1x) ++ E2x) ++ E3x), x ∈ Fx := fun x hx => by rw [hFx]; exact List.mem_append_right _ hx
        have hstx : StrV dA B Z Fx srx sqx Lx := Or.inl ⟨.int 0, .int (bZ false), by rw [hFx]; exact List.mem_append_left _ List.mem_cons_self, by rw [hFx]; exact List.mem_append_left _ (List.mem_cons_of_mem _ List.mem_cons_self)⟩
        have h : Wd D B s ([(la, sar dA 3 gl), (li, .inr (9, [.ref tx, .int (nI lt.length), .int (nI nx), .int (nI fr), .int (nI to)]))] ++ Fx) H locs := by rw [hFx]; exact h
        have hLxl : Lx.length < 100 := by rw [hLx]; omega
        have hLb : Lx = bgL i := by rw [hLx, List.nil_append]; rfl
        have h : Wd D B s ([(li, .inr (9, [.ref tx, .int (nI lt.length), .int (nI nx), .int (nI fr), .int (nI to)])), (la, sar dA 3 gl)] ++ Fx) H locs := h.perm [1, 0] rfl rfl
        refine call_VR (As := [.ref srx]) (rest := []) (n := 1) C h (c12_is l D dA B Z hZ ([(la, sar dA 3 gl)] ++ Fx) li tx n0 gt lt nx fr to srx sqx Lx hzs (List.mem_append_right _ (hfsx _ (List.mem_append_left _ (List.mem_append_left _ (List.mem_append_left _ (hsub _ htx)))))) hsb hbt hn0 hl4 h1 h2 (hstx.up (fun x hx => List.mem_append_right _ hx)) (by rw [hLb]; exact bgL_128 (by omega)) (by omega)) (lw_V q941 q942 q943 q149 q944) (by decide +kernel) (o_recv C h (RC := RX12) (T := TX12) (N := 5) (List.mem_of_getElem? (i := 0) rfl) rfl) (by decide) (by decide) rfl hl rfl (Nat.le_of_ble_eq_true rfl) dX1_labelOf_45 (by omega) (fun _ H locs _ h => ?_)
        have h : Wd D B s ([(li, .inr (9, [.ref tx, .int (nI lt.length), .int (nI nx), .int (nI fr), .int (nI to)])), (la, sar dA 3 gl)] ++ Fx) H locs := h
        refine z_if_eq (tgt := 54) hx hb dX1_labelOf_48 (by decide) (fun c48 => ?_) (fun c48 => ?_)
        · have mi : ¬ sl (gD lt) fr (to - fr) = bgL i := by rw [← hLb]; exact of_decide_eq_false c48
          refine lv_iinc (v := nI (i + 1)) (lv' := [(3, .int (nI (i + 1))), (4, .ref a9), (0, .ref li), (1, .ref la), (2, .int (nI 3))]) hx hb dX1_labelOf_54 hl (k := 4) rfl (nI_add i 1) (by decide) rfl (fun ls hl => ?_)
          refine lv_goto (tgt := 9) hx hb dX1_labelOf_57 (by decide) ?_
          have h : Wd D B s ([(la, sar dA 3 gl), (li, .inr (9, [.ref tx, .int (nI lt.length), .int (nI nx), .int (nI fr), .int (nI to)]))] ++ Fx) H locs := h.perm [1, 0] rfl rfl
          exact ih (i + 1) Fx _ _ (by omega) (fun x hx => hfsx _ (List.mem_append_left _ (List.mem_append_left _ (List.mem_append_left _ (hsub x hx))))) (fun j hj => by rcases Nat.lt_succ_iff_lt_or_eq.mp hj with q | q; exact hmi j q; rw [q]; exact mi) (by omega) (by omega) (by omega) _ _ h _ (lv_sub hl [2, 3, 4, 0] rfl)
        · have hit : sl (gD lt) fr (to - fr) = bgL i := by rw [← hLb]; exact of_decide_eq_true c48
          refine lv_aload hx hb dX1_labelOf_51 (lv_at hl 0 rfl) ?_
          subst hQ
          have h : Wd D B s ([(li, .inr (9, [.ref tx, .int (nI lt.length), .int (nI nx), .int (nI fr), .int (nI to)]))] ++ ([(la, sar dA 3 gl)] ++ Fx)) H locs := h.permL (perm_add (fun g f p0 p1 p2 => by (try simp only [p0, p1, p2]) <;> omega))
          refine vy_ret ?_
          exact ret_a C hr (Or.inl ⟨_, rfl⟩) hlocks h (a9, v9, i, [(la, sar dA 3 gl)] ++ Fx) (⟨by show i < 3; omega, labF_hit (by omega) hit, s9, fun x hx => List.mem_append_right _ (hfsx _ (List.mem_append_left _ (List.mem_append_left _ (List.mem_append_left _ (hsub x hx)))))⟩) (Or.inr ⟨_, rfl⟩) rfl rfl (by omega) (by omega) dX1_labelOf_53
  exact loop _ 0 F _ _ (by omega) (fun x hx => hx) (fun j hj => absurd hj (Nat.not_lt_zero _)) (by omega) (by omega) (Nat.lt_succ_self _) _ _ h _ (lv_sub hl [3, 2, 1, 0] rfl)
set_option maxHeartbeats 400000 in
set_option maxRecDepth 100000 in
theorem cM_at (l : Launch) (D : va_G) (dA : Nat → ClassId) (B : Nat) (Z : State → Prop) (hZ : Stab B Z) (ws : va_W) (r b cap : Nat) (g : Nat → Nat) (lt : List Nat) (i : Nat) (hr9 : (r, .inr (1, [.ref b, .int (nI lt.length)])) ∈ ws) (hb9 : (b, bar dA cap g) ∈ ws) (hi : i < cap) (hcm : cap < 1000000) (hgb : g i < 256) :
    Ct (S := Unit) l D dA B Z yX2_at cX2_at 2 (some .int) 1 0 0 [.ref r, .int (nI i)] (ws) (fun _ => True) (fun _ => some (.int (nI (g i)))) (fun _ => ws) := by
  refine Ct.mk2 (by decide) (Nat.le_of_ble_eq_true rfl) hZ ?_
  intro p e R s m args below meth c ls Q C hr hlocks hin hQ hl h
  have C0 := C
  obtain ⟨hx, hb, hml, hown, hts, -⟩ := C0
  have hl : lv_has ls 2 [(0, .ref r), (1, .int (nI i))] := hl
  refine lv_aload_n hx hb dX2_at_0 rfl (lv_at hl 0 rfl) ?_
  refine o_get C h (RC := RX2) (T := TX2) (N := 2) (hr9) rfl in_X2 0 (by decide) q186 rfl (v := .ref b) rfl dX2_at_1 ?_
  refine lv_iload_n hx hb dX2_at_4 rfl (lv_at hl 1 rfl) ?_
  refine n_bald C h (v := g i) (hb9) (show i < cap by omega) (by omega) rfl dX2_at_5 ?_
  refine lv_sipush (v := nI 255) hx hb dX2_at_6 (by decide) ?_
  refine lv_iand hx hb dX2_at_9 ?_
  refine n_top (y := nI (g i)) ((sb_byte _ hgb).1) ?_
  subst hQ
  exact ret_i C hr hlocks h () trivial rfl rfl (by omega) (by omega) dX2_at_10
set_option maxHeartbeats 400000 in
set_option maxRecDepth 100000 in
theorem c1_openedB (l : Launch) (D : va_G) (dA : Nat → ClassId) (B : Nat) (Z : State → Prop) (hZ : Stab B Z) (F : va_W) (me ro rb rc : Nat) (gt : Nat → Nat) (tp : List Nat) (hsb : SBis gt rc tp) (hbt : byt tp) (hrc : rc < 400000) (hr64 : 64 ≤ rc) (hl4 : tp.length ≤ 4096) (hbin : tp.length = 0 ∨ 128 ≤ gD tp 0) :
    Ct (S := Unit) l D dA B Z yX1_opened cX1_opened 3 (some ((.object "SignetRing$Row"))) 2 0 0 [.ref me, .ref ro] ([(ro, .inr (1, [.ref rb, .int (nI tp.length)])), (rb, bar dA rc gt)] ++ F) (fun _ => True) (fun _ => some (.ref ro)) (fun _ => [(ro, .inr (1, [.ref rb, .int (nI tp.length)])), (rb, bar dA rc gt)] ++ F) := by
  refine Ct.mk2 (by decide) (Nat.le_of_ble_eq_true rfl) hZ ?_
  intro p e R s m args below meth c ls Q C hr hlocks hin hQ hl h
  have C0 := C
  obtain ⟨hx, hb, hml, hown, hts, -⟩ := C0
  have hl : lv_has ls 3 [(0, .ref me), (1, .ref ro)] := hl
  refine lv_aload_n hx hb dX1_opened_0 rfl (lv_at hl 1 rfl) ?_
  refine o_get C h (RC := RX2) (T := TX2) (N := 2) (List.mem_of_getElem? (i := 0) rfl) rfl in_X2 1 (by decide) q192 rfl (v := .int (nI tp.length)) rfl dX1_opened_1 ?_
  refine n_if_eq (tgt := 17) hx hb (by omega) dX1_opened_4 (by decide) (fun c4 => ?_) (fun c4 => ?_)
  · refine lv_aload_n hx hb dX1_opened_17 rfl (lv_at hl 1 rfl) ?_
    subst hQ
    exact ret_a C hr (Or.inl ⟨_, rfl⟩) hlocks h () trivial (Or.inr ⟨_, rfl⟩) rfl rfl (by omega) (by omega) dX1_opened_18
  · have h0 : gt 0 = gD tp 0 := hsb.2 0 (by omega)
    have hg0 := byt_gD hbt 0
    refine lv_aload_n hx hb dX1_opened_7 rfl (lv_at hl 1 rfl) ?_
    refine lv_iconst (v := nI 0) hx hb dX1_opened_8 (by decide) ?_
    refine call_VR (As := [.int (nI 0)]) (rest := []) (n := 1) C h (c2_at l D dA B Z hZ F ro rb rc gt tp 0 (by omega) (by omega) (by omega)) (lw_V q579 q580 q581 q130 q582) (by decide +kernel) (o_recv C h (RC := RX2) (T := TX2) (N := 2) (List.mem_of_getElem? (i := 0) rfl) rfl) (by decide) (by decide) rfl hl rfl (Nat.le_of_ble_eq_true rfl) dX1_opened_9 (by omega) (fun _ H locs _ h => ?_)
    have h : Wd D B s ([(ro, .inr (1, [.ref rb, .int (nI tp.length)])), (rb, bar dA rc gt)] ++ F) H locs := h
    refine lv_bipush (v := nI 127) hx hb dX1_opened_12 (by decide) ?_
    refine n_icmp_le (tgt := 19) hx hb (by omega) (by omega) dX1_opened_14 (by decide) (fun c14 => by exfalso; omega) (fun c14 => ?_)
    refine lv_aload_n hx hb dX1_opened_17 rfl (lv_at hl 1 rfl) ?_
    subst hQ
    exact ret_a C hr (Or.inl ⟨_, rfl⟩) hlocks h () trivial (Or.inr ⟨_, rfl⟩) rfl rfl (by omega) (by omega) dX1_opened_18
set_option maxHeartbeats 400000 in
set_option maxRecDepth 100000 in
theorem c1_openedT (l : Launch) (D : va_G) (dA : Nat → ClassId) (B : Nat) (Z : State → Prop) (hZ : Stab B Z) (F : va_W) (me bs dc ou rg h1 h2 dg tk pl pk tx sd : Nat) (sz : Nat) (po ro rb rc : Nat) (gt : Nat → Nat) (tp : List Nat) (b cap : Nat) (g : Nat → Nat) (lr : List Nat) (hlt : l.stackTraces = false) (hzx : ZX B Z) (hzs : ZS dA B Z) (hme : (me, .inr (0, [.ref bs, .int (nI sz), .ref dc, .ref ou, .ref rg, .ref h1, .ref h2, .ref dg, .ref po, .ref tk, .ref pl, .ref pk, .ref tx, .ref sd])) ∈ F) (hro : (ro, .inr (1, [.ref rb, .int (nI tp.length)])) ∈ F) (hrb : (rb, bar dA rc gt) ∈ F) (hsb : SBis gt rc tp) (hbt : byt tp) (hrc : rc < 400000) (hr64 : 64 ≤ rc) (hl4 : tp.length ≤ 4096) (hbin : ¬ (tp.length = 0 ∨ 128 ≤ gD tp 0)) (hsr : SBis g cap lr) (hcap : 64 ≤ cap) (hcm : cap < 400000) :
    CtX (S := Nat × Nat × (Nat → Nat) × va_W) (SX := Nat × Nat × Nat × (Nat → Nat) × List Nat × va_W) l D dA B Z yX1_opened cX1_opened 3 (some ((.object "SignetRing$Row"))) 11 (rC cap tp.length + 46) (rS cap tp.length + 3410) [.ref me, .ref ro] ([(pl, .inr (1, [.ref b, .int (nI lr.length)])), (b, bar dA cap g)] ++ F) (fun u => (rowS tp).1 = 0 ∧ SBis u.2.2.1 u.2.1 (rowS tp).2 ∧ byt (rowS tp).2 ∧ (rowS tp).2.length ≤ tp.length ∧ GrOk cap tp.length u.2.1 ∧ ∀ x ∈ F, x ∈ u.2.2.2) (fun _ => some (.ref pl)) (fun u => [(pl, .inr (1, [.ref u.1, .int (nI ((rowS tp).2.length))])), (u.1, bar dA u.2.1 u.2.2.1)] ++ u.2.2.2) (fun u => (rowS tp).1 ≠ 0 ∧ FaultIn u.2.2.2.2.2 u.1 (rowS tp).1 ∧ SBis u.2.2.2.1 u.2.2.1 u.2.2.2.2.1 ∧ GrOk cap tp.length u.2.2.1 ∧ ∀ x ∈ F, x ∈ u.2.2.2.2.2) (fun u => u.1) (fun _ => "SignetRing$Fault") (fun u => [(pl, .inr (1, [.ref u.2.1, .int (nI u.2.2.2.2.1.length)])), (u.2.1, bar dA u.2.2.1 u.2.2.2.1)] ++ u.2.2.2.2.2) := by
  refine CtX.mk2 (by decide) (Nat.le_of_ble_eq_true rfl) hZ ?_
  intro p e R s m args below meth c ls Q C hr hlocks hin hex hQ hl h
  have C0 := C
  obtain ⟨hx, hb, hml, hown, hts, -⟩ := C0
  have hl : lv_has ls 3 [(0, .ref me), (1, .ref ro)] := hl
  have hlen : 0 < tp.length := by omega
  have h0 : gt 0 = gD tp 0 := hsb.2 0 hlen
  have hg0 := byt_gD hbt 0
  have hgc := gro_b (cap := cap) (m := tp.length) (by omega)
  have hrC : rC cap tp.length = (gro cap tp.length - cap) / 64 := rfl
  have hrS : rS cap tp.length = 2 * (gro cap tp.length - cap) := rfl
  have hst := eol_strip hlen
  have hrow : rowS tp = ((byLabS tp (0, eolL tp 0 + 1, 0, stripL tp 0 (eolL tp 0))).1.1, (byLabS tp (0, eolL tp 0 + 1, 0, stripL tp 0 (eolL tp 0))).2) := by
    unfold rowS
    rw [if_neg hbin, lineS_g hlen]
  refine lv_aload_n hx hb dX1_opened_0 rfl (lv_at hl 1 rfl) ?_
  refine o_get C h (RC := RX2) (T := TX2) (N := 2) (List.mem_append_right _ hro) rfl in_X2 1 (by decide) q192 rfl (v := .int (nI tp.length)) rfl dX1_opened_1 ?_
  refine n_if_eq (tgt := 17) hx hb (by omega) dX1_opened_4 (by decide) (fun c4 => by exfalso; omega) (fun c4 => ?_)
  refine lv_aload_n hx hb dX1_opened_7 rfl (lv_at hl 1 rfl) ?_
  refine lv_iconst (v := nI 0) hx hb dX1_opened_8 (by decide) ?_
  refine call_VR (As := [.int (nI 0)]) (rest := []) (n := 1) C h (cM_at l D dA B Z hZ _ ro rb rc gt tp 0 (List.mem_append_right _ hro) (List.mem_append_right _ hrb) (by omega) (by omega) (by omega)) (lw_V q579 q580 q581 q130 q582) (by decide +kernel) (o_recv C h (RC := RX2) (T := TX2) (N := 2) (List.mem_append_right _ hro) rfl) (by decide) (by decide) rfl hl rfl (Nat.le_of_ble_eq_true rfl) dX1_opened_9 (by omega) (fun _ H locs _ h => ?_)
  refine lv_bipush (v := nI 127) hx hb dX1_opened_12 (by decide) ?_
  refine n_icmp_le (tgt := 19) hx hb (by omega) (by omega) dX1_opened_14 (by decide) (fun c14 => ?_) (fun c14 => by exfalso; omega)
  refine o_new C h (RC := RX12) (T := TX12) (N := 5) (ci := 9) (fs := [.null, .int 0, .int 0, .int 0, .int 0]) rfl in_X12 tyX12_ok q583 q584 q149 dv_X12 (by omega) (by omega) dX1_opened_19 (fun o1 H h => ?_)
  have h := Wd.toFront h
  have h : Wd D B s ([(o1, .inr (9, [.null, .int 0, .int 0, .int 0, .int 0])), (pl, .inr (1, [.ref b, .int (nI lr.length)])), (b, bar dA cap g)] ++ F) H locs := h
  refine lv_dup hx hb dX1_opened_22 rfl ?_
  refine lv_aload_n hx hb dX1_opened_23 rfl (lv_at hl 1 rfl) ?_
  refine o_get C h (RC := RX2) (T := TX2) (N := 2) (List.mem_append_right _ hro) rfl in_X2 0 (by decide) q188 rfl (v := .ref rb) rfl dX1_opened_24 ?_
  refine lv_aload_n hx hb dX1_opened_27 rfl (lv_at hl 1 rfl) ?_
  refine o_get C h (RC := RX2) (T := TX2) (N := 2) (List.mem_append_right _ hro) rfl in_X2 1 (by decide) q192 rfl (v := .int (nI tp.length)) rfl dX1_opened_28 ?_
  refine call_I (As := [.ref rb, .int (nI tp.length)]) (rest := [.ref o1]) (n := 2) C h (c12_init l D dA B Z hZ ([(pl, .inr (1, [.ref b, .int (nI lr.length)])), (b, bar dA cap g)] ++ F) o1 rb tp.length) (lw_meth q587) q149 q585 q586 rfl (by decide +kernel) (by decide) (by decide) rfl hl rfl (Nat.le_of_ble_eq_true rfl) dX1_opened_31 (by omega) (fun _ H locs _ h => ?_)
  have h : Wd D B s ([(o1, .inr (9, [.ref rb, .int (nI tp.length), .int (nI 0), .int (nI 0), .int (nI 0)])), (pl, .inr (1, [.ref b, .int (nI lr.length)])), (b, bar dA cap g)] ++ F) H locs := h
  refine lv_astore_n (lv' := [(2, .ref o1), (0, .ref me), (1, .ref ro)]) hx hb dX1_opened_34 rfl hl (by decide) rfl (fun ls hl => ?_)
  refine lv_aload_n hx hb dX1_opened_35 rfl (lv_at hl 0 rfl) ?_
  refine call_VR (As := []) (rest := []) (n := 0) C h (c12_line l D dA B Z hZ ([(pl, .inr (1, [.ref b, .int (nI lr.length)])), (b, bar dA cap g)] ++ F) o1 rb rc gt tp 0 0 0 (List.mem_append_right _ (hrb)) hsb hbt (by omega) hl4 hlen) (lw_V q608 q609 q610 q149 q611) (by decide +kernel) (o_recv C h (RC := RX12) (T := TX12) (N := 5) (List.mem_of_getElem? (i := 0) rfl) rfl) (by decide) (by decide) rfl hl rfl (Nat.le_of_ble_eq_true rfl) dX1_opened_36 (by omega) (fun _ H locs _ h => ?_)
  have h : Wd D B s ([(o1, .inr (9, [.ref rb, .int (nI tp.length), .int (nI (eolL tp 0 + 1)), .int (nI 0), .int (nI (stripL tp 0 (eolL tp 0)))])), (pl, .inr (1, [.ref b, .int (nI lr.length)])), (b, bar dA cap g)] ++ F) H locs := h
  refine lv_aload_n hx hb dX1_opened_39 rfl (lv_at hl 0 rfl) ?_
  refine lv_aload_n hx hb dX1_opened_40 rfl (lv_at hl 0 rfl) ?_
  have hold : Wd D B s ([(o1, .inr (9, [.ref rb, .int (nI tp.length), .int (nI (eolL tp 0 + 1)), .int (nI 0), .int (nI (stripL tp 0 (eolL tp 0)))]))] ++ ([(pl, .inr (1, [.ref b, .int (nI lr.length)])), (b, bar dA cap g)] ++ F)) H locs := h
  refine call_SX (As := [.ref o1]) (rest := [.ref o1]) (n := 1) C h (c1_labelOf l D dA B Z hZ ([(pl, .inr (1, [.ref b, .int (nI lr.length)])), (b, bar dA cap g)] ++ F) o1 rb rc gt tp (eolL tp 0 + 1) 0 (stripL tp 0 (eolL tp 0)) hlt hzx hzs (List.mem_append_right _ (hrb)) hsb hbt (by omega) hl4 hst.1 hst.2.1) (lw_S q688 q689 q129 q690) (by decide +kernel) (by decide) (by decide) rfl hl rfl (Nat.le_of_ble_eq_true rfl) dX1_opened_41 (by omega) (fun ux ce9 H locs hux h hce9 hcv9 hcl9 => ?_) (fun u8 H locs hu8 h => ?_)
  · obtain ⟨q8, W8⟩ := ux
    obtain ⟨hx1, hx2, hx3⟩ := hux
    dsimp only at hx1 hx2 hx3 h
    obtain ⟨E8, hp8, h⟩ := Wd.grow hold hx3 h
    obtain ⟨x8, hx8⟩ := hx2
    have hq8 := hp8.mem_iff.mp hx8
    have hq7 : (q8, .inr (10, fts x8 (-100000 - nI 0))) ∈ F ++ E8 := by
      rw [List.append_assoc] at hq8
      rcases List.mem_append.mp hq8 with z | z
      · simp only [List.mem_cons, Prod.mk.injEq, List.not_mem_nil, or_false] at z
        rcases z with z | z <;> exact absurd z.2 (by intro q9; cases q9)
      · exact z
    have h : Wd D B s ([(pl, .inr (1, [.ref b, .int (nI lr.length)])), (b, bar dA cap g)] ++ ([(o1, .inr (9, [.ref rb, .int (nI tp.length), .int (nI (eolL tp 0 + 1)), .int (nI 0), .int (nI (stripL tp 0 (eolL tp 0)))]))] ++ (F ++ E8))) H locs := h.permL (perm_add (fun g f p0 p1 p2 => by (try simp only [p0, p1, p2]) <;> omega))
    have hby : (rowS tp).1 = -100000 - nI 0 := by rw [hrow]; unfold byLabS; dsimp only; rw [hx1]; unfold failLn failT; dsimp only; rw [if_pos rfl]
    subst hQ
    exact thr_out C hex hlocks h (q8, b, cap, g, lr, [(o1, .inr (9, [.ref rb, .int (nI tp.length), .int (nI (eolL tp 0 + 1)), .int (nI 0), .int (nI (stripL tp 0 (eolL tp 0)))]))] ++ (F ++ E8)) rfl rfl (⟨by rw [hby]; decide, ⟨x8, by rw [hby]; exact List.mem_append_right _ hq7⟩, hsr, ⟨hcap, Nat.le_refl _, hgc.2.1⟩, fun x hx => List.mem_append_right _ (List.mem_append_left _ hx)⟩) rfl hce9 hcv9 hcl9 (by omega) (by omega)
  obtain ⟨sa, sv, kl, W8⟩ := u8
  obtain ⟨hk3, hlf, hsv, hsub⟩ := hu8
  dsimp only at hk3 hlf hsv hsub h
  obtain ⟨E8, hp8, h⟩ := Wd.grow hold hsub h
  have h : Wd D B s ([(o1, .inr (9, [.ref rb, .int (nI tp.length), .int (nI (eolL tp 0 + 1)), .int (nI 0), .int (nI (stripL tp 0 (eolL tp 0)))])), (pl, .inr (1, [.ref b, .int (nI lr.length)])), (b, bar dA cap g)] ++ (F ++ E8)) H locs := h.permL (perm_add (fun g f p0 p1 p2 => by (try simp only [p0, p1, p2]) <;> omega))
  show W p l e R s m args below meth c H locs (0 + 0 + 1 + 0 + 0 + 24) (0 + 0 + 5 + 0 + 0 + 2100) Q (F0 m 44 ls [.ref sa, .ref o1])
  refine lv_aload_n hx hb dX1_opened_44 rfl (lv_at hl 1 rfl) ?_
  refine o_get C h (RC := RX1) (T := TX1) (N := 14) (List.mem_append_right _ (List.mem_append_left _ hme)) rfl in_X1 10 (by decide) q318 rfl (v := .ref pl) rfl dX1_opened_45 ?_
  have hby : rowS tp = ((signsS tp (labL kl) (0, eolL tp 0 + 1, 0, stripL tp 0 (eolL tp 0))).1.1, (signsS tp (labL kl) (0, eolL tp 0 + 1, 0, stripL tp 0 (eolL tp 0))).2) := by rw [hrow]; unfold byLabS; dsimp only; rw [hlf]
  refine call_VX (As := [.ref sa, .ref pl]) (rest := []) (n := 2) C h (c12_signs l D dA B Z hZ (F ++ E8) o1 rb rc gt tp (eolL tp 0 + 1) 0 (stripL tp 0 (eolL tp 0)) sa sv (labL kl) pl b cap g lr hlt hzx hzs (List.mem_append_left _ hrb) hsb hbt (by omega) hl4 (by omega) (nilup hsv _) (labL_128 hk3) (labL_len kl) hsr hcap hcm) (lw_V q973 q974 q975 q149 q976) (by decide +kernel) (o_recv C h (RC := RX12) (T := TX12) (N := 5) (List.mem_of_getElem? (i := 0) rfl) rfl) (by decide) (by decide) rfl hl rfl (Nat.le_of_ble_eq_true rfl) dX1_opened_48 (by omega) (fun ux ce9 H locs hux h hce9 hcv9 hcl9 => ?_) (fun u9 H locs hu9 h => ?_)
  · obtain ⟨q8, ⟨n8, f8, t8⟩, b8, c8, g8, l8, W9⟩ := ux
    obtain ⟨hx0, hx1, hx2, hx3, hx4⟩ := hux
    dsimp only at hx0 hx1 hx2 hx3 hx4 h
    have h : Wd D B s ([(pl, .inr (1, [.ref b8, .int (nI l8.length)])), (b8, bar dA c8 g8)] ++ ([(o1, .inr (9, [.ref rb, .int (nI tp.length), .int (nI n8), .int (nI f8), .int (nI t8)]))] ++ W9)) H locs := h.permL (perm_add (fun g f p0 p1 p2 => by (try simp only [p0, p1, p2]) <;> omega))
    subst hQ
    exact thr_out C hex hlocks h (q8, b8, c8, g8, l8, [(o1, .inr (9, [.ref rb, .int (nI tp.length), .int (nI n8), .int (nI f8), .int (nI t8)]))] ++ W9) rfl rfl (⟨by rw [hby]; exact hx0, by rw [hby]; exact hx1.up (fun z hz => List.mem_append_right _ hz), hx2, hx3, fun x hx => List.mem_append_right _ (hx4 x (List.mem_append_left _ hx))⟩) rfl hce9 hcv9 hcl9 (by omega) (by omega)
  obtain ⟨⟨n8, f8, t8⟩, b8, c8, g8, W9⟩ := u9
  obtain ⟨hy0, hy1, hy2, hy3, hy4, hy5⟩ := hu9
  dsimp only at hy0 hy1 hy2 hy3 hy4 hy5 h
  have h : Wd D B s ([(pl, .inr (1, [.ref b8, .int (nI ((signsS tp (labL kl) (0, eolL tp 0 + 1, 0, stripL tp 0 (eolL tp 0))).2.length))])), (b8, bar dA c8 g8)] ++ ([(o1, .inr (9, [.ref rb, .int (nI tp.length), .int (nI n8), .int (nI f8), .int (nI t8)]))] ++ W9)) H locs := h.permL (perm_add (fun g f p0 p1 p2 => by (try simp only [p0, p1, p2]) <;> omega))
  have hr2 : (rowS tp).2 = (signsS tp (labL kl) (0, eolL tp 0 + 1, 0, stripL tp 0 (eolL tp 0))).2 := by rw [hby]
  rw [← hr2] at h hy1 hy2 hy3
  subst hQ
  refine vy_ret ?_
  exact ret_a C hr (Or.inl ⟨_, rfl⟩) hlocks h (b8, c8, g8, [(o1, .inr (9, [.ref rb, .int (nI tp.length), .int (nI n8), .int (nI f8), .int (nI t8)]))] ++ W9) (⟨by rw [hby]; exact hy0, hy1, hy2, hy3, hy4, fun x hx => List.mem_append_right _ (hy5 x (List.mem_append_left _ hx))⟩) (Or.inr ⟨_, rfl⟩) rfl rfl (by omega) (by omega) dX1_opened_51
set_option maxHeartbeats 400000 in
set_option maxRecDepth 100000 in
theorem c1_taken (l : Launch) (D : va_G) (dA : Nat → ClassId) (B : Nat) (Z : State → Prop) (hZ : Stab B Z) (F : va_W) (me bs dc ou rg h1 h2 dg tk pl pk tx sd : Nat)  (po b cap : Nat) (g gB : Nat → Nat) (lr tp : List Nat) (hbs : (bs, bar dA 4096 gB) ∈ F) (hsB : SBis gB 4096 tp) (hbt : byt tp) (hcap : 64 ≤ cap) (hcm : cap < 400000) :
    Ct (S := Nat × (Nat → Nat) × va_W) l D dA B Z yX1_taken cX1_taken 1 (some ((.object "SignetRing$Row"))) 5 (rC cap tp.length) (rS cap tp.length) [.ref me] ([(me, .inr (0, [.ref bs, .int (nI tp.length), .ref dc, .ref ou, .ref rg, .ref h1, .ref h2, .ref dg, .ref po, .ref tk, .ref pl, .ref pk, .ref tx, .ref sd])), (tk, .inr (1, [.ref b, .int (nI lr.length)])), (b, bar dA cap g)] ++ F) (fun u => SBis u.2.1 (gro cap tp.length) tp) (fun _ => some (.ref tk)) (fun u => [(me, .inr (0, [.ref bs, .int (nI 0), .ref dc, .ref ou, .ref rg, .ref h1, .ref h2, .ref dg, .ref po, .ref tk, .ref pl, .ref pk, .ref tx, .ref sd])), (tk, .inr (1, [.ref u.1, .int (nI tp.length)])), (u.1, bar dA (gro cap tp.length) u.2.1)] ++ (F ++ u.2.2)) := by
  refine Ct.mk2 (by decide) (Nat.le_of_ble_eq_true rfl) hZ ?_
  intro p e R s m args below meth c ls Q C hr hlocks hin hQ hl h
  have C0 := C
  obtain ⟨hx, hb, hml, hown, hts, -⟩ := C0
  have hl : lv_has ls 1 [(0, .ref me)] := hl
  have hl4 := hsB.1
  have hnil : ([] : List Nat).length = 0 := rfl
  have hsl : sl gB 0 (tp.length - 0) = tp := by rw [Nat.sub_zero]; exact hsB.sl
  refine lv_aload_n hx hb dX1_taken_0 rfl (lv_at hl 0 rfl) ?_
  refine o_get C h (RC := RX1) (T := TX1) (N := 14) (List.mem_of_getElem? (i := 0) rfl) rfl in_X1 9 (by decide) q317 rfl (v := .ref tk) rfl dX1_taken_1 ?_
  have h : Wd D B s ([(tk, .inr (1, [.ref b, .int (nI lr.length)])), (b, bar dA cap g), (me, .inr (0, [.ref bs, .int (nI tp.length), .ref dc, .ref ou, .ref rg, .ref h1, .ref h2, .ref dg, .ref po, .ref tk, .ref pl, .ref pk, .ref tx, .ref sd]))] ++ F) s.heap [] := h.perm [1, 2, 0] rfl rfl
  refine call_VR (As := []) (rest := []) (n := 0) C h (c2_clear l D dA B Z hZ ([(me, .inr (0, [.ref bs, .int (nI tp.length), .ref dc, .ref ou, .ref rg, .ref h1, .ref h2, .ref dg, .ref po, .ref tk, .ref pl, .ref pk, .ref tx, .ref sd]))] ++ F) tk b cap g lr) (lw_V q553 q554 q555 q130 q556) (by decide +kernel) (o_recv C h (RC := RX2) (T := TX2) (N := 2) (List.mem_of_getElem? (i := 0) rfl) rfl) (by decide) (by decide) rfl hl rfl (Nat.le_of_ble_eq_true rfl) dX1_taken_4 (by omega) (fun _ H locs _ h => ?_)
  have h : Wd D B s ([(tk, .inr (1, [.ref b, .int (nI (([] : List Nat).length))])), (b, bar dA cap g), (me, .inr (0, [.ref bs, .int (nI tp.length), .ref dc, .ref ou, .ref rg, .ref h1, .ref h2, .ref dg, .ref po, .ref tk, .ref pl, .ref pk, .ref tx, .ref sd]))] ++ F) H locs := h
  refine lv_aload_n hx hb dX1_taken_7 rfl (lv_at hl 0 rfl) ?_
  refine o_get C h (RC := RX1) (T := TX1) (N := 14) (List.mem_of_getElem? (i := 2) rfl) rfl in_X1 9 (by decide) q317 rfl (v := .ref tk) rfl dX1_taken_8 ?_
  refine lv_aload_n hx hb dX1_taken_11 rfl (lv_at hl 0 rfl) ?_
  refine o_get C h (RC := RX1) (T := TX1) (N := 14) (List.mem_of_getElem? (i := 2) rfl) rfl in_X1 0 (by decide) q308 rfl (v := .ref bs) rfl dX1_taken_12 ?_
  refine lv_iconst (v := nI 0) hx hb dX1_taken_15 (by decide) ?_
  refine lv_aload_n hx hb dX1_taken_16 rfl (lv_at hl 0 rfl) ?_
  refine o_get C h (RC := RX1) (T := TX1) (N := 14) (List.mem_of_getElem? (i := 2) rfl) rfl in_X1 1 (by decide) q309 rfl (v := .int (nI tp.length)) rfl dX1_taken_17 ?_
  have hcall := c2_putA l D dA B Z hZ ([(me, .inr (0, [.ref bs, .int (nI tp.length), .ref dc, .ref ou, .ref rg, .ref h1, .ref h2, .ref dg, .ref po, .ref tk, .ref pl, .ref pk, .ref tx, .ref sd]))] ++ F) tk b cap g ([] : List Nat) bs 4096 0 tp.length gB ⟨Nat.zero_le _, fun j hj => absurd hj (Nat.not_lt_zero _)⟩ hcap (List.mem_append_right _ (hbs)) (Nat.zero_le _) hl4 (by decide) (by rw [hnil]; omega) (by omega) (fun j hj => by rw [hsB.2 j hj]; exact byt_gD hbt j)
  rw [List.nil_append, hsl] at hcall
  refine call_VR (As := [.ref bs, .int (nI 0), .int (nI tp.length)]) (rest := []) (n := 3) C h hcall (lw_V q557 q558 q559 q130 q560) (by decide +kernel) (o_recv C h (RC := RX2) (T := TX2) (N := 2) (List.mem_of_getElem? (i := 0) rfl) rfl) (by decide) (by decide) rfl hl rfl (Nat.le_of_ble_eq_true rfl) dX1_taken_20 (by omega) (fun u8 H locs hu8 h => ?_)
  obtain ⟨b2, g2, E2⟩ := u8
  dsimp only at hu8 h
  have h : Wd D B s ([(me, .inr (0, [.ref bs, .int (nI tp.length), .ref dc, .ref ou, .ref rg, .ref h1, .ref h2, .ref dg, .ref po, .ref tk, .ref pl, .ref pk, .ref tx, .ref sd])), (tk, .inr (1, [.ref b2, .int (nI tp.length)])), (b2, bar dA (gro cap tp.length) g2)] ++ (F ++ E2)) H locs := h.permL (perm_add (fun g f p0 p1 p2 => by (try simp only [p0, p1, p2]) <;> omega))
  refine lv_aload_n hx hb dX1_taken_23 rfl (lv_at hl 0 rfl) ?_
  refine lv_iconst (v := nI 0) hx hb dX1_taken_24 (by decide) ?_
  refine o_put C h 0 (RC := RX1) (T := TX1) (N := 14) (ws' := [(me, .inr (0, [.ref bs, .int (nI 0), .ref dc, .ref ou, .ref rg, .ref h1, .ref h2, .ref dg, .ref po, .ref tk, .ref pl, .ref pk, .ref tx, .ref sd])), (tk, .inr (1, [.ref b2, .int (nI tp.length)])), (b2, bar dA (gro cap tp.length) g2)] ++ (F ++ E2)) rfl rfl in_X1 tyX1_ok nmX1 1 (by decide) q309 rfl rfl (v := .int (nI 0)) rfl rfl (Nat.le_of_ble_eq_true rfl) rfl dX1_taken_25 (fun H locs h => ?_)
  refine lv_aload_n hx hb dX1_taken_28 rfl (lv_at hl 0 rfl) ?_
  refine o_get C h (RC := RX1) (T := TX1) (N := 14) (List.mem_of_getElem? (i := 0) rfl) rfl in_X1 9 (by decide) q317 rfl (v := .ref tk) rfl dX1_taken_29 ?_
  subst hQ
  exact ret_a C hr (Or.inl ⟨_, rfl⟩) hlocks h (b2, g2, E2) hu8 (Or.inr ⟨_, rfl⟩) rfl rfl (by omega) (by omega) dX1_taken_32
