set_option maxRecDepth 100000

def bodyAt (L : List PK) (j : Nat) : List Nat := (L[j]?.map (fun x => x.2.1)).getD []
theorem bodyAt_s {L : List PK} {j : Nat} {x : PK} (h : L[j]? = some x) : bodyAt L j = x.2.1 := by unfold bodyAt; rw [h]; rfl
theorem byS_le (b : List Nat) (mk t : Nat) (mu : Bool) : byS b mk t mu ≤ 5 := by
  unfold byS
  split
  · decide
  · split
    · split <;> decide
    · split <;> decide
def usE (L : List PK) (kx : PK) (t : Nat) (o : LO) : Nat := match o with | none => 4 | some z => byS (bodyAt L z.1) (kmd kx.2.1) t false
def usK (L : List PK) (kx : PK) (t q en : Nat) : Nat :=
  if t < kmd kx.2.1 then 1 else if revS L kx kx 32 t q (nsF L q) = true then 3 else usE L kx t (bndS L kx t q en)
theorem usK_le (L : List PK) (kx : PK) (t q en : Nat) : usK L kx t q en ≤ 5 := by
  unfold usK
  split
  · decide
  · split
    · decide
    · unfold usE
      split
      · decide
      · exact byS_le _ _ _ _
def usB (L : List PK) (kx tx : PK) (t : Nat) (o : LO) : Nat := match o with
  | none => 4
  | some z => if 0 < byS (bodyAt L z.1) (kmd tx.2.1) t true then byS (bodyAt L z.1) (kmd tx.2.1) t true else if backS kx tx (bodyAt L z.1) t = true then 0 else 6
def usA (L : List PK) (kx tx : PK) (t q i en : Nat) : Nat :=
  if i = q ∨ (0 < usK L kx t q en ∧ usK L kx t q en < 5) then usK L kx t q en else if t < kmd tx.2.1 then 1 else if revS L kx tx 40 t i (nsF L i) = true then 3 else usB L kx tx t (latS L kx tx 24 24 t i (nsF L i))
theorem LOk.lt {L : List PK} {o : LO} (h : LOk L o) (hl : L.length ≤ 4650) : ∀ i, latP o = some i → i < 100000 := by
  intro i9 hi9
  cases q9 : o with
  | none => rw [q9] at hi9; cases hi9
  | some z =>
    rw [q9] at hi9; cases hi9
    obtain ⟨x8, hx8, _⟩ := h z q9
    have := (List.getElem?_eq_some_iff.mp hx8).1
    omega
theorem latP_n {o : LO} (h : latP o = none) : o = none := by
  cases o with
  | none => rfl
  | some z => cases h

set_option maxHeartbeats 400000 in
set_option maxRecDepth 100000 in
theorem c7_usableKey (l : Launch) (D : va_G) (dA : Nat → ClassId) (B : Nat) (Z : State → Prop) (hZ : Stab B Z) (h0 : Nat) (ad : Nat → Nat) (M : MS) (F : va_W) (L : List PK) (q t bm en : Nat) (kx : PK) (hzR : ∀ U : State, Z U → ∃ t, va_Z "SignetRingModel" "ROUNDS" "[I" (.ref t) (bA B) U U.heap ∧ va_T .int t 64 (fun j => .int (K2 j)) (bA B) U U.heap) (hI : MI M) (hR : CurR dA F ad M L) (hPK : PKs L) (hLl : L.length ≤ 4650) (hen2 : sk (notK 6) L (q + 1) = q + 1 + en) (hkx : L[q]? = some kx) (hk5 : 5 ≤ kx.2.1.length) (hk142 : kx.2.1.length ≤ 142) (ht : t < 4294967296) (hbm : ∀ (j : Nat) (x : PK), L[j]? = some x → x.1 = 2 → x.2.1.length ≤ bm) :
    Ct (S := MS × va_W) l D dA B Z yX7_usableKey cX7_usableKey 7 (some .int) 11 (3 * lsm L (nsF L q) (q + 1) + bcst 2 0 (bm / 2 + 1) (bm + 2) L q en + (bm / 2 + 1)) (202 * lsm L (nsF L q) (q + 1) + bcst 106 0 (5 * bm) (10 * bm) L q en + 5 * bm) [.ref h0, .int (nI q), .long (lN t)] (mw dA h0 ad M ++ F) (fun u => MI u.1 ∧ Kp M u.1) (fun _ => some (.int (nI (usK L kx t q en)))) (fun u => mw dA h0 ad u.1 ++ (F ++ u.2)) := by
  refine Ct.mk2 (by decide) (Nat.le_of_ble_eq_true rfl) hZ ?_
  intro p e R s m args below meth c ls Q C hr hlocks hin hQ hl h
  have C0 := C
  obtain ⟨hx, hb, hml, hown, hts, -⟩ := C0
  have hl : lv_has ls 7 [(0, .ref h0), (1, .int (nI q)), (2, .long (lN t))] := hl
  have hql := (List.getElem?_eq_some_iff.mp hkx).1
  obtain ⟨hkxk, ⟨qkx, hqkx, hqkxF⟩, hkxs⟩ := hR.1 _ _ hkx
  have hkxo := hPK.at hkx
  have hkx1 := hkxo.1
  have hkxl := hkxo.2.2.1
  have hkl9 := kmd_lt hkxo.2.1
  have hsl := sk_le (P := notK 6) (L := L) (q := q + 1) (by omega)
  have hqe : q + en < L.length := by omega
  refine lv_aload_n hx hb dX7_usableKey_0 rfl (lv_at hl 0 rfl) ?_
  refine m_gr C h 14 (by decide) rfl rfl q1884 (v := some (ad 14)) hR.2.2.2.1 dX7_usableKey_1 ?_
  refine lv_iload_n hx hb dX7_usableKey_4 rfl (lv_at hl 1 rfl) ?_
  refine n_aald C h (v := (mA M 14) q) (mw_memA (k := 14) (by decide)) (show q < 4700 by omega) (by decide) rfl dX7_usableKey_5 ?_
  refine n_topv (y := .ref qkx) (congrArg va_rf hqkx) ?_
  refine lv_iconst (v := nI 1) hx hb dX7_usableKey_6 (by decide) ?_
  refine lv_iconst (v := nI 4) hx hb dX7_usableKey_7 (by decide) ?_
  refine call_S (As := [.ref qkx, .int (nI 1), .int (nI 4)]) (rest := []) (n := 3) C h (c7_number l D dA B Z hZ _ qkx kx.2.1.length (gD kx.2.1) 1 4 (List.mem_append_right _ hqkxF) (by omega) (by omega) (fun j _ => Nat.lt_trans (byt_gD hkxo.2.1 j) (by decide))) (lw_S q2278 q2279 q138 q2280) (by decide +kernel) (by decide) (by decide) rfl hl rfl (Nat.le_of_ble_eq_true rfl) dX7_usableKey_8 (by omega) (fun _ H locs _ h => ?_)
  show W p l e R s m args below meth c H locs (0 + 0) (0 + 0) Q (F0 m 11 ls [.long (lN (kmd kx.2.1))])
  refine lv_lstore (lv' := [(4, .long (lN (kmd kx.2.1))), (0, .ref h0), (1, .int (nI q)), (2, .long (lN t))]) hx hb dX7_usableKey_11 hl (by decide) rfl (fun ls hl => ?_)
  refine lv_lload_n hx hb dX7_usableKey_13 rfl (lv_at hl 3 rfl) ?_
  refine lv_lload hx hb dX7_usableKey_14 (lv_at hl 0 rfl) ?_
  refine n_lcmp_ge (tgt := 22) hx hb (by omega) (by omega) dX7_usableKey_16 dX7_usableKey_17 (by decide) (fun c16 => ?_) (fun c16 => ?_)
  · refine lv_aload_n hx hb dX7_usableKey_22 rfl (lv_at hl 1 rfl) ?_
    refine lv_iload_n hx hb dX7_usableKey_23 rfl (lv_at hl 2 rfl) ?_
    refine lv_iload_n hx hb dX7_usableKey_24 rfl (lv_at hl 2 rfl) ?_
    refine lv_bipush (v := nI 32) hx hb dX7_usableKey_25 (by decide) ?_
    refine lv_lload_n hx hb dX7_usableKey_27 rfl (lv_at hl 3 rfl) ?_
    refine call_V (As := [.int (nI q), .int (nI q), .int (nI 32), .long (lN t)]) (rest := []) (n := 4) C h (c7_isRevoked l D dA B Z hZ h0 ad M F L q q 32 t (nsF L q) kx kx hzR hI hR hPK hLl hkx hk5 hk142 hkx (by decide) ht (nsF_e hql)) (lw_V q2452 q2454 qs104 q138 q2455) (by decide +kernel) (ci := 5) rfl rfl mw_mem0 (by decide) (by decide) rfl hl rfl (Nat.le_of_ble_eq_true rfl) dX7_usableKey_28 (by omega) (fun ua H locs hua h => ?_)
    obtain ⟨M1, E1⟩ := ua
    have hI1 : MI M1 := hua.1
    have hK1 : Kp M M1 := hua.2
    have h : Wd D B s (mw dA h0 ad M1 ++ (F ++ E1)) H locs := h
    have hR1 : CurR dA (F ++ E1) ad M1 L := hR.kp hK1 (fun z hz => List.mem_append_left _ hz)
    refine z_if_eq (tgt := 36) hx hb dX7_usableKey_31 (by decide) (fun c31 => ?_) (fun c31 => ?_)
    · refine lv_aload_n hx hb dX7_usableKey_36 rfl (lv_at hl 1 rfl) ?_
      refine lv_iload_n hx hb dX7_usableKey_37 rfl (lv_at hl 2 rfl) ?_
      refine lv_lload_n hx hb dX7_usableKey_38 rfl (lv_at hl 3 rfl) ?_
      refine call_V (As := [.int (nI q), .long (lN t)]) (rest := []) (n := 2) C h (c7_bondOf l D dA B Z hZ h0 ad M1 (F ++ E1) L q t bm en kx hzR hI1 hR1 hPK hLl hen2 hkx hk5 hk142 ht hbm) (lw_V q2468 q2470 qs108 q138 q2471) (by decide +kernel) (ci := 5) rfl rfl mw_mem0 (by decide) (by decide) rfl hl rfl (Nat.le_of_ble_eq_true rfl) dX7_usableKey_39 (by omega) (fun ub H locs hub h => ?_)
      obtain ⟨M2, E2⟩ := ub
      have hI2 : MI M2 := hub.1
      have hK2 : Kp M M2 := hK1.trans hub.2
      have h : Wd D B s (mw dA h0 ad M2 ++ (F ++ (E1 ++ E2))) H locs := by rw [← List.append_assoc F]; exact h
      have hR2 : CurR dA (F ++ (E1 ++ E2)) ad M2 L := hR.kp hK2 (fun z hz => List.mem_append_left _ hz)
      have hlok : LOk L (bndS L kx t q en) := bndS_LOk hPK hqe
      obtain ⟨o9, ho9⟩ : ∃ z, z = bndS L kx t q en := ⟨_, rfl⟩
      rw [← ho9] at hlok
      refine n_top (y := oI (latP o9)) (by rw [ho9]) ?_
      refine lv_istore (lv' := [(6, .int (oI (latP o9))), (4, .long (lN (kmd kx.2.1))), (0, .ref h0), (1, .int (nI q)), (2, .long (lN t))]) hx hb dX7_usableKey_42 hl (by decide) rfl (fun ls hl => ?_)
      refine lv_iload hx hb dX7_usableKey_44 (lv_at hl 0 rfl) ?_
      refine lv_iconst (v := -1) hx hb dX7_usableKey_46 (by decide) ?_
      refine lv_icmp_ne (tgt := 54) hx hb dX7_usableKey_47 (by decide) (fun c47 => ?_) (fun c47 => ?_)
      · obtain ⟨z9, hz9⟩ : ∃ z, o9 = some z := by
          cases q9 : o9 with
          | none => rw [q9] at c47; exact absurd rfl c47
          | some z => exact ⟨z, rfl⟩
        obtain ⟨y9, hy9, hy2, hyk, hyd, hyv, hyt⟩ := hlok z9 hz9
        have hyb := hbm _ _ hy9 hy2
        have hbs := byS_le y9.2.1 (kmd kx.2.1) t false
        have hl : lv_has ls 7 [(6, .int (nI z9.1)), (4, .long (lN (kmd kx.2.1))), (0, .ref h0), (1, .int (nI q)), (2, .long (lN t))] := by rw [hz9] at hl; exact hl
        refine lv_aload_n hx hb dX7_usableKey_54 rfl (lv_at hl 2 rfl) ?_
        refine lv_iload hx hb dX7_usableKey_55 (lv_at hl 0 rfl) ?_
        refine lv_lload hx hb dX7_usableKey_57 (lv_at hl 1 rfl) ?_
        refine lv_lload_n hx hb dX7_usableKey_59 rfl (lv_at hl 4 rfl) ?_
        refine lv_iconst (v := nI 0) hx hb dX7_usableKey_60 (by decide) ?_
        refine call_V (As := [.int (nI z9.1), .long (lN (kmd kx.2.1)), .long (lN t), .int (nI 0)]) (rest := []) (n := 4) C h (c7_byBond l D dA B Z hZ h0 ad M2 (F ++ (E1 ++ E2)) L z9.1 (kmd kx.2.1) t false y9 hI2 hR2 hPK hLl hy9 hyk hkl9 ht) (lw_V q2488 q2490 qs113 q138 q2491) (by decide +kernel) (ci := 5) rfl rfl mw_mem0 (by decide) (by decide) rfl hl rfl (Nat.le_of_ble_eq_true rfl) dX7_usableKey_61 (by omega) (fun uc H locs huc h => ?_)
        obtain ⟨M3, E3⟩ := uc
        have hI3 : MI M3 := huc.1
        have hK3 : Kp M M3 := hK2.trans huc.2
        have h : Wd D B s (mw dA h0 ad M3 ++ (F ++ (E1 ++ (E2 ++ E3)))) H locs := by rw [← List.append_assoc E1, ← List.append_assoc F]; exact h
        have hR3 : CurR dA (F ++ (E1 ++ (E2 ++ E3))) ad M3 L := hR.kp hK3 (fun z hz => List.mem_append_left _ hz)
        subst hQ
        have hfin : usK L kx t q en = byS y9.2.1 (kmd kx.2.1) t false := by unfold usK; rw [if_neg (by omega), if_neg (by rw [c31]; decide), ← ho9, hz9]; unfold usE; show byS (bodyAt L z9.1) _ _ _ = _; rw [bodyAt_s hy9]
        exact ret_i C hr hlocks h (M3, E1 ++ (E2 ++ E3)) (⟨hI3, hK3⟩) (by rw [hfin]) rfl (by omega) (by omega) dX7_usableKey_64
      · have hon : o9 = none := latP_n ((oI_ne (hlok.lt hLl)).mp c47)
        refine lv_iconst (v := nI 4) hx hb dX7_usableKey_50 (by decide) ?_
        refine lv_goto (tgt := 64) hx hb dX7_usableKey_51 (by decide) ?_
        subst hQ
        have hfin : usK L kx t q en = 4 := by unfold usK; rw [if_neg (by omega), if_neg (by rw [c31]; decide), ← ho9, hon]; rfl
        exact ret_i C hr hlocks h (M2, E1 ++ E2) (⟨hI2, hK2⟩) (by rw [hfin]) rfl (by omega) (by omega) dX7_usableKey_64
    · refine lv_iconst (v := nI 3) hx hb dX7_usableKey_34 (by decide) ?_
      subst hQ
      have hfin : usK L kx t q en = 3 := by unfold usK; rw [if_neg (by omega), if_pos c31]
      exact ret_i C hr hlocks h (M1, E1) (⟨hI1, hK1⟩) (by rw [hfin]) rfl (by omega) (by omega) dX7_usableKey_35
  · refine lv_iconst (v := nI 1) hx hb dX7_usableKey_20 (by decide) ?_
    subst hQ
    have hfin : usK L kx t q en = 1 := by unfold usK; rw [if_pos (by omega)]
    have h : Wd D B s (mw dA h0 ad M ++ (F ++ [])) H locs := by rw [List.append_nil]; exact h
    exact ret_i C hr hlocks h (M, []) (⟨hI, Kp.rfl' M⟩) (by rw [hfin]) rfl (by omega) (by omega) dX7_usableKey_21
set_option maxHeartbeats 400000 in
set_option maxRecDepth 100000 in
theorem c7_usableAt (l : Launch) (D : va_G) (dA : Nat → ClassId) (B : Nat) (Z : State → Prop) (hZ : Stab B Z) (h0 : Nat) (ad : Nat → Nat) (M : MS) (F : va_W) (L : List PK) (q i t bm en : Nat) (kx tx9 : PK) (hzR : ∀ U : State, Z U → ∃ t, va_Z "SignetRingModel" "ROUNDS" "[I" (.ref t) (bA B) U U.heap ∧ va_T .int t 64 (fun j => .int (K2 j)) (bA B) U U.heap) (hI : MI M) (hR : CurR dA F ad M L) (hPK : PKs L) (hLl : L.length ≤ 4650) (hen2 : sk (notK 6) L (q + 1) = q + 1 + en) (hkx : L[q]? = some kx) (hk5 : 5 ≤ kx.2.1.length) (hk142 : kx.2.1.length ≤ 142) (ht : t < 4294967296) (hbm : ∀ (j : Nat) (x : PK), L[j]? = some x → x.1 = 2 → x.2.1.length ≤ bm) (htx : L[i]? = some tx9) (ht5 : 5 ≤ tx9.2.1.length) :
    Ct (S := MS × va_W) l D dA B Z yX7_usableAt cX7_usableAt 10 (some .int) 12 (3 * lsm L (nsF L q) (q + 1) + bcst 2 0 (bm / 2 + 1) (bm + 2) L q en + (bm / 2 + 1) + (5 * lsm L (nsF L i) (i + 1) + (2 * bm + 12))) (202 * lsm L (nsF L q) (q + 1) + bcst 106 0 (5 * bm) (10 * bm) L q en + 5 * bm + (308 * lsm L (nsF L i) (i + 1) + (15 * bm + (6 * tx9.2.1.length + 300)))) [.ref h0, .int (nI q), .int (nI i), .long (lN t)] (mw dA h0 ad M ++ F) (fun u => MI u.1 ∧ Kp M u.1) (fun _ => some (.int (nI (usA L kx tx9 t q i en)))) (fun u => mw dA h0 ad u.1 ++ (F ++ u.2)) := by
  refine Ct.mk2 (by decide) (Nat.le_of_ble_eq_true rfl) hZ ?_
  intro p e R s m args below meth c ls Q C hr hlocks hin hQ hl h
  have C0 := C
  obtain ⟨hx, hb, hml, hown, hts, -⟩ := C0
  have hl : lv_has ls 10 [(0, .ref h0), (1, .int (nI q)), (2, .int (nI i)), (3, .long (lN t))] := hl
  have hql := (List.getElem?_eq_some_iff.mp hkx).1
  have hil := (List.getElem?_eq_some_iff.mp htx).1
  obtain ⟨htxk, ⟨qtx, hqtx, hqtxF⟩, htxs⟩ := hR.1 _ _ htx
  have htxo := hPK.at htx
  have htx1 := htxo.1
  have htxl := htxo.2.2.1
  have hkl9 := kmd_lt htxo.2.1
  have hule := usK_le L kx t q en
  refine lv_aload_n hx hb dX7_usableAt_0 rfl (lv_at hl 0 rfl) ?_
  refine lv_iload_n hx hb dX7_usableAt_1 rfl (lv_at hl 1 rfl) ?_
  refine lv_lload_n hx hb dX7_usableAt_2 rfl (lv_at hl 3 rfl) ?_
  refine call_V (As := [.int (nI q), .long (lN t)]) (rest := []) (n := 2) C h (c7_usableKey l D dA B Z hZ h0 ad M F L q t bm en kx hzR hI hR hPK hLl hen2 hkx hk5 hk142 ht hbm) (lw_V q2448 q2450 qs103 q138 q2451) (by decide +kernel) (ci := 5) rfl rfl mw_mem0 (by decide) (by decide) rfl hl rfl (Nat.le_of_ble_eq_true rfl) dX7_usableAt_3 (by omega) (fun ua H locs hua h => ?_)
  obtain ⟨M1, E1⟩ := ua
  have hI1 : MI M1 := hua.1
  have hK1 : Kp M M1 := hua.2
  have h : Wd D B s (mw dA h0 ad M1 ++ (F ++ E1)) H locs := h
  have hR1 : CurR dA (F ++ E1) ad M1 L := hR.kp hK1 (fun z hz => List.mem_append_left _ hz)
  have hqtx1 : mA M1 14 i = some qtx := by rw [hK1.2.2.2.2]; exact hqtx
  refine lv_istore (lv' := [(5, .int (nI (usK L kx t q en))), (0, .ref h0), (1, .int (nI q)), (2, .int (nI i)), (3, .long (lN t))]) hx hb dX7_usableAt_6 hl (by decide) rfl (fun ls hl => ?_)
  have j27 : (¬ (i = q ∨ (0 < usK L kx t q en ∧ usK L kx t q en < 5))) → ∀ (H : Heap) (locs : List Loc), Wd D B s (mw dA h0 ad M1 ++ (F ++ E1)) H locs → ∀ (ls : Array Slot), lv_has ls 10 [(0, .ref h0), (1, .int (nI q)), (2, .int (nI i)), (3, .long (lN t))] → W p l e R s m args below meth c H locs (0 + (3 * lsm L (nsF L q) (q + 1) + bcst 2 0 (bm / 2 + 1) (bm + 2) L q en + (bm / 2 + 1))) (0 + (202 * lsm L (nsF L q) (q + 1) + bcst 106 0 (5 * bm) (10 * bm) L q en + 5 * bm)) Q (F0 m 27 ls []) := by
    intro  hno H locs h ls hl
    refine lv_aload_n hx hb dX7_usableAt_27 rfl (lv_at hl 0 rfl) ?_
    refine m_gr C h 14 (by decide) rfl rfl q1884 (v := some (ad 14)) hR1.2.2.2.1 dX7_usableAt_28 ?_
    refine lv_iload_n hx hb dX7_usableAt_31 rfl (lv_at hl 2 rfl) ?_
    refine n_aald C h (v := (mA M1 14) i) (mw_memA (k := 14) (by decide)) (show i < 4700 by omega) (by decide) rfl dX7_usableAt_32 ?_
    refine n_topv (y := .ref qtx) (congrArg va_rf hqtx1) ?_
    refine lv_iconst (v := nI 1) hx hb dX7_usableAt_33 (by decide) ?_
    refine lv_iconst (v := nI 4) hx hb dX7_usableAt_34 (by decide) ?_
    refine call_S (As := [.ref qtx, .int (nI 1), .int (nI 4)]) (rest := []) (n := 3) C h (c7_number l D dA B Z hZ _ qtx tx9.2.1.length (gD tx9.2.1) 1 4 (List.mem_append_right _ (List.mem_append_left _ hqtxF)) (by omega) (by omega) (fun j _ => Nat.lt_trans (byt_gD htxo.2.1 j) (by decide))) (lw_S q2278 q2279 q138 q2280) (by decide +kernel) (by decide) (by decide) rfl hl rfl (Nat.le_of_ble_eq_true rfl) dX7_usableAt_35 (by omega) (fun _ H locs _ h => ?_)
    show W p l e R s m args below meth c H locs (0 + (3 * lsm L (nsF L q) (q + 1) + bcst 2 0 (bm / 2 + 1) (bm + 2) L q en + (bm / 2 + 1)) + 0) (0 + (202 * lsm L (nsF L q) (q + 1) + bcst 106 0 (5 * bm) (10 * bm) L q en + 5 * bm) + 0) Q (F0 m 38 ls [.long (lN (kmd tx9.2.1))])
    refine lv_lstore (lv' := [(6, .long (lN (kmd tx9.2.1))), (0, .ref h0), (1, .int (nI q)), (2, .int (nI i)), (3, .long (lN t))]) hx hb dX7_usableAt_38 hl (by decide) rfl (fun ls hl => ?_)
    refine lv_lload_n hx hb dX7_usableAt_40 rfl (lv_at hl 4 rfl) ?_
    refine lv_lload hx hb dX7_usableAt_41 (lv_at hl 0 rfl) ?_
    refine n_lcmp_ge (tgt := 49) hx hb (by omega) (by omega) dX7_usableAt_43 dX7_usableAt_44 (by decide) (fun c43 => ?_) (fun c43 => ?_)
    · refine lv_aload_n hx hb dX7_usableAt_49 rfl (lv_at hl 1 rfl) ?_
      refine lv_iload_n hx hb dX7_usableAt_50 rfl (lv_at hl 2 rfl) ?_
      refine lv_iload_n hx hb dX7_usableAt_51 rfl (lv_at hl 3 rfl) ?_
      refine lv_bipush (v := nI 40) hx hb dX7_usableAt_52 (by decide) ?_
      refine lv_lload_n hx hb dX7_usableAt_54 rfl (lv_at hl 4 rfl) ?_
      refine call_V (As := [.int (nI q), .int (nI i), .int (nI 40), .long (lN t)]) (rest := []) (n := 4) C h (c7_isRevoked l D dA B Z hZ h0 ad M1 (F ++ E1) L q i 40 t (nsF L i) kx tx9 hzR hI1 hR1 hPK hLl hkx hk5 hk142 htx (by decide) ht (nsF_e hil)) (lw_V q2452 q2454 qs104 q138 q2455) (by decide +kernel) (ci := 5) rfl rfl mw_mem0 (by decide) (by decide) rfl hl rfl (Nat.le_of_ble_eq_true rfl) dX7_usableAt_55 (by omega) (fun ub H locs hub h => ?_)
      obtain ⟨M2, E2⟩ := ub
      have hI2 : MI M2 := hub.1
      have hK2 : Kp M M2 := hK1.trans hub.2
      have h : Wd D B s (mw dA h0 ad M2 ++ (F ++ (E1 ++ E2))) H locs := by rw [← List.append_assoc F]; exact h
      have hR2 : CurR dA (F ++ (E1 ++ E2)) ad M2 L := hR.kp hK2 (fun z hz => List.mem_append_left _ hz)
      refine z_if_eq (tgt := 63) hx hb dX7_usableAt_58 (by decide) (fun c58 => ?_) (fun c58 => ?_)
      · refine lv_aload_n hx hb dX7_usableAt_63 rfl (lv_at hl 1 rfl) ?_
        refine lv_iload_n hx hb dX7_usableAt_64 rfl (lv_at hl 2 rfl) ?_
        refine lv_iload_n hx hb dX7_usableAt_65 rfl (lv_at hl 3 rfl) ?_
        refine lv_bipush (v := nI 24) hx hb dX7_usableAt_66 (by decide) ?_
        refine lv_bipush (v := nI 24) hx hb dX7_usableAt_68 (by decide) ?_
        refine lv_lload_n hx hb dX7_usableAt_70 rfl (lv_at hl 4 rfl) ?_
        refine call_V (As := [.int (nI q), .int (nI i), .int (nI 24), .int (nI 24), .long (lN t)]) (rest := []) (n := 5) C h (c7_latestOf l D dA B Z hZ h0 ad M2 (F ++ (E1 ++ E2)) L q i 24 24 t (nsF L i) kx tx9 hzR hI2 hR2 hPK hLl hkx hk5 hk142 htx (by decide) (by decide) ht (nsF_e hil)) (lw_V q2472 q2474 qs109 q138 q2475) (by decide +kernel) (ci := 5) rfl rfl mw_mem0 (by decide) (by decide) rfl hl rfl (Nat.le_of_ble_eq_true rfl) dX7_usableAt_71 (by omega) (fun uc H locs huc h => ?_)
        obtain ⟨M3, E3⟩ := uc
        have hI3 : MI M3 := huc.1
        have hK3 : Kp M M3 := hK2.trans huc.2
        have h : Wd D B s (mw dA h0 ad M3 ++ (F ++ (E1 ++ (E2 ++ E3)))) H locs := by rw [← List.append_assoc E1, ← List.append_assoc F]; exact h
        have hR3 : CurR dA (F ++ (E1 ++ (E2 ++ E3))) ad M3 L := hR.kp hK3 (fun z hz => List.mem_append_left _ hz)
        have hlok := latS_LOk (kx := kx) (tx := tx9) (lo := 24) (hi := 24) (t := t) (i := i) hPK hil
        obtain ⟨o9, ho9⟩ : ∃ z, z = latS L kx tx9 24 24 t i (nsF L i) := ⟨_, rfl⟩
        rw [← ho9] at hlok
        refine n_top (y := oI (latP o9)) (by rw [ho9]) ?_
        refine lv_istore (lv' := [(8, .int (oI (latP o9))), (6, .long (lN (kmd tx9.2.1))), (0, .ref h0), (1, .int (nI q)), (2, .int (nI i)), (3, .long (lN t))]) hx hb dX7_usableAt_74 hl (by decide) rfl (fun ls hl => ?_)
        refine lv_iload hx hb dX7_usableAt_76 (lv_at hl 0 rfl) ?_
        refine lv_iconst (v := -1) hx hb dX7_usableAt_78 (by decide) ?_
        refine lv_icmp_ne (tgt := 84) hx hb dX7_usableAt_79 (by decide) (fun c79 => ?_) (fun c79 => ?_)
        · obtain ⟨z9, hz9⟩ : ∃ z, o9 = some z := by
            cases q9 : o9 with
            | none => rw [q9] at c79; exact absurd rfl c79
            | some z => exact ⟨z, rfl⟩
          obtain ⟨y9, hy9, hy2, hyk, hyd, hyv, hyt⟩ := hlok z9 hz9
          have hyb := hbm _ _ hy9 hy2
          obtain ⟨b9, hb9⟩ : ∃ z, z = byS y9.2.1 (kmd tx9.2.1) t true := ⟨_, rfl⟩
          have hbs := byS_le y9.2.1 (kmd tx9.2.1) t true
          rw [← hb9] at hbs
          have hyl := (List.getElem?_eq_some_iff.mp hy9).1
          have hU : usA L kx tx9 t q i en = if 0 < b9 then b9 else if backS kx tx9 y9.2.1 t = true then 0 else 6 := by
            unfold usA
            rw [if_neg hno, if_neg (by omega), if_neg (by rw [c58]; decide), ← ho9, hz9]
            show (if 0 < byS (bodyAt L z9.1) (kmd tx9.2.1) t true then byS (bodyAt L z9.1) (kmd tx9.2.1) t true else if backS kx tx9 (bodyAt L z9.1) t = true then 0 else 6) = _
            rw [bodyAt_s hy9, ← hb9]
          have hl : lv_has ls 10 [(8, .int (nI z9.1)), (6, .long (lN (kmd tx9.2.1))), (0, .ref h0), (1, .int (nI q)), (2, .int (nI i)), (3, .long (lN t))] := by rw [hz9] at hl; exact hl
          refine lv_aload_n hx hb dX7_usableAt_84 rfl (lv_at hl 2 rfl) ?_
          refine lv_iload hx hb dX7_usableAt_85 (lv_at hl 0 rfl) ?_
          refine lv_lload hx hb dX7_usableAt_87 (lv_at hl 1 rfl) ?_
          refine lv_lload_n hx hb dX7_usableAt_89 rfl (lv_at hl 5 rfl) ?_
          refine lv_iconst (v := nI 1) hx hb dX7_usableAt_90 (by decide) ?_
          refine n_top (y := bZ true) rfl ?_
          refine call_V (As := [.int (nI z9.1), .long (lN (kmd tx9.2.1)), .long (lN t), .int (bZ true)]) (rest := []) (n := 4) C h (c7_byBond l D dA B Z hZ h0 ad M3 (F ++ (E1 ++ (E2 ++ E3))) L z9.1 (kmd tx9.2.1) t true y9 hI3 hR3 hPK hLl hy9 hyk hkl9 ht) (lw_V q2488 q2490 qs113 q138 q2491) (by decide +kernel) (ci := 5) rfl rfl mw_mem0 (by decide) (by decide) rfl hl rfl (Nat.le_of_ble_eq_true rfl) dX7_usableAt_91 (by omega) (fun ud H locs hud h => ?_)
          obtain ⟨M4, E4⟩ := ud
          have hI4 : MI M4 := hud.1
          have hK4 : Kp M M4 := hK3.trans hud.2
          have h : Wd D B s (mw dA h0 ad M4 ++ (F ++ (E1 ++ (E2 ++ (E3 ++ E4))))) H locs := by rw [← List.append_assoc E2, ← List.append_assoc E1, ← List.append_assoc F]; exact h
          have hR4 : CurR dA (F ++ (E1 ++ (E2 ++ (E3 ++ E4)))) ad M4 L := hR.kp hK4 (fun z hz => List.mem_append_left _ hz)
          refine n_top (y := nI b9) (by rw [hb9]) ?_
          refine lv_istore (lv' := [(9, .int (nI b9)), (8, .int (nI z9.1)), (6, .long (lN (kmd tx9.2.1))), (0, .ref h0), (1, .int (nI q)), (2, .int (nI i)), (3, .long (lN t))]) hx hb dX7_usableAt_94 hl (by decide) rfl (fun ls hl => ?_)
          refine lv_iload hx hb dX7_usableAt_96 (lv_at hl 0 rfl) ?_
          refine n_if_le (tgt := 106) hx hb (by omega) dX7_usableAt_98 (by decide) (fun c98 => ?_) (fun c98 => ?_)
          · refine lv_aload_n hx hb dX7_usableAt_106 rfl (lv_at hl 3 rfl) ?_
            refine lv_iload_n hx hb dX7_usableAt_107 rfl (lv_at hl 4 rfl) ?_
            refine lv_iload_n hx hb dX7_usableAt_108 rfl (lv_at hl 5 rfl) ?_
            refine lv_iload hx hb dX7_usableAt_109 (lv_at hl 1 rfl) ?_
            refine lv_lload_n hx hb dX7_usableAt_111 rfl (lv_at hl 6 rfl) ?_
            refine call_V (As := [.int (nI q), .int (nI i), .int (nI z9.1), .long (lN t)]) (rest := []) (n := 4) C h (c7_isBacked l D dA B Z hZ h0 ad M4 (F ++ (E1 ++ (E2 ++ (E3 ++ E4)))) L q i z9.1 t kx tx9 y9 hzR hI4 hR4 hPK hLl hkx htx hy9 hyk ht) (lw_V q2492 q2494 qs114 q138 q2495) (by decide +kernel) (ci := 5) rfl rfl mw_mem0 (by decide) (by decide) rfl hl rfl (Nat.le_of_ble_eq_true rfl) dX7_usableAt_112 (by omega) (fun ue H locs hue h => ?_)
            obtain ⟨M5, E5⟩ := ue
            have hI5 : MI M5 := hue.1
            have hK5 : Kp M M5 := hK4.trans hue.2
            have h : Wd D B s (mw dA h0 ad M5 ++ (F ++ (E1 ++ (E2 ++ (E3 ++ (E4 ++ E5)))))) H locs := by rw [← List.append_assoc E3, ← List.append_assoc E2, ← List.append_assoc E1, ← List.append_assoc F]; exact h
            have hR5 : CurR dA (F ++ (E1 ++ (E2 ++ (E3 ++ (E4 ++ E5))))) ad M5 L := hR.kp hK5 (fun z hz => List.mem_append_left _ hz)
            refine z_if_eq (tgt := 122) hx hb dX7_usableAt_115 (by decide) (fun c115 => ?_) (fun c115 => ?_)
            · refine lv_bipush (v := nI 6) hx hb dX7_usableAt_122 (by decide) ?_
              subst hQ
              have hfin : usA L kx tx9 t q i en = 6 := by rw [hU, if_neg (by omega), if_neg (by rw [c115]; decide)]
              exact ret_i C hr hlocks h (M5, (E1 ++ (E2 ++ (E3 ++ (E4 ++ E5))))) (⟨hI5, hK5⟩) (by rw [hfin]) rfl (by omega) (by omega) dX7_usableAt_124
            · refine lv_iconst (v := nI 0) hx hb dX7_usableAt_118 (by decide) ?_
              refine lv_goto (tgt := 124) hx hb dX7_usableAt_119 (by decide) ?_
              subst hQ
              have hfin : usA L kx tx9 t q i en = 0 := by rw [hU, if_neg (by omega), if_pos c115]
              exact ret_i C hr hlocks h (M5, (E1 ++ (E2 ++ (E3 ++ (E4 ++ E5))))) (⟨hI5, hK5⟩) (by rw [hfin]) rfl (by omega) (by omega) dX7_usableAt_124
          · refine lv_iload hx hb dX7_usableAt_101 (lv_at hl 0 rfl) ?_
            refine lv_goto (tgt := 124) hx hb dX7_usableAt_103 (by decide) ?_
            subst hQ
            have hfin : usA L kx tx9 t q i en = b9 := by rw [hU, if_pos (by omega)]
            exact ret_i C hr hlocks h (M4, (E1 ++ (E2 ++ (E3 ++ E4)))) (⟨hI4, hK4⟩) (by rw [hfin]) rfl (by omega) (by omega) dX7_usableAt_124
        · have hon : o9 = none := latP_n ((oI_ne (hlok.lt hLl)).mp c79)
          refine lv_iconst (v := nI 4) hx hb dX7_usableAt_82 (by decide) ?_
          subst hQ
          have hfin : usA L kx tx9 t q i en = 4 := by unfold usA; rw [if_neg hno, if_neg (by omega), if_neg (by rw [c58]; decide), ← ho9, hon]; rfl
          exact ret_i C hr hlocks h (M3, (E1 ++ (E2 ++ E3))) (⟨hI3, hK3⟩) (by rw [hfin]) rfl (by omega) (by omega) dX7_usableAt_83
      · refine lv_iconst (v := nI 3) hx hb dX7_usableAt_61 (by decide) ?_
        subst hQ
        have hfin : usA L kx tx9 t q i en = 3 := by unfold usA; rw [if_neg hno, if_neg (by omega), if_pos c58]
        exact ret_i C hr hlocks h (M2, (E1 ++ E2)) (⟨hI2, hK2⟩) (by rw [hfin]) rfl (by omega) (by omega) dX7_usableAt_62
    · refine lv_iconst (v := nI 1) hx hb dX7_usableAt_47 (by decide) ?_
      subst hQ
      have hfin : usA L kx tx9 t q i en = 1 := by unfold usA; rw [if_neg hno, if_pos (by omega)]
      exact ret_i C hr hlocks h (M1, E1) (⟨hI1, hK1⟩) (by rw [hfin]) rfl (by omega) (by omega) dX7_usableAt_48
  refine lv_iload_n hx hb dX7_usableAt_8 rfl (lv_at hl 3 rfl) ?_
  refine lv_iload_n hx hb dX7_usableAt_9 rfl (lv_at hl 2 rfl) ?_
  refine n_icmp_eq (tgt := 24) hx hb (by omega) (by omega) dX7_usableAt_10 (by decide) (fun c10 => ?_) (fun c10 => ?_)
  · refine lv_iload hx hb dX7_usableAt_24 (lv_at hl 0 rfl) ?_
    subst hQ
    have hfin : usA L kx tx9 t q i en = usK L kx t q en := by unfold usA; rw [if_pos (by omega)]
    exact ret_i C hr hlocks h (M1, E1) (⟨hI1, hK1⟩) (by rw [hfin]) rfl (by omega) (by omega) dX7_usableAt_26
  · refine lv_iload hx hb dX7_usableAt_13 (lv_at hl 0 rfl) ?_
    refine n_if_le (tgt := 27) hx hb (by omega) dX7_usableAt_15 (by decide) (fun c15 => ?_) (fun c15 => ?_)
    · exact j27  (by omega) _ _ h _ (lv_sub hl [1, 2, 3, 4] rfl)
    · refine lv_iload hx hb dX7_usableAt_18 (lv_at hl 0 rfl) ?_
      refine lv_iconst (v := nI 5) hx hb dX7_usableAt_20 (by decide) ?_
      refine n_icmp_ge (tgt := 27) hx hb (by omega) (by omega) dX7_usableAt_21 (by decide) (fun c21 => ?_) (fun c21 => ?_)
      · exact j27  (by omega) _ _ h _ (lv_sub hl [1, 2, 3, 4] rfl)
      · refine lv_iload hx hb dX7_usableAt_24 (lv_at hl 0 rfl) ?_
        subst hQ
        have hfin : usA L kx tx9 t q i en = usK L kx t q en := by unfold usA; rw [if_pos (by omega)]
        exact ret_i C hr hlocks h (M1, E1) (⟨hI1, hK1⟩) (by rw [hfin]) rfl (by omega) (by omega) dX7_usableAt_26
