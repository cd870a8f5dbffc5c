set_option maxRecDepth 100000

theorem thingMsg_ok {x : PK} (h : PKok x) : byt (thingMsg x) ∧ (thingMsg x).length ≤ 4110 := by
  have hl := h.2.2.1
  unfold thingMsg
  split
  · exact ⟨byt_app (byt_app (by intro x hx; revert x; decide) (byt_be _ _)) h.2.1, by simp [be_len]; omega⟩
  · split
    · exact ⟨keyMsg_byt h.2.1, by rw [keyMsg_len]; omega⟩
    · exact ⟨(fun x hx => by cases hx), by simp⟩
theorem ap0_msg (M : MS) (l : List Nat) : sl (mG (apM M 21 20 0 l) 21) 0 l.length = l := by
  show sl (appG (mG M 21) 0 l) 0 l.length = l
  have h := sl_appG (mG M 21) 0 l
  rw [Nat.zero_add] at h
  rw [h]; rfl
theorem sI20_kp (M : MS) (x : Int32) : Kp M (sI M 20 x) := (Kp.rfl' M).sI (by decide)
theorem apM_seal {dA : Nat → ClassId} {F : va_W} {M : MS} {b l : List Nat} {n : Nat} (h : SealIs dA F M b) : SealIs dA F (apM (sI M 20 (nI 0)) 21 20 n l) b := h

set_option maxHeartbeats 400000 in
set_option maxRecDepth 100000 in
theorem c7_isTrueAt (l : Launch) (D : va_G) (dA : Nat → ClassId) (B : Nat) (Z : State → Prop) (hZ : Stab B Z) (h0 : Nat) (ad : Nat → Nat) (M : MS) (F : va_W) (L : List PK) (q j sa ka : Nat) (kx x : PK) (b kb : List Nat) (hzR : ∀ U : State, Z U → ∃ t, va_Z "SignetRingModel" "ROUNDS" "[I" (.ref t) (bA B) U U.heap ∧ va_T .int t 64 (fun j => .int (K2 j)) (bA B) U U.heap) (hI : MI M) (hR : CurR dA F ad M L) (hPK : PKs L) (hLl : L.length ≤ 4650) (hkx : L[q]? = some kx) (hxx : L[j]? = some x) (hS : SealIs dA F M b) (hsF : (sa, ial dA b) ∈ F) (hsb : byt b) (hsl : b.length ≤ 5000) (hkF : (ka, ial dA kb) ∈ F) (hkb : byt kb) (hkl : kb.length ≤ 5000) :
    Ct (S := MS × va_W) l D dA B Z yX7_isTrueAt cX7_isTrueAt 5 (some .boolean) 7 9 (6 * kb.length + 300) [.ref h0, .ref sa, .int (nI q), .int (nI j), .ref ka] (mw dA h0 ad M ++ F) (fun u => MI u.1 ∧ Kp M u.1) (fun _ => some (.int (bZ (trueS (atMsg kx x) b kb)))) (fun u => mw dA h0 ad u.1 ++ (F ++ u.2)) := by
  refine Ct.mk2 (by decide) (Nat.le_of_ble_eq_true rfl) hZ ?_
  intro p e R s m args below meth c ls Q C hr hlocks hin hQ hl h
  have C0 := C
  obtain ⟨hx, hb, hml, hown, hts, -⟩ := C0
  have hl : lv_has ls 5 [(0, .ref h0), (1, .ref sa), (2, .int (nI q)), (3, .int (nI j)), (4, .ref ka)] := hl
  have hql := (List.getElem?_eq_some_iff.mp hkx).1
  have hjl := (List.getElem?_eq_some_iff.mp hxx).1
  obtain ⟨hkxk, ⟨qkx, hqkx, hqkxF⟩, hkxs⟩ := hR.1 _ _ hkx
  have hkxo := hPK.at hkx
  have hkx1 := hkxo.1
  have hkxl := hkxo.2.2.1
  obtain ⟨hxxk, ⟨qxx, hqxx, hqxxF⟩, hxxs⟩ := hR.1 _ _ hxx
  have hxxo := hPK.at hxx
  have hxx1 := hxxo.1
  have hxxl := hxxo.2.2.1
  have hkm := keyMsg_len kx.2.1
  refine lv_aload_n hx hb dX7_isTrueAt_0 rfl (lv_at hl 0 rfl) ?_
  refine lv_iconst (v := nI 0) hx hb dX7_isTrueAt_1 (by decide) ?_
  refine m_pi C h 20 (v := nI 0) (by decide) rfl rfl rfl q1890 rfl rfl dX7_isTrueAt_2 (fun H locs h => ?_)
  have h : Wd D B s (mw dA h0 ad (sI M 20 (nI 0)) ++ F) H locs := h
  refine lv_aload_n hx hb dX7_isTrueAt_5 rfl (lv_at hl 0 rfl) ?_
  refine lv_aload_n hx hb dX7_isTrueAt_6 rfl (lv_at hl 0 rfl) ?_
  refine m_gr C h 14 (by decide) rfl rfl q1884 (v := some (ad 14)) hR.2.2.2.1 dX7_isTrueAt_7 ?_
  refine lv_iload_n hx hb dX7_isTrueAt_10 rfl (lv_at hl 2 rfl) ?_
  refine n_aald C h (v := (mA (sI M 20 (nI 0)) 14) q) (mw_memA (k := 14) (by decide)) (show q < 4700 by omega) (by decide) rfl dX7_isTrueAt_11 ?_
  refine n_topv (y := .ref qkx) (congrArg va_rf hqkx) ?_
  refine call_V (As := [.ref qkx]) (rest := []) (n := 1) C h (c7_sayKey l D dA B Z hZ h0 ad (sI M 20 (nI 0)) F qkx kx.2.1 0 rfl hqkxF hkxo.2.1 (by omega) (by omega)) (lw_V q2244 q2246 qs66 q138 q2247) (by decide +kernel) (ci := 5) rfl rfl mw_mem0 (by decide) (by decide) rfl hl rfl (Nat.le_of_ble_eq_true rfl) dX7_isTrueAt_12 (by omega) (fun _ H locs _ h => ?_)
  have j88 : ∀ (H : Heap) (locs : List Loc), Wd D B s (mw dA h0 ad (apM (sI M 20 (nI 0)) 21 20 0 (atMsg kx x)) ++ F) H locs → ∀ (ls : Array Slot), lv_has ls 5 [(0, .ref h0), (1, .ref sa), (4, .ref ka)] → W p l e R s m args below meth c H locs (0 + 0) (0 + 0) Q (F0 m 88 ls []) := by
    intro   H locs h ls hl
    refine lv_aload_n hx hb dX7_isTrueAt_88 rfl (lv_at hl 0 rfl) ?_
    refine lv_aload_n hx hb dX7_isTrueAt_89 rfl (lv_at hl 1 rfl) ?_
    refine lv_aload hx hb dX7_isTrueAt_90 (lv_at hl 2 rfl) ?_
    have htm := thingMsg_ok hxxo
    obtain ⟨mg, hmg⟩ : ∃ z, z = atMsg kx x := ⟨_, rfl⟩
    have hmgl : mg.length ≤ 9000 := by rw [hmg]; unfold atMsg; rw [List.length_append, hkm]; omega
    have hmgb : byt mg := by rw [hmg]; exact byt_app (keyMsg_byt hkxo.2.1) htm.1
    rw [← hmg] at h
    have hI9 : MI (apM (sI M 20 (nI 0)) 21 20 0 mg) := ⟨appG_byte (n := 0) hI.1 hmgb, hI.2⟩
    have hK9 : Kp M (apM (sI M 20 (nI 0)) 21 20 0 mg) := (sI20_kp _ _).trans (apM_kp _ _ _)
    refine call_V (As := [.ref sa, .ref ka]) (rest := []) (n := 2) C h (c7_isTrue l D dA B Z hZ h0 ad (apM (sI M 20 (nI 0)) 21 20 0 mg) F mg b kb sa ka hzR hI9 (by show nI (0 + mg.length) = _; rw [Nat.zero_add]) (ap0_msg _ _) (by omega) (apM_seal hS) hsF hsb hsl hkF hkb hkl) (lw_V q2411 q2413 qs96 q138 q2414) (by decide +kernel) (ci := 5) rfl rfl mw_mem0 (by decide) (by decide) rfl hl rfl (Nat.le_of_ble_eq_true rfl) dX7_isTrueAt_92 (by omega) (fun ut H locs hut h => ?_)
    obtain ⟨M5, E5⟩ := ut
    subst hQ
    exact ret_z C hr hlocks h (M5, E5) (⟨hut.1, hK9.trans hut.2.1⟩) (by rw [← hmg]) rfl (by omega) (by omega) dX7_isTrueAt_95
  refine lv_aload_n hx hb dX7_isTrueAt_15 rfl (lv_at hl 0 rfl) ?_
  refine m_gr C h 13 (by decide) rfl rfl q1883 (v := some (ad 13)) hR.2.2.1 dX7_isTrueAt_16 ?_
  refine lv_iload_n hx hb dX7_isTrueAt_19 rfl (lv_at hl 3 rfl) ?_
  refine n_iald C h (v := (mG (apM (sI M 20 (nI 0)) 21 20 0 (keyMsg kx.2.1)) 13) j) (mw_memG (k := 13) (by decide)) (show j < 4700 by omega) (by decide) rfl dX7_isTrueAt_20 ?_
  refine n_top (y := nI x.1) (congrArg nI hxxk) ?_
  refine lv_bipush (v := nI 13) hx hb dX7_isTrueAt_21 (by decide) ?_
  refine n_icmp_ne (tgt := 67) hx hb (by omega) (by omega) dX7_isTrueAt_23 (by decide) (fun c23 => ?_) (fun c23 => ?_)
  · refine lv_aload_n hx hb dX7_isTrueAt_67 rfl (lv_at hl 0 rfl) ?_
    refine m_gr C h 13 (by decide) rfl rfl q1883 (v := some (ad 13)) hR.2.2.1 dX7_isTrueAt_68 ?_
    refine lv_iload_n hx hb dX7_isTrueAt_71 rfl (lv_at hl 3 rfl) ?_
    refine n_iald C h (v := (mG (apM (sI M 20 (nI 0)) 21 20 0 (keyMsg kx.2.1)) 13) j) (mw_memG (k := 13) (by decide)) (show j < 4700 by omega) (by decide) rfl dX7_isTrueAt_72 ?_
    refine n_top (y := nI x.1) (congrArg nI hxxk) ?_
    refine lv_bipush (v := nI 14) hx hb dX7_isTrueAt_73 (by decide) ?_
    refine n_icmp_ne (tgt := 88) hx hb (by omega) (by omega) dX7_isTrueAt_75 (by decide) (fun c75 => ?_) (fun c75 => ?_)
    · have e88 : atMsg kx x = keyMsg kx.2.1 := by unfold atMsg thingMsg; rw [if_neg c23, if_neg c75, List.append_nil]
      have h : Wd D B s (mw dA h0 ad (apM (sI M 20 (nI 0)) 21 20 0 (atMsg kx x)) ++ F) H locs := by rw [e88]; exact h
      exact j88   _ _ h _ (lv_sub hl [0, 1, 4] rfl)
    · refine lv_aload_n hx hb dX7_isTrueAt_78 rfl (lv_at hl 0 rfl) ?_
      refine lv_aload_n hx hb dX7_isTrueAt_79 rfl (lv_at hl 0 rfl) ?_
      refine m_gr C h 14 (by decide) rfl rfl q1884 (v := some (ad 14)) hR.2.2.2.1 dX7_isTrueAt_80 ?_
      refine lv_iload_n hx hb dX7_isTrueAt_83 rfl (lv_at hl 3 rfl) ?_
      refine n_aald C h (v := (mA (apM (sI M 20 (nI 0)) 21 20 0 (keyMsg kx.2.1)) 14) j) (mw_memA (k := 14) (by decide)) (show j < 4700 by omega) (by decide) rfl dX7_isTrueAt_84 ?_
      refine n_topv (y := .ref qxx) (congrArg va_rf hqxx) ?_
      refine call_V (As := [.ref qxx]) (rest := []) (n := 1) C h (c7_sayKey l D dA B Z hZ h0 ad (apM (sI M 20 (nI 0)) 21 20 0 (keyMsg kx.2.1)) F qxx x.2.1 (0 + (keyMsg kx.2.1).length) rfl hqxxF hxxo.2.1 (by omega) (by omega)) (lw_V q2244 q2246 qs66 q138 q2247) (by decide +kernel) (ci := 5) rfl rfl mw_mem0 (by decide) (by decide) rfl hl rfl (Nat.le_of_ble_eq_true rfl) dX7_isTrueAt_85 (by omega) (fun _ H locs _ h => ?_)
      have h : Wd D B s (mw dA h0 ad (apM (apM (sI M 20 (nI 0)) 21 20 0 (keyMsg kx.2.1)) 21 20 (0 + (keyMsg kx.2.1).length) (keyMsg x.2.1)) ++ F) H locs := h
      rw [apM_app] at h
      have e88 : atMsg kx x = keyMsg kx.2.1 ++ keyMsg x.2.1 := by unfold atMsg thingMsg; rw [if_neg c23, if_pos c75]
      have h : Wd D B s (mw dA h0 ad (apM (sI M 20 (nI 0)) 21 20 0 (atMsg kx x)) ++ F) H locs := by rw [e88]; exact h
      exact j88   _ _ h _ (lv_sub hl [0, 1, 4] rfl)
  · refine lv_aload_n hx hb dX7_isTrueAt_26 rfl (lv_at hl 0 rfl) ?_
    refine lv_sipush (v := nI 180) hx hb dX7_isTrueAt_27 (by decide) ?_
    refine call_V (As := [.int (nI 180)]) (rest := []) (n := 1) C h (c7_say l D dA B Z hZ h0 ad (apM (sI M 20 (nI 0)) 21 20 0 (keyMsg kx.2.1)) F (nI 180) (0 + (keyMsg kx.2.1).length) 180 rfl (by omega) (and255 (by decide))) (lw_V q2248 q2250 qs67 q138 q2251) (by decide +kernel) (ci := 5) rfl rfl mw_mem0 (by decide) (by decide) rfl hl rfl (Nat.le_of_ble_eq_true rfl) dX7_isTrueAt_30 (by omega) (fun _ H locs _ h => ?_)
    have h : Wd D B s (mw dA h0 ad (apM (apM (sI M 20 (nI 0)) 21 20 0 (keyMsg kx.2.1)) 21 20 (0 + (keyMsg kx.2.1).length) ([180])) ++ F) H locs := h
    rw [apM_app] at h
    refine lv_aload_n hx hb dX7_isTrueAt_33 rfl (lv_at hl 0 rfl) ?_
    refine lv_aload_n hx hb dX7_isTrueAt_34 rfl (lv_at hl 0 rfl) ?_
    refine m_gr C h 14 (by decide) rfl rfl q1884 (v := some (ad 14)) hR.2.2.2.1 dX7_isTrueAt_35 ?_
    refine lv_iload_n hx hb dX7_isTrueAt_38 rfl (lv_at hl 3 rfl) ?_
    refine n_aald C h (v := (mA (apM (sI M 20 (nI 0)) 21 20 0 (keyMsg kx.2.1 ++ [180])) 14) j) (mw_memA (k := 14) (by decide)) (show j < 4700 by omega) (by decide) rfl dX7_isTrueAt_39 ?_
    refine n_topv (y := .ref qxx) (congrArg va_rf hqxx) ?_
    refine n_alen C h (List.mem_append_right _ hqxxF) dX7_isTrueAt_40 ?_
    refine lv_i2l (v := lN x.2.1.length) hx hb dX7_isTrueAt_41 (nI_l (by omega)) ?_
    refine lv_iconst (v := nI 4) hx hb dX7_isTrueAt_42 (by decide) ?_
    refine call_V (As := [.long (lN x.2.1.length), .int (nI 4)]) (rest := []) (n := 2) C h (c7_sayNumber l D dA B Z hZ h0 ad (apM (sI M 20 (nI 0)) 21 20 0 (keyMsg kx.2.1 ++ [180])) F x.2.1.length 4 (0 + (keyMsg kx.2.1 ++ [180]).length) rfl (by omega) (by decide) (by simp only [List.length_append, List.length_cons, List.length_nil, be_len]; omega)) (lw_V q2252 q2254 qs68 q138 q2255) (by decide +kernel) (ci := 5) rfl rfl mw_mem0 (by decide) (by decide) rfl hl rfl (Nat.le_of_ble_eq_true rfl) dX7_isTrueAt_43 (by omega) (fun _ H locs _ h => ?_)
    have h : Wd D B s (mw dA h0 ad (apM (apM (sI M 20 (nI 0)) 21 20 0 (keyMsg kx.2.1 ++ [180])) 21 20 (0 + (keyMsg kx.2.1 ++ [180]).length) (be 4 x.2.1.length)) ++ F) H locs := h
    rw [apM_app] at h
    refine lv_aload_n hx hb dX7_isTrueAt_46 rfl (lv_at hl 0 rfl) ?_
    refine lv_aload_n hx hb dX7_isTrueAt_47 rfl (lv_at hl 0 rfl) ?_
    refine m_gr C h 14 (by decide) rfl rfl q1884 (v := some (ad 14)) hR.2.2.2.1 dX7_isTrueAt_48 ?_
    refine lv_iload_n hx hb dX7_isTrueAt_51 rfl (lv_at hl 3 rfl) ?_
    refine n_aald C h (v := (mA (apM (sI M 20 (nI 0)) 21 20 0 (keyMsg kx.2.1 ++ [180] ++ be 4 x.2.1.length)) 14) j) (mw_memA (k := 14) (by decide)) (show j < 4700 by omega) (by decide) rfl dX7_isTrueAt_52 ?_
    refine n_topv (y := .ref qxx) (congrArg va_rf hqxx) ?_
    refine lv_iconst (v := nI 0) hx hb dX7_isTrueAt_53 (by decide) ?_
    refine lv_aload_n hx hb dX7_isTrueAt_54 rfl (lv_at hl 0 rfl) ?_
    refine m_gr C h 14 (by decide) rfl rfl q1884 (v := some (ad 14)) hR.2.2.2.1 dX7_isTrueAt_55 ?_
    refine lv_iload_n hx hb dX7_isTrueAt_58 rfl (lv_at hl 3 rfl) ?_
    refine n_aald C h (v := (mA (apM (sI M 20 (nI 0)) 21 20 0 (keyMsg kx.2.1 ++ [180] ++ be 4 x.2.1.length)) 14) j) (mw_memA (k := 14) (by decide)) (show j < 4700 by omega) (by decide) rfl dX7_isTrueAt_59 ?_
    refine n_topv (y := .ref qxx) (congrArg va_rf hqxx) ?_
    refine n_alen C h (List.mem_append_right _ hqxxF) dX7_isTrueAt_60 ?_
    refine call_V (As := [.ref qxx, .int (nI 0), .int (nI x.2.1.length)]) (rest := []) (n := 3) C h (c7_sayRow l D dA B Z hZ h0 ad (apM (sI M 20 (nI 0)) 21 20 0 (keyMsg kx.2.1 ++ [180] ++ be 4 x.2.1.length)) F qxx x.2.1.length (gD x.2.1) 0 x.2.1.length (0 + (keyMsg kx.2.1 ++ [180] ++ be 4 x.2.1.length).length) rfl (fun G1 v => List.mem_append_right _ hqxxF) (Nat.zero_le _) (Nat.le_refl _) (by omega) (by simp only [List.length_append, List.length_cons, List.length_nil, be_len]; omega) (fun j _ => byt_gD hxxo.2.1 j)) (lw_V q2256 q2258 qs69 q138 q2259) (by decide +kernel) (ci := 5) rfl rfl mw_mem0 (by decide) (by decide) rfl hl rfl (Nat.le_of_ble_eq_true rfl) dX7_isTrueAt_61 (by omega) (fun _ H locs _ h => ?_)
    rw [Nat.sub_zero, sl_gD] at h
    have h : Wd D B s (mw dA h0 ad (apM (apM (sI M 20 (nI 0)) 21 20 0 (keyMsg kx.2.1 ++ [180] ++ be 4 x.2.1.length)) 21 20 (0 + (keyMsg kx.2.1 ++ [180] ++ be 4 x.2.1.length).length) (x.2.1)) ++ F) H locs := h
    rw [apM_app] at h
    refine lv_goto (tgt := 88) hx hb dX7_isTrueAt_64 (by decide) ?_
    have e88 : atMsg kx x = keyMsg kx.2.1 ++ [180] ++ be 4 x.2.1.length ++ x.2.1 := by unfold atMsg thingMsg; rw [if_pos c23]; simp only [List.append_assoc]
    have h : Wd D B s (mw dA h0 ad (apM (sI M 20 (nI 0)) 21 20 0 (atMsg kx x)) ++ F) H locs := by rw [e88]; exact h
    exact j88   _ _ h _ (lv_sub hl [0, 1, 4] rfl)
