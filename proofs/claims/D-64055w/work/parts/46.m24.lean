set_option maxRecDepth 100000

def bdP (k : Nat) (lb : List Nat) (x : PK) : Bool := isK k x && decide (x.2.1 = lb)
def usP (x : PK) : Bool := notK 6 x && notK 14 x
def userK (L : List PK) (q en : Nat) (lb : List Nat) : Option Nat → Option Nat × List PK
  | some i => (some i, L)
  | none => if 200 < lb.length ∨ cntF L 13 (en - (q + 1)) (q + 1) = 8 then (none, L) else (some en, insF L en (13, lb, none))
def userS (L : List PK) (q : Nat) (lb : List Nat) : Option Nat × List PK := userK L q (sk usP L (q + 1)) lb (findF (bdP 13 lb) L (sk usP L (q + 1) - (q + 1)) (q + 1))
def sealK (L : List PK) (q en : Nat) (lb : List Nat) : Option Nat → Bool × List PK
  | some _ => (true, L)
  | none => if en - q - 1 = 16 then (false, L) else (true, insF L en (2, lb, none))
def sealS (L : List PK) (q : Nat) (lb : List Nat) : Bool × List PK :=
  if lb.length = 0 then (false, L) else if oursL lb = false then (true, L) else if sealOk lb = false then (false, L) else sealK L q (sk (isK 2) L (q + 1)) lb (findF (bdP 2 lb) L (sk (isK 2) L (q + 1) - (q + 1)) (q + 1))

set_option maxHeartbeats 400000 in
set_option maxRecDepth 100000 in
theorem c7_userComes (l : Launch) (D : va_G) (dA : Nat → ClassId) (B : Nat) (Z : State → Prop) (hZ : Stab B Z) (h0 : Nat) (ad : Nat → Nat) (M : MS) (F : va_W) (L : List PK) (q ba pl : Nat) (lb : List Nat) (hzs : ZS dA B Z) (hI : MI M) (hR : NewR dA F ad M L) (hPK : PKs L) (hLl : L.length ≤ 4650) (hq : q < L.length) (h44 : mR M 44 = some ba) (hba : (ba, ial dA lb) ∈ F) (hlb : byt lb) (hll : lb.length ≤ 4096) (h42 : mI M 42 = nI pl) (h33 : mI M 33 = 0) :
    Ct (S := MS) l D dA B Z yX7_userComes cX7_userComes 5 (some .int) 3 0 0 [.ref h0, .int (nI q)] (mw dA h0 ad M ++ F) (fun u => MI u ∧ Kc M u ∧ NewR dA F ad u (userS L q lb).2 ∧ mI u 33 = toldK pl (userS L q lb).1) (fun _ => some (.int (oI (userS L q lb).1))) (fun u => mw dA h0 ad u ++ F) := by
  refine Ct.mk2 (by decide) (Nat.le_of_ble_eq_true rfl) hZ ?_
  intro p e R s m args below meth c ls Q C hr hlocks hin hQ hl h
  have C0 := C
  obtain ⟨hx, hb, hml, hown, hts, -⟩ := C0
  have hl : lv_has ls 5 [(0, .ref h0), (1, .int (nI q))] := hl
  refine lv_aload_n hx hb dX7_userComes_0 rfl (lv_at hl 0 rfl) ?_
  refine lv_iload_n hx hb dX7_userComes_1 rfl (lv_at hl 1 rfl) ?_
  refine call_V (As := [.int (nI q)]) (rest := []) (n := 1) C h (c7_usersEnd l D dA B Z hZ h0 ad M F L q hR hPK hLl hq) (lw_V q2329 q2331 qs80 q138 q2332) (by decide +kernel) (ci := 5) rfl rfl mw_mem0 (by decide) (by decide) rfl hl rfl (Nat.le_of_ble_eq_true rfl) dX7_userComes_2 (by omega) (fun _ H locs _ h => ?_)
  have hsl := sk_le (P := usP) (L := L) (q := q + 1) (by omega)
  obtain ⟨en, hen⟩ : ∃ z, z = sk usP L (q + 1) := ⟨_, rfl⟩
  rw [← hen] at hsl
  refine n_top (y := nI en) (by rw [hen]; rfl) ?_
  obtain ⟨fo, hfo⟩ : ∃ z, z = findF (bdP 13 lb) L (en - (q + 1)) (q + 1) := ⟨_, rfl⟩
  have hUS : (userS L q lb) = userK L q en lb fo := by unfold userS; rw [← hen, ← hfo]
  have hfl : ∀ i, fo = some i → i < 100000 := fun i hi => by have := (findF_lt (hfo.symm.trans hi)).2.1; omega
  refine lv_istore_n (lv' := [(2, .int (nI en)), (0, .ref h0), (1, .int (nI q))]) hx hb dX7_userComes_5 rfl hl (by decide) rfl (fun ls hl => ?_)
  refine lv_aload_n hx hb dX7_userComes_6 rfl (lv_at hl 1 rfl) ?_
  refine lv_iload_n hx hb dX7_userComes_7 rfl (lv_at hl 2 rfl) ?_
  refine lv_iconst (v := nI 1) hx hb dX7_userComes_8 (by decide) ?_
  refine lv_iadd hx hb dX7_userComes_9 (n_top (y := nI (q + 1)) (nI_add q 1) ?_)
  refine lv_iload_n hx hb dX7_userComes_10 rfl (lv_at hl 0 rfl) ?_
  refine lv_bipush (v := nI 13) hx hb dX7_userComes_11 (by decide) ?_
  refine lv_aload_n hx hb dX7_userComes_13 rfl (lv_at hl 1 rfl) ?_
  refine m_gr C h 44 (by decide) rfl rfl q1914 (v := some ba) h44 dX7_userComes_14 ?_
  refine call_V (As := [.int (nI (q + 1)), .int (nI en), .int (nI 13), .ref ba]) (rest := []) (n := 4) C h (c7_find l D dA B Z hZ h0 ad M F L (q + 1) en 13 ba lb hR hPK hLl (by omega) (by omega) (by decide) hba hlb hll) (lw_V q2333 q2335 qs81 q138 q2336) (by decide +kernel) (ci := 5) rfl rfl mw_mem0 (by decide) (by decide) rfl hl rfl (Nat.le_of_ble_eq_true rfl) dX7_userComes_17 (by omega) (fun _ H locs _ h => ?_)
  refine n_top (y := oI fo) (by rw [hfo]; rfl) ?_
  refine lv_istore_n (lv' := [(3, .int (oI fo)), (2, .int (nI en)), (0, .ref h0), (1, .int (nI q))]) hx hb dX7_userComes_20 rfl hl (by decide) rfl (fun ls hl => ?_)
  refine lv_iload_n hx hb dX7_userComes_21 rfl (lv_at hl 0 rfl) ?_
  refine lv_iconst (v := -1) hx hb dX7_userComes_22 (by decide) ?_
  refine lv_icmp_eq (tgt := 28) hx hb dX7_userComes_23 (by decide) (fun c23 => ?_) (fun c23 => ?_)
  · have hn9 : fo = none := (oI_ne hfl).mp c23
    have hcl9 := cntF_le L 13 (en - (q + 1)) (q + 1)
    have jz : (200 < lb.length ∨ cntF L 13 (en - (q + 1)) (q + 1) = 8) → ∀ (H : Heap) (locs : List Loc), Wd D B s (mw dA h0 ad M ++ F) H locs → ∀ (ls : Array Slot), lv_has ls 5 [(0, .ref h0)] → W p l e R s m args below meth c H locs (0 + 0 + 0) (0 + 0 + 0) Q (F0 m 54 ls []) := by
      intro  hjz H locs h ls hl
      refine lv_aload_n hx hb dX7_userComes_54 rfl (lv_at hl 0 rfl) ?_
      refine call_V (As := []) (rest := []) (n := 0) C h (c7_failPacket l D dA B Z hZ h0 ad M F pl h42) (lw_V q2193 q2195 qs57 q138 q2196) (by decide +kernel) (ci := 5) rfl rfl mw_mem0 (by decide) (by decide) rfl hl rfl (Nat.le_of_ble_eq_true rfl) dX7_userComes_55 (by omega) (fun _ H locs _ h => ?_)
      rw [h33, failT_0] at h
      refine lv_istore (lv' := [(4, .int (bZ false)), (0, .ref h0)]) hx hb dX7_userComes_58 hl (by decide) rfl (fun ls hl => ?_)
      refine lv_iconst (v := -1) hx hb dX7_userComes_60 (by decide) ?_
      subst hQ
      have hU : (userS L q lb) = (none, L) := by rw [hUS, hn9]; exact if_pos hjz
      exact ret_i C hr hlocks h (sI M 33 (-1 - nI pl)) (by rw [hU]; exact ⟨hI, (Kp.kc (Kp.rfl' M)).i33 _, hR, rfl⟩) (by rw [hU]; rfl) rfl (by omega) (by omega) dX7_userComes_61
    refine lv_aload_n hx hb dX7_userComes_28 rfl (lv_at hl 2 rfl) ?_
    refine m_gr C h 44 (by decide) rfl rfl q1914 (v := some ba) h44 dX7_userComes_29 ?_
    refine n_alen C h (List.mem_append_right _ hba) dX7_userComes_32 ?_
    refine lv_sipush (v := nI 200) hx hb dX7_userComes_33 (by decide) ?_
    refine n_icmp_gt (tgt := 54) hx hb (by omega) (by omega) dX7_userComes_36 (by decide) (fun c36 => ?_) (fun c36 => ?_)
    · exact jz  (by omega) _ _ h _ (lv_sub hl [2] rfl)
    · refine lv_aload_n hx hb dX7_userComes_39 rfl (lv_at hl 2 rfl) ?_
      refine lv_iload_n hx hb dX7_userComes_40 rfl (lv_at hl 3 rfl) ?_
      refine lv_iconst (v := nI 1) hx hb dX7_userComes_41 (by decide) ?_
      refine lv_iadd hx hb dX7_userComes_42 (n_top (y := nI (q + 1)) (nI_add q 1) ?_)
      refine lv_iload_n hx hb dX7_userComes_43 rfl (lv_at hl 1 rfl) ?_
      refine lv_bipush (v := nI 13) hx hb dX7_userComes_44 (by decide) ?_
      refine call_V (As := [.int (nI (q + 1)), .int (nI en), .int (nI 13)]) (rest := []) (n := 3) C h (c7_countOf l D dA B Z hZ h0 ad M F L (q + 1) en 13 hR hPK hLl (by omega) (by omega) (by decide)) (lw_V q2313 q2315 qs76 q138 q2316) (by decide +kernel) (ci := 5) rfl rfl mw_mem0 (by decide) (by decide) rfl hl rfl (Nat.le_of_ble_eq_true rfl) dX7_userComes_46 (by omega) (fun _ H locs _ h => ?_)
      refine lv_bipush (v := nI 8) hx hb dX7_userComes_49 (by decide) ?_
      refine n_icmp_ne (tgt := 62) hx hb (by omega) (by omega) dX7_userComes_51 (by decide) (fun c51 => ?_) (fun c51 => ?_)
      · refine lv_aload_n hx hb dX7_userComes_62 rfl (lv_at hl 2 rfl) ?_
        refine lv_iload_n hx hb dX7_userComes_63 rfl (lv_at hl 1 rfl) ?_
        refine lv_bipush (v := nI 13) hx hb dX7_userComes_64 (by decide) ?_
        refine lv_aload_n hx hb dX7_userComes_66 rfl (lv_at hl 2 rfl) ?_
        refine m_gr C h 44 (by decide) rfl rfl q1914 (v := some ba) h44 dX7_userComes_67 ?_
        refine lv_null hx hb dX7_userComes_70 ?_
        refine call_V (As := [.int (nI en), .int (nI 13), .ref ba, .null]) (rest := []) (n := 4) C h (c7_insert l D dA B Z hZ h0 ad M F L en ba none (13, lb, none) hzs hR hPK hLl (by omega) (by decide : 13 < 100) hba rfl) (lw_V q2317 q2319 qs77 q138 q2320) (by decide +kernel) (ci := 5) rfl rfl mw_mem0 (by decide) (by decide) rfl hl rfl (Nat.le_of_ble_eq_true rfl) dX7_userComes_71 (by omega) (fun _ H locs _ h => ?_)
        refine lv_iload_n hx hb dX7_userComes_74 rfl (lv_at hl 1 rfl) ?_
        subst hQ
        have hU : (userS L q lb) = (some en, insF L en (13, lb, none)) := by rw [hUS, hn9]; exact if_neg (by omega)
        exact ret_i C hr hlocks h (vM M (nI (L.length + 1)) (insA (mG M 17) en L.length 13) (insA (mA M 18) en L.length (some ba)) (insA (mA M 19) en L.length none)) (by rw [hU]; exact ⟨hI, vM_kc _ _ _ _ _, vM_new (x := (13, lb, none)) hR (by omega) hba rfl, h33⟩) (by rw [hU]; rfl) rfl (by omega) (by omega) dX7_userComes_75
      · exact jz  (by omega) _ _ h _ (lv_sub hl [2] rfl)
  · obtain ⟨i9, hi9⟩ : ∃ z, fo = some z := by
      cases fo with
      | none => exact absurd rfl c23
      | some z => exact ⟨z, rfl⟩
    refine lv_iload_n hx hb dX7_userComes_26 rfl (lv_at hl 0 rfl) ?_
    subst hQ
    have hU : (userS L q lb) = (some i9, L) := by rw [hUS, hi9]; rfl
    refine n_top (y := oI (some i9)) (by rw [hi9]) ?_
    exact ret_i C hr hlocks h M (by rw [hU]; exact ⟨hI, Kp.kc (Kp.rfl' M), hR, h33⟩) (by rw [hU]) rfl (by omega) (by omega) dX7_userComes_27
set_option maxHeartbeats 400000 in
set_option maxRecDepth 100000 in
theorem c7_sealComes (l : Launch) (D : va_G) (dA : Nat → ClassId) (B : Nat) (Z : State → Prop) (hZ : Stab B Z) (h0 : Nat) (ad : Nat → Nat) (M : MS) (F : va_W) (L : List PK) (q ba pl : Nat) (lb : List Nat) (hzs : ZS dA B Z) (hI : MI M) (hR : NewR dA F ad M L) (hPK : PKs L) (hLl : L.length ≤ 4650) (hq : q < L.length) (h44 : mR M 44 = some ba) (hba : (ba, ial dA lb) ∈ F) (hlb : byt lb) (hll : lb.length ≤ 4096) (h42 : mI M 42 = nI pl) (h33 : mI M 33 = 0) :
    Ct (S := MS × va_W) l D dA B Z yX7_sealComes cX7_sealComes 4 none 5 (lb.length / 2 + 1) (5 * lb.length) [.ref h0, .int (nI q)] (mw dA h0 ad M ++ F) (fun u => MI u.1 ∧ Kc M u.1 ∧ NewR dA (F ++ u.2) ad u.1 (sealS L q lb).2 ∧ mI u.1 33 = (if (sealS L q lb).1 = true then 0 else -1 - nI pl)) (fun _ => none) (fun u => mw dA h0 ad u.1 ++ (F ++ u.2)) := by
  refine Ct.mk2 (by decide) (Nat.le_of_ble_eq_true rfl) hZ ?_
  intro p e R s m args below meth c ls Q C hr hlocks hin hQ hl h
  have C0 := C
  obtain ⟨hx, hb, hml, hown, hts, -⟩ := C0
  have hl : lv_has ls 4 [(0, .ref h0), (1, .int (nI q))] := hl
  refine lv_aload_n hx hb dX7_sealComes_0 rfl (lv_at hl 0 rfl) ?_
  refine m_gr C h 44 (by decide) rfl rfl q1914 (v := some ba) h44 dX7_sealComes_1 ?_
  refine n_alen C h (List.mem_append_right _ hba) dX7_sealComes_4 ?_
  refine n_if_ne (tgt := 14) hx hb (by omega) dX7_sealComes_5 (by decide) (fun c5 => ?_) (fun c5 => ?_)
  · refine lv_aload_n hx hb dX7_sealComes_14 rfl (lv_at hl 0 rfl) ?_
    refine m_gr C h 44 (by decide) rfl rfl q1914 (v := some ba) h44 dX7_sealComes_15 ?_
    refine call_S (As := [.ref ba]) (rest := []) (n := 1) C h (c7_isOurs l D dA B Z hZ _ ba lb (List.mem_append_right _ hba) (by omega) (by omega) hlb) (lw_S q2341 q2342 q138 q2343) (by decide +kernel) (by decide) (by decide) rfl hl rfl (Nat.le_of_ble_eq_true rfl) dX7_sealComes_18 (by omega) (fun _ H locs _ h => ?_)
    refine z_if_ne (tgt := 25) hx hb dX7_sealComes_21 (by decide) (fun c21 => ?_) (fun c21 => ?_)
    · refine lv_aload_n hx hb dX7_sealComes_25 rfl (lv_at hl 0 rfl) ?_
      refine lv_aload_n hx hb dX7_sealComes_26 rfl (lv_at hl 0 rfl) ?_
      refine m_gr C h 44 (by decide) rfl rfl q1914 (v := some ba) h44 dX7_sealComes_27 ?_
      refine call_V (As := [.ref ba]) (rest := []) (n := 1) C h (c7_readSeal l D dA B Z hZ h0 ad M F ba lb hI hba hlb (by omega)) (lw_V q2344 q2346 qs83 q138 q2347) (by decide +kernel) (ci := 5) rfl rfl mw_mem0 (by decide) (by decide) rfl hl rfl (Nat.le_of_ble_eq_true rfl) dX7_sealComes_30 (by omega) (fun ur H locs hur h => ?_)
      obtain ⟨M2, E2⟩ := ur
      obtain ⟨hI2, hK2, hS2⟩ := hur
      have hI2 : MI M2 := hI2
      have hK2 : Kp M M2 := hK2
      have hR2 : NewR dA (F ++ E2) ad M2 L := hR.kp hK2 (fun x hx => List.mem_append_left _ hx)
      have h442 : mR M2 44 = some ba := (hK2.2.2.1 44 (by decide)).trans h44
      have h422 : mI M2 42 = nI pl := (hK2.1 42 (by decide)).trans h42
      have h332 : mI M2 33 = 0 := (hK2.1 33 (by decide)).trans h33
      have h : Wd D B s (mw dA h0 ad M2 ++ (F ++ E2)) H locs := h
      refine z_if_ne (tgt := 42) hx hb dX7_sealComes_33 (by decide) (fun c33 => ?_) (fun c33 => ?_)
      · refine lv_aload_n hx hb dX7_sealComes_42 rfl (lv_at hl 0 rfl) ?_
        refine lv_iload_n hx hb dX7_sealComes_43 rfl (lv_at hl 1 rfl) ?_
        refine call_V (As := [.int (nI q)]) (rest := []) (n := 1) C h (c7_behindSeals l D dA B Z hZ h0 ad M2 (F ++ E2) L q hR2 hPK hLl hq) (lw_V q2361 q2363 qs87 q138 q2364) (by decide +kernel) (ci := 5) rfl rfl mw_mem0 (by decide) (by decide) rfl hl rfl (Nat.le_of_ble_eq_true rfl) dX7_sealComes_44 (by omega) (fun _ H locs _ h => ?_)
        have hsl := sk_le (P := isK 2) (L := L) (q := q + 1) (by omega)
        obtain ⟨en, hen⟩ : ∃ z, z = sk (isK 2) L (q + 1) := ⟨_, rfl⟩
        rw [← hen] at hsl
        refine n_top (y := nI en) (by rw [hen]) ?_
        obtain ⟨fo, hfo⟩ : ∃ z, z = findF (bdP 2 lb) L (en - (q + 1)) (q + 1) := ⟨_, rfl⟩
        have hSS : (sealS L q lb) = sealK L q en lb fo := by unfold sealS; rw [if_neg c5, if_neg (by rw [c21]; decide), if_neg (by rw [c33]; decide), ← hen, ← hfo]
        have hfl : ∀ i, fo = some i → i < 100000 := fun i hi => by have := (findF_lt (hfo.symm.trans hi)).2.1; omega
        refine lv_istore_n (lv' := [(2, .int (nI en)), (0, .ref h0), (1, .int (nI q))]) hx hb dX7_sealComes_47 rfl hl (by decide) rfl (fun ls hl => ?_)
        refine lv_aload_n hx hb dX7_sealComes_48 rfl (lv_at hl 1 rfl) ?_
        refine lv_iload_n hx hb dX7_sealComes_49 rfl (lv_at hl 2 rfl) ?_
        refine lv_iconst (v := nI 1) hx hb dX7_sealComes_50 (by decide) ?_
        refine lv_iadd hx hb dX7_sealComes_51 (n_top (y := nI (q + 1)) (nI_add q 1) ?_)
        refine lv_iload_n hx hb dX7_sealComes_52 rfl (lv_at hl 0 rfl) ?_
        refine lv_iconst (v := nI 2) hx hb dX7_sealComes_53 (by decide) ?_
        refine lv_aload_n hx hb dX7_sealComes_54 rfl (lv_at hl 1 rfl) ?_
        refine m_gr C h 44 (by decide) rfl rfl q1914 (v := some ba) h442 dX7_sealComes_55 ?_
        refine call_V (As := [.int (nI (q + 1)), .int (nI en), .int (nI 2), .ref ba]) (rest := []) (n := 4) C h (c7_find l D dA B Z hZ h0 ad M2 (F ++ E2) L (q + 1) en 2 ba lb hR2 hPK hLl (by omega) (by omega) (by decide) (List.mem_append_left _ hba) hlb hll) (lw_V q2333 q2335 qs81 q138 q2336) (by decide +kernel) (ci := 5) rfl rfl mw_mem0 (by decide) (by decide) rfl hl rfl (Nat.le_of_ble_eq_true rfl) dX7_sealComes_58 (by omega) (fun _ H locs _ h => ?_)
        refine n_top (y := oI fo) (by rw [hfo]; rfl) ?_
        refine lv_iconst (v := -1) hx hb dX7_sealComes_61 (by decide) ?_
        refine lv_icmp_eq (tgt := 66) hx hb dX7_sealComes_62 (by decide) (fun c62 => ?_) (fun c62 => ?_)
        · have hn9 : fo = none := (oI_ne hfl).mp c62
          refine lv_iload_n hx hb dX7_sealComes_66 rfl (lv_at hl 0 rfl) ?_
          refine lv_iload_n hx hb dX7_sealComes_67 rfl (lv_at hl 2 rfl) ?_
          refine lv_isub hx hb dX7_sealComes_68 (n_top (y := nI (en - q)) (pk_sub (by omega)) ?_)
          refine lv_iconst (v := nI 1) hx hb dX7_sealComes_69 (by decide) ?_
          refine lv_isub hx hb dX7_sealComes_70 (n_top (y := nI ((en - q) - 1)) (pk_sub (by omega)) ?_)
          refine lv_bipush (v := nI 16) hx hb dX7_sealComes_71 (by decide) ?_
          refine n_icmp_ne (tgt := 82) hx hb (by omega) (by omega) dX7_sealComes_73 (by decide) (fun c73 => ?_) (fun c73 => ?_)
          · refine lv_aload_n hx hb dX7_sealComes_82 rfl (lv_at hl 1 rfl) ?_
            refine lv_iload_n hx hb dX7_sealComes_83 rfl (lv_at hl 0 rfl) ?_
            refine lv_iconst (v := nI 2) hx hb dX7_sealComes_84 (by decide) ?_
            refine lv_aload_n hx hb dX7_sealComes_85 rfl (lv_at hl 1 rfl) ?_
            refine m_gr C h 44 (by decide) rfl rfl q1914 (v := some ba) h442 dX7_sealComes_86 ?_
            refine lv_null hx hb dX7_sealComes_89 ?_
            refine call_V (As := [.int (nI en), .int (nI 2), .ref ba, .null]) (rest := []) (n := 4) C h (c7_insert l D dA B Z hZ h0 ad M2 (F ++ E2) L en ba none (2, lb, none) hzs hR2 hPK hLl (by omega) (by decide : 2 < 100) (List.mem_append_left _ hba) rfl) (lw_V q2317 q2319 qs77 q138 q2320) (by decide +kernel) (ci := 5) rfl rfl mw_mem0 (by decide) (by decide) rfl hl rfl (Nat.le_of_ble_eq_true rfl) dX7_sealComes_90 (by omega) (fun _ H locs _ h => ?_)
            subst hQ
            have hU : (sealS L q lb) = (true, insF L en (2, lb, none)) := by rw [hSS, hn9]; exact if_neg (by omega)
            exact ret_v C hr hlocks h ((vM M2 (nI (L.length + 1)) (insA (mG M2 17) en L.length 2) (insA (mA M2 18) en L.length (some ba)) (insA (mA M2 19) en L.length none)), E2) (by rw [hU]; exact ⟨hI2, hK2.kc.trans (vM_kc _ _ _ _ _), vM_new (x := (2, lb, none)) hR2 (by omega) (List.mem_append_left _ hba) rfl, h332⟩) rfl rfl (by omega) (by omega) dX7_sealComes_93
          · refine lv_aload_n hx hb dX7_sealComes_76 rfl (lv_at hl 1 rfl) ?_
            refine call_V (As := []) (rest := []) (n := 0) C h (c7_failPacket l D dA B Z hZ h0 ad M2 (F ++ E2) pl h422) (lw_V q2193 q2195 qs57 q138 q2196) (by decide +kernel) (ci := 5) rfl rfl mw_mem0 (by decide) (by decide) rfl hl rfl (Nat.le_of_ble_eq_true rfl) dX7_sealComes_77 (by omega) (fun _ H locs _ h => ?_)
            rw [h332, failT_0] at h
            refine lv_istore_n (lv' := [(3, .int (bZ false)), (2, .int (nI en)), (0, .ref h0), (1, .int (nI q))]) hx hb dX7_sealComes_80 rfl hl (by decide) rfl (fun ls hl => ?_)
            subst hQ
            have hU : (sealS L q lb) = (false, L) := by rw [hSS, hn9]; exact if_pos (by omega)
            exact ret_v C hr hlocks h (sI M2 33 (-1 - nI pl), E2) (by rw [hU]; exact ⟨hI2, hK2.kc.i33 _, hR2, rfl⟩) rfl rfl (by omega) (by omega) dX7_sealComes_81
        · obtain ⟨i9, hi9⟩ : ∃ z, fo = some z := by
            cases fo with
            | none => exact absurd rfl c62
            | some z => exact ⟨z, rfl⟩
          subst hQ
          have hU : (sealS L q lb) = (true, L) := by rw [hSS, hi9]; rfl
          exact ret_v C hr hlocks h (M2, E2) (by rw [hU]; exact ⟨hI2, hK2.kc, hR2, h332⟩) rfl rfl (by omega) (by omega) dX7_sealComes_65
      · refine lv_aload_n hx hb dX7_sealComes_36 rfl (lv_at hl 0 rfl) ?_
        refine call_V (As := []) (rest := []) (n := 0) C h (c7_failPacket l D dA B Z hZ h0 ad M2 (F ++ E2) pl h422) (lw_V q2193 q2195 qs57 q138 q2196) (by decide +kernel) (ci := 5) rfl rfl mw_mem0 (by decide) (by decide) rfl hl rfl (Nat.le_of_ble_eq_true rfl) dX7_sealComes_37 (by omega) (fun _ H locs _ h => ?_)
        rw [h332, failT_0] at h
        refine lv_istore_n (lv' := [(2, .int (bZ false)), (0, .ref h0), (1, .int (nI q))]) hx hb dX7_sealComes_40 rfl hl (by decide) rfl (fun ls hl => ?_)
        subst hQ
        have hU : (sealS L q lb) = (false, L) := by unfold sealS; rw [if_neg c5, if_neg (by rw [c21]; decide), if_pos c33]
        exact ret_v C hr hlocks h (sI M2 33 (-1 - nI pl), E2) (by rw [hU]; exact ⟨hI2, hK2.kc.i33 _, hR2, rfl⟩) rfl rfl (by omega) (by omega) dX7_sealComes_41
    · subst hQ
      have h : Wd D B s (mw dA h0 ad M ++ (F ++ [])) H locs := by rw [List.append_nil]; exact h
      have hU : (sealS L q lb) = (true, L) := by unfold sealS; rw [if_neg c5, if_pos c21]
      exact ret_v C hr hlocks h (M, []) (by rw [hU]; exact ⟨hI, Kp.kc (Kp.rfl' M), (show NewR dA (F ++ []) ad M L from hR.kp (Kp.rfl' M) (fun x hx => List.mem_append_left _ hx)), h33⟩) rfl rfl (by omega) (by omega) dX7_sealComes_24
  · refine lv_aload_n hx hb dX7_sealComes_8 rfl (lv_at hl 0 rfl) ?_
    refine call_V (As := []) (rest := []) (n := 0) C h (c7_failPacket l D dA B Z hZ h0 ad M F pl h42) (lw_V q2193 q2195 qs57 q138 q2196) (by decide +kernel) (ci := 5) rfl rfl mw_mem0 (by decide) (by decide) rfl hl rfl (Nat.le_of_ble_eq_true rfl) dX7_sealComes_9 (by omega) (fun _ H locs _ h => ?_)
    rw [h33, failT_0] at h
    refine lv_istore_n (lv' := [(2, .int (bZ false)), (0, .ref h0), (1, .int (nI q))]) hx hb dX7_sealComes_12 rfl hl (by decide) rfl (fun ls hl => ?_)
    subst hQ
    have h : Wd D B s (mw dA h0 ad (sI M 33 (-1 - nI pl)) ++ (F ++ [])) H locs := by rw [List.append_nil]; exact h
    have hU : (sealS L q lb) = (false, L) := by unfold sealS; rw [if_pos c5]
    exact ret_v C hr hlocks h ((sI M 33 (-1 - nI pl)), []) (by rw [hU]; exact ⟨hI, (Kp.kc (Kp.rfl' M)).i33 _, (show NewR dA (F ++ []) ad M L from hR.kp (Kp.rfl' M) (fun x hx => List.mem_append_left _ hx)), rfl⟩) rfl rfl (by omega) (by omega) dX7_sealComes_13
