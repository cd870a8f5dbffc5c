set_option maxRecDepth 100000

def whatN (b : List Nat) : Option Nat := (sNote b).2.2.2.2.2.2.1
def keN (b : List Nat) : Nat := (sNote b).2.2.1
def bkN (b : List Nat) : Option (List Nat) := (sNote b).2.2.2.2.2.1
def byS (b : List Nat) (mk t : Nat) (mu : Bool) : Nat :=
  if 0 < keN b ∧ mk + keN b ≤ t then 2 else match whatN b with
  | none => if mu = true then 5 else 0
  | some v => if v / 2 % 2 = 0 then 5 else 0
def backS (kx tx : PK) (b : List Nat) (t : Nat) : Bool := match bkN b with
  | none => false
  | some bk => decide (4 ≤ bk.length) && (oursL bk && (sealOk bk && (decide (sType bk = 25) && (!sVain bk && (decide (mdN bk ≤ t) && trueS (atMsg kx tx) bk tx.2.1)))))
theorem backS_n {kx tx : PK} {b : List Nat} {t : Nat} (h : bkN b = none) : backS kx tx b t = false := by
  unfold backS; rw [h]
theorem backS_s {kx tx : PK} {b bk : List Nat} {t : Nat} (h : bkN b = some bk) : backS kx tx b t = (decide (4 ≤ bk.length) && (oursL bk && (sealOk bk && (decide (sType bk = 25) && (!sVain bk && (decide (mdN bk ≤ t) && trueS (atMsg kx tx) bk tx.2.1)))))) := by
  unfold backS; rw [h]
theorem RO_n {dA : Nat → ClassId} {F : va_W} {o : Option (List Nat)} (h : RO dA F none o) : o = none := by
  cases o with
  | none => rfl
  | some b => obtain ⟨q, hq, _⟩ := h; cases hq
theorem RO_s {dA : Nat → ClassId} {F : va_W} {a : Nat} {o : Option (List Nat)} (h : RO dA F (some a) o) : ∃ b, o = some b ∧ (a, ial dA b) ∈ F := by
  cases o with
  | none => cases h
  | some b => obtain ⟨q, hq, hm⟩ := h; cases hq; exact ⟨b, rfl, hm⟩

set_option maxHeartbeats 400000 in
set_option maxRecDepth 100000 in
theorem c7_byBond (l : Launch) (D : va_G) (dA : Nat → ClassId) (B : Nat) (Z : State → Prop) (hZ : Stab B Z) (h0 : Nat) (ad : Nat → Nat) (M : MS) (F : va_W) (L : List PK) (j mk t : Nat) (mu : Bool) (x : PK) (hI : MI M) (hR : CurR dA F ad M L) (hPK : PKs L) (hLl : L.length ≤ 4650) (hxx : L[j]? = some x) (hsk : sealOk x.2.1 = true) (hmk : mk < 4294967296) (ht : t < 4294967296) :
    Ct (S := MS × va_W) l D dA B Z yX7_byBond cX7_byBond 8 (some .int) 6 (x.2.1.length / 2 + 1) (5 * x.2.1.length) [.ref h0, .int (nI j), .long (lN mk), .long (lN t), .int (bZ mu)] (mw dA h0 ad M ++ F) (fun u => MI u.1 ∧ Kp M u.1) (fun _ => some (.int (nI (byS x.2.1 mk t mu)))) (fun u => mw dA h0 ad u.1 ++ (F ++ u.2)) := by
  refine Ct.mk2 (by decide) (Nat.le_of_ble_eq_true rfl) hZ ?_
  intro p e R s m args below meth c ls Q C hr hlocks hin hQ hl h
  have C0 := C
  obtain ⟨hx, hb, hml, hown, hts, -⟩ := C0
  have hl : lv_has ls 8 [(0, .ref h0), (1, .int (nI j)), (2, .long (lN mk)), (4, .long (lN t)), (6, .int (bZ mu))] := hl
  have hjl := (List.getElem?_eq_some_iff.mp hxx).1
  obtain ⟨hxxk, ⟨qxx, hqxx, hqxxF⟩, hxxs⟩ := hR.1 _ _ hxx
  have hxxo := hPK.at hxx
  have hxx1 := hxxo.1
  have hxxl := hxxo.2.2.1
  have hkl : keN x.2.1 < 4294967296 := (sNote_nb hxxo.2.1).2.2.1
  have hwl : ∀ v, whatN x.2.1 = some v → v < 256 := (sNote_nb hxxo.2.1).2.2.2.2.2.2.1
  refine lv_aload_n hx hb dX7_byBond_0 rfl (lv_at hl 0 rfl) ?_
  refine lv_aload_n hx hb dX7_byBond_1 rfl (lv_at hl 0 rfl) ?_
  refine m_gr C h 14 (by decide) rfl rfl q1884 (v := some (ad 14)) hR.2.2.2.1 dX7_byBond_2 ?_
  refine lv_iload_n hx hb dX7_byBond_5 rfl (lv_at hl 1 rfl) ?_
  refine n_aald C h (v := (mA M 14) j) (mw_memA (k := 14) (by decide)) (show j < 4700 by omega) (by decide) rfl dX7_byBond_6 ?_
  refine n_topv (y := .ref qxx) (congrArg va_rf hqxx) ?_
  refine call_V (As := [.ref qxx]) (rest := []) (n := 1) C h (c7_readSeal l D dA B Z hZ h0 ad M F qxx x.2.1 hI hqxxF hxxo.2.1 (by omega)) (lw_V q2344 q2346 qs83 q138 q2347) (by decide +kernel) (ci := 5) rfl rfl mw_mem0 (by decide) (by decide) rfl hl rfl (Nat.le_of_ble_eq_true rfl) dX7_byBond_7 (by omega) (fun ur2 H locs hur2 h => ?_)
  obtain ⟨M2, E2⟩ := ur2
  obtain ⟨hI2, hK2, hS2⟩ := hur2
  have hI2 : MI M2 := hI2
  have hK2 : Kp M M2 := hK2
  have hS2 : sealOk x.2.1 = true → SealIs dA (F ++ E2) M2 x.2.1 := hS2
  have hR2 : CurR dA (F ++ E2) ad M2 L := hR.kp hK2 (fun z hz => List.mem_append_left _ hz)
  have h : Wd D B s (mw dA h0 ad M2 ++ (F ++ E2)) H locs := h
  have hS3 := hS2 hsk
  have h632 : mL M2 63 = lN (keN x.2.1) := hS3.2.2.2.2.2.2.2.1
  have h672 : mI M2 67 = oI (whatN x.2.1) := hS3.2.2.2.2.2.2.2.2.2.1
  refine lv_istore (lv' := [(7, .int (bZ (sealOk x.2.1))), (0, .ref h0), (1, .int (nI j)), (2, .long (lN mk)), (4, .long (lN t)), (6, .int (bZ mu))]) hx hb dX7_byBond_10 hl (by decide) rfl (fun ls hl => ?_)
  have j35 : (¬ (0 < keN x.2.1 ∧ mk + keN x.2.1 ≤ t)) → ∀ (H : Heap) (locs : List Loc), Wd D B s (mw dA h0 ad M2 ++ (F ++ E2)) H locs → ∀ (ls : Array Slot), lv_has ls 8 [(0, .ref h0), (6, .int (bZ mu))] → W p l e R s m args below meth c H locs (0 + (x.2.1.length / 2 + 1)) (0 + (5 * x.2.1.length)) Q (F0 m 35 ls []) := by
    intro  hno H locs h ls hl
    refine lv_aload_n hx hb dX7_byBond_35 rfl (lv_at hl 0 rfl) ?_
    refine m_gi C h 67 (by decide) rfl rfl q1937 (v := oI (whatN x.2.1)) h672 dX7_byBond_36 ?_
    refine lv_iconst (v := -1) hx hb dX7_byBond_39 (by decide) ?_
    refine lv_icmp_ne (tgt := 56) hx hb dX7_byBond_40 (by decide) (fun c40 => ?_) (fun c40 => ?_)
    · obtain ⟨v9, hv9⟩ : ∃ z, whatN x.2.1 = some z := by
        cases q9 : whatN x.2.1 with
        | none => rw [q9] at c40; exact absurd rfl c40
        | some z => exact ⟨z, rfl⟩
      have hv8 := hwl v9 hv9
      have h679 : mI M2 67 = nI v9 := by rw [h672, hv9]; rfl
      refine lv_aload_n hx hb dX7_byBond_56 rfl (lv_at hl 0 rfl) ?_
      refine m_gi C h 67 (by decide) rfl rfl q1937 (v := nI v9) h679 dX7_byBond_57 ?_
      refine lv_iconst (v := nI 2) hx hb dX7_byBond_60 (by decide) ?_
      refine lv_idiv hx hb dX7_byBond_61 (by decide) (n_top (y := nI (v9 / 2)) (pk_div (by omega) (by omega) (by omega)) ?_)
      refine lv_iconst (v := nI 2) hx hb dX7_byBond_62 (by decide) ?_
      refine lv_irem hx hb dX7_byBond_63 (by decide) (n_top (y := nI ((v9 / 2) % 2)) (pk_rem (by omega) (by omega) (by omega)) ?_)
      refine n_if_ne (tgt := 71) hx hb (by omega) dX7_byBond_64 (by decide) (fun c64 => ?_) (fun c64 => ?_)
      · refine lv_iconst (v := nI 0) hx hb dX7_byBond_71 (by decide) ?_
        subst hQ
        have hfin : byS x.2.1 mk t mu = 0 := by
          unfold byS; rw [if_neg hno]
          first
          | (rw [hv0]; show (if mu = true then 5 else 0) = _; rw [c45]; rfl)
          | (rw [hv9]; show (if v9 / 2 % 2 = 0 then 5 else 0) = _; first | (rw [if_pos c64]; done) | (rw [if_neg c64]; done) | (rw [if_pos (by omega)]; done) | (rw [if_neg (by omega)]; done))
        exact ret_i C hr hlocks h (M2, E2) (⟨hI2, hK2⟩) (by rw [hfin]) rfl (by omega) (by omega) dX7_byBond_72
      · refine lv_iconst (v := nI 5) hx hb dX7_byBond_67 (by decide) ?_
        refine lv_goto (tgt := 72) hx hb dX7_byBond_68 (by decide) ?_
        subst hQ
        have hfin : byS x.2.1 mk t mu = 5 := by
          unfold byS; rw [if_neg hno]
          first
          | (rw [hv0]; show (if mu = true then 5 else 0) = _; rw [c45]; rfl)
          | (rw [hv9]; show (if v9 / 2 % 2 = 0 then 5 else 0) = _; first | (rw [if_pos c64]; done) | (rw [if_neg c64]; done) | (rw [if_pos (by omega)]; done) | (rw [if_neg (by omega)]; done))
        exact ret_i C hr hlocks h (M2, E2) (⟨hI2, hK2⟩) (by rw [hfin]) rfl (by omega) (by omega) dX7_byBond_72
    · have hv0 : whatN x.2.1 = none := (oI_ne (fun v hv => by have := hwl v hv; omega)).mp c40
      refine lv_iload hx hb dX7_byBond_43 (lv_at hl 1 rfl) ?_
      refine z_if_eq (tgt := 52) hx hb dX7_byBond_45 (by decide) (fun c45 => ?_) (fun c45 => ?_)
      · refine lv_iconst (v := nI 0) hx hb dX7_byBond_52 (by decide) ?_
        refine lv_goto (tgt := 72) hx hb dX7_byBond_53 (by decide) ?_
        subst hQ
        have hfin : byS x.2.1 mk t mu = 0 := by
          unfold byS; rw [if_neg hno]
          first
          | (rw [hv0]; show (if mu = true then 5 else 0) = _; rw [c45]; rfl)
          | (rw [hv9]; show (if v9 / 2 % 2 = 0 then 5 else 0) = _; first | (rw [if_pos c64]; done) | (rw [if_neg c64]; done) | (rw [if_pos (by omega)]; done) | (rw [if_neg (by omega)]; done))
        exact ret_i C hr hlocks h (M2, E2) (⟨hI2, hK2⟩) (by rw [hfin]) rfl (by omega) (by omega) dX7_byBond_72
      · refine lv_iconst (v := nI 5) hx hb dX7_byBond_48 (by decide) ?_
        refine lv_goto (tgt := 72) hx hb dX7_byBond_49 (by decide) ?_
        subst hQ
        have hfin : byS x.2.1 mk t mu = 5 := by
          unfold byS; rw [if_neg hno]
          first
          | (rw [hv0]; show (if mu = true then 5 else 0) = _; rw [c45]; rfl)
          | (rw [hv9]; show (if v9 / 2 % 2 = 0 then 5 else 0) = _; first | (rw [if_pos c64]; done) | (rw [if_neg c64]; done) | (rw [if_pos (by omega)]; done) | (rw [if_neg (by omega)]; done))
        exact ret_i C hr hlocks h (M2, E2) (⟨hI2, hK2⟩) (by rw [hfin]) rfl (by omega) (by omega) dX7_byBond_72
  refine lv_aload_n hx hb dX7_byBond_12 rfl (lv_at hl 1 rfl) ?_
  refine m_gl C h 63 (by decide) rfl rfl q1933 (v := lN (keN x.2.1)) h632 dX7_byBond_13 ?_
  refine lv_lconst (v := lN 0) hx hb dX7_byBond_16 (by decide) ?_
  refine n_lcmp_le (tgt := 35) hx hb (by omega) (by omega) dX7_byBond_17 dX7_byBond_18 (by decide) (fun c17 => ?_) (fun c17 => ?_)
  · exact j35  (by omega) _ _ h _ (lv_sub hl [1, 5] rfl)
  · refine lv_lload_n hx hb dX7_byBond_21 rfl (lv_at hl 3 rfl) ?_
    refine lv_aload_n hx hb dX7_byBond_22 rfl (lv_at hl 1 rfl) ?_
    refine m_gl C h 63 (by decide) rfl rfl q1933 (v := lN (keN x.2.1)) h632 dX7_byBond_23 ?_
    refine lv_ladd hx hb dX7_byBond_26 (n_topl (y := lN (mk + keN x.2.1)) (lN_add mk (keN x.2.1)) ?_)
    refine lv_lload hx hb dX7_byBond_27 (lv_at hl 4 rfl) ?_
    refine n_lcmp_gt (tgt := 35) hx hb (by omega) (by omega) dX7_byBond_29 dX7_byBond_30 (by decide) (fun c29 => ?_) (fun c29 => ?_)
    · exact j35  (by omega) _ _ h _ (lv_sub hl [1, 5] rfl)
    · refine lv_iconst (v := nI 2) hx hb dX7_byBond_33 (by decide) ?_
      subst hQ
      have hfin : byS x.2.1 mk t mu = 2 := by unfold byS; rw [if_pos ⟨by omega, by omega⟩]
      exact ret_i C hr hlocks h (M2, E2) (⟨hI2, hK2⟩) (by rw [hfin]) rfl (by omega) (by omega) dX7_byBond_34
set_option maxHeartbeats 400000 in
set_option maxRecDepth 100000 in
theorem c7_isBacked (l : Launch) (D : va_G) (dA : Nat → ClassId) (B : Nat) (Z : State → Prop) (hZ : Stab B Z) (h0 : Nat) (ad : Nat → Nat) (M : MS) (F : va_W) (L : List PK) (q i j t : Nat) (kx tx9 x : PK) (hzR : ∀ U : State, Z U → ∃ t, va_Z "SignetRingModel" "ROUNDS" "[I" (.ref t) (bA B) U U.heap ∧ va_T .int t 64 (fun j => .int (K2 j)) (bA B) U U.heap) (hI : MI M) (hR : CurR dA F ad M L) (hPK : PKs L) (hLl : L.length ≤ 4650) (hkx : L[q]? = some kx) (htx : L[i]? = some tx9) (hxx : L[j]? = some x) (hsk : sealOk x.2.1 = true) (ht : t < 4294967296) :
    Ct (S := MS × va_W) l D dA B Z yX7_isBacked cX7_isBacked 8 (some .boolean) 8 (x.2.1.length + 11) (10 * x.2.1.length + (6 * tx9.2.1.length + 300)) [.ref h0, .int (nI q), .int (nI i), .int (nI j), .long (lN t)] (mw dA h0 ad M ++ F) (fun u => MI u.1 ∧ Kp M u.1) (fun _ => some (.int (bZ (backS kx tx9 x.2.1 t)))) (fun u => mw dA h0 ad u.1 ++ (F ++ u.2)) := by
  refine Ct.mk2 (by decide) (Nat.le_of_ble_eq_true rfl) hZ ?_
  intro p e R s m args below meth c ls Q C hr hlocks hin hQ hl h
  have C0 := C
  obtain ⟨hx, hb, hml, hown, hts, -⟩ := C0
  have hl : lv_has ls 8 [(0, .ref h0), (1, .int (nI q)), (2, .int (nI i)), (3, .int (nI j)), (4, .long (lN t))] := hl
  have hql := (List.getElem?_eq_some_iff.mp hkx).1
  have hil := (List.getElem?_eq_some_iff.mp htx).1
  have hjl := (List.getElem?_eq_some_iff.mp hxx).1
  obtain ⟨hxxk, ⟨qxx, hqxx, hqxxF⟩, hxxs⟩ := hR.1 _ _ hxx
  have hxxo := hPK.at hxx
  have hxx1 := hxxo.1
  have hxxl := hxxo.2.2.1
  obtain ⟨htxk, ⟨qtx, hqtx, hqtxF⟩, htxs⟩ := hR.1 _ _ htx
  have htxo := hPK.at htx
  have htx1 := htxo.1
  have htxl := htxo.2.2.1
  have hbl9 : ∀ b, bkN x.2.1 = some b → byt b ∧ b.length ≤ x.2.1.length := (sNote_nb hxxo.2.1).2.2.2.2.2.1
  refine lv_aload_n hx hb dX7_isBacked_0 rfl (lv_at hl 0 rfl) ?_
  refine lv_aload_n hx hb dX7_isBacked_1 rfl (lv_at hl 0 rfl) ?_
  refine m_gr C h 14 (by decide) rfl rfl q1884 (v := some (ad 14)) hR.2.2.2.1 dX7_isBacked_2 ?_
  refine lv_iload_n hx hb dX7_isBacked_5 rfl (lv_at hl 3 rfl) ?_
  refine n_aald C h (v := (mA M 14) j) (mw_memA (k := 14) (by decide)) (show j < 4700 by omega) (by decide) rfl dX7_isBacked_6 ?_
  refine n_topv (y := .ref qxx) (congrArg va_rf hqxx) ?_
  refine call_V (As := [.ref qxx]) (rest := []) (n := 1) C h (c7_readSeal l D dA B Z hZ h0 ad M F qxx x.2.1 hI hqxxF hxxo.2.1 (by omega)) (lw_V q2344 q2346 qs83 q138 q2347) (by decide +kernel) (ci := 5) rfl rfl mw_mem0 (by decide) (by decide) rfl hl rfl (Nat.le_of_ble_eq_true rfl) dX7_isBacked_7 (by omega) (fun ur2 H locs hur2 h => ?_)
  obtain ⟨M2, E2⟩ := ur2
  obtain ⟨hI2, hK2, hS2⟩ := hur2
  have hI2 : MI M2 := hI2
  have hK2 : Kp M M2 := hK2
  have hS2 : sealOk x.2.1 = true → SealIs dA (F ++ E2) M2 x.2.1 := hS2
  have hR2 : CurR dA (F ++ E2) ad M2 L := hR.kp hK2 (fun z hz => List.mem_append_left _ hz)
  have h : Wd D B s (mw dA h0 ad M2 ++ (F ++ E2)) H locs := h
  have hS3 := hS2 hsk
  have hRO : RO dA (F ++ E2) (mR M2 66) (bkN x.2.1) := hS3.2.2.2.2.2.2.2.2.1.2.2
  refine lv_istore (lv' := [(6, .int (bZ (sealOk x.2.1))), (0, .ref h0), (1, .int (nI q)), (2, .int (nI i)), (3, .int (nI j)), (4, .long (lN t))]) hx hb dX7_isBacked_10 hl (by decide) rfl (fun ls hl => ?_)
  refine lv_aload_n hx hb dX7_isBacked_12 rfl (lv_at hl 1 rfl) ?_
  refine m_gr C h 66 (by decide) rfl rfl q1936 (v := mR M2 66) rfl dX7_isBacked_13 ?_
  refine q_astore (lv' := [(7, va_rf (mR M2 66)), (6, .int (bZ (sealOk x.2.1))), (0, .ref h0), (1, .int (nI q)), (2, .int (nI i)), (3, .int (nI j)), (4, .long (lN t))]) hx hb dX7_isBacked_16 hl (by decide) rfl (fun ls hl => ?_)
  refine q_aload hx hb dX7_isBacked_18 (lv_at hl 0 rfl) ?_
  refine q_ifnull (tgt := 47) hx hb dX7_isBacked_20 (by decide) (fun c20 => ?_) (fun a20 c20 => ?_)
  · rw [c20] at hRO
    have hfin : backS kx tx9 x.2.1 t = false := backS_n (RO_n hRO)
    refine lv_iconst (v := nI 0) hx hb dX7_isBacked_47 (by decide) ?_
    subst hQ
    have hfin : backS kx tx9 x.2.1 t = false := by first | assumption | (rw [hS9, decide_eq_false (show ¬ 4 ≤ bk.length by omega)]; rfl) | (rw [hS9, c35, Bool.false_and, Bool.and_false]; done) | (rw [hS9, c44, Bool.false_and, Bool.and_false, Bool.and_false]; done) | (rw [hS9, decide_eq_false (show ¬ sType bk = 25 by omega), Bool.false_and, Bool.and_false, Bool.and_false, Bool.and_false]; done) | (rw [hS9, c62, Bool.not_true, Bool.false_and, Bool.and_false, Bool.and_false, Bool.and_false, Bool.and_false]; done) | (rw [hS9, decide_eq_false (show ¬ mdN bk ≤ t by omega), Bool.false_and, Bool.and_false, Bool.and_false, Bool.and_false, Bool.and_false, Bool.and_false]; done)
    refine n_top (y := bZ false) rfl ?_
    exact ret_z C hr hlocks h (M2, E2) (⟨hI2, hK2⟩) (by rw [hfin]) rfl (by omega) (by omega) dX7_isBacked_48
  · rw [c20] at hRO
    obtain ⟨bk, hbk, hbkF⟩ := RO_s hRO
    obtain ⟨hbkb, hbkl⟩ := hbl9 bk hbk
    have hS9 := backS_s (kx := kx) (tx := tx9) (t := t) hbk
    have hl : lv_has ls 8 [(7, .ref a20), (6, .int (bZ (sealOk x.2.1))), (0, .ref h0), (1, .int (nI q)), (2, .int (nI i)), (3, .int (nI j)), (4, .long (lN t))] := by rw [c20] at hl; exact hl
    refine lv_aload hx hb dX7_isBacked_23 (lv_at hl 0 rfl) ?_
    refine n_alen C h (List.mem_append_right _ hbkF) dX7_isBacked_25 ?_
    refine lv_iconst (v := nI 4) hx hb dX7_isBacked_26 (by decide) ?_
    refine n_icmp_lt (tgt := 47) hx hb (by omega) (by omega) dX7_isBacked_27 (by decide) (fun c27 => ?_) (fun c27 => ?_)
    · refine lv_iconst (v := nI 0) hx hb dX7_isBacked_47 (by decide) ?_
      subst hQ
      have hfin : backS kx tx9 x.2.1 t = false := by first | assumption | (rw [hS9, decide_eq_false (show ¬ 4 ≤ bk.length by omega)]; rfl) | (rw [hS9, c35, Bool.false_and, Bool.and_false]; done) | (rw [hS9, c44, Bool.false_and, Bool.and_false, Bool.and_false]; done) | (rw [hS9, decide_eq_false (show ¬ sType bk = 25 by omega), Bool.false_and, Bool.and_false, Bool.and_false, Bool.and_false]; done) | (rw [hS9, c62, Bool.not_true, Bool.false_and, Bool.and_false, Bool.and_false, Bool.and_false, Bool.and_false]; done) | (rw [hS9, decide_eq_false (show ¬ mdN bk ≤ t by omega), Bool.false_and, Bool.and_false, Bool.and_false, Bool.and_false, Bool.and_false, Bool.and_false]; done)
      refine n_top (y := bZ false) rfl ?_
      exact ret_z C hr hlocks h (M2, E2) (⟨hI2, hK2⟩) (by rw [hfin]) rfl (by omega) (by omega) dX7_isBacked_48
    · refine lv_aload hx hb dX7_isBacked_30 (lv_at hl 0 rfl) ?_
      refine call_S (As := [.ref a20]) (rest := []) (n := 1) C h (c7_isOurs l D dA B Z hZ _ a20 bk (List.mem_append_right _ hbkF) (by omega) (by omega) hbkb) (lw_S q2341 q2342 q138 q2343) (by decide +kernel) (by decide) (by decide) rfl hl rfl (Nat.le_of_ble_eq_true rfl) dX7_isBacked_32 (by omega) (fun _ H locs _ h => ?_)
      refine z_if_eq (tgt := 47) hx hb dX7_isBacked_35 (by decide) (fun c35 => ?_) (fun c35 => ?_)
      · refine lv_iconst (v := nI 0) hx hb dX7_isBacked_47 (by decide) ?_
        subst hQ
        have hfin : backS kx tx9 x.2.1 t = false := by first | assumption | (rw [hS9, decide_eq_false (show ¬ 4 ≤ bk.length by omega)]; rfl) | (rw [hS9, c35, Bool.false_and, Bool.and_false]; done) | (rw [hS9, c44, Bool.false_and, Bool.and_false, Bool.and_false]; done) | (rw [hS9, decide_eq_false (show ¬ sType bk = 25 by omega), Bool.false_and, Bool.and_false, Bool.and_false, Bool.and_false]; done) | (rw [hS9, c62, Bool.not_true, Bool.false_and, Bool.and_false, Bool.and_false, Bool.and_false, Bool.and_false]; done) | (rw [hS9, decide_eq_false (show ¬ mdN bk ≤ t by omega), Bool.false_and, Bool.and_false, Bool.and_false, Bool.and_false, Bool.and_false, Bool.and_false]; done)
        refine n_top (y := bZ false) rfl ?_
        exact ret_z C hr hlocks h (M2, E2) (⟨hI2, hK2⟩) (by rw [hfin]) rfl (by omega) (by omega) dX7_isBacked_48
      · refine lv_aload_n hx hb dX7_isBacked_38 rfl (lv_at hl 2 rfl) ?_
        refine lv_aload hx hb dX7_isBacked_39 (lv_at hl 0 rfl) ?_
        refine call_V (As := [.ref a20]) (rest := []) (n := 1) C h (c7_readSeal l D dA B Z hZ h0 ad M2 (F ++ E2) a20 bk hI2 hbkF hbkb (by omega)) (lw_V q2344 q2346 qs83 q138 q2347) (by decide +kernel) (ci := 5) rfl rfl mw_mem0 (by decide) (by decide) rfl hl rfl (Nat.le_of_ble_eq_true rfl) dX7_isBacked_41 (by omega) (fun ub H locs hub h => ?_)
        obtain ⟨M3, E3⟩ := ub
        obtain ⟨hI3, hK23, hS4⟩ := hub
        have hI3 : MI M3 := hI3
        have hK3 : Kp M M3 := hK2.trans hK23
        have h : Wd D B s (mw dA h0 ad M3 ++ (F ++ (E2 ++ E3))) H locs := by rw [← List.append_assoc F]; exact h
        have hS4 : sealOk bk = true → SealIs dA (F ++ (E2 ++ E3)) M3 bk := by rw [← List.append_assoc]; exact hS4
        have hR3 : CurR dA (F ++ (E2 ++ E3)) ad M3 L := hR.kp hK3 (fun z hz => List.mem_append_left _ hz)
        have hbkG : (a20, ial dA bk) ∈ F ++ (E2 ++ E3) := by rw [← List.append_assoc]; exact List.mem_append_left _ hbkF
        have hqtx3 : mA M3 14 i = some qtx := by rw [hK3.2.2.2.2]; exact hqtx
        refine z_if_ne (tgt := 49) hx hb dX7_isBacked_44 (by decide) (fun c44 => ?_) (fun c44 => ?_)
        · have hS5 := hS4 c44
          have hty9 : sType bk < 256 := by rw [(sealOk_len hbkb c44).2]; exact byt_gD hbkb 1
          have hmd9 := mdN_lt hbkb
          refine lv_aload_n hx hb dX7_isBacked_49 rfl (lv_at hl 2 rfl) ?_
          refine m_gi C h 56 (by decide) rfl rfl q1926 (v := nI (sType bk)) hS5.1 dX7_isBacked_50 ?_
          refine lv_bipush (v := nI 25) hx hb dX7_isBacked_53 (by decide) ?_
          refine n_icmp_ne (tgt := 75) hx hb (by omega) (by omega) dX7_isBacked_55 (by decide) (fun c55 => ?_) (fun c55 => ?_)
          · refine lv_iconst (v := nI 0) hx hb dX7_isBacked_75 (by decide) ?_
            subst hQ
            have hfin : backS kx tx9 x.2.1 t = false := by first | assumption | (rw [hS9, decide_eq_false (show ¬ 4 ≤ bk.length by omega)]; rfl) | (rw [hS9, c35, Bool.false_and, Bool.and_false]; done) | (rw [hS9, c44, Bool.false_and, Bool.and_false, Bool.and_false]; done) | (rw [hS9, decide_eq_false (show ¬ sType bk = 25 by omega), Bool.false_and, Bool.and_false, Bool.and_false, Bool.and_false]; done) | (rw [hS9, c62, Bool.not_true, Bool.false_and, Bool.and_false, Bool.and_false, Bool.and_false, Bool.and_false]; done) | (rw [hS9, decide_eq_false (show ¬ mdN bk ≤ t by omega), Bool.false_and, Bool.and_false, Bool.and_false, Bool.and_false, Bool.and_false, Bool.and_false]; done)
            refine n_top (y := bZ false) rfl ?_
            exact ret_z C hr hlocks h (M3, E2 ++ E3) (⟨hI3, hK3⟩) (by rw [hfin]) rfl (by omega) (by omega) dX7_isBacked_76
          · refine lv_aload_n hx hb dX7_isBacked_58 rfl (lv_at hl 2 rfl) ?_
            refine m_gi C h 69 (by decide) rfl rfl q1939 (v := bZ (sVain bk)) hS5.2.2.2.2.2.2.2.2.2.2.2 dX7_isBacked_59 ?_
            refine z_if_ne (tgt := 75) hx hb dX7_isBacked_62 (by decide) (fun c62 => ?_) (fun c62 => ?_)
            · refine lv_iconst (v := nI 0) hx hb dX7_isBacked_75 (by decide) ?_
              subst hQ
              have hfin : backS kx tx9 x.2.1 t = false := by first | assumption | (rw [hS9, decide_eq_false (show ¬ 4 ≤ bk.length by omega)]; rfl) | (rw [hS9, c35, Bool.false_and, Bool.and_false]; done) | (rw [hS9, c44, Bool.false_and, Bool.and_false, Bool.and_false]; done) | (rw [hS9, decide_eq_false (show ¬ sType bk = 25 by omega), Bool.false_and, Bool.and_false, Bool.and_false, Bool.and_false]; done) | (rw [hS9, c62, Bool.not_true, Bool.false_and, Bool.and_false, Bool.and_false, Bool.and_false, Bool.and_false]; done) | (rw [hS9, decide_eq_false (show ¬ mdN bk ≤ t by omega), Bool.false_and, Bool.and_false, Bool.and_false, Bool.and_false, Bool.and_false, Bool.and_false]; done)
              refine n_top (y := bZ false) rfl ?_
              exact ret_z C hr hlocks h (M3, E2 ++ E3) (⟨hI3, hK3⟩) (by rw [hfin]) rfl (by omega) (by omega) dX7_isBacked_76
            · have h613 : mL M3 61 = lN (mdN bk) := by rw [hS5.2.2.2.2.2.1, sVain_f c62]; rfl
              refine lv_aload_n hx hb dX7_isBacked_65 rfl (lv_at hl 2 rfl) ?_
              refine m_gl C h 61 (by decide) rfl rfl q1931 (v := lN (mdN bk)) h613 dX7_isBacked_66 ?_
              refine lv_lload hx hb dX7_isBacked_69 (lv_at hl 6 rfl) ?_
              refine n_lcmp_le (tgt := 77) hx hb (by omega) (by omega) dX7_isBacked_71 dX7_isBacked_72 (by decide) (fun c71 => ?_) (fun c71 => ?_)
              · refine lv_aload_n hx hb dX7_isBacked_77 rfl (lv_at hl 2 rfl) ?_
                refine lv_aload hx hb dX7_isBacked_78 (lv_at hl 0 rfl) ?_
                refine lv_iload_n hx hb dX7_isBacked_80 rfl (lv_at hl 3 rfl) ?_
                refine lv_iload_n hx hb dX7_isBacked_81 rfl (lv_at hl 4 rfl) ?_
                refine lv_aload_n hx hb dX7_isBacked_82 rfl (lv_at hl 2 rfl) ?_
                refine m_gr C h 14 (by decide) rfl rfl q1884 (v := some (ad 14)) hR3.2.2.2.1 dX7_isBacked_83 ?_
                refine lv_iload_n hx hb dX7_isBacked_86 rfl (lv_at hl 4 rfl) ?_
                refine n_aald C h (v := (mA M3 14) i) (mw_memA (k := 14) (by decide)) (show i < 4700 by omega) (by decide) rfl dX7_isBacked_87 ?_
                refine n_topv (y := .ref qtx) (congrArg va_rf hqtx3) ?_
                refine call_V (As := [.ref a20, .int (nI q), .int (nI i), .ref qtx]) (rest := []) (n := 4) C h (c7_isTrueAt l D dA B Z hZ h0 ad M3 (F ++ (E2 ++ E3)) L q i a20 qtx kx tx9 bk tx9.2.1 hzR hI3 hR3 hPK hLl hkx htx hS5 hbkG hbkb (by omega) (List.mem_append_left _ hqtxF) htxo.2.1 (by omega)) (lw_V q2460 q2462 qs106 q138 q2463) (by decide +kernel) (ci := 5) rfl rfl mw_mem0 (by decide) (by decide) rfl hl rfl (Nat.le_of_ble_eq_true rfl) dX7_isBacked_88 (by omega) (fun ut H locs hut h => ?_)
                obtain ⟨M4, E4⟩ := ut
                have h : Wd D B s (mw dA h0 ad M4 ++ (F ++ (E2 ++ (E3 ++ E4)))) H locs := by rw [← List.append_assoc E2, ← List.append_assoc F]; exact h
                subst hQ
                have hfin : backS kx tx9 x.2.1 t = trueS (atMsg kx tx9) bk tx9.2.1 := by rw [hS9, decide_eq_true (show 4 ≤ bk.length by omega), c35, c44, decide_eq_true (show sType bk = 25 by omega), c62, decide_eq_true (show mdN bk ≤ t by omega)]; rfl
                exact ret_z C hr hlocks h (M4, E2 ++ (E3 ++ E4)) (⟨hut.1, hK3.trans hut.2⟩) (by rw [hfin]) rfl (by omega) (by omega) dX7_isBacked_91
              · refine lv_iconst (v := nI 0) hx hb dX7_isBacked_75 (by decide) ?_
                subst hQ
                have hfin : backS kx tx9 x.2.1 t = false := by first | assumption | (rw [hS9, decide_eq_false (show ¬ 4 ≤ bk.length by omega)]; rfl) | (rw [hS9, c35, Bool.false_and, Bool.and_false]; done) | (rw [hS9, c44, Bool.false_and, Bool.and_false, Bool.and_false]; done) | (rw [hS9, decide_eq_false (show ¬ sType bk = 25 by omega), Bool.false_and, Bool.and_false, Bool.and_false, Bool.and_false]; done) | (rw [hS9, c62, Bool.not_true, Bool.false_and, Bool.and_false, Bool.and_false, Bool.and_false, Bool.and_false]; done) | (rw [hS9, decide_eq_false (show ¬ mdN bk ≤ t by omega), Bool.false_and, Bool.and_false, Bool.and_false, Bool.and_false, Bool.and_false, Bool.and_false]; done)
                refine n_top (y := bZ false) rfl ?_
                exact ret_z C hr hlocks h (M3, E2 ++ E3) (⟨hI3, hK3⟩) (by rw [hfin]) rfl (by omega) (by omega) dX7_isBacked_76
        · refine lv_iconst (v := nI 0) hx hb dX7_isBacked_47 (by decide) ?_
          subst hQ
          have hfin : backS kx tx9 x.2.1 t = false := by first | assumption | (rw [hS9, decide_eq_false (show ¬ 4 ≤ bk.length by omega)]; rfl) | (rw [hS9, c35, Bool.false_and, Bool.and_false]; done) | (rw [hS9, c44, Bool.false_and, Bool.and_false, Bool.and_false]; done) | (rw [hS9, decide_eq_false (show ¬ sType bk = 25 by omega), Bool.false_and, Bool.and_false, Bool.and_false, Bool.and_false]; done) | (rw [hS9, c62, Bool.not_true, Bool.false_and, Bool.and_false, Bool.and_false, Bool.and_false, Bool.and_false]; done) | (rw [hS9, decide_eq_false (show ¬ mdN bk ≤ t by omega), Bool.false_and, Bool.and_false, Bool.and_false, Bool.and_false, Bool.and_false, Bool.and_false]; done)
          refine n_top (y := bZ false) rfl ?_
          exact ret_z C hr hlocks h (M3, E2 ++ E3) (⟨hI3, hK3⟩) (by rw [hfin]) rfl (by omega) (by omega) dX7_isBacked_48
