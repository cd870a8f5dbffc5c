set_option maxRecDepth 100000

def frnL (pr : List Nat) : List Nat := [3, 0, 8, 1, gD pr 12, gD pr 13, gD pr 14, gD pr 15, gD pr 16, gD pr 17, gD pr 18, gD pr 19, 1]
/-- a front, and a letter -/
def frnB (pr dc : List Nat) : List Nat := pktB 4 (frnL pr) ++ [203] ++ lenB (dc.length + 6) ++ [98] ++ [0, 0, 0, 0, 0] ++ dc
theorem frnL_byt {pr : List Nat} (h : byt pr) : byt (frnL pr) := by
  intro x hx
  unfold frnL at hx
  simp only [List.mem_cons, List.not_mem_nil, or_false] at hx
  rcases hx with e | e | e | e | e | e | e | e | e | e | e | e | e <;> rw [e] <;> first | decide | exact byt_gD h _
theorem frnB_len (pr dc : List Nat) : (frnB pr dc).length ≤ dc.length + 25 := by
  have h1 := pktB_len 4 (frnL pr)
  have h2 := lenB_len (dc.length + 6)
  have h3 : (frnL pr).length = 13 := rfl
  unfold frnB
  simp only [List.length_append, List.length_cons, List.length_nil]
  omega
theorem frnB_byt {pr dc : List Nat} (h : byt pr) (hd : byt dc) (hl : dc.length ≤ 4096) : byt (frnB pr dc) :=
  byt_app (byt_app (byt_app (byt_app (byt_app (pktB_byt (by decide) (frnL_byt h) (Nat.lt_of_lt_of_le (show (frnL pr).length < 14 from Nat.le_refl _) (by decide))) (byt_one (by decide))) (lenB_byt (by omega))) (byt_one (by decide))) (by intro x hx; revert x; decide)) hd
/-- what goes out when a document is sealed -/
def sealO (t k : Nat) (kb sec dc : List Nat) : List Nat :=
  if k = 3 then sclL t kb sec dc else (if k = 2 then frnB (sha1 (keyMsg kb)) dc else []) ++ pktB 2 (madeL (if k = 1 then 1 else 0) t kb sec dc)
/-- thrown, told, the out, by seal -/
def sealX (L : List PK) (dc ou : List Nat) (x y z : Int32) (v : Int64) : Nat × Nat × List Nat := match thingS L x y with
  | none => (1, 0, ou)
  | some i => if isTm v = true ∧ ¬ z < 0 ∧ ¬ nI 3 < z then (match L[i]? with
      | none => (3, 0, ou)
      | some tx => match tx.2.2 with
        | none => (3, 0, ou)
        | some sec => (0, (sealO (tmN v) z.toInt.toNat tx.2.1 sec dc).length, sealO (tmN v) z.toInt.toNat tx.2.1 sec dc)) else (2, 0, ou)
theorem sealX_n {L : List PK} {dc ou : List Nat} {x y z : Int32} {v : Int64} (h : thingS L x y = none) : sealX L dc ou x y z v = (1, 0, ou) := by unfold sealX; rw [h]
theorem sealX_2 {L : List PK} {dc ou : List Nat} {x y z : Int32} {v : Int64} {i : Nat} (h : thingS L x y = some i) (h2 : ¬ (isTm v = true ∧ ¬ z < 0 ∧ ¬ nI 3 < z)) : sealX L dc ou x y z v = (2, 0, ou) := by unfold sealX; rw [h]; exact if_neg h2
theorem sealX_3 {L : List PK} {dc ou : List Nat} {x y z : Int32} {v : Int64} {i : Nat} {tx : PK} (h : thingS L x y = some i) (h2 : isTm v = true ∧ ¬ z < 0 ∧ ¬ nI 3 < z) (h3 : L[i]? = some tx) (h4 : tx.2.2 = none) : sealX L dc ou x y z v = (3, 0, ou) := by unfold sealX; rw [h]; refine (if_pos h2).trans ?_; rw [h3]; dsimp only; rw [h4]
theorem sealX_s {L : List PK} {dc ou : List Nat} {x y z : Int32} {v : Int64} {i t k : Nat} {tx : PK} {sec : List Nat} (h : thingS L x y = some i) (h2 : isTm v = true ∧ ¬ z < 0 ∧ ¬ nI 3 < z) (h3 : L[i]? = some tx) (h4 : tx.2.2 = some sec) (ht : tmN v = t) (hk : z.toInt.toNat = k) : sealX L dc ou x y z v = (0, (sealO t k tx.2.1 sec dc).length, sealO t k tx.2.1 sec dc) := by unfold sealX; rw [h]; refine (if_pos h2).trans ?_; rw [h3]; dsimp only; rw [h4]; dsimp only; rw [ht, hk]
theorem sclL_len {t : Nat} {kb sec dc : List Nat} (hb : byt dc) (hdl : dc.length ≤ 4096) (h : (kN kb).length ≤ 128) : (sclL t kb sec dc).length ≤ 20000 ∧ byt (sclL t kb sec dc) := by
  obtain ⟨a', h1, h2⟩ := clL_b hb (dc.length + 2) 0 ([], []) (Nat.zero_le _) ⟨Or.inr ⟨rfl, rfl⟩, Nat.le_refl _, fun x hx => absurd hx List.not_mem_nil, fun x hx => absurd hx List.not_mem_nil⟩
  have h3 := h2.2.1
  have h4 := madeL_len (ty := 1) (t := t) (sec := sec) (lt := (clrS dc).1) h
  have h5 := pktB_len 2 (madeL 1 t kb sec (clrS dc).1)
  have h6 := armL_len 1 (pktB 2 (madeL 1 t kb sec (clrS dc).1))
  have h7 : clrH.length = 42 := rfl
  have h8 : (clrS dc).2.length ≤ 3 * a' := h3
  refine ⟨?_, ?_⟩
  · unfold sclL
    simp only [List.length_append]
    omega
  · exact byt_app (byt_app (by intro x hx; revert x; decide) h2.2.2.2) (armL_byt _ _)
theorem sealO_len {t k : Nat} {kb sec dc : List Nat} (hb : byt dc) (hdl : dc.length ≤ 4096) (h : (kN kb).length ≤ 128) : (sealO t k kb sec dc).length ≤ 20000 ∧ byt (sealO t k kb sec dc) := by
  unfold sealO
  split
  · exact sclL_len hb hdl h
  · have h4 := madeL_len (ty := if k = 1 then 1 else 0) (t := t) (sec := sec) (lt := dc) h
    have h5 := pktB_len 2 (madeL (if k = 1 then 1 else 0) t kb sec dc)
    have h6 := frnB_len (sha1 (keyMsg kb)) dc
    have h7 : (if k = 2 then frnB (sha1 (keyMsg kb)) dc else []).length ≤ dc.length + 25 := by
      split
      · exact h6
      · exact Nat.zero_le _
    refine ⟨by rw [List.length_append]; omega, byt_app ?_ (pktB_byt (by decide) (madeL_byt (by split <;> decide) h) (by omega))⟩
    split
    · exact frnB_byt (sha1_byt _) hb hdl
    · intro x hx; cases hx

set_option maxHeartbeats 3000000 in
set_option maxRecDepth 100000 in
theorem c7_seal (l : Launch) (D : va_G) (dA : Nat → ClassId) (B : Nat) (Z : State → Prop) (hZ : Stab B Z) (h0 : Nat) (ad : Nat → Nat) (M : MS) (F : va_W) (tp dc ou : List Nat) (L : List PK) (x y z : Int32) (v : Int64) (hzs : ZS dA B Z) (hzR : ∀ U : State, Z U → ∃ t, va_Z "SignetRingModel" "ROUNDS" "[I" (.ref t) (bA B) U U.heap ∧ va_T .int t 64 (fun j => .int (K2 j)) (bA B) U U.heap) (hS : MSt dA F ad M tp dc ou L) (hLl : L.length ≤ 4650) :
    Ct (S := MS × va_W) l D dA B Z yX7_seal cX7_seal 10 (some .int) 11 30 30000 [.ref h0, .int x, .int y, .int z, .long v] (mw dA h0 ad M ++ F) (fun u => MSt dA (F ++ u.2) ad u.1 tp dc ((sealX L dc ou x y z v).2.2) L ∧ mI u.1 0 = nI (sealX L dc ou x y z v).1) (fun _ => some (.int (nI (sealX L dc ou x y z v).2.1))) (fun u => mw dA h0 ad u.1 ++ (F ++ u.2)) := by
  refine Ct.mk2 (by decide) (Nat.le_of_ble_eq_true rfl) hZ ?_
  intro p e R s m args below meth c ls Q C hr hlocks hin hQ hl h
  have C0 := C
  obtain ⟨hx, hb, hml, hown, hts, -⟩ := C0
  have hl : lv_has ls 10 [(0, .ref h0), (1, .int x), (2, .int y), (3, .int z), (4, .long v)] := hl
  have hR : CurR dA F ad M L := hS.cur
  have hPK := hS.2.2.2.1.2.2
  have hI := hS.2.2.2.2.2.1
  have hdl := hS.2.1.2.2.2
  have hdb := hS.2.1.2.2.1
  have hth : ∀ i, thingS L x y = some i → i < 100000 := by
    intro i9 hi9
    obtain ⟨_, _, tx8, _, _, _, h8, _⟩ := thing_k hi9
    have := (List.getElem?_eq_some_iff.mp h8).1
    omega
  refine lv_aload_n hx hb dX7_seal_0 rfl (lv_at hl 0 rfl) ?_
  refine lv_iload_n hx hb dX7_seal_1 rfl (lv_at hl 1 rfl) ?_
  refine lv_iload_n hx hb dX7_seal_2 rfl (lv_at hl 2 rfl) ?_
  refine call_V (As := [.int x, .int y]) (rest := []) (n := 2) C h (c7_thingOf l D dA B Z hZ h0 ad M F L x y hR hPK hLl) (lw_V q2516 q2518 qs117 q138 q2519) (by decide +kernel) (ci := 5) rfl rfl mw_mem0 (by decide) (by decide) rfl hl rfl (Nat.le_of_ble_eq_true rfl) dX7_seal_3 (by omega) (fun _ H locs _ h => ?_)
  refine lv_istore (lv' := [(6, .int (oI (thingS L x y))), (0, .ref h0), (1, .int x), (2, .int y), (3, .int z), (4, .long v)]) hx hb dX7_seal_6 hl (by decide) rfl (fun ls hl => ?_)
  refine lv_aload_n hx hb dX7_seal_8 rfl (lv_at hl 1 rfl) ?_
  refine lv_iload hx hb dX7_seal_9 (lv_at hl 0 rfl) ?_
  refine lv_iconst (v := -1) hx hb dX7_seal_11 (by decide) ?_
  refine lv_icmp_ne (tgt := 19) hx hb dX7_seal_12 (by decide) (fun c12 => ?_) (fun c12 => ?_)
  · obtain ⟨i, hi⟩ : ∃ z, thingS L x y = some z := by
      cases q9 : thingS L x y with
      | none => rw [q9] at c12; exact absurd rfl c12
      | some z => exact ⟨z, rfl⟩
    obtain ⟨q, kx, tx, hq, hkx, hk6, htx, ht6⟩ := thing_k hi
    have hil := (List.getElem?_eq_some_iff.mp htx).1
    obtain ⟨htxk, ⟨qtx, hqtx, hqtxF⟩, htxs⟩ := hR.1 _ _ htx
    have htxo := hPK.at htx
    have htx1 := htxo.1
    have htxl := htxo.2.2.1
    have hgood := (htxo.2.2.2.2.2.1 ht6)
    have hkn := keyOk_nums hgood htxo.2.1 (by omega)
    have hl : lv_has ls 10 [(6, .int (nI i)), (0, .ref h0), (1, .int x), (2, .int y), (3, .int z), (4, .long v)] := by rw [hi] at hl; exact hl
    refine lv_lload hx hb dX7_seal_19 (lv_at hl 5 rfl) ?_
    refine call_S (As := [.long v]) (rest := [.ref h0]) (n := 1) C h (c7_isTime l D dA B Z hZ _ v) (lw_S q2373 q2374 q138 q2375) (by decide +kernel) (by decide) (by decide) rfl hl rfl (Nat.le_of_ble_eq_true rfl) dX7_seal_21 (by omega) (fun _ H locs _ h => ?_)
    refine z_if_eq (tgt := 36) hx hb dX7_seal_24 (by decide) (fun c24 => ?_) (fun c24 => ?_)
    · have hU := sealX_2 (dc := dc) (ou := ou) (z := z) (v := v) hi (fun g => by rw [c24] at g; cases g.1)
      refine lv_iconst (v := nI 2) hx hb dX7_seal_36 (by decide) ?_
      refine lv_goto (tgt := 55) hx hb dX7_seal_37 (by decide) ?_
      refine m_pi C h 0 (v := nI 2) (by decide) rfl rfl rfl q1870 rfl rfl dX7_seal_55 (fun H locs h => ?_)
      refine lv_aload_n hx hb dX7_seal_58 rfl (lv_at hl 1 rfl) ?_
      refine m_gi C h 0 (by decide) rfl rfl q1870 (v := nI 2) rfl dX7_seal_59 ?_
      refine n_if_le (tgt := 67) hx hb (by omega) dX7_seal_62 (by decide) (fun c62 => by exfalso; omega) (fun c62 => ?_)
      refine lv_iconst (v := nI 0) hx hb dX7_seal_65 (by decide) ?_
      subst hQ
      have h : Wd D B s (mw dA h0 ad (sI M 0 (nI 2)) ++ (F ++ [])) H locs := by rw [List.append_nil]; exact h
      exact ret_i C hr hlocks h (sI M 0 (nI 2), []) (⟨by rw [hU, List.append_nil]; exact hS, by rw [hU]; rfl⟩) (by rw [hU]) rfl (by omega) (by omega) dX7_seal_66
    · obtain ⟨t, ht, hvt⟩ := isTm_t c24
      have htt : tmN v = t := by rw [hvt]; exact tmN_l ht
      have hl : lv_has ls 10 [(6, .int (nI i)), (0, .ref h0), (1, .int x), (2, .int y), (3, .int z), (4, .long (lN t))] := by rw [hvt] at hl; exact hl
      refine lv_iload_n hx hb dX7_seal_27 rfl (lv_at hl 4 rfl) ?_
      refine lv_if_lt (tgt := 36) hx hb dX7_seal_28 (by decide) (fun c28 => ?_) (fun c28 => ?_)
      · have hU := sealX_2 (dc := dc) (ou := ou) (z := z) (v := v) hi (fun g => g.2.1 c28)
        refine lv_iconst (v := nI 2) hx hb dX7_seal_36 (by decide) ?_
        refine lv_goto (tgt := 55) hx hb dX7_seal_37 (by decide) ?_
        refine m_pi C h 0 (v := nI 2) (by decide) rfl rfl rfl q1870 rfl rfl dX7_seal_55 (fun H locs h => ?_)
        refine lv_aload_n hx hb dX7_seal_58 rfl (lv_at hl 1 rfl) ?_
        refine m_gi C h 0 (by decide) rfl rfl q1870 (v := nI 2) rfl dX7_seal_59 ?_
        refine n_if_le (tgt := 67) hx hb (by omega) dX7_seal_62 (by decide) (fun c62 => by exfalso; omega) (fun c62 => ?_)
        refine lv_iconst (v := nI 0) hx hb dX7_seal_65 (by decide) ?_
        subst hQ
        have h : Wd D B s (mw dA h0 ad (sI M 0 (nI 2)) ++ (F ++ [])) H locs := by rw [List.append_nil]; exact h
        exact ret_i C hr hlocks h (sI M 0 (nI 2), []) (⟨by rw [hU, List.append_nil]; exact hS, by rw [hU]; rfl⟩) (by rw [hU]) rfl (by omega) (by omega) dX7_seal_66
      · refine lv_iload_n hx hb dX7_seal_31 rfl (lv_at hl 4 rfl) ?_
        refine lv_iconst (v := nI 3) hx hb dX7_seal_32 (by decide) ?_
        refine lv_icmp_le (tgt := 40) hx hb dX7_seal_33 (by decide) (fun c33 => ?_) (fun c33 => ?_)
        · obtain ⟨k, hk1, hzk, hkt⟩ := i_le (by omega) c28 c33
          have hok : isTm v = true ∧ ¬ z < 0 ∧ ¬ nI 3 < z := ⟨c24, c28, Int32.not_lt.mpr c33⟩
          have hl : lv_has ls 10 [(6, .int (nI i)), (0, .ref h0), (1, .int x), (2, .int y), (3, .int (nI k)), (4, .long (lN t))] := by rw [hzk] at hl; exact hl
          refine lv_aload_n hx hb dX7_seal_40 rfl (lv_at hl 1 rfl) ?_
          refine m_gr C h 15 (by decide) rfl rfl q1885 (v := some (ad 15)) hR.2.2.2.2 dX7_seal_41 ?_
          refine lv_iload hx hb dX7_seal_44 (lv_at hl 0 rfl) ?_
          refine n_aald C h (v := (mA M 15) i) (mw_memA (k := 15) (by decide)) (show i < 4700 by omega) (by decide) rfl dX7_seal_46 ?_
          refine n_topv (y := va_rf (mA M 15 i)) rfl ?_
          refine q_ifnonnull (tgt := 54) hx hb dX7_seal_47 (by decide) (fun a47 c47 => ?_) (fun c47 => ?_)
          · obtain ⟨sec, hsec⟩ : ∃ z, tx.2.2 = some z := by
              cases q9 : tx.2.2 with
              | none => rw [q9] at htxs; rw [show mA M 15 i = none from htxs] at c47; cases c47
              | some z => exact ⟨z, rfl⟩
            have hU := sealX_s (dc := dc) (ou := ou) hi hok htx hsec htt hkt
            have hsl := sealO_len (t := t) (k := k) (kb := tx.2.1) (sec := sec) hdb hdl hkn.2.2.2.1
            refine lv_iconst (v := nI 0) hx hb dX7_seal_54 (by decide) ?_
            refine m_pi C h 0 (v := nI 0) (by decide) rfl rfl rfl q1870 rfl rfl dX7_seal_55 (fun H locs h => ?_)
            refine lv_aload_n hx hb dX7_seal_58 rfl (lv_at hl 1 rfl) ?_
            refine m_gi C h 0 (by decide) rfl rfl q1870 (v := nI 0) rfl dX7_seal_59 ?_
            refine n_if_le (tgt := 67) hx hb (by omega) dX7_seal_62 (by decide) (fun c62 => ?_) (fun c62 => by exfalso; omega)
            refine lv_aload_n hx hb dX7_seal_67 rfl (lv_at hl 1 rfl) ?_
            refine lv_iconst (v := nI 0) hx hb dX7_seal_68 (by decide) ?_
            refine m_pi C h 10 (v := nI 0) (by decide) rfl rfl rfl q1880 rfl rfl dX7_seal_69 (fun H locs h => ?_)
            obtain ⟨M1, hM1⟩ : ∃ z, z = (sI (sI M 0 (nI 0)) 10 (nI 0)) := ⟨_, rfl⟩
            have h : Wd D B s (mw dA h0 ad (sI (sI M 0 (nI 0)) 10 (nI 0)) ++ F) H locs := h
            rw [← hM1] at h
            have hKo1 : Ko (sI M 0 (nI 0)) M1 := by rw [hM1]; exact Ko.i10 _ _
            have hI1 : MI M1 := by rw [hM1]; exact hI
            have hR1 : CurR dA F ad M1 L := hR.ko (M := sI M 0 (nI 0)) hKo1 (fun z hz => hz)
            have h110 : mI M1 10 = nI 0 := by rw [hM1]; rfl
            have h13 : mI M1 3 = nI dc.length := by rw [hM1]; exact hS.2.1.1
            have h14 : ∀ j, j < dc.length → mG M1 4 j = gD dc j := by rw [hM1]; exact hS.2.1.2.1
            refine lv_iload_n hx hb dX7_seal_72 rfl (lv_at hl 4 rfl) ?_
            refine lv_iconst (v := nI 3) hx hb dX7_seal_73 (by decide) ?_
            refine n_icmp_ne (tgt := 90) hx hb (by omega) (by omega) dX7_seal_74 (by decide) (fun c74 => ?_) (fun c74 => ?_)
            · have e9 : sealO t k tx.2.1 sec dc = (if k = 2 then frnB (sha1 (keyMsg tx.2.1)) dc else []) ++ pktB 2 (madeL (if k = 1 then 1 else 0) t tx.2.1 sec dc) := by unfold sealO; rw [if_neg c74]
              have jf : ∀ (M9 : MS) (E9 : va_W) (cc cs : Nat) (O9 : List Nat), (O9 = (if k = 2 then frnB (sha1 (keyMsg tx.2.1)) dc else [])) → (MI M9) → (Ko (sI M 0 (nI 0)) M9) → (mI M9 10 = nI O9.length) → (∀ j, j < O9.length → mG M9 11 j = gD O9 j) → (CurR dA (F ++ E9) ad M9 L) → (cc ≤ 2) → (cs ≤ 33) → ∀ (H : Heap) (locs : List Loc), Wd D B s (mw dA h0 ad M9 ++ (F ++ E9)) H locs → ∀ (ls : Array Slot), lv_has ls 10 [(0, .ref h0), (3, .int (nI k)), (4, .long (lN t)), (6, .int (nI i))] → W p l e R s m args below meth c H locs cc cs Q (F0 m 286 ls []) := by
                intro M9  E9  cc cs  O9  hO9 hI9 hKo9 h910 h911 hR9 hcc hcs H locs h ls hl
                have h93 : mI M9 3 = nI dc.length := (hKo9.1 3 (by decide) (by decide)).trans hS.2.1.1
                have h94 : ∀ j, j < dc.length → mG M9 4 j = gD dc j := by rw [hKo9.2.2.1 4 (by decide) (by decide) (by decide) (by decide)]; exact hS.2.1.2.1
                have hO9l : O9.length ≤ dc.length + 25 := by
                  rw [hO9]
                  split
                  · exact frnB_len _ _
                  · exact Nat.zero_le _
                refine lv_aload_n hx hb dX7_seal_286 rfl (lv_at hl 0 rfl) ?_
                refine lv_iconst (v := nI 2) hx hb dX7_seal_287 (by decide) ?_
                refine lv_aload_n hx hb dX7_seal_288 rfl (lv_at hl 0 rfl) ?_
                refine lv_iload hx hb dX7_seal_289 (lv_at hl 3 rfl) ?_
                have jy : ∀ (H : Heap) (locs : List Loc), Wd D B s (mw dA h0 ad M9 ++ (F ++ E9)) H locs → ∀ (ls : Array Slot), lv_has ls 10 [(0, .ref h0), (3, .int (nI k)), (4, .long (lN t)), (6, .int (nI i))] → W p l e R s m args below meth c H locs cc cs Q (F0 m 301 ls [.int (nI (if k = 1 then 1 else 0)), .int (nI i), .ref h0, .int (nI 2), .ref h0]) := by
                  intro   H locs h ls hl
                  refine lv_aload_n hx hb dX7_seal_301 rfl (lv_at hl 0 rfl) ?_
                  refine m_gc C h 4 (by decide) rfl rfl q1874 dX7_seal_302 ?_
                  refine lv_aload_n hx hb dX7_seal_305 rfl (lv_at hl 0 rfl) ?_
                  refine m_gi C h 3 (by decide) rfl rfl q1873 (v := nI dc.length) h93 dX7_seal_306 ?_
                  refine lv_lload hx hb dX7_seal_309 (lv_at hl 2 rfl) ?_
                  have hty2 : (if k = 1 then 1 else 0) < 2 := by split <;> decide
                  refine call_V (As := [.int (nI i), .int (nI (if k = 1 then 1 else 0)), .ref (ad 4), .int (nI dc.length), .long (lN t)]) (rest := [.int (nI 2), .ref h0]) (n := 5) C h (c7_made l D dA B Z hZ h0 ad M9 (F ++ E9) L i (if k = 1 then 1 else 0) t 4096 (ad 4) (mG M9 4) dc sec tx hzR hI9 hR9 hPK hLl htx ht6 hsec hty2 ht (fun M1 F1 hk => kp_mem (k := 4) (by decide) (by decide) hk) h94 hdl (by decide) hdb (by omega)) (lw_V q2546 q2548 qs122 q138 q2549) (by decide +kernel) (ci := 5) rfl rfl mw_mem0 (by decide) (by decide) rfl hl rfl (Nat.le_of_ble_eq_true rfl) dX7_seal_311 (by omega) (fun um H locs hum h => ?_)
                  obtain ⟨qb, M3, E3⟩ := um
                  obtain ⟨hI3, hK3⟩ := hum
                  dsimp only at hI3 hK3
                  obtain ⟨bd, hbd⟩ : ∃ z, z = madeL (if k = 1 then 1 else 0) t tx.2.1 sec dc := ⟨_, rfl⟩
                  have h : Wd D B s (mw dA h0 ad M3 ++ (F ++ E9 ++ E3 ++ [(qb, ial dA (madeL (if k = 1 then 1 else 0) t tx.2.1 sec dc))])) H locs := h
                  rw [← hbd] at h e9
                  have hbdl : bd.length ≤ 179 := by rw [hbd]; exact madeL_len hkn.2.2.2.1
                  have hbdb : byt bd := by rw [hbd]; exact madeL_byt hty2 hkn.2.2.2.1
                  have h310 : mI M3 10 = nI O9.length := (hK3.1 10 (by decide)).trans h910
                  have h311 : ∀ j, j < O9.length → mG M3 11 j = gD O9 j := by rw [hK3.2.2.2.1 11 (by decide)]; exact h911
                  show W p l e R s m args below meth c H locs (cc + 14) (cs + (6 * tx.2.1.length + 1100)) Q (F0 m 314 ls [.ref qb, .int (nI 2), .ref h0])
                  refine call_V (As := [.int (nI 2), .ref qb]) (rest := []) (n := 2) C h (c7_putPacket l D dA B Z hZ h0 ad M3 (F ++ E9 ++ E3 ++ [(qb, ial dA bd)]) 2 qb bd O9.length h310 (by decide) (List.mem_append_right _ List.mem_cons_self) hbdb (by omega) (by omega)) (lw_V q2551 q2553 qs123 q138 q2554) (by decide +kernel) (ci := 5) rfl rfl mw_mem0 (by decide) (by decide) rfl hl rfl (Nat.le_of_ble_eq_true rfl) dX7_seal_314 (by omega) (fun _ H locs _ h => ?_)
                  obtain ⟨M4, hM4⟩ : ∃ z, z = apM M3 11 10 O9.length (pktB 2 bd) := ⟨_, rfl⟩
                  rw [← hM4] at h
                  have e8 : sealO t k tx.2.1 sec dc = O9 ++ pktB 2 bd := by rw [e9, hO9]
                  have h410 : mI M4 10 = nI (sealO t k tx.2.1 sec dc).length := by rw [hM4, e8, List.length_append]; rfl
                  have h411 : ∀ j, j < (sealO t k tx.2.1 sec dc).length → mG M4 11 j = gD (sealO t k tx.2.1 sec dc) j := by rw [hM4, e8]; exact app_get h311
                  have hI4 : MI M4 := by rw [hM4]; exact hI3
                  have hKo4 : Ko (sI M 0 (nI 0)) M4 := by rw [hM4]; exact hKo9.trans (hK3.ko.trans (Ko.ap _ _ _))
                  have h : Wd D B s (mw dA h0 ad M4 ++ (F ++ (E9 ++ E3 ++ [(qb, ial dA bd)]))) H locs := by simp only [List.append_assoc] at h ⊢; exact h
                  refine lv_aload_n hx hb dX7_seal_317 rfl (lv_at hl 0 rfl) ?_
                  refine m_gi C h 10 (by decide) rfl rfl q1880 (v := nI ((sealO t k tx.2.1 sec dc).length)) h410 dX7_seal_318 ?_
                  subst hQ
                  exact ret_i C hr hlocks h (M4, (E9 ++ E3 ++ [(qb, ial dA bd)])) (⟨by rw [hU]; exact MSt.ko (M := sI M 0 (nI 0)) hS hKo4 hI4 (fun z hz => List.mem_append_left _ hz) h410 h411 hsl.2 (Nat.le_trans hsl.1 (by decide)), by rw [hU]; exact hKo4.1 0 (by decide) (by decide)⟩) (by rw [hU]) rfl (by omega) (by omega) dX7_seal_321
                refine lv_iload_n hx hb dX7_seal_291 rfl (lv_at hl 1 rfl) ?_
                refine lv_iconst (v := nI 1) hx hb dX7_seal_292 (by decide) ?_
                refine n_icmp_ne (tgt := 300) hx hb (by omega) (by omega) dX7_seal_293 (by decide) (fun c293 => ?_) (fun c293 => ?_)
                · refine lv_iconst (v := nI 0) hx hb dX7_seal_300 (by decide) ?_
                  refine n_top (y := nI (if k = 1 then 1 else 0)) (congrArg nI (by rw [if_neg c293])) ?_
                  exact jy   _ _ h _ (lv_sub hl [0, 1, 2, 3] rfl)
                · refine lv_iconst (v := nI 1) hx hb dX7_seal_296 (by decide) ?_
                  refine lv_goto (tgt := 301) hx hb dX7_seal_297 (by decide) ?_
                  refine n_top (y := nI (if k = 1 then 1 else 0)) (congrArg nI (by rw [if_pos c293])) ?_
                  exact jy   _ _ h _ (lv_sub hl [0, 1, 2, 3] rfl)
              refine lv_iload_n hx hb dX7_seal_90 rfl (lv_at hl 4 rfl) ?_
              refine lv_iconst (v := nI 2) hx hb dX7_seal_91 (by decide) ?_
              refine n_icmp_ne (tgt := 286) hx hb (by omega) (by omega) dX7_seal_92 (by decide) (fun c92 => ?_) (fun c92 => ?_)
              · have h : Wd D B s (mw dA h0 ad M1 ++ (F ++ [])) H locs := by rw [List.append_nil]; exact h
                exact jf M1 [] _ _ [] (by rw [if_neg c92]) hI1 hKo1 h110 (fun j hj => absurd hj (Nat.not_lt_zero _)) (by rw [List.append_nil]; exact hR1) (by omega) (by omega) _ _ h _ (lv_sub hl [1, 4, 5, 0] rfl)
              · refine lv_aload_n hx hb dX7_seal_95 rfl (lv_at hl 1 rfl) ?_
                refine lv_aload_n hx hb dX7_seal_96 rfl (lv_at hl 1 rfl) ?_
                refine m_gr C h 14 (by decide) rfl rfl q1884 (v := some (ad 14)) hR1.2.2.2.1 dX7_seal_97 ?_
                refine lv_iload hx hb dX7_seal_100 (lv_at hl 0 rfl) ?_
                refine n_aald C h (v := (mA M1 14) i) (mw_memA (k := 14) (by decide)) (show i < 4700 by omega) (by decide) rfl dX7_seal_102 ?_
                refine n_topv (y := .ref qtx) (congrArg va_rf ((congrFun (congrFun hKo1.2.2.2 14) i).trans hqtx)) ?_
                refine call_V (As := [.ref qtx]) (rest := []) (n := 1) C h (c7_printOf l D dA B Z hZ h0 ad M1 F qtx tx.2.1 hzR hI1.1 hqtxF htxo.2.1 (by omega)) (lw_V q2240 q2242 qs65 q138 q2243) (by decide +kernel) (ci := 5) rfl rfl mw_mem0 (by decide) (by decide) rfl hl rfl (Nat.le_of_ble_eq_true rfl) dX7_seal_103 (by omega) (fun up H locs hup h => ?_)
                obtain ⟨q7, uh⟩ := up
                obtain ⟨hp1, hp2⟩ := hup
                obtain ⟨pr, hpr⟩ : ∃ z, z = (sha1 (keyMsg tx.2.1)) := ⟨_, rfl⟩
                have hprl : pr.length = 20 := by rw [hpr]; exact sha1_len _
                have hprb : byt pr := by rw [hpr]; exact sha1_byt _
                obtain ⟨M2, hM2⟩ : ∃ z, z = hM M1 uh := ⟨_, rfl⟩
                have h : Wd D B s (mw dA h0 ad (hM M1 uh) ++ (F ++ [(q7, ial dA (sha1 (keyMsg tx.2.1)))])) H locs := h
                rw [← hM2, ← hpr] at h
                have hKo2 : Ko (sI M 0 (nI 0)) M2 := by rw [hM2]; exact hKo1.trans (hM_kp _ uh).ko
                have hI2 : MI M2 := by rw [hM2]; exact hM_kp2 _ uh hI1 hp1
                have h210 : mI M2 10 = nI 0 := by rw [hM2]; exact h110
                have h23 : mI M2 3 = nI dc.length := by rw [hM2]; exact h13
                have h24 : ∀ j, j < dc.length → mG M2 4 j = gD dc j := by rw [hM2]; exact h14
                obtain ⟨F1, hF1⟩ : ∃ z, z = F ++ [(q7, ial dA pr)] := ⟨_, rfl⟩
                rw [← hF1] at h
                have hq7F : (q7, ial dA pr) ∈ F1 := by rw [hF1]; exact List.mem_append_right _ List.mem_cons_self
                show W p l e R s m args below meth c H locs (0 + 0 + 0 + 1) (0 + 0 + 0 + 20) Q (F0 m 106 ls [.ref q7])
                refine lv_astore (lv' := [(7, .ref q7), (6, .int (nI i)), (0, .ref h0), (1, .int x), (2, .int y), (3, .int (nI k)), (4, .long (lN t))]) hx hb dX7_seal_106 hl (by decide) rfl (fun ls hl => ?_)
                refine lv_bipush (v := nI 13) hx hb dX7_seal_108 (by decide) ?_
                refine n_newa C h (n := 13) (by decide) (by omega) (by omega) dX7_seal_110 (fun q2 H h => ?_)
                rw [show iar dA 13 (fun _ => 0) = iar dA 13 (gD (List.replicate 13 0)) from congrArg (iar dA 13) (gD_zero 13), List.append_assoc] at h
                have h : Wd D B s (mw dA h0 ad M2 ++ (F1 ++ (q2, iar dA 13 (gD [0, 0, 0, 0, 0, 0, 0, 0, 0, 0, 0, 0, 0])) :: [])) H locs := h
                refine lv_dup hx hb dX7_seal_112 rfl ?_
                refine lv_iconst (v := nI 0) hx hb dX7_seal_113 (by decide) ?_
                refine lv_iconst (v := nI 3) hx hb dX7_seal_114 (by decide) ?_
                refine n_iastX C h (i := 0) (v := 3) (by decide) (by decide) dX7_seal_115 (fun H locs h => ?_)
                rw [gD_set (Nat.le_of_ble_eq_true rfl)] at h
                have h : Wd D B s (mw dA h0 ad M2 ++ (F1 ++ (q2, iar dA 13 (gD [3, 0, 0, 0, 0, 0, 0, 0, 0, 0, 0, 0, 0])) :: [])) H locs := h
                refine lv_dup hx hb dX7_seal_116 rfl ?_
                refine lv_iconst (v := nI 1) hx hb dX7_seal_117 (by decide) ?_
                refine lv_iconst (v := nI 0) hx hb dX7_seal_118 (by decide) ?_
                refine n_iastX C h (i := 1) (v := 0) (by decide) (by decide) dX7_seal_119 (fun H locs h => ?_)
                rw [gD_set (Nat.le_of_ble_eq_true rfl)] at h
                have h : Wd D B s (mw dA h0 ad M2 ++ (F1 ++ (q2, iar dA 13 (gD [3, 0, 0, 0, 0, 0, 0, 0, 0, 0, 0, 0, 0])) :: [])) H locs := h
                refine lv_dup hx hb dX7_seal_120 rfl ?_
                refine lv_iconst (v := nI 2) hx hb dX7_seal_121 (by decide) ?_
                refine lv_bipush (v := nI 8) hx hb dX7_seal_122 (by decide) ?_
                refine n_iastX C h (i := 2) (v := 8) (by decide) (by decide) dX7_seal_124 (fun H locs h => ?_)
                rw [gD_set (Nat.le_of_ble_eq_true rfl)] at h
                have h : Wd D B s (mw dA h0 ad M2 ++ (F1 ++ (q2, iar dA 13 (gD [3, 0, 8, 0, 0, 0, 0, 0, 0, 0, 0, 0, 0])) :: [])) H locs := h
                refine lv_dup hx hb dX7_seal_125 rfl ?_
                refine lv_iconst (v := nI 3) hx hb dX7_seal_126 (by decide) ?_
                refine lv_iconst (v := nI 1) hx hb dX7_seal_127 (by decide) ?_
                refine n_iastX C h (i := 3) (v := 1) (by decide) (by decide) dX7_seal_128 (fun H locs h => ?_)
                rw [gD_set (Nat.le_of_ble_eq_true rfl)] at h
                have h : Wd D B s (mw dA h0 ad M2 ++ (F1 ++ (q2, iar dA 13 (gD [3, 0, 8, 1, 0, 0, 0, 0, 0, 0, 0, 0, 0])) :: [])) H locs := h
                refine lv_dup hx hb dX7_seal_129 rfl ?_
                refine lv_iconst (v := nI 4) hx hb dX7_seal_130 (by decide) ?_
                refine lv_aload hx hb dX7_seal_131 (lv_at hl 0 rfl) ?_
                refine lv_bipush (v := nI 12) hx hb dX7_seal_133 (by decide) ?_
                refine n_iald C h (v := (gD pr) 12) (List.mem_append_right _ (List.mem_append_left _ hq7F)) (show 12 < pr.length by omega) (by omega) rfl dX7_seal_135 ?_
                refine n_iastX C h (i := 4) (v := (gD pr) 12) (by decide) (by decide) dX7_seal_136 (fun H locs h => ?_)
                rw [gD_set (Nat.le_of_ble_eq_true rfl)] at h
                have h : Wd D B s (mw dA h0 ad M2 ++ (F1 ++ (q2, iar dA 13 (gD [3, 0, 8, 1, (gD pr) 12, 0, 0, 0, 0, 0, 0, 0, 0])) :: [])) H locs := h
                refine lv_dup hx hb dX7_seal_137 rfl ?_
                refine lv_iconst (v := nI 5) hx hb dX7_seal_138 (by decide) ?_
                refine lv_aload hx hb dX7_seal_139 (lv_at hl 0 rfl) ?_
                refine lv_bipush (v := nI 13) hx hb dX7_seal_141 (by decide) ?_
                refine n_iald C h (v := (gD pr) 13) (List.mem_append_right _ (List.mem_append_left _ hq7F)) (show 13 < pr.length by omega) (by omega) rfl dX7_seal_143 ?_
                refine n_iastX C h (i := 5) (v := (gD pr) 13) (by decide) (by decide) dX7_seal_144 (fun H locs h => ?_)
                rw [gD_set (Nat.le_of_ble_eq_true rfl)] at h
                have h : Wd D B s (mw dA h0 ad M2 ++ (F1 ++ (q2, iar dA 13 (gD [3, 0, 8, 1, (gD pr) 12, (gD pr) 13, 0, 0, 0, 0, 0, 0, 0])) :: [])) H locs := h
                refine lv_dup hx hb dX7_seal_145 rfl ?_
                refine lv_bipush (v := nI 6) hx hb dX7_seal_146 (by decide) ?_
                refine lv_aload hx hb dX7_seal_148 (lv_at hl 0 rfl) ?_
                refine lv_bipush (v := nI 14) hx hb dX7_seal_150 (by decide) ?_
                refine n_iald C h (v := (gD pr) 14) (List.mem_append_right _ (List.mem_append_left _ hq7F)) (show 14 < pr.length by omega) (by omega) rfl dX7_seal_152 ?_
                refine n_iastX C h (i := 6) (v := (gD pr) 14) (by decide) (by decide) dX7_seal_153 (fun H locs h => ?_)
                rw [gD_set (Nat.le_of_ble_eq_true rfl)] at h
                have h : Wd D B s (mw dA h0 ad M2 ++ (F1 ++ (q2, iar dA 13 (gD [3, 0, 8, 1, (gD pr) 12, (gD pr) 13, (gD pr) 14, 0, 0, 0, 0, 0, 0])) :: [])) H locs := h
                refine lv_dup hx hb dX7_seal_154 rfl ?_
                refine lv_bipush (v := nI 7) hx hb dX7_seal_155 (by decide) ?_
                refine lv_aload hx hb dX7_seal_157 (lv_at hl 0 rfl) ?_
                refine lv_bipush (v := nI 15) hx hb dX7_seal_159 (by decide) ?_
                refine n_iald C h (v := (gD pr) 15) (List.mem_append_right _ (List.mem_append_left _ hq7F)) (show 15 < pr.length by omega) (by omega) rfl dX7_seal_161 ?_
                refine n_iastX C h (i := 7) (v := (gD pr) 15) (by decide) (by decide) dX7_seal_162 (fun H locs h => ?_)
                rw [gD_set (Nat.le_of_ble_eq_true rfl)] at h
                have h : Wd D B s (mw dA h0 ad M2 ++ (F1 ++ (q2, iar dA 13 (gD [3, 0, 8, 1, (gD pr) 12, (gD pr) 13, (gD pr) 14, (gD pr) 15, 0, 0, 0, 0, 0])) :: [])) H locs := h
                refine lv_dup hx hb dX7_seal_163 rfl ?_
                refine lv_bipush (v := nI 8) hx hb dX7_seal_164 (by decide) ?_
                refine lv_aload hx hb dX7_seal_166 (lv_at hl 0 rfl) ?_
                refine lv_bipush (v := nI 16) hx hb dX7_seal_168 (by decide) ?_
                refine n_iald C h (v := (gD pr) 16) (List.mem_append_right _ (List.mem_append_left _ hq7F)) (show 16 < pr.length by omega) (by omega) rfl dX7_seal_170 ?_
                refine n_iastX C h (i := 8) (v := (gD pr) 16) (by decide) (by decide) dX7_seal_171 (fun H locs h => ?_)
                rw [gD_set (Nat.le_of_ble_eq_true rfl)] at h
                have h : Wd D B s (mw dA h0 ad M2 ++ (F1 ++ (q2, iar dA 13 (gD [3, 0, 8, 1, (gD pr) 12, (gD pr) 13, (gD pr) 14, (gD pr) 15, (gD pr) 16, 0, 0, 0, 0])) :: [])) H locs := h
                refine lv_dup hx hb dX7_seal_172 rfl ?_
                refine lv_bipush (v := nI 9) hx hb dX7_seal_173 (by decide) ?_
                refine lv_aload hx hb dX7_seal_175 (lv_at hl 0 rfl) ?_
                refine lv_bipush (v := nI 17) hx hb dX7_seal_177 (by decide) ?_
                refine n_iald C h (v := (gD pr) 17) (List.mem_append_right _ (List.mem_append_left _ hq7F)) (show 17 < pr.length by omega) (by omega) rfl dX7_seal_179 ?_
                refine n_iastX C h (i := 9) (v := (gD pr) 17) (by decide) (by decide) dX7_seal_180 (fun H locs h => ?_)
                rw [gD_set (Nat.le_of_ble_eq_true rfl)] at h
                have h : Wd D B s (mw dA h0 ad M2 ++ (F1 ++ (q2, iar dA 13 (gD [3, 0, 8, 1, (gD pr) 12, (gD pr) 13, (gD pr) 14, (gD pr) 15, (gD pr) 16, (gD pr) 17, 0, 0, 0])) :: [])) H locs := h
                refine lv_dup hx hb dX7_seal_181 rfl ?_
                refine lv_bipush (v := nI 10) hx hb dX7_seal_182 (by decide) ?_
                refine lv_aload hx hb dX7_seal_184 (lv_at hl 0 rfl) ?_
                refine lv_bipush (v := nI 18) hx hb dX7_seal_186 (by decide) ?_
                refine n_iald C h (v := (gD pr) 18) (List.mem_append_right _ (List.mem_append_left _ hq7F)) (show 18 < pr.length by omega) (by omega) rfl dX7_seal_188 ?_
                refine n_iastX C h (i := 10) (v := (gD pr) 18) (by decide) (by decide) dX7_seal_189 (fun H locs h => ?_)
                rw [gD_set (Nat.le_of_ble_eq_true rfl)] at h
                have h : Wd D B s (mw dA h0 ad M2 ++ (F1 ++ (q2, iar dA 13 (gD [3, 0, 8, 1, (gD pr) 12, (gD pr) 13, (gD pr) 14, (gD pr) 15, (gD pr) 16, (gD pr) 17, (gD pr) 18, 0, 0])) :: [])) H locs := h
                refine lv_dup hx hb dX7_seal_190 rfl ?_
                refine lv_bipush (v := nI 11) hx hb dX7_seal_191 (by decide) ?_
                refine lv_aload hx hb dX7_seal_193 (lv_at hl 0 rfl) ?_
                refine lv_bipush (v := nI 19) hx hb dX7_seal_195 (by decide) ?_
                refine n_iald C h (v := (gD pr) 19) (List.mem_append_right _ (List.mem_append_left _ hq7F)) (show 19 < pr.length by omega) (by omega) rfl dX7_seal_197 ?_
                refine n_iastX C h (i := 11) (v := (gD pr) 19) (by decide) (by decide) dX7_seal_198 (fun H locs h => ?_)
                rw [gD_set (Nat.le_of_ble_eq_true rfl)] at h
                have h : Wd D B s (mw dA h0 ad M2 ++ (F1 ++ (q2, iar dA 13 (gD [3, 0, 8, 1, (gD pr) 12, (gD pr) 13, (gD pr) 14, (gD pr) 15, (gD pr) 16, (gD pr) 17, (gD pr) 18, (gD pr) 19, 0])) :: [])) H locs := h
                refine lv_dup hx hb dX7_seal_199 rfl ?_
                refine lv_bipush (v := nI 12) hx hb dX7_seal_200 (by decide) ?_
                refine lv_iconst (v := nI 1) hx hb dX7_seal_202 (by decide) ?_
                refine n_iastX C h (i := 12) (v := 1) (by decide) (by decide) dX7_seal_203 (fun H locs h => ?_)
                rw [gD_set (Nat.le_of_ble_eq_true rfl)] at h
                have h : Wd D B s (mw dA h0 ad M2 ++ (F1 ++ (q2, iar dA 13 (gD [3, 0, 8, 1, (gD pr) 12, (gD pr) 13, (gD pr) 14, (gD pr) 15, (gD pr) 16, (gD pr) 17, (gD pr) 18, (gD pr) 19, 1])) :: [])) H locs := h
                refine lv_astore (lv' := [(8, .ref q2), (7, .ref q7), (6, .int (nI i)), (0, .ref h0), (1, .int x), (2, .int y), (3, .int (nI k)), (4, .long (lN t))]) hx hb dX7_seal_204 hl (by decide) rfl (fun ls hl => ?_)
                obtain ⟨fr, hfr⟩ : ∃ z, z = frnL pr := ⟨_, rfl⟩
                have hfrl : fr.length = 13 := by rw [hfr]; rfl
                have hfrb : byt fr := by rw [hfr]; exact frnL_byt hprb
                have h : Wd D B s (mw dA h0 ad M2 ++ (F1 ++ [(q2, ial dA fr)])) H locs := by rw [hfr]; exact h
                obtain ⟨F2, hF2⟩ : ∃ z, z = F1 ++ [(q2, ial dA fr)] := ⟨_, rfl⟩
                rw [← hF2] at h
                have hq2F : (q2, ial dA fr) ∈ F2 := by rw [hF2]; exact List.mem_append_right _ List.mem_cons_self
                refine lv_aload_n hx hb dX7_seal_206 rfl (lv_at hl 3 rfl) ?_
                refine lv_iconst (v := nI 4) hx hb dX7_seal_207 (by decide) ?_
                refine lv_aload hx hb dX7_seal_208 (lv_at hl 0 rfl) ?_
                refine call_V (As := [.int (nI 4), .ref q2]) (rest := []) (n := 2) C h (c7_putPacket l D dA B Z hZ h0 ad M2 F2 4 q2 fr 0 h210 (by decide) hq2F hfrb (by omega) (by omega)) (lw_V q2551 q2553 qs123 q138 q2554) (by decide +kernel) (ci := 5) rfl rfl mw_mem0 (by decide) (by decide) rfl hl rfl (Nat.le_of_ble_eq_true rfl) dX7_seal_210 (by omega) (fun _ H locs _ h => ?_)
                obtain ⟨p1, hp1e⟩ : ∃ z, z = pktB 4 fr := ⟨_, rfl⟩
                have hp1l := pktB_len 4 fr
                rw [← hp1e] at h hp1l
                have h : Wd D B s (mw dA h0 ad (apM M2 11 10 0 (p1)) ++ F2) H locs := h
                refine lv_aload_n hx hb dX7_seal_213 rfl (lv_at hl 3 rfl) ?_
                refine lv_sipush (v := nI 203) hx hb dX7_seal_214 (by decide) ?_
                refine call_V (As := [.int (nI 203)]) (rest := []) (n := 1) C h (c7_put l D dA B Z hZ h0 ad (apM M2 11 10 0 (p1)) F2 _ (0 + (p1).length) (203) rfl (by (try simp only [List.length_append, List.length_cons, List.length_nil, sl_len]) <;> omega) (and255 (by decide))) (lw_V q2540 q2542 qs121 q138 q2543) (by decide +kernel) (ci := 5) rfl rfl mw_mem0 (by decide) (by decide) rfl hl rfl (Nat.le_of_ble_eq_true rfl) dX7_seal_217 (by omega) (fun _ H locs _ h => ?_)
                rw [apM_app] at h
                have h : Wd D B s (mw dA h0 ad (apM M2 11 10 0 (p1 ++ [203])) ++ F2) H locs := h
                refine lv_aload_n hx hb dX7_seal_220 rfl (lv_at hl 3 rfl) ?_
                refine lv_aload_n hx hb dX7_seal_221 rfl (lv_at hl 3 rfl) ?_
                refine m_gi C h 3 (by decide) rfl rfl q1873 (v := nI dc.length) h23 dX7_seal_222 ?_
                refine lv_bipush (v := nI 6) hx hb dX7_seal_225 (by decide) ?_
                refine lv_iadd hx hb dX7_seal_227 (n_top (y := nI (dc.length + 6)) (nI_add dc.length 6) ?_)
                refine call_V (As := [.int (nI (dc.length + 6))]) (rest := []) (n := 1) C h (c7_putLength l D dA B Z hZ h0 ad (apM M2 11 10 0 (p1 ++ [203])) F2 (dc.length + 6) (0 + (p1 ++ [203]).length) rfl (by omega) (by simp only [List.length_append, List.length_cons, List.length_nil]; omega)) (lw_V q2555 q2557 qs124 q138 q2558) (by decide +kernel) (ci := 5) rfl rfl mw_mem0 (by decide) (by decide) rfl hl rfl (Nat.le_of_ble_eq_true rfl) dX7_seal_228 (by omega) (fun _ H locs _ h => ?_)
                rw [apM_app] at h
                have hll := lenB_len (dc.length + 6)
                have h : Wd D B s (mw dA h0 ad (apM M2 11 10 0 (p1 ++ [203] ++ lenB (dc.length + 6))) ++ F2) H locs := h
                refine lv_aload_n hx hb dX7_seal_231 rfl (lv_at hl 3 rfl) ?_
                refine lv_bipush (v := nI 98) hx hb dX7_seal_232 (by decide) ?_
                refine call_V (As := [.int (nI 98)]) (rest := []) (n := 1) C h (c7_put l D dA B Z hZ h0 ad (apM M2 11 10 0 (p1 ++ [203] ++ lenB (dc.length + 6))) F2 _ (0 + (p1 ++ [203] ++ lenB (dc.length + 6)).length) (98) rfl (by (try simp only [List.length_append, List.length_cons, List.length_nil, sl_len]) <;> omega) (and255 (by decide))) (lw_V q2540 q2542 qs121 q138 q2543) (by decide +kernel) (ci := 5) rfl rfl mw_mem0 (by decide) (by decide) rfl hl rfl (Nat.le_of_ble_eq_true rfl) dX7_seal_234 (by omega) (fun _ H locs _ h => ?_)
                rw [apM_app] at h
                have h : Wd D B s (mw dA h0 ad (apM M2 11 10 0 (p1 ++ [203] ++ lenB (dc.length + 6) ++ [98])) ++ F2) H locs := h
                refine lv_iconst (v := nI 0) hx hb dX7_seal_237 (by decide) ?_
                refine lv_istore (lv' := [(9, .int (nI 0)), (8, .ref q2), (7, .ref q7), (6, .int (nI i)), (0, .ref h0), (1, .int x), (2, .int y), (3, .int (nI k)), (4, .long (lN t))]) hx hb dX7_seal_238 hl (by decide) rfl (fun ls hl => ?_)
                obtain ⟨p2, hp2e⟩ : ∃ z, z = p1 ++ [203] ++ lenB (dc.length + 6) ++ [98] := ⟨_, rfl⟩
                have hp2l : p2.length ≤ 20 := by rw [hp2e]; simp only [List.length_append, List.length_cons, List.length_nil]; omega
                rw [← hp2e] at h
                have h : Wd D B s (mw dA h0 ad (apM M2 11 10 0 (p2 ++ sl (fun _ => 0) 0 0)) ++ F2) H locs := by rw [sl_0, List.append_nil]; exact h
                have loop : ∀ (nn : Nat) (j : Nat), (j ≤ 5) → 5 - j < nn → ∀ (H : Heap) (locs : List Loc), Wd D B s (mw dA h0 ad (apM M2 11 10 0 (p2 ++ sl (fun _ => 0) 0 j)) ++ F2) H locs → ∀ (ls : Array Slot), lv_has ls 10 [(9, .int (nI j)), (0, .ref h0), (3, .int (nI k)), (4, .long (lN t)), (6, .int (nI i))] → W p l e R s m args below meth c H locs (0 + 0 + 0 + 1 + 1 + 0 + 0 + 0 + 0) (0 + 0 + 0 + 20 + 13 + 0 + 0 + 0 + 0) Q (F0 m 240 ls []) := by
                  intro nn
                  induction nn with
                  | zero => intro j  hi0 hme; exact absurd hme (Nat.not_lt_zero _)
                  | succ nn ih =>
                    intro j  hi0 hme H locs h ls hl
                    refine lv_iload hx hb dX7_seal_240 (lv_at hl 0 rfl) ?_
                    refine lv_iconst (v := nI 5) hx hb dX7_seal_242 (by decide) ?_
                    refine n_icmp_ge (tgt := 257) hx hb (by omega) (by omega) dX7_seal_243 (by decide) (fun c243 => ?_) (fun c243 => ?_)
                    · refine lv_iconst (v := nI 0) hx hb dX7_seal_257 (by decide) ?_
                      refine lv_istore (lv' := [(9, .int (nI 0)), (0, .ref h0), (3, .int (nI k)), (4, .long (lN t)), (6, .int (nI i))]) hx hb dX7_seal_258 hl (by decide) rfl (fun ls hl => ?_)
                      have hj5 : j = 5 := by omega
                      rw [hj5] at h
                      obtain ⟨p3, hp3e⟩ : ∃ z, z = p2 ++ sl (fun _ => 0) 0 5 := ⟨_, rfl⟩
                      have hp3l : p3.length ≤ 25 := by rw [hp3e, List.length_append, sl_len]; omega
                      rw [← hp3e] at h
                      have h : Wd D B s (mw dA h0 ad (apM M2 11 10 0 (p3 ++ sl (gD dc) 0 0)) ++ F2) H locs := by rw [sl_0, List.append_nil]; exact h
                      have loopD : ∀ (nnD : Nat) (j : Nat), (j ≤ dc.length) → dc.length - j < nnD → ∀ (H : Heap) (locs : List Loc), Wd D B s (mw dA h0 ad (apM M2 11 10 0 (p3 ++ sl (gD dc) 0 j)) ++ F2) H locs → ∀ (ls : Array Slot), lv_has ls 10 [(9, .int (nI j)), (0, .ref h0), (3, .int (nI k)), (4, .long (lN t)), (6, .int (nI i))] → W p l e R s m args below meth c H locs (0 + 0 + 0 + 1 + 1 + 0 + 0 + 0 + 0) (0 + 0 + 0 + 20 + 13 + 0 + 0 + 0 + 0) Q (F0 m 260 ls []) := by
                        intro nnD
                        induction nnD with
                        | zero => intro j  hi0 hme; exact absurd hme (Nat.not_lt_zero _)
                        | succ nnD ihD =>
                          intro j  hi0 hme H locs h ls hl
                          refine lv_iload hx hb dX7_seal_260 (lv_at hl 0 rfl) ?_
                          refine lv_aload_n hx hb dX7_seal_262 rfl (lv_at hl 1 rfl) ?_
                          refine m_gi C h 3 (by decide) rfl rfl q1873 (v := nI dc.length) h23 dX7_seal_263 ?_
                          refine n_icmp_ge (tgt := 286) hx hb (by omega) (by omega) dX7_seal_266 (by decide) (fun c266 => ?_) (fun c266 => ?_)
                          · have hjd : j = dc.length := by omega
                            rw [hjd, sl_gD] at h
                            obtain ⟨O8, hO8⟩ : ∃ z, z = p3 ++ dc := ⟨_, rfl⟩
                            rw [← hO8] at h
                            have hofr : O8 = frnB (sha1 (keyMsg tx.2.1)) dc := by rw [hO8, hp3e, hp2e, hp1e, hfr, hpr]; rfl
                            obtain ⟨M8, hM8⟩ : ∃ z, z = apM M2 11 10 0 O8 := ⟨_, rfl⟩
                            rw [← hM8] at h
                            have hI8 : MI M8 := by rw [hM8]; exact hI2
                            have hKo8 : Ko (sI M 0 (nI 0)) M8 := by rw [hM8]; exact hKo2.trans (Ko.ap _ _ _)
                            have h810 : mI M8 10 = nI O8.length := by rw [hM8]; exact congrArg nI (Nat.zero_add _)
                            have h811 : ∀ j, j < O8.length → mG M8 11 j = gD O8 j := by rw [hM8]; exact app_get0
                            have h : Wd D B s (mw dA h0 ad M8 ++ (F ++ ([(q7, ial dA pr)] ++ [(q2, ial dA fr)]))) H locs := by rw [hF2, hF1, List.append_assoc] at h; exact h
                            have hR8 : CurR dA (F ++ ([(q7, ial dA pr)] ++ [(q2, ial dA fr)])) ad M8 L := hR.ko (M := sI M 0 (nI 0)) hKo8 (fun z hz => List.mem_append_left _ hz)
                            exact jf M8 ([(q7, ial dA pr)] ++ [(q2, ial dA fr)]) _ _ O8 (by rw [if_pos c92, hofr]) hI8 hKo8 h810 h811 hR8 (by omega) (by omega) _ _ h _ (lv_sub hl [1, 2, 3, 4] rfl)
                          · refine lv_aload_n hx hb dX7_seal_269 rfl (lv_at hl 1 rfl) ?_
                            refine lv_aload_n hx hb dX7_seal_270 rfl (lv_at hl 1 rfl) ?_
                            refine m_gc C h 4 (by decide) rfl rfl q1874 dX7_seal_271 ?_
                            refine lv_iload hx hb dX7_seal_274 (lv_at hl 0 rfl) ?_
                            refine n_iald C h (v := (mG M2 4) j) (mw_memG (k := 4) (by decide)) (show j < 4096 by omega) (by decide) rfl dX7_seal_276 ?_
                            refine n_top (y := nI (gD dc j)) (congrArg nI (h24 _ (by omega))) ?_
                            refine call_V (As := [.int (nI (gD dc j))]) (rest := []) (n := 1) C h (c7_put l D dA B Z hZ h0 ad (apM M2 11 10 0 (p3 ++ sl (gD dc) 0 j)) F2 _ (0 + (p3 ++ sl (gD dc) 0 j).length) (gD dc j) rfl (by (try simp only [List.length_append, List.length_cons, List.length_nil, sl_len]) <;> omega) (and255 (byt_gD hdb j))) (lw_V q2540 q2542 qs121 q138 q2543) (by decide +kernel) (ci := 5) rfl rfl mw_mem0 (by decide) (by decide) rfl hl rfl (Nat.le_of_ble_eq_true rfl) dX7_seal_277 (by omega) (fun _ H locs _ h => ?_)
                            rw [apM_app] at h
                            have h : Wd D B s (mw dA h0 ad (apM M2 11 10 0 (p3 ++ sl (gD dc) 0 j ++ [gD dc j])) ++ F2) H locs := h
                            have h : Wd D B s (mw dA h0 ad (apM M2 11 10 0 (p3 ++ sl (gD dc) 0 (j + 1))) ++ F2) H locs := by rw [sl_succ, Nat.zero_add, ← List.append_assoc]; exact h
                            refine lv_iinc (v := nI (j + 1)) (lv' := [(9, .int (nI (j + 1))), (0, .ref h0), (3, .int (nI k)), (4, .long (lN t)), (6, .int (nI i))]) hx hb dX7_seal_280 hl (k := 0) rfl (nI_add j 1) (by decide) rfl (fun ls hl => ?_)
                            refine lv_goto (tgt := 260) hx hb dX7_seal_283 (by decide) ?_
                            exact ihD (j + 1) (by omega) (by omega) _ _ h _ (lv_sub hl [0, 1, 2, 3, 4] rfl)
                      exact loopD _ 0 (by omega) (Nat.lt_succ_self _) _ _ h _ (lv_sub hl [0, 1, 2, 3, 4] rfl)
                    · refine lv_aload_n hx hb dX7_seal_246 rfl (lv_at hl 1 rfl) ?_
                      refine lv_iconst (v := nI 0) hx hb dX7_seal_247 (by decide) ?_
                      refine call_V (As := [.int (nI 0)]) (rest := []) (n := 1) C h (c7_put l D dA B Z hZ h0 ad (apM M2 11 10 0 (p2 ++ sl (fun _ => 0) 0 j)) F2 _ (0 + (p2 ++ sl (fun _ => 0) 0 j).length) (0) rfl (by (try simp only [List.length_append, List.length_cons, List.length_nil, sl_len]) <;> omega) (and255 (by decide))) (lw_V q2540 q2542 qs121 q138 q2543) (by decide +kernel) (ci := 5) rfl rfl mw_mem0 (by decide) (by decide) rfl hl rfl (Nat.le_of_ble_eq_true rfl) dX7_seal_248 (by omega) (fun _ H locs _ h => ?_)
                      rw [apM_app] at h
                      have h : Wd D B s (mw dA h0 ad (apM M2 11 10 0 (p2 ++ sl (fun _ => 0) 0 j ++ [0])) ++ F2) H locs := h
                      have h : Wd D B s (mw dA h0 ad (apM M2 11 10 0 (p2 ++ sl (fun _ => 0) 0 (j + 1))) ++ F2) H locs := by rw [sl_succ, ← List.append_assoc]; exact h
                      refine lv_iinc (v := nI (j + 1)) (lv' := [(9, .int (nI (j + 1))), (0, .ref h0), (3, .int (nI k)), (4, .long (lN t)), (6, .int (nI i))]) hx hb dX7_seal_251 hl (k := 0) rfl (nI_add j 1) (by decide) rfl (fun ls hl => ?_)
                      refine lv_goto (tgt := 240) hx hb dX7_seal_254 (by decide) ?_
                      exact ih (j + 1) (by omega) (by omega) _ _ h _ (lv_sub hl [0, 1, 2, 3, 4] rfl)
                exact loop _ 0 (by omega) (Nat.lt_succ_self _) _ _ h _ (lv_sub hl [0, 4, 7, 8, 3] rfl)
            · refine lv_aload_n hx hb dX7_seal_77 rfl (lv_at hl 1 rfl) ?_
              refine lv_iload hx hb dX7_seal_78 (lv_at hl 0 rfl) ?_
              refine lv_lload hx hb dX7_seal_80 (lv_at hl 5 rfl) ?_
              refine call_V (As := [.int (nI i), .long (lN t)]) (rest := []) (n := 2) C h (c7_sealClear l D dA B Z hZ h0 ad M1 F L i t tx sec dc hzs hzR hI1 hR1 hPK hLl htx ht6 hsec ht h110 h13 h14 hdb hdl) (lw_V q2532 q2534 qs119 q138 q2535) (by decide +kernel) (ci := 5) rfl rfl mw_mem0 (by decide) (by decide) rfl hl rfl (Nat.le_of_ble_eq_true rfl) dX7_seal_82 (by omega) (fun uc H locs huc h => ?_)
              obtain ⟨M2, E2⟩ := uc
              obtain ⟨hI2, hKo2, h210, h211⟩ := huc
              dsimp only at hI2 hKo2 h210 h211
              have hKo2 := hKo1.trans hKo2
              have h : Wd D B s (mw dA h0 ad M2 ++ (F ++ E2)) H locs := h
              have e9 : sealO t k tx.2.1 sec dc = sclL t tx.2.1 sec dc := by unfold sealO; rw [if_pos c74]
              rw [← e9] at h210 h211
              refine lv_aload_n hx hb dX7_seal_85 rfl (lv_at hl 1 rfl) ?_
              refine m_gi C h 10 (by decide) rfl rfl q1880 (v := nI ((sealO t k tx.2.1 sec dc).length)) h210 dX7_seal_86 ?_
              subst hQ
              exact ret_i C hr hlocks h (M2, E2) (⟨by rw [hU]; exact MSt.ko (M := sI M 0 (nI 0)) hS hKo2 hI2 (fun z hz => List.mem_append_left _ hz) h210 h211 hsl.2 (Nat.le_trans hsl.1 (by decide)), by rw [hU]; exact hKo2.1 0 (by decide) (by decide)⟩) (by rw [hU]) rfl (by omega) (by omega) dX7_seal_89
          · have hU := sealX_3 (dc := dc) (ou := ou) hi hok htx (by
              cases q9 : tx.2.2 with
              | none => rfl
              | some z => rw [q9] at htxs; obtain ⟨a8, h8, -⟩ := htxs; rw [h8] at c47; cases c47)
            refine lv_iconst (v := nI 3) hx hb dX7_seal_50 (by decide) ?_
            refine lv_goto (tgt := 55) hx hb dX7_seal_51 (by decide) ?_
            refine m_pi C h 0 (v := nI 3) (by decide) rfl rfl rfl q1870 rfl rfl dX7_seal_55 (fun H locs h => ?_)
            refine lv_aload_n hx hb dX7_seal_58 rfl (lv_at hl 1 rfl) ?_
            refine m_gi C h 0 (by decide) rfl rfl q1870 (v := nI 3) rfl dX7_seal_59 ?_
            refine n_if_le (tgt := 67) hx hb (by omega) dX7_seal_62 (by decide) (fun c62 => by exfalso; omega) (fun c62 => ?_)
            refine lv_iconst (v := nI 0) hx hb dX7_seal_65 (by decide) ?_
            subst hQ
            have h : Wd D B s (mw dA h0 ad (sI M 0 (nI 3)) ++ (F ++ [])) H locs := by rw [List.append_nil]; exact h
            exact ret_i C hr hlocks h (sI M 0 (nI 3), []) (⟨by rw [hU, List.append_nil]; exact hS, by rw [hU]; rfl⟩) (by rw [hU]) rfl (by omega) (by omega) dX7_seal_66
        · have hU := sealX_2 (dc := dc) (ou := ou) (z := z) (v := v) hi (fun g => g.2.2 (Int32.not_le.mp c33))
          refine lv_iconst (v := nI 2) hx hb dX7_seal_36 (by decide) ?_
          refine lv_goto (tgt := 55) hx hb dX7_seal_37 (by decide) ?_
          refine m_pi C h 0 (v := nI 2) (by decide) rfl rfl rfl q1870 rfl rfl dX7_seal_55 (fun H locs h => ?_)
          refine lv_aload_n hx hb dX7_seal_58 rfl (lv_at hl 1 rfl) ?_
          refine m_gi C h 0 (by decide) rfl rfl q1870 (v := nI 2) rfl dX7_seal_59 ?_
          refine n_if_le (tgt := 67) hx hb (by omega) dX7_seal_62 (by decide) (fun c62 => by exfalso; omega) (fun c62 => ?_)
          refine lv_iconst (v := nI 0) hx hb dX7_seal_65 (by decide) ?_
          subst hQ
          have h : Wd D B s (mw dA h0 ad (sI M 0 (nI 2)) ++ (F ++ [])) H locs := by rw [List.append_nil]; exact h
          exact ret_i C hr hlocks h (sI M 0 (nI 2), []) (⟨by rw [hU, List.append_nil]; exact hS, by rw [hU]; rfl⟩) (by rw [hU]) rfl (by omega) (by omega) dX7_seal_66
  · have hU := sealX_n (dc := dc) (ou := ou) (z := z) (v := v) ((oI_ne hth).mp c12)
    refine lv_iconst (v := nI 1) hx hb dX7_seal_15 (by decide) ?_
    refine lv_goto (tgt := 55) hx hb dX7_seal_16 (by decide) ?_
    refine m_pi C h 0 (v := nI 1) (by decide) rfl rfl rfl q1870 rfl rfl dX7_seal_55 (fun H locs h => ?_)
    refine lv_aload_n hx hb dX7_seal_58 rfl (lv_at hl 1 rfl) ?_
    refine m_gi C h 0 (by decide) rfl rfl q1870 (v := nI 1) rfl dX7_seal_59 ?_
    refine n_if_le (tgt := 67) hx hb (by omega) dX7_seal_62 (by decide) (fun c62 => by exfalso; omega) (fun c62 => ?_)
    refine lv_iconst (v := nI 0) hx hb dX7_seal_65 (by decide) ?_
    subst hQ
    have h : Wd D B s (mw dA h0 ad (sI M 0 (nI 1)) ++ (F ++ [])) H locs := by rw [List.append_nil]; exact h
    exact ret_i C hr hlocks h (sI M 0 (nI 1), []) (⟨by rw [hU, List.append_nil]; exact hS, by rw [hU]; rfl⟩) (by rw [hU]) rfl (by omega) (by omega) dX7_seal_66
