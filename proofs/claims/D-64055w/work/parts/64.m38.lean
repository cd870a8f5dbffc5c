set_option maxRecDepth 100000

/-- thrown and told by print -/
def prtS (L : List PK) (x y z : Int32) : Nat × Nat := match thingS L x y with
  | none => (1, 0)
  | some i => if z < 0 ∨ nI 19 < z then (1, 0) else (0, gD (sha1 (keyMsg (bodyAt L i))) z.toInt.toNat)
theorem prtS_n {L : List PK} {x y z : Int32} (h : thingS L x y = none) : prtS L x y z = (1, 0) := by unfold prtS; rw [h]
theorem prtS_s {L : List PK} {x y z : Int32} {i : Nat} (h : thingS L x y = some i) : prtS L x y z = if z < 0 ∨ nI 19 < z then (1, 0) else (0, gD (sha1 (keyMsg (bodyAt L i))) z.toInt.toNat) := by unfold prtS; rw [h]
theorem i19 {z : Int32} (h1 : ¬ z < 0) (h2 : z ≤ nI 19) : ∃ k, k ≤ 19 ∧ z = nI k ∧ z.toInt.toNat = k ∧ ¬ nI 19 < z := by
  obtain ⟨j, hj, rfl⟩ := nI_of2 (M := nI 19) (n := 19) (by decide) h1 h2
  have e : ∀ j, j < 20 → ((nI j).toInt.toNat = j ∧ ¬ nI 19 < nI j) := by decide
  exact ⟨j, hj, rfl, (e j (by omega)).1, (e j (by omega)).2⟩

set_option maxHeartbeats 400000 in
set_option maxRecDepth 100000 in
theorem c7_print (l : Launch) (D : va_G) (dA : Nat → ClassId) (B : Nat) (Z : State → Prop) (hZ : Stab B Z) (h0 : Nat) (ad : Nat → Nat) (M : MS) (F : va_W) (L : List PK) (x y z : Int32) (hzR : ∀ U : State, Z U → ∃ t, va_Z "SignetRingModel" "ROUNDS" "[I" (.ref t) (bA B) U U.heap ∧ va_T .int t 64 (fun j => .int (K2 j)) (bA B) U U.heap) (hI : MI M) (hR : CurR dA F ad M L) (hPK : PKs L) (hLl : L.length ≤ 4650) :
    Ct (S := MS × va_W) l D dA B Z yX7_print cX7_print 5 (some .int) 7 1 20 [.ref h0, .int x, .int y, .int z] (mw dA h0 ad M ++ F) (fun u => MI u.1 ∧ Kp (sI M 0 (nI (prtS L x y z).1)) u.1) (fun _ => some (.int (nI (prtS L x y z).2))) (fun u => mw dA h0 ad u.1 ++ (F ++ u.2)) := by
  refine Ct.mk2 (by decide) (Nat.le_of_ble_eq_true rfl) hZ ?_
  intro p e R s m args below meth c ls Q C hr hlocks hin hQ hl h
  have C0 := C
  obtain ⟨hx, hb, hml, hown, hts, -⟩ := C0
  have hl : lv_has ls 5 [(0, .ref h0), (1, .int x), (2, .int y), (3, .int z)] := hl
  have hth : ∀ i, thingS L x y = some i → i < 100000 := by
    intro i9 hi9
    obtain ⟨_, _, tx8, _, _, _, h8, _⟩ := thing_k hi9
    have := (List.getElem?_eq_some_iff.mp h8).1
    omega
  refine lv_aload_n hx hb dX7_print_0 rfl (lv_at hl 0 rfl) ?_
  refine lv_iload_n hx hb dX7_print_1 rfl (lv_at hl 1 rfl) ?_
  refine lv_iload_n hx hb dX7_print_2 rfl (lv_at hl 2 rfl) ?_
  refine call_V (As := [.int x, .int y]) (rest := []) (n := 2) C h (c7_thingOf l D dA B Z hZ h0 ad M F L x y hR hPK hLl) (lw_V q2516 q2518 qs117 q138 q2519) (by decide +kernel) (ci := 5) rfl rfl mw_mem0 (by decide) (by decide) rfl hl rfl (Nat.le_of_ble_eq_true rfl) dX7_print_3 (by omega) (fun _ H locs _ h => ?_)
  refine lv_istore (lv' := [(4, .int (oI (thingS L x y))), (0, .ref h0), (1, .int x), (2, .int y), (3, .int z)]) hx hb dX7_print_6 hl (by decide) rfl (fun ls hl => ?_)
  refine lv_aload_n hx hb dX7_print_8 rfl (lv_at hl 1 rfl) ?_
  refine lv_iload hx hb dX7_print_9 (lv_at hl 0 rfl) ?_
  refine lv_iconst (v := -1) hx hb dX7_print_11 (by decide) ?_
  refine lv_icmp_eq (tgt := 25) hx hb dX7_print_12 (by decide) (fun c12 => ?_) (fun c12 => ?_)
  · have hU := prtS_n (z := z) ((oI_ne hth).mp c12)
    refine lv_iconst (v := nI 1) hx hb dX7_print_25 (by decide) ?_
    refine lv_goto (tgt := 30) hx hb dX7_print_26 (by decide) ?_
    refine m_pi C h 0 (v := nI 1) (by decide) rfl rfl rfl q1870 rfl rfl dX7_print_30 (fun H locs h => ?_)
    have hR0 : CurR dA F ad (sI M 0 (nI 1)) L := hR
    have hI0 : MI (sI M 0 (nI 1)) := hI
    have hTH : (sI M 0 (nI (prtS L x y z).1)) = (sI M 0 (nI 1)) := by rw [hU]
    have h : Wd D B s (mw dA h0 ad (sI M 0 (nI 1)) ++ F) H locs := h
    refine lv_aload_n hx hb dX7_print_33 rfl (lv_at hl 1 rfl) ?_
    refine m_gi C h 0 (by decide) rfl rfl q1870 (v := nI 1) rfl dX7_print_34 ?_
    refine n_if_le (tgt := 44) hx hb (by omega) dX7_print_37 (by decide) (fun c37 => by exfalso; omega) (fun c37 => ?_)
    refine lv_iconst (v := nI 0) hx hb dX7_print_40 (by decide) ?_
    refine lv_goto (tgt := 57) hx hb dX7_print_41 (by decide) ?_
    subst hQ
    have h : Wd D B s (mw dA h0 ad (sI M 0 (nI 1)) ++ (F ++ [])) H locs := by rw [List.append_nil]; exact h
    exact ret_i C hr hlocks h ((sI M 0 (nI 1)), []) (⟨hI0, by rw [hTH]; exact Kp.rfl' _⟩) (by rw [hU]) rfl (by omega) (by omega) dX7_print_57
  · obtain ⟨i, hi⟩ : ∃ z, thingS L x y = some z := by
      cases q9 : thingS L x y with
      | none => rw [q9] at c12; exact absurd rfl c12
      | some z => exact ⟨z, rfl⟩
    obtain ⟨q, kx, tx9, hq, hkx, hk6, htx, ht6⟩ := thing_k hi
    have hU := prtS_s (z := z) hi
    have hil := (List.getElem?_eq_some_iff.mp htx).1
    obtain ⟨htxk, ⟨qtx, hqtx, hqtxF⟩, htxs⟩ := hR.1 _ _ htx
    have htxo := hPK.at htx
    have htx1 := htxo.1
    have htxl := htxo.2.2.1
    have hl : lv_has ls 5 [(4, .int (nI i)), (0, .ref h0), (1, .int x), (2, .int y), (3, .int z)] := by rw [hi] at hl; exact hl
    refine lv_iload_n hx hb dX7_print_15 rfl (lv_at hl 4 rfl) ?_
    refine lv_if_lt (tgt := 25) hx hb dX7_print_16 (by decide) (fun c16 => ?_) (fun c16 => ?_)
    · rw [if_pos (Or.inl c16)] at hU
      refine lv_iconst (v := nI 1) hx hb dX7_print_25 (by decide) ?_
      refine lv_goto (tgt := 30) hx hb dX7_print_26 (by decide) ?_
      refine m_pi C h 0 (v := nI 1) (by decide) rfl rfl rfl q1870 rfl rfl dX7_print_30 (fun H locs h => ?_)
      have hR0 : CurR dA F ad (sI M 0 (nI 1)) L := hR
      have hI0 : MI (sI M 0 (nI 1)) := hI
      have hTH : (sI M 0 (nI (prtS L x y z).1)) = (sI M 0 (nI 1)) := by rw [hU]
      have h : Wd D B s (mw dA h0 ad (sI M 0 (nI 1)) ++ F) H locs := h
      refine lv_aload_n hx hb dX7_print_33 rfl (lv_at hl 1 rfl) ?_
      refine m_gi C h 0 (by decide) rfl rfl q1870 (v := nI 1) rfl dX7_print_34 ?_
      refine n_if_le (tgt := 44) hx hb (by omega) dX7_print_37 (by decide) (fun c37 => by exfalso; omega) (fun c37 => ?_)
      refine lv_iconst (v := nI 0) hx hb dX7_print_40 (by decide) ?_
      refine lv_goto (tgt := 57) hx hb dX7_print_41 (by decide) ?_
      subst hQ
      have h : Wd D B s (mw dA h0 ad (sI M 0 (nI 1)) ++ (F ++ [])) H locs := by rw [List.append_nil]; exact h
      exact ret_i C hr hlocks h ((sI M 0 (nI 1)), []) (⟨hI0, by rw [hTH]; exact Kp.rfl' _⟩) (by rw [hU]) rfl (by omega) (by omega) dX7_print_57
    · refine lv_iload_n hx hb dX7_print_19 rfl (lv_at hl 4 rfl) ?_
      refine lv_bipush (v := nI 19) hx hb dX7_print_20 (by decide) ?_
      refine lv_icmp_le (tgt := 29) hx hb dX7_print_22 (by decide) (fun c22 => ?_) (fun c22 => ?_)
      · obtain ⟨k, hk19, hzk, hzt, hz19⟩ := i19 c16 c22
        rw [if_neg (fun g => g.elim c16 hz19), hzt, bodyAt_s htx] at hU
        have hl : lv_has ls 5 [(4, .int (nI i)), (0, .ref h0), (1, .int x), (2, .int y), (3, .int (nI k))] := by rw [hzk] at hl; exact hl
        refine lv_iconst (v := nI 0) hx hb dX7_print_29 (by decide) ?_
        refine m_pi C h 0 (v := nI 0) (by decide) rfl rfl rfl q1870 rfl rfl dX7_print_30 (fun H locs h => ?_)
        have hR0 : CurR dA F ad (sI M 0 (nI 0)) L := hR
        have hI0 : MI (sI M 0 (nI 0)) := hI
        have hTH : (sI M 0 (nI (prtS L x y z).1)) = (sI M 0 (nI 0)) := by rw [hU]
        have h : Wd D B s (mw dA h0 ad (sI M 0 (nI 0)) ++ F) H locs := h
        refine lv_aload_n hx hb dX7_print_33 rfl (lv_at hl 1 rfl) ?_
        refine m_gi C h 0 (by decide) rfl rfl q1870 (v := nI 0) rfl dX7_print_34 ?_
        refine n_if_le (tgt := 44) hx hb (by omega) dX7_print_37 (by decide) (fun c37 => ?_) (fun c37 => by exfalso; omega)
        refine lv_aload_n hx hb dX7_print_44 rfl (lv_at hl 1 rfl) ?_
        refine lv_aload_n hx hb dX7_print_45 rfl (lv_at hl 1 rfl) ?_
        refine m_gr C h 14 (by decide) rfl rfl q1884 (v := some (ad 14)) hR0.2.2.2.1 dX7_print_46 ?_
        refine lv_iload hx hb dX7_print_49 (lv_at hl 0 rfl) ?_
        refine n_aald C h (v := (mA (sI M 0 (nI 0)) 14) i) (mw_memA (k := 14) (by decide)) (show i < 4700 by omega) (by decide) rfl dX7_print_51 ?_
        refine n_topv (y := .ref qtx) (congrArg va_rf hqtx) ?_
        refine call_V (As := [.ref qtx]) (rest := []) (n := 1) C h (c7_printOf l D dA B Z hZ h0 ad (sI M 0 (nI 0)) F qtx tx9.2.1 hzR hI0.1 hqtxF htxo.2.1 (by omega)) (lw_V q2240 q2242 qs65 q138 q2243) (by decide +kernel) (ci := 5) rfl rfl mw_mem0 (by decide) (by decide) rfl hl rfl (Nat.le_of_ble_eq_true rfl) dX7_print_52 (by omega) (fun up H locs hup h => ?_)
        obtain ⟨qp, uh⟩ := up
        obtain ⟨hp1, hp2⟩ := hup
        have hI2 : MI (hM (sI M 0 (nI 0)) uh) := hM_kp2 _ uh hI0 hp1
        have hK2 : Kp (sI M 0 (nI 0)) (hM (sI M 0 (nI 0)) uh) := hM_kp _ uh
        obtain ⟨M2, hM2⟩ : ∃ z, z = hM (sI M 0 (nI 0)) uh := ⟨_, rfl⟩
        have h : Wd D B s (mw dA h0 ad (hM (sI M 0 (nI 0)) uh) ++ (F ++ [(qp, ial dA (sha1 (keyMsg tx9.2.1)))])) H locs := h
        rw [← hM2] at h hI2 hK2
        show W p l e R s m args below meth c H locs (0 + 0 + 1) (0 + 0 + 20) Q (F0 m 55 ls [.ref qp])
        have hsl20 := sha1_len (keyMsg tx9.2.1)
        refine lv_iload_n hx hb dX7_print_55 rfl (lv_at hl 4 rfl) ?_
        refine n_iald C h (v := (gD (sha1 (keyMsg tx9.2.1))) k) (List.mem_append_right _ (List.mem_append_right _ List.mem_cons_self)) (show k < (sha1 (keyMsg tx9.2.1)).length by omega) (by omega) rfl dX7_print_56 ?_
        subst hQ
        exact ret_i C hr hlocks h (M2, [(qp, ial dA (sha1 (keyMsg tx9.2.1)))]) (⟨hI2, by rw [hTH]; exact hK2⟩) (by rw [hU]) rfl (by omega) (by omega) dX7_print_57
      · rw [if_pos (Or.inr (Int32.not_le.mp c22))] at hU
        refine lv_iconst (v := nI 1) hx hb dX7_print_25 (by decide) ?_
        refine lv_goto (tgt := 30) hx hb dX7_print_26 (by decide) ?_
        refine m_pi C h 0 (v := nI 1) (by decide) rfl rfl rfl q1870 rfl rfl dX7_print_30 (fun H locs h => ?_)
        have hR0 : CurR dA F ad (sI M 0 (nI 1)) L := hR
        have hI0 : MI (sI M 0 (nI 1)) := hI
        have hTH : (sI M 0 (nI (prtS L x y z).1)) = (sI M 0 (nI 1)) := by rw [hU]
        have h : Wd D B s (mw dA h0 ad (sI M 0 (nI 1)) ++ F) H locs := h
        refine lv_aload_n hx hb dX7_print_33 rfl (lv_at hl 1 rfl) ?_
        refine m_gi C h 0 (by decide) rfl rfl q1870 (v := nI 1) rfl dX7_print_34 ?_
        refine n_if_le (tgt := 44) hx hb (by omega) dX7_print_37 (by decide) (fun c37 => by exfalso; omega) (fun c37 => ?_)
        refine lv_iconst (v := nI 0) hx hb dX7_print_40 (by decide) ?_
        refine lv_goto (tgt := 57) hx hb dX7_print_41 (by decide) ?_
        subst hQ
        have h : Wd D B s (mw dA h0 ad (sI M 0 (nI 1)) ++ (F ++ [])) H locs := by rw [List.append_nil]; exact h
        exact ret_i C hr hlocks h ((sI M 0 (nI 1)), []) (⟨hI0, by rw [hTH]; exact Kp.rfl' _⟩) (by rw [hU]) rfl (by omega) (by omega) dX7_print_57
