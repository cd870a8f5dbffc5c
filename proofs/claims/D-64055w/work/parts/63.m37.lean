set_option maxRecDepth 100000

def tmN (v : Int64) : Nat := v.toInt.toNat
theorem tmN_l {t : Nat} (h : t < 4294967296) : tmN (lN t) = t := by
  unfold tmN; rw [show (lN t).toInt = (t : Int) from lg_ofNat_toInt (by omega)]; rfl
def usV (L : List PK) (q i t : Nat) : Nat := match L[q]?, L[i]? with
  | some kx, some tx => usA L kx tx t q i (sk (notK 6) L (q + 1) - (q + 1))
  | _, _ => 0
theorem usV_s {L : List PK} {q i t : Nat} {kx tx : PK} (h : L[q]? = some kx) (h1 : L[i]? = some tx) : usV L q i t = usA L kx tx t q i (sk (notK 6) L (q + 1) - (q + 1)) := by
  unfold usV; rw [h, h1]
/-- thrown and told by usable -/
def usbS (L : List PK) (x y : Int32) (v : Int64) : Nat × Nat := match placeS L x, thingS L x y with
  | some q, some i => if isTm v = true then (0, usV L q i (tmN v)) else (2, 0)
  | _, _ => (1, 0)
theorem usbS_n {L : List PK} {x y : Int32} {v : Int64} (h : thingS L x y = none) : usbS L x y v = (1, 0) := by
  unfold usbS; rw [h]
  cases placeS L x <;> rfl
theorem usbS_s {L : List PK} {x y : Int32} {v : Int64} {q i : Nat} (h0 : placeS L x = some q) (h : thingS L x y = some i) : usbS L x y v = if isTm v = true then (0, usV L q i (tmN v)) else (2, 0) := by
  unfold usbS; rw [h, h0]
theorem thing_k {L : List PK} {x y : Int32} {i : Nat} (h : thingS L x y = some i) : ∃ q kx tx, placeS L x = some q ∧ L[q]? = some kx ∧ kx.1 = 6 ∧ L[i]? = some tx ∧ (tx.1 = 6 ∨ tx.1 = 14) := by
  cases z : placeS L x with
  | none => rw [thingS_n z] at h; cases h
  | some q =>
    rw [thingS_s z] at h
    obtain ⟨kx, h1, h2⟩ := placeS_k z
    obtain ⟨tx, h3, h4⟩ := partS_k h1 h2 h
    exact ⟨q, kx, tx, rfl, h1, h2, h3, h4⟩

set_option maxHeartbeats 400000 in
set_option maxRecDepth 100000 in
theorem c7_usable (l : Launch) (D : va_G) (dA : Nat → ClassId) (B : Nat) (Z : State → Prop) (hZ : Stab B Z) (h0 : Nat) (ad : Nat → Nat) (M : MS) (F : va_W) (L : List PK) (x y : Int32) (v : Int64) (bm CA CB : Nat) (hzR : ∀ U : State, Z U → ∃ t, va_Z "SignetRingModel" "ROUNDS" "[I" (.ref t) (bA B) U U.heap ∧ va_T .int t 64 (fun j => .int (K2 j)) (bA B) U U.heap) (hI : MI M) (hR : CurR dA F ad M L) (hPK : PKs L) (hLl : L.length ≤ 4650) (hbm : ∀ (j : Nat) (x : PK), L[j]? = some x → x.1 = 2 → x.2.1.length ≤ bm) (hkk : ∀ (j : Nat) (x : PK), L[j]? = some x → x.1 = 6 ∨ x.1 = 14 → 5 ≤ x.2.1.length ∧ x.2.1.length ≤ 142) (hCA : ∀ (q i : Nat) (kx tx9 : PK), L[q]? = some kx → L[i]? = some tx9 → tx9.1 = 6 ∨ tx9.1 = 14 → 3 * lsm L (nsF L q) (q + 1) + bcst 2 0 (bm / 2 + 1) (bm + 2) L q (sk (notK 6) L (q + 1) - (q + 1)) + (bm / 2 + 1) + (5 * lsm L (nsF L i) (i + 1) + (2 * bm + 12)) ≤ CA ∧ 202 * lsm L (nsF L q) (q + 1) + bcst 106 0 (5 * bm) (10 * bm) L q (sk (notK 6) L (q + 1) - (q + 1)) + 5 * bm + (308 * lsm L (nsF L i) (i + 1) + (15 * bm + (6 * tx9.2.1.length + 300))) ≤ CB) :
    Ct (S := MS × va_W) l D dA B Z yX7_usable cX7_usable 6 (some .int) 13 CA CB [.ref h0, .int x, .int y, .long v] (mw dA h0 ad M ++ F) (fun u => MI u.1 ∧ Kp (sI M 0 (nI (usbS L x y v).1)) u.1) (fun _ => some (.int (nI (usbS L x y v).2))) (fun u => mw dA h0 ad u.1 ++ (F ++ u.2)) := by
  refine Ct.mk2 (by decide) (Nat.le_of_ble_eq_true rfl) hZ ?_
  intro p e R s m args below meth c ls Q C hr hlocks hin hQ hl h
  have C0 := C
  obtain ⟨hx, hb, hml, hown, hts, -⟩ := C0
  have hl : lv_has ls 6 [(0, .ref h0), (1, .int x), (2, .int y), (3, .long v)] := hl
  have hth : ∀ i, thingS L x y = some i → i < 100000 := by
    intro i9 hi9
    obtain ⟨_, _, tx8, _, _, _, h8, _⟩ := thing_k hi9
    have := (List.getElem?_eq_some_iff.mp h8).1
    omega
  refine lv_aload_n hx hb dX7_usable_0 rfl (lv_at hl 0 rfl) ?_
  refine lv_iload_n hx hb dX7_usable_1 rfl (lv_at hl 1 rfl) ?_
  refine lv_iload_n hx hb dX7_usable_2 rfl (lv_at hl 2 rfl) ?_
  refine call_V (As := [.int x, .int y]) (rest := []) (n := 2) C h (c7_thingOf l D dA B Z hZ h0 ad M F L x y hR hPK hLl) (lw_V q2516 q2518 qs117 q138 q2519) (by decide +kernel) (ci := 5) rfl rfl mw_mem0 (by decide) (by decide) rfl hl rfl (Nat.le_of_ble_eq_true rfl) dX7_usable_3 (by omega) (fun _ H locs _ h => ?_)
  refine lv_istore (lv' := [(5, .int (oI (thingS L x y))), (0, .ref h0), (1, .int x), (2, .int y), (3, .long v)]) hx hb dX7_usable_6 hl (by decide) rfl (fun ls hl => ?_)
  refine lv_aload_n hx hb dX7_usable_8 rfl (lv_at hl 1 rfl) ?_
  refine lv_iload hx hb dX7_usable_9 (lv_at hl 0 rfl) ?_
  refine lv_iconst (v := -1) hx hb dX7_usable_11 (by decide) ?_
  refine lv_icmp_ne (tgt := 19) hx hb dX7_usable_12 (by decide) (fun c12 => ?_) (fun c12 => ?_)
  · obtain ⟨i, hi⟩ : ∃ z, thingS L x y = some z := by
      cases q9 : thingS L x y with
      | none => rw [q9] at c12; exact absurd rfl c12
      | some z => exact ⟨z, rfl⟩
    obtain ⟨q, kx, tx9, hq, hkx, hk6, htx, ht6⟩ := thing_k hi
    have hU := usbS_s (v := v) hq hi
    have hql := (List.getElem?_eq_some_iff.mp hkx).1
    have hil := (List.getElem?_eq_some_iff.mp htx).1
    have hl : lv_has ls 6 [(5, .int (nI i)), (0, .ref h0), (1, .int x), (2, .int y), (3, .long v)] := by rw [hi] at hl; exact hl
    refine lv_lload_n hx hb dX7_usable_19 rfl (lv_at hl 4 rfl) ?_
    refine call_S (As := [.long v]) (rest := [.ref h0]) (n := 1) C h (c7_isTime l D dA B Z hZ _ v) (lw_S q2373 q2374 q138 q2375) (by decide +kernel) (by decide) (by decide) rfl hl rfl (Nat.le_of_ble_eq_true rfl) dX7_usable_20 (by omega) (fun _ H locs _ h => ?_)
    refine z_if_ne (tgt := 30) hx hb dX7_usable_23 (by decide) (fun c23 => ?_) (fun c23 => ?_)
    · rw [if_pos c23] at hU
      obtain ⟨t, ht, hvt⟩ := isTm_t c23
      rw [hvt, tmN_l ht, usV_s hkx htx, ← hvt] at hU
      have hl : lv_has ls 6 [(5, .int (nI i)), (0, .ref h0), (1, .int x), (2, .int y), (3, .long (lN t))] := by rw [hvt] at hl; exact hl
      refine lv_iconst (v := nI 0) hx hb dX7_usable_30 (by decide) ?_
      refine m_pi C h 0 (v := nI 0) (by decide) rfl rfl rfl q1870 rfl rfl dX7_usable_31 (fun H locs h => ?_)
      have hR0 : CurR dA F ad (sI M 0 (nI 0)) L := hR
      have hI0 : MI (sI M 0 (nI 0)) := hI
      have hTH : (sI M 0 (nI (usbS L x y v).1)) = (sI M 0 (nI 0)) := by rw [hU]
      have h : Wd D B s (mw dA h0 ad (sI M 0 (nI 0)) ++ F) H locs := h
      refine lv_aload_n hx hb dX7_usable_34 rfl (lv_at hl 1 rfl) ?_
      refine m_gi C h 0 (by decide) rfl rfl q1870 (v := nI 0) rfl dX7_usable_35 ?_
      refine n_if_le (tgt := 45) hx hb (by omega) dX7_usable_38 (by decide) (fun c38 => ?_) (fun c38 => by exfalso; omega)
      refine lv_aload_n hx hb dX7_usable_45 rfl (lv_at hl 1 rfl) ?_
      refine lv_aload_n hx hb dX7_usable_46 rfl (lv_at hl 1 rfl) ?_
      refine lv_iload_n hx hb dX7_usable_47 rfl (lv_at hl 2 rfl) ?_
      refine call_V (As := [.int x]) (rest := [.ref h0]) (n := 1) C h (c7_placeOf l D dA B Z hZ h0 ad (sI M 0 (nI 0)) F L x hR0 hPK hLl) (lw_V q2504 q2506 qs115 q138 q2507) (by decide +kernel) (ci := 5) rfl rfl mw_mem0 (by decide) (by decide) rfl hl rfl (Nat.le_of_ble_eq_true rfl) dX7_usable_48 (by omega) (fun _ H locs _ h => ?_)
      refine n_top (y := nI q) (by rw [hq]; rfl) ?_
      refine lv_iload hx hb dX7_usable_51 (lv_at hl 0 rfl) ?_
      refine lv_lload_n hx hb dX7_usable_53 rfl (lv_at hl 4 rfl) ?_
      have hkq := hkk _ _ hkx (Or.inl hk6)
      have hkt := hkk _ _ htx ht6
      have hca := hCA q i kx tx9 hkx htx ht6
      have hsl := sk_le (P := notK 6) (L := L) (q := q + 1) (by omega)
      refine call_V (As := [.int (nI q), .int (nI i), .long (lN t)]) (rest := []) (n := 3) C h (c7_usableAt l D dA B Z hZ h0 ad (sI M 0 (nI 0)) F L q i t bm (sk (notK 6) L (q + 1) - (q + 1)) kx tx9 hzR hI0 hR0 hPK hLl (by omega) hkx hkq.1 hkq.2 ht hbm htx hkt.1) (lw_V q2444 q2446 qs102 q138 q2447) (by decide +kernel) (ci := 5) rfl rfl mw_mem0 (by decide) (by decide) rfl hl rfl (Nat.le_of_ble_eq_true rfl) dX7_usable_54 (by first | exact Nat.le_trans (by omega) hca.1 | exact Nat.le_trans (by omega) hca.2 | omega) (fun ua H locs hua h => ?_)
      obtain ⟨M1, E1⟩ := ua
      have hI1 : MI M1 := hua.1
      have hK1 : Kp (sI M 0 (nI 0)) M1 := hua.2
      have h : Wd D B s (mw dA h0 ad M1 ++ (F ++ E1)) H locs := h
      subst hQ
      exact ret_i C hr hlocks h (M1, E1) (⟨hI1, by rw [hTH]; exact hK1⟩) (by rw [hU]) rfl (by omega) (by omega) dX7_usable_57
    · rw [if_neg (by rw [c23]; decide)] at hU
      refine lv_iconst (v := nI 2) hx hb dX7_usable_26 (by decide) ?_
      refine lv_goto (tgt := 31) hx hb dX7_usable_27 (by decide) ?_
      refine m_pi C h 0 (v := nI 2) (by decide) rfl rfl rfl q1870 rfl rfl dX7_usable_31 (fun H locs h => ?_)
      have hR0 : CurR dA F ad (sI M 0 (nI 2)) L := hR
      have hI0 : MI (sI M 0 (nI 2)) := hI
      have hTH : (sI M 0 (nI (usbS L x y v).1)) = (sI M 0 (nI 2)) := by rw [hU]
      have h : Wd D B s (mw dA h0 ad (sI M 0 (nI 2)) ++ F) H locs := h
      refine lv_aload_n hx hb dX7_usable_34 rfl (lv_at hl 1 rfl) ?_
      refine m_gi C h 0 (by decide) rfl rfl q1870 (v := nI 2) rfl dX7_usable_35 ?_
      refine n_if_le (tgt := 45) hx hb (by omega) dX7_usable_38 (by decide) (fun c38 => by exfalso; omega) (fun c38 => ?_)
      refine lv_iconst (v := nI 0) hx hb dX7_usable_41 (by decide) ?_
      refine lv_goto (tgt := 57) hx hb dX7_usable_42 (by decide) ?_
      subst hQ
      have h : Wd D B s (mw dA h0 ad (sI M 0 (nI 2)) ++ (F ++ [])) H locs := by rw [List.append_nil]; exact h
      exact ret_i C hr hlocks h ((sI M 0 (nI 2)), []) (⟨hI0, by rw [hTH]; exact Kp.rfl' _⟩) (by rw [hU]) rfl (by omega) (by omega) dX7_usable_57
  · have hU := usbS_n (v := v) ((oI_ne hth).mp c12)
    refine lv_iconst (v := nI 1) hx hb dX7_usable_15 (by decide) ?_
    refine lv_goto (tgt := 31) hx hb dX7_usable_16 (by decide) ?_
    refine m_pi C h 0 (v := nI 1) (by decide) rfl rfl rfl q1870 rfl rfl dX7_usable_31 (fun H locs h => ?_)
    have hR0 : CurR dA F ad (sI M 0 (nI 1)) L := hR
    have hI0 : MI (sI M 0 (nI 1)) := hI
    have hTH : (sI M 0 (nI (usbS L x y v).1)) = (sI M 0 (nI 1)) := by rw [hU]
    have h : Wd D B s (mw dA h0 ad (sI M 0 (nI 1)) ++ F) H locs := h
    refine lv_aload_n hx hb dX7_usable_34 rfl (lv_at hl 1 rfl) ?_
    refine m_gi C h 0 (by decide) rfl rfl q1870 (v := nI 1) rfl dX7_usable_35 ?_
    refine n_if_le (tgt := 45) hx hb (by omega) dX7_usable_38 (by decide) (fun c38 => by exfalso; omega) (fun c38 => ?_)
    refine lv_iconst (v := nI 0) hx hb dX7_usable_41 (by decide) ?_
    refine lv_goto (tgt := 57) hx hb dX7_usable_42 (by decide) ?_
    subst hQ
    have h : Wd D B s (mw dA h0 ad (sI M 0 (nI 1)) ++ (F ++ [])) H locs := by rw [List.append_nil]; exact h
    exact ret_i C hr hlocks h ((sI M 0 (nI 1)), []) (⟨hI0, by rw [hTH]; exact Kp.rfl' _⟩) (by rw [hU]) rfl (by omega) (by omega) dX7_usable_57
