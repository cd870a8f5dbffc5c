set_option maxRecDepth 100000

def thingS (L : List PK) (x y : Int32) : Option Nat := match placeS L x with | none => none | some q => partS L q y
theorem thingS_n {L : List PK} {x y : Int32} (h : placeS L x = none) : thingS L x y = none := by unfold thingS; rw [h]
theorem thingS_s {L : List PK} {x y : Int32} {q : Nat} (h : placeS L x = some q) : thingS L x y = partS L q y := by unfold thingS; rw [h]
theorem placeS_lt {L : List PK} {x : Int32} {q : Nat} (h : placeS L x = some q) : q < L.length := by
  have := nthX_lt h
  omega
def isTm (v : Int64) : Bool := !decide (v < lN 0) && !decide (lN 4294967295 < v)

set_option maxHeartbeats 400000 in
set_option maxRecDepth 100000 in
theorem c7_thingOf (l : Launch) (D : va_G) (dA : Nat → ClassId) (B : Nat) (Z : State → Prop) (hZ : Stab B Z) (h0 : Nat) (ad : Nat → Nat) (M : MS) (F : va_W) (L : List PK) (x y : Int32) (hR : CurR dA F ad M L) (hPK : PKs L) (hLl : L.length ≤ 4650) :
    Ct (S := Unit) l D dA B Z yX7_thingOf cX7_thingOf 4 (some .int) 3 0 0 [.ref h0, .int x, .int y] (mw dA h0 ad M ++ F) (fun _ => True) (fun _ => some (.int (oI (thingS L x y)))) (fun _ => mw dA h0 ad M ++ F) := by
  refine Ct.mk2 (by decide) (Nat.le_of_ble_eq_true rfl) hZ ?_
  intro p e R s m args below meth c ls Q C hr hlocks hin hQ hl h
  have C0 := C
  obtain ⟨hx, hb, hml, hown, hts, -⟩ := C0
  have hl : lv_has ls 4 [(0, .ref h0), (1, .int x), (2, .int y)] := hl
  refine lv_aload_n hx hb dX7_thingOf_0 rfl (lv_at hl 0 rfl) ?_
  refine lv_iload_n hx hb dX7_thingOf_1 rfl (lv_at hl 1 rfl) ?_
  refine call_V (As := [.int x]) (rest := []) (n := 1) C h (c7_placeOf l D dA B Z hZ h0 ad M F L x hR hPK hLl) (lw_V q2504 q2506 qs115 q138 q2507) (by decide +kernel) (ci := 5) rfl rfl mw_mem0 (by decide) (by decide) rfl hl rfl (Nat.le_of_ble_eq_true rfl) dX7_thingOf_2 (by omega) (fun _ H locs _ h => ?_)
  refine lv_istore_n (lv' := [(3, .int (oI (placeS L x))), (0, .ref h0), (1, .int x), (2, .int y)]) hx hb dX7_thingOf_5 rfl hl (by decide) rfl (fun ls hl => ?_)
  refine lv_iload_n hx hb dX7_thingOf_6 rfl (lv_at hl 0 rfl) ?_
  refine lv_iconst (v := -1) hx hb dX7_thingOf_7 (by decide) ?_
  refine lv_icmp_ne (tgt := 15) hx hb dX7_thingOf_8 (by decide) (fun c8 => ?_) (fun c8 => ?_)
  · obtain ⟨q, hq⟩ : ∃ z, placeS L x = some z := by
      cases q9 : placeS L x with
      | none => rw [q9] at c8; exact absurd rfl c8
      | some z => exact ⟨z, rfl⟩
    have hqL := placeS_lt hq
    have hl : lv_has ls 4 [(3, .int (nI q)), (0, .ref h0), (1, .int x), (2, .int y)] := by rw [hq] at hl; exact hl
    refine lv_aload_n hx hb dX7_thingOf_15 rfl (lv_at hl 1 rfl) ?_
    refine lv_iload_n hx hb dX7_thingOf_16 rfl (lv_at hl 0 rfl) ?_
    refine lv_iload_n hx hb dX7_thingOf_17 rfl (lv_at hl 3 rfl) ?_
    refine call_V (As := [.int (nI q), .int y]) (rest := []) (n := 2) C h (c7_partOf l D dA B Z hZ h0 ad M F L q y hR hPK hLl hqL) (lw_V q2520 q2522 qs118 q138 q2523) (by decide +kernel) (ci := 5) rfl rfl mw_mem0 (by decide) (by decide) rfl hl rfl (Nat.le_of_ble_eq_true rfl) dX7_thingOf_18 (by omega) (fun _ H locs _ h => ?_)
    subst hQ
    have hfin : oI (thingS L x y) = oI (partS L q y) := by rw [thingS_s hq]
    exact ret_i C hr hlocks h () trivial (by rw [hfin]) rfl (by omega) (by omega) dX7_thingOf_21
  · have hn : placeS L x = none := (oI_ne (fun i hi => by have := placeS_lt hi; omega)).mp c8
    refine lv_iconst (v := -1) hx hb dX7_thingOf_11 (by decide) ?_
    refine lv_goto (tgt := 21) hx hb dX7_thingOf_12 (by decide) ?_
    subst hQ
    have hfin : oI (thingS L x y) = -1 := by rw [thingS_n hn]; rfl
    exact ret_i C hr hlocks h () trivial (by rw [hfin]) rfl (by omega) (by omega) dX7_thingOf_21
set_option maxHeartbeats 400000 in
set_option maxRecDepth 100000 in
theorem c7_isTime (l : Launch) (D : va_G) (dA : Nat → ClassId) (B : Nat) (Z : State → Prop) (hZ : Stab B Z) (ws : va_W) (v : Int64)  :
    Ct (S := Unit) l D dA B Z yX7_isTime cX7_isTime 2 (some .boolean) 1 0 0 [.long v] (ws) (fun _ => True) (fun _ => some (.int (bZ (isTm v)))) (fun _ => ws) := by
  refine Ct.mk2 (by decide) (Nat.le_of_ble_eq_true rfl) hZ ?_
  intro p e R s m args below meth c ls Q C hr hlocks hin hQ hl h
  have C0 := C
  obtain ⟨hx, hb, hml, hown, hts, -⟩ := C0
  have hl : lv_has ls 2 [(0, .long v)] := hl
  refine lv_lload_n hx hb dX7_isTime_0 rfl (lv_at hl 0 rfl) ?_
  refine lv_lconst (v := lN 0) hx hb dX7_isTime_1 (by decide) ?_
  refine k_lcmp_lt (tgt := 18) hx hb dX7_isTime_2 dX7_isTime_3 (by decide) (fun c2 => ?_) (fun c2 => ?_)
  · refine lv_iconst (v := nI 0) hx hb dX7_isTime_18 (by decide) ?_
    subst hQ
    have hfin : isTm v = false := by unfold isTm; first | (rw [decide_eq_true c2]; rfl) | (rw [decide_eq_false c2, decide_eq_true c10]; rfl) | (rw [decide_eq_false c2, decide_eq_false c10]; rfl)
    refine n_top (y := bZ false) rfl ?_
    exact ret_z C hr hlocks h () trivial (by rw [hfin]) rfl (by omega) (by omega) dX7_isTime_19
  · refine lv_lload_n hx hb dX7_isTime_6 rfl (lv_at hl 0 rfl) ?_
    refine lv_ldc2 hx hb hown (hts _ q2376) dX7_isTime_7 ?_
    refine n_topl (y := lN 4294967295) (by decide) ?_
    refine k_lcmp_gt (tgt := 18) hx hb dX7_isTime_10 dX7_isTime_11 (by decide) (fun c10 => ?_) (fun c10 => ?_)
    · refine lv_iconst (v := nI 0) hx hb dX7_isTime_18 (by decide) ?_
      subst hQ
      have hfin : isTm v = false := by unfold isTm; first | (rw [decide_eq_true c2]; rfl) | (rw [decide_eq_false c2, decide_eq_true c10]; rfl) | (rw [decide_eq_false c2, decide_eq_false c10]; rfl)
      refine n_top (y := bZ false) rfl ?_
      exact ret_z C hr hlocks h () trivial (by rw [hfin]) rfl (by omega) (by omega) dX7_isTime_19
    · refine lv_iconst (v := nI 1) hx hb dX7_isTime_14 (by decide) ?_
      refine lv_goto (tgt := 19) hx hb dX7_isTime_15 (by decide) ?_
      subst hQ
      have hfin : isTm v = true := by unfold isTm; first | (rw [decide_eq_true c2]; rfl) | (rw [decide_eq_false c2, decide_eq_true c10]; rfl) | (rw [decide_eq_false c2, decide_eq_false c10]; rfl)
      refine n_top (y := bZ true) rfl ?_
      exact ret_z C hr hlocks h () trivial (by rw [hfin]) rfl (by omega) (by omega) dX7_isTime_19
