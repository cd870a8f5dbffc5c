set_option maxRecDepth 100000

theorem sb_inj {x y : Nat} (hx : x < 256) (hy : y < 256) (h : sb_b x = sb_b y) : x = y := by
  have h1 := (sb_byte x hx).1
  rw [h, (sb_byte y hy).1] at h1
  exact ((nI_eq (by omega) (by omega)).mp h1).symm
theorem l_app {a b : Nat} (ha : a < 72057594037927936) (hb : b < 256) : lN (a * 256) ||| lN b = lN (a * 256 + b) := by
  rw [wb_or (by omega) (by omega)]
  have e := Nat.two_pow_add_eq_or_of_lt (i := 8) (b := b) hb a
  rw [show (256 : Nat) = 2 ^ 8 from rfl, Nat.mul_comm a, e]
theorem n_and24 {v : Nat} (h : v < 33554432) : (nI v &&& nI 16777216 = 0) ↔ v < 16777216 := by
  have e : nI v &&& nI 16777216 = nI (v &&& 16777216) := by
    apply Int32.toBitVec_inj.mp
    rw [Int32.toBitVec_and]
    apply BitVec.eq_of_toNat_eq
    show ((BitVec.ofNat 32 v) &&& (BitVec.ofNat 32 16777216)).toNat = (BitVec.ofNat 32 (v &&& 16777216)).toNat
    rw [BitVec.toNat_and, BitVec.toNat_ofNat, BitVec.toNat_ofNat, BitVec.toNat_ofNat, Nat.mod_eq_of_lt (show v < 2 ^ 32 by omega), Nat.mod_eq_of_lt (show 16777216 < 2 ^ 32 by decide), Nat.mod_eq_of_lt (Nat.lt_of_le_of_lt Nat.and_le_right (by decide))]
  rw [e]
  have hp : (16777216 : Nat) = 2 ^ 24 := by decide
  by_cases q : v < 16777216
  · have e2 : v &&& 16777216 = 0 := by
      rw [hp]
      apply Nat.eq_of_testBit_eq
      intro i
      rw [Nat.testBit_and, Nat.testBit_two_pow, Nat.zero_testBit]
      by_cases h24 : 24 = i
      · rw [← h24, Nat.testBit_lt_two_pow (show v < 2 ^ 24 by omega)]; rfl
      · rw [decide_eq_false h24, Bool.and_false]
    rw [e2]; exact ⟨fun _ => q, fun _ => rfl⟩
  · refine ⟨fun z => ?_, fun z => absurd z q⟩
    have hl : v &&& 16777216 ≤ 16777216 := Nat.and_le_right
    have z0 : v &&& 16777216 = 0 := (nI_eq (by omega) (by decide)).mp (show nI (v &&& 16777216) = nI 0 from z)
    have t1 : (v &&& 16777216).testBit 24 = true := by
      rw [hp, Nat.testBit_and, Nat.testBit_two_pow, decide_eq_true rfl, Bool.and_true, Nat.testBit_eq_decide_div_mod_eq]
      exact decide_eq_true (by omega)
    rw [z0, Nat.zero_testBit] at t1
    cases t1
theorem blen_2 {v : Nat} (h : v ≠ 0) : blen (v * 2) = blen v + 1 := by
  rw [blen, dif_neg (by omega), show v * 2 / 2 = v by omega]
theorem blen_8 {v : Nat} (h1 : 128 ≤ v) (h2 : v < 256) : blen v = 8 := by
  have e : ∀ k, k < 128 → blen (128 + k) = 8 := by decide +kernel
  have := e (v - 128) (by omega)
  rwa [show 128 + (v - 128) = v by omega] at this
theorem addr_ne {D : va_G} {B : Nat} {s : State} {ws : va_W} {H : Heap} {locs : List Loc} (h : Wd D B s ws H locs) {a b : Nat} {x y : va_E} (ha : (a, x) ∈ ws) (hb : (b, y) ∈ ws) (hxy : x ≠ y) : a ≠ b := by
  intro e
  subst e
  obtain ⟨i, hi⟩ := List.getElem?_of_mem ha
  obtain ⟨j, hj⟩ := List.getElem?_of_mem hb
  have := h.2.1.1 i j _ _ hi hj rfl
  subst this
  rw [hi] at hj
  exact hxy (congrArg Prod.snd (Option.some.inj hj))
theorem bal_ne {dA : Nat → ClassId} {l k : List Nat} (h : l.length ≠ k.length) : bal dA l ≠ bal dA k := by
  intro e
  unfold bal bar at e
  exact h (congrArg (fun z => z.2.1) (Sum.inl.inj e))

set_option maxHeartbeats 400000 in
set_option maxRecDepth 100000 in
theorem c1_isTime (l : Launch) (D : va_G) (dA : Nat → ClassId) (B : Nat) (Z : State → Prop) (hZ : Stab B Z) (ws : va_W) (v : Int64)  :
    Ct (S := Unit) l D dA B Z yX1_isTime cX1_isTime 2 (some .boolean) 1 0 0 [.long v] (ws) (fun _ => True) (fun _ => some (.int (bZ (isTm v)))) (fun _ => ws) := by
  refine Ct.mk2 (by decide) (Nat.le_of_ble_eq_true rfl) hZ ?_
  intro p e R s m args below meth c ls Q C hr hlocks hin hQ hl h
  have C0 := C
  obtain ⟨hx, hb, hml, hown, hts, -⟩ := C0
  have hl : lv_has ls 2 [(0, .long v)] := hl
  refine lv_lload_n hx hb dX1_isTime_0 rfl (lv_at hl 0 rfl) ?_
  refine lv_lconst (v := lN 0) hx hb dX1_isTime_1 (by decide) ?_
  refine k_lcmp_lt (tgt := 18) hx hb dX1_isTime_2 dX1_isTime_3 (by decide) (fun c2 => ?_) (fun c2 => ?_)
  · refine lv_iconst (v := nI 0) hx hb dX1_isTime_18 (by decide) ?_
    subst hQ
    have hfin : isTm v = false := by unfold isTm; first | (rw [decide_eq_true c2]; rfl) | (rw [decide_eq_false c2, decide_eq_true c10]; rfl) | (rw [decide_eq_false c2, decide_eq_false c10]; rfl)
    refine n_top (y := bZ false) rfl ?_
    exact ret_z C hr hlocks h () trivial (by rw [hfin]) rfl (by omega) (by omega) dX1_isTime_19
  · refine lv_lload_n hx hb dX1_isTime_6 rfl (lv_at hl 0 rfl) ?_
    refine lv_ldc2 hx hb hown (hts _ q1447) dX1_isTime_7 ?_
    refine n_topl (y := lN 4294967295) (by decide) ?_
    refine k_lcmp_gt (tgt := 18) hx hb dX1_isTime_10 dX1_isTime_11 (by decide) (fun c10 => ?_) (fun c10 => ?_)
    · refine lv_iconst (v := nI 0) hx hb dX1_isTime_18 (by decide) ?_
      subst hQ
      have hfin : isTm v = false := by unfold isTm; first | (rw [decide_eq_true c2]; rfl) | (rw [decide_eq_false c2, decide_eq_true c10]; rfl) | (rw [decide_eq_false c2, decide_eq_false c10]; rfl)
      refine n_top (y := bZ false) rfl ?_
      exact ret_z C hr hlocks h () trivial (by rw [hfin]) rfl (by omega) (by omega) dX1_isTime_19
    · refine lv_iconst (v := nI 1) hx hb dX1_isTime_14 (by decide) ?_
      refine lv_goto (tgt := 19) hx hb dX1_isTime_15 (by decide) ?_
      subst hQ
      have hfin : isTm v = true := by unfold isTm; first | (rw [decide_eq_true c2]; rfl) | (rw [decide_eq_false c2, decide_eq_true c10]; rfl) | (rw [decide_eq_false c2, decide_eq_false c10]; rfl)
      refine n_top (y := bZ true) rfl ?_
      exact ret_z C hr hlocks h () trivial (by rw [hfin]) rfl (by omega) (by omega) dX1_isTime_19
set_option maxHeartbeats 400000 in
set_option maxRecDepth 100000 in
theorem c1_turn (l : Launch) (D : va_G) (dA : Nat → ClassId) (B : Nat) (Z : State → Prop) (hZ : Stab B Z) (ws : va_W) (x y : Int32)  :
    Ct (S := Unit) l D dA B Z yX1_turn cX1_turn 2 (some .int) 1 0 0 [.int x, .int y] (ws) (fun _ => True) (fun _ => some (.int (rotl x y))) (fun _ => ws) := by
  refine Ct.mk2 (by decide) (Nat.le_of_ble_eq_true rfl) hZ ?_
  intro p e R s m args below meth c ls Q C hr hlocks hin hQ hl h
  have C0 := C
  obtain ⟨hx, hb, hml, hown, hts, -⟩ := C0
  have hl : lv_has ls 2 [(0, .int x), (1, .int y)] := hl
  refine lv_iload_n hx hb dX1_turn_0 rfl (lv_at hl 0 rfl) ?_
  refine lv_iload_n hx hb dX1_turn_1 rfl (lv_at hl 1 rfl) ?_
  refine n_ishl hx hb dX1_turn_2 ?_
  refine lv_iload_n hx hb dX1_turn_3 rfl (lv_at hl 0 rfl) ?_
  refine lv_bipush (v := nI 32) hx hb dX1_turn_4 (by decide) ?_
  refine lv_iload_n hx hb dX1_turn_6 rfl (lv_at hl 1 rfl) ?_
  refine lv_isub hx hb dX1_turn_7 ?_
  refine n_iushr hx hb dX1_turn_8 ?_
  refine lv_ior hx hb dX1_turn_9 ?_
  subst hQ
  exact ret_i C hr hlocks h () trivial rfl rfl (by omega) (by omega) dX1_turn_10
set_option maxHeartbeats 400000 in
set_option maxRecDepth 100000 in
theorem c1_signOf (l : Launch) (D : va_G) (dA : Nat → ClassId) (B : Nat) (Z : State → Prop) (hZ : Stab B Z) (ws : va_W) (v : Nat) (h1 : v < 1000) :
    Ct (S := Unit) l D dA B Z yX1_signOf cX1_signOf 1 (some .int) 1 0 0 [.int (nI v)] (ws) (fun _ => True) (fun _ => some (.int (nI (sgnN v)))) (fun _ => ws) := by
  refine Ct.mk2 (by decide) (Nat.le_of_ble_eq_true rfl) hZ ?_
  intro p e R s m args below meth c ls Q C hr hlocks hin hQ hl h
  have C0 := C
  obtain ⟨hx, hb, hml, hown, hts, -⟩ := C0
  have hl : lv_has ls 1 [(0, .int (nI v))] := hl
  refine lv_iload_n hx hb dX1_signOf_0 rfl (lv_at hl 0 rfl) ?_
  refine lv_bipush (v := nI 26) hx hb dX1_signOf_1 (by decide) ?_
  refine n_icmp_ge (tgt := 13) hx hb (by omega) (by omega) dX1_signOf_3 (by decide) (fun c3 => ?_) (fun c3 => ?_)
  · refine lv_iload_n hx hb dX1_signOf_13 rfl (lv_at hl 0 rfl) ?_
    refine lv_bipush (v := nI 52) hx hb dX1_signOf_14 (by decide) ?_
    refine n_icmp_ge (tgt := 29) hx hb (by omega) (by omega) dX1_signOf_16 (by decide) (fun c16 => ?_) (fun c16 => ?_)
    · refine lv_iload_n hx hb dX1_signOf_29 rfl (lv_at hl 0 rfl) ?_
      refine lv_bipush (v := nI 62) hx hb dX1_signOf_30 (by decide) ?_
      refine n_icmp_ge (tgt := 45) hx hb (by omega) (by omega) dX1_signOf_32 (by decide) (fun c32 => ?_) (fun c32 => ?_)
      · refine lv_iload_n hx hb dX1_signOf_45 rfl (lv_at hl 0 rfl) ?_
        refine lv_bipush (v := nI 62) hx hb dX1_signOf_46 (by decide) ?_
        refine n_icmp_ne (tgt := 56) hx hb (by omega) (by omega) dX1_signOf_48 (by decide) (fun c48 => ?_) (fun c48 => ?_)
        · refine lv_bipush (v := nI 47) hx hb dX1_signOf_56 (by decide) ?_
          subst hQ
          exact ret_i C hr hlocks h () trivial (by
            have e9 : sgnN v = 47 := by unfold sgnN; first | (rw [if_pos (by omega)] <;> omega) | (rw [if_neg (by omega), if_pos (by omega)] <;> omega) | (rw [if_neg (by omega), if_neg (by omega), if_pos (by omega)] <;> omega) | (rw [if_neg (by omega), if_neg (by omega), if_neg (by omega), if_pos (by omega)]; done) | (rw [if_neg (by omega), if_neg (by omega), if_neg (by omega), if_neg (by omega)]; done)
            rw [e9]) rfl (by omega) (by omega) dX1_signOf_58
        · refine lv_bipush (v := nI 43) hx hb dX1_signOf_51 (by decide) ?_
          refine lv_goto (tgt := 58) hx hb dX1_signOf_53 (by decide) ?_
          subst hQ
          exact ret_i C hr hlocks h () trivial (by
            have e9 : sgnN v = 43 := by unfold sgnN; first | (rw [if_pos (by omega)] <;> omega) | (rw [if_neg (by omega), if_pos (by omega)] <;> omega) | (rw [if_neg (by omega), if_neg (by omega), if_pos (by omega)] <;> omega) | (rw [if_neg (by omega), if_neg (by omega), if_neg (by omega), if_pos (by omega)]; done) | (rw [if_neg (by omega), if_neg (by omega), if_neg (by omega), if_neg (by omega)]; done)
            rw [e9]) rfl (by omega) (by omega) dX1_signOf_58
      · refine lv_bipush (v := nI 48) hx hb dX1_signOf_35 (by decide) ?_
        refine lv_iload_n hx hb dX1_signOf_37 rfl (lv_at hl 0 rfl) ?_
        refine lv_iadd hx hb dX1_signOf_38 (n_top (y := nI (48 + v)) (nI_add 48 v) ?_)
        refine lv_bipush (v := nI 52) hx hb dX1_signOf_39 (by decide) ?_
        refine lv_isub hx hb dX1_signOf_41 (n_top (y := nI (48 + v - 52)) (pk_sub (by omega)) ?_)
        refine lv_goto (tgt := 58) hx hb dX1_signOf_42 (by decide) ?_
        subst hQ
        exact ret_i C hr hlocks h () trivial (by
          have e9 : sgnN v = 48 + v - 52 := by unfold sgnN; first | (rw [if_pos (by omega)] <;> omega) | (rw [if_neg (by omega), if_pos (by omega)] <;> omega) | (rw [if_neg (by omega), if_neg (by omega), if_pos (by omega)] <;> omega) | (rw [if_neg (by omega), if_neg (by omega), if_neg (by omega), if_pos (by omega)]; done) | (rw [if_neg (by omega), if_neg (by omega), if_neg (by omega), if_neg (by omega)]; done)
          rw [e9]) rfl (by omega) (by omega) dX1_signOf_58
    · refine lv_bipush (v := nI 97) hx hb dX1_signOf_19 (by decide) ?_
      refine lv_iload_n hx hb dX1_signOf_21 rfl (lv_at hl 0 rfl) ?_
      refine lv_iadd hx hb dX1_signOf_22 (n_top (y := nI (97 + v)) (nI_add 97 v) ?_)
      refine lv_bipush (v := nI 26) hx hb dX1_signOf_23 (by decide) ?_
      refine lv_isub hx hb dX1_signOf_25 (n_top (y := nI (97 + v - 26)) (pk_sub (by omega)) ?_)
      refine lv_goto (tgt := 58) hx hb dX1_signOf_26 (by decide) ?_
      subst hQ
      exact ret_i C hr hlocks h () trivial (by
        have e9 : sgnN v = 97 + v - 26 := by unfold sgnN; first | (rw [if_pos (by omega)] <;> omega) | (rw [if_neg (by omega), if_pos (by omega)] <;> omega) | (rw [if_neg (by omega), if_neg (by omega), if_pos (by omega)] <;> omega) | (rw [if_neg (by omega), if_neg (by omega), if_neg (by omega), if_pos (by omega)]; done) | (rw [if_neg (by omega), if_neg (by omega), if_neg (by omega), if_neg (by omega)]; done)
        rw [e9]) rfl (by omega) (by omega) dX1_signOf_58
  · refine lv_bipush (v := nI 65) hx hb dX1_signOf_6 (by decide) ?_
    refine lv_iload_n hx hb dX1_signOf_8 rfl (lv_at hl 0 rfl) ?_
    refine lv_iadd hx hb dX1_signOf_9 (n_top (y := nI (65 + v)) (nI_add 65 v) ?_)
    refine lv_goto (tgt := 58) hx hb dX1_signOf_10 (by decide) ?_
    subst hQ
    exact ret_i C hr hlocks h () trivial (by
      have e9 : sgnN v = 65 + v := by unfold sgnN; first | (rw [if_pos (by omega)] <;> omega) | (rw [if_neg (by omega), if_pos (by omega)] <;> omega) | (rw [if_neg (by omega), if_neg (by omega), if_pos (by omega)] <;> omega) | (rw [if_neg (by omega), if_neg (by omega), if_neg (by omega), if_pos (by omega)]; done) | (rw [if_neg (by omega), if_neg (by omega), if_neg (by omega), if_neg (by omega)]; done)
      rw [e9]) rfl (by omega) (by omega) dX1_signOf_58
set_option maxHeartbeats 400000 in
set_option maxRecDepth 100000 in
theorem c1_valueOf (l : Launch) (D : va_G) (dA : Nat → ClassId) (B : Nat) (Z : State → Prop) (hZ : Stab B Z) (ws : va_W) (x : Nat) (h1 : x < 1000) :
    Ct (S := Unit) l D dA B Z yX1_valueOf cX1_valueOf 1 (some .int) 1 0 0 [.int (nI x)] (ws) (fun _ => True) (fun _ => some (.int (valI x))) (fun _ => ws) := by
  refine Ct.mk2 (by decide) (Nat.le_of_ble_eq_true rfl) hZ ?_
  intro p e R s m args below meth c ls Q C hr hlocks hin hQ hl h
  have C0 := C
  obtain ⟨hx, hb, hml, hown, hts, -⟩ := C0
  have hl : lv_has ls 1 [(0, .int (nI x))] := hl
  refine lv_iload_n hx hb dX1_valueOf_0 rfl (lv_at hl 0 rfl) ?_
  refine lv_bipush (v := nI 65) hx hb dX1_valueOf_1 (by decide) ?_
  refine n_icmp_lt (tgt := 19) hx hb (by omega) (by omega) dX1_valueOf_3 (by decide) (fun c3 => ?_) (fun c3 => ?_)
  · refine lv_iload_n hx hb dX1_valueOf_19 rfl (lv_at hl 0 rfl) ?_
    refine lv_bipush (v := nI 97) hx hb dX1_valueOf_20 (by decide) ?_
    refine n_icmp_lt (tgt := 41) hx hb (by omega) (by omega) dX1_valueOf_22 (by decide) (fun c22 => ?_) (fun c22 => ?_)
    · refine lv_iload_n hx hb dX1_valueOf_41 rfl (lv_at hl 0 rfl) ?_
      refine lv_bipush (v := nI 48) hx hb dX1_valueOf_42 (by decide) ?_
      refine n_icmp_lt (tgt := 63) hx hb (by omega) (by omega) dX1_valueOf_44 (by decide) (fun c44 => ?_) (fun c44 => ?_)
      · refine lv_iload_n hx hb dX1_valueOf_63 rfl (lv_at hl 0 rfl) ?_
        refine lv_bipush (v := nI 43) hx hb dX1_valueOf_64 (by decide) ?_
        refine n_icmp_ne (tgt := 74) hx hb (by omega) (by omega) dX1_valueOf_66 (by decide) (fun c66 => ?_) (fun c66 => ?_)
        · refine lv_iload_n hx hb dX1_valueOf_74 rfl (lv_at hl 0 rfl) ?_
          refine lv_bipush (v := nI 47) hx hb dX1_valueOf_75 (by decide) ?_
          refine n_icmp_ne (tgt := 85) hx hb (by omega) (by omega) dX1_valueOf_77 (by decide) (fun c77 => ?_) (fun c77 => ?_)
          · refine lv_iconst (v := -1) hx hb dX1_valueOf_85 (by decide) ?_
            subst hQ
            exact ret_i C hr hlocks h () trivial (by unfold valI; first | (rw [if_pos (by omega)]; first | done | rfl | (congr 1; omega) | (congr 2; omega) | (congr 3; omega)) | (rw [if_neg (by omega), if_pos (by omega)]; first | done | rfl | (congr 1; omega) | (congr 2; omega) | (congr 3; omega)) | (rw [if_neg (by omega), if_neg (by omega), if_pos (by omega)]; first | done | rfl | (congr 1; omega) | (congr 2; omega) | (congr 3; omega)) | (rw [if_neg (by omega), if_neg (by omega), if_neg (by omega), if_pos (by omega)]; first | done | rfl | (congr 1; omega) | (congr 2; omega) | (congr 3; omega)) | (rw [if_neg (by omega), if_neg (by omega), if_neg (by omega), if_neg (by omega), if_pos (by omega)]; first | done | rfl | (congr 1; omega) | (congr 2; omega) | (congr 3; omega)) | (rw [if_neg (by omega), if_neg (by omega), if_neg (by omega), if_neg (by omega), if_neg (by omega)]; first | done | rfl | (congr 1; omega) | (congr 2; omega) | (congr 3; omega))) rfl (by omega) (by omega) dX1_valueOf_86
          · refine lv_bipush (v := nI 63) hx hb dX1_valueOf_80 (by decide) ?_
            refine lv_goto (tgt := 86) hx hb dX1_valueOf_82 (by decide) ?_
            subst hQ
            exact ret_i C hr hlocks h () trivial (by unfold valI; first | (rw [if_pos (by omega)]; first | done | rfl | (congr 1; omega) | (congr 2; omega) | (congr 3; omega)) | (rw [if_neg (by omega), if_pos (by omega)]; first | done | rfl | (congr 1; omega) | (congr 2; omega) | (congr 3; omega)) | (rw [if_neg (by omega), if_neg (by omega), if_pos (by omega)]; first | done | rfl | (congr 1; omega) | (congr 2; omega) | (congr 3; omega)) | (rw [if_neg (by omega), if_neg (by omega), if_neg (by omega), if_pos (by omega)]; first | done | rfl | (congr 1; omega) | (congr 2; omega) | (congr 3; omega)) | (rw [if_neg (by omega), if_neg (by omega), if_neg (by omega), if_neg (by omega), if_pos (by omega)]; first | done | rfl | (congr 1; omega) | (congr 2; omega) | (congr 3; omega)) | (rw [if_neg (by omega), if_neg (by omega), if_neg (by omega), if_neg (by omega), if_neg (by omega)]; first | done | rfl | (congr 1; omega) | (congr 2; omega) | (congr 3; omega))) rfl (by omega) (by omega) dX1_valueOf_86
        · refine lv_bipush (v := nI 62) hx hb dX1_valueOf_69 (by decide) ?_
          refine lv_goto (tgt := 86) hx hb dX1_valueOf_71 (by decide) ?_
          subst hQ
          exact ret_i C hr hlocks h () trivial (by unfold valI; first | (rw [if_pos (by omega)]; first | done | rfl | (congr 1; omega) | (congr 2; omega) | (congr 3; omega)) | (rw [if_neg (by omega), if_pos (by omega)]; first | done | rfl | (congr 1; omega) | (congr 2; omega) | (congr 3; omega)) | (rw [if_neg (by omega), if_neg (by omega), if_pos (by omega)]; first | done | rfl | (congr 1; omega) | (congr 2; omega) | (congr 3; omega)) | (rw [if_neg (by omega), if_neg (by omega), if_neg (by omega), if_pos (by omega)]; first | done | rfl | (congr 1; omega) | (congr 2; omega) | (congr 3; omega)) | (rw [if_neg (by omega), if_neg (by omega), if_neg (by omega), if_neg (by omega), if_pos (by omega)]; first | done | rfl | (congr 1; omega) | (congr 2; omega) | (congr 3; omega)) | (rw [if_neg (by omega), if_neg (by omega), if_neg (by omega), if_neg (by omega), if_neg (by omega)]; first | done | rfl | (congr 1; omega) | (congr 2; omega) | (congr 3; omega))) rfl (by omega) (by omega) dX1_valueOf_86
      · refine lv_iload_n hx hb dX1_valueOf_47 rfl (lv_at hl 0 rfl) ?_
        refine lv_bipush (v := nI 57) hx hb dX1_valueOf_48 (by decide) ?_
        refine n_icmp_gt (tgt := 63) hx hb (by omega) (by omega) dX1_valueOf_50 (by decide) (fun c50 => ?_) (fun c50 => ?_)
        · refine lv_iload_n hx hb dX1_valueOf_63 rfl (lv_at hl 0 rfl) ?_
          refine lv_bipush (v := nI 43) hx hb dX1_valueOf_64 (by decide) ?_
          refine n_icmp_ne (tgt := 74) hx hb (by omega) (by omega) dX1_valueOf_66 (by decide) (fun c66 => ?_) (fun c66 => ?_)
          · refine lv_iload_n hx hb dX1_valueOf_74 rfl (lv_at hl 0 rfl) ?_
            refine lv_bipush (v := nI 47) hx hb dX1_valueOf_75 (by decide) ?_
            refine n_icmp_ne (tgt := 85) hx hb (by omega) (by omega) dX1_valueOf_77 (by decide) (fun c77 => ?_) (fun c77 => ?_)
            · refine lv_iconst (v := -1) hx hb dX1_valueOf_85 (by decide) ?_
              subst hQ
              exact ret_i C hr hlocks h () trivial (by unfold valI; first | (rw [if_pos (by omega)]; first | done | rfl | (congr 1; omega) | (congr 2; omega) | (congr 3; omega)) | (rw [if_neg (by omega), if_pos (by omega)]; first | done | rfl | (congr 1; omega) | (congr 2; omega) | (congr 3; omega)) | (rw [if_neg (by omega), if_neg (by omega), if_pos (by omega)]; first | done | rfl | (congr 1; omega) | (congr 2; omega) | (congr 3; omega)) | (rw [if_neg (by omega), if_neg (by omega), if_neg (by omega), if_pos (by omega)]; first | done | rfl | (congr 1; omega) | (congr 2; omega) | (congr 3; omega)) | (rw [if_neg (by omega), if_neg (by omega), if_neg (by omega), if_neg (by omega), if_pos (by omega)]; first | done | rfl | (congr 1; omega) | (congr 2; omega) | (congr 3; omega)) | (rw [if_neg (by omega), if_neg (by omega), if_neg (by omega), if_neg (by omega), if_neg (by omega)]; first | done | rfl | (congr 1; omega) | (congr 2; omega) | (congr 3; omega))) rfl (by omega) (by omega) dX1_valueOf_86
            · refine lv_bipush (v := nI 63) hx hb dX1_valueOf_80 (by decide) ?_
              refine lv_goto (tgt := 86) hx hb dX1_valueOf_82 (by decide) ?_
              subst hQ
              exact ret_i C hr hlocks h () trivial (by unfold valI; first | (rw [if_pos (by omega)]; first | done | rfl | (congr 1; omega) | (congr 2; omega) | (congr 3; omega)) | (rw [if_neg (by omega), if_pos (by omega)]; first | done | rfl | (congr 1; omega) | (congr 2; omega) | (congr 3; omega)) | (rw [if_neg (by omega), if_neg (by omega), if_pos (by omega)]; first | done | rfl | (congr 1; omega) | (congr 2; omega) | (congr 3; omega)) | (rw [if_neg (by omega), if_neg (by omega), if_neg (by omega), if_pos (by omega)]; first | done | rfl | (congr 1; omega) | (congr 2; omega) | (congr 3; omega)) | (rw [if_neg (by omega), if_neg (by omega), if_neg (by omega), if_neg (by omega), if_pos (by omega)]; first | done | rfl | (congr 1; omega) | (congr 2; omega) | (congr 3; omega)) | (rw [if_neg (by omega), if_neg (by omega), if_neg (by omega), if_neg (by omega), if_neg (by omega)]; first | done | rfl | (congr 1; omega) | (congr 2; omega) | (congr 3; omega))) rfl (by omega) (by omega) dX1_valueOf_86
          · refine lv_bipush (v := nI 62) hx hb dX1_valueOf_69 (by decide) ?_
            refine lv_goto (tgt := 86) hx hb dX1_valueOf_71 (by decide) ?_
            subst hQ
            exact ret_i C hr hlocks h () trivial (by unfold valI; first | (rw [if_pos (by omega)]; first | done | rfl | (congr 1; omega) | (congr 2; omega) | (congr 3; omega)) | (rw [if_neg (by omega), if_pos (by omega)]; first | done | rfl | (congr 1; omega) | (congr 2; omega) | (congr 3; omega)) | (rw [if_neg (by omega), if_neg (by omega), if_pos (by omega)]; first | done | rfl | (congr 1; omega) | (congr 2; omega) | (congr 3; omega)) | (rw [if_neg (by omega), if_neg (by omega), if_neg (by omega), if_pos (by omega)]; first | done | rfl | (congr 1; omega) | (congr 2; omega) | (congr 3; omega)) | (rw [if_neg (by omega), if_neg (by omega), if_neg (by omega), if_neg (by omega), if_pos (by omega)]; first | done | rfl | (congr 1; omega) | (congr 2; omega) | (congr 3; omega)) | (rw [if_neg (by omega), if_neg (by omega), if_neg (by omega), if_neg (by omega), if_neg (by omega)]; first | done | rfl | (congr 1; omega) | (congr 2; omega) | (congr 3; omega))) rfl (by omega) (by omega) dX1_valueOf_86
        · refine lv_iload_n hx hb dX1_valueOf_53 rfl (lv_at hl 0 rfl) ?_
          refine lv_bipush (v := nI 48) hx hb dX1_valueOf_54 (by decide) ?_
          refine lv_isub hx hb dX1_valueOf_56 (n_top (y := nI (x - 48)) (pk_sub (by omega)) ?_)
          refine lv_bipush (v := nI 52) hx hb dX1_valueOf_57 (by decide) ?_
          refine lv_iadd hx hb dX1_valueOf_59 (n_top (y := nI ((x - 48) + 52)) (nI_add (x - 48) 52) ?_)
          refine lv_goto (tgt := 86) hx hb dX1_valueOf_60 (by decide) ?_
          subst hQ
          exact ret_i C hr hlocks h () trivial (by unfold valI; first | (rw [if_pos (by omega)]; first | done | rfl | (congr 1; omega) | (congr 2; omega) | (congr 3; omega)) | (rw [if_neg (by omega), if_pos (by omega)]; first | done | rfl | (congr 1; omega) | (congr 2; omega) | (congr 3; omega)) | (rw [if_neg (by omega), if_neg (by omega), if_pos (by omega)]; first | done | rfl | (congr 1; omega) | (congr 2; omega) | (congr 3; omega)) | (rw [if_neg (by omega), if_neg (by omega), if_neg (by omega), if_pos (by omega)]; first | done | rfl | (congr 1; omega) | (congr 2; omega) | (congr 3; omega)) | (rw [if_neg (by omega), if_neg (by omega), if_neg (by omega), if_neg (by omega), if_pos (by omega)]; first | done | rfl | (congr 1; omega) | (congr 2; omega) | (congr 3; omega)) | (rw [if_neg (by omega), if_neg (by omega), if_neg (by omega), if_neg (by omega), if_neg (by omega)]; first | done | rfl | (congr 1; omega) | (congr 2; omega) | (congr 3; omega))) rfl (by omega) (by omega) dX1_valueOf_86
    · refine lv_iload_n hx hb dX1_valueOf_25 rfl (lv_at hl 0 rfl) ?_
      refine lv_bipush (v := nI 122) hx hb dX1_valueOf_26 (by decide) ?_
      refine n_icmp_gt (tgt := 41) hx hb (by omega) (by omega) dX1_valueOf_28 (by decide) (fun c28 => ?_) (fun c28 => ?_)
      · refine lv_iload_n hx hb dX1_valueOf_41 rfl (lv_at hl 0 rfl) ?_
        refine lv_bipush (v := nI 48) hx hb dX1_valueOf_42 (by decide) ?_
        refine n_icmp_lt (tgt := 63) hx hb (by omega) (by omega) dX1_valueOf_44 (by decide) (fun c44 => ?_) (fun c44 => ?_)
        · refine lv_iload_n hx hb dX1_valueOf_63 rfl (lv_at hl 0 rfl) ?_
          refine lv_bipush (v := nI 43) hx hb dX1_valueOf_64 (by decide) ?_
          refine n_icmp_ne (tgt := 74) hx hb (by omega) (by omega) dX1_valueOf_66 (by decide) (fun c66 => ?_) (fun c66 => ?_)
          · refine lv_iload_n hx hb dX1_valueOf_74 rfl (lv_at hl 0 rfl) ?_
            refine lv_bipush (v := nI 47) hx hb dX1_valueOf_75 (by decide) ?_
            refine n_icmp_ne (tgt := 85) hx hb (by omega) (by omega) dX1_valueOf_77 (by decide) (fun c77 => ?_) (fun c77 => ?_)
            · refine lv_iconst (v := -1) hx hb dX1_valueOf_85 (by decide) ?_
              subst hQ
              exact ret_i C hr hlocks h () trivial (by unfold valI; first | (rw [if_pos (by omega)]; first | done | rfl | (congr 1; omega) | (congr 2; omega) | (congr 3; omega)) | (rw [if_neg (by omega), if_pos (by omega)]; first | done | rfl | (congr 1; omega) | (congr 2; omega) | (congr 3; omega)) | (rw [if_neg (by omega), if_neg (by omega), if_pos (by omega)]; first | done | rfl | (congr 1; omega) | (congr 2; omega) | (congr 3; omega)) | (rw [if_neg (by omega), if_neg (by omega), if_neg (by omega), if_pos (by omega)]; first | done | rfl | (congr 1; omega) | (congr 2; omega) | (congr 3; omega)) | (rw [if_neg (by omega), if_neg (by omega), if_neg (by omega), if_neg (by omega), if_pos (by omega)]; first | done | rfl | (congr 1; omega) | (congr 2; omega) | (congr 3; omega)) | (rw [if_neg (by omega), if_neg (by omega), if_neg (by omega), if_neg (by omega), if_neg (by omega)]; first | done | rfl | (congr 1; omega) | (congr 2; omega) | (congr 3; omega))) rfl (by omega) (by omega) dX1_valueOf_86
            · refine lv_bipush (v := nI 63) hx hb dX1_valueOf_80 (by decide) ?_
              refine lv_goto (tgt := 86) hx hb dX1_valueOf_82 (by decide) ?_
              subst hQ
              exact ret_i C hr hlocks h () trivial (by unfold valI; first | (rw [if_pos (by omega)]; first | done | rfl | (congr 1; omega) | (congr 2; omega) | (congr 3; omega)) | (rw [if_neg (by omega), if_pos (by omega)]; first | done | rfl | (congr 1; omega) | (congr 2; omega) | (congr 3; omega)) | (rw [if_neg (by omega), if_neg (by omega), if_pos (by omega)]; first | done | rfl | (congr 1; omega) | (congr 2; omega) | (congr 3; omega)) | (rw [if_neg (by omega), if_neg (by omega), if_neg (by omega), if_pos (by omega)]; first | done | rfl | (congr 1; omega) | (congr 2; omega) | (congr 3; omega)) | (rw [if_neg (by omega), if_neg (by omega), if_neg (by omega), if_neg (by omega), if_pos (by omega)]; first | done | rfl | (congr 1; omega) | (congr 2; omega) | (congr 3; omega)) | (rw [if_neg (by omega), if_neg (by omega), if_neg (by omega), if_neg (by omega), if_neg (by omega)]; first | done | rfl | (congr 1; omega) | (congr 2; omega) | (congr 3; omega))) rfl (by omega) (by omega) dX1_valueOf_86
          · refine lv_bipush (v := nI 62) hx hb dX1_valueOf_69 (by decide) ?_
            refine lv_goto (tgt := 86) hx hb dX1_valueOf_71 (by decide) ?_
            subst hQ
            exact ret_i C hr hlocks h () trivial (by unfold valI; first | (rw [if_pos (by omega)]; first | done | rfl | (congr 1; omega) | (congr 2; omega) | (congr 3; omega)) | (rw [if_neg (by omega), if_pos (by omega)]; first | done | rfl | (congr 1; omega) | (congr 2; omega) | (congr 3; omega)) | (rw [if_neg (by omega), if_neg (by omega), if_pos (by omega)]; first | done | rfl | (congr 1; omega) | (congr 2; omega) | (congr 3; omega)) | (rw [if_neg (by omega), if_neg (by omega), if_neg (by omega), if_pos (by omega)]; first | done | rfl | (congr 1; omega) | (congr 2; omega) | (congr 3; omega)) | (rw [if_neg (by omega), if_neg (by omega), if_neg (by omega), if_neg (by omega), if_pos (by omega)]; first | done | rfl | (congr 1; omega) | (congr 2; omega) | (congr 3; omega)) | (rw [if_neg (by omega), if_neg (by omega), if_neg (by omega), if_neg (by omega), if_neg (by omega)]; first | done | rfl | (congr 1; omega) | (congr 2; omega) | (congr 3; omega))) rfl (by omega) (by omega) dX1_valueOf_86
        · refine lv_iload_n hx hb dX1_valueOf_47 rfl (lv_at hl 0 rfl) ?_
          refine lv_bipush (v := nI 57) hx hb dX1_valueOf_48 (by decide) ?_
          refine n_icmp_gt (tgt := 63) hx hb (by omega) (by omega) dX1_valueOf_50 (by decide) (fun c50 => ?_) (fun c50 => ?_)
          · refine lv_iload_n hx hb dX1_valueOf_63 rfl (lv_at hl 0 rfl) ?_
            refine lv_bipush (v := nI 43) hx hb dX1_valueOf_64 (by decide) ?_
            refine n_icmp_ne (tgt := 74) hx hb (by omega) (by omega) dX1_valueOf_66 (by decide) (fun c66 => ?_) (fun c66 => ?_)
            · refine lv_iload_n hx hb dX1_valueOf_74 rfl (lv_at hl 0 rfl) ?_
              refine lv_bipush (v := nI 47) hx hb dX1_valueOf_75 (by decide) ?_
              refine n_icmp_ne (tgt := 85) hx hb (by omega) (by omega) dX1_valueOf_77 (by decide) (fun c77 => ?_) (fun c77 => ?_)
              · refine lv_iconst (v := -1) hx hb dX1_valueOf_85 (by decide) ?_
                subst hQ
                exact ret_i C hr hlocks h () trivial (by unfold valI; first | (rw [if_pos (by omega)]; first | done | rfl | (congr 1; omega) | (congr 2; omega) | (congr 3; omega)) | (rw [if_neg (by omega), if_pos (by omega)]; first | done | rfl | (congr 1; omega) | (congr 2; omega) | (congr 3; omega)) | (rw [if_neg (by omega), if_neg (by omega), if_pos (by omega)]; first | done | rfl | (congr 1; omega) | (congr 2; omega) | (congr 3; omega)) | (rw [if_neg (by omega), if_neg (by omega), if_neg (by omega), if_pos (by omega)]; first | done | rfl | (congr 1; omega) | (congr 2; omega) | (congr 3; omega)) | (rw [if_neg (by omega), if_neg (by omega), if_neg (by omega), if_neg (by omega), if_pos (by omega)]; first | done | rfl | (congr 1; omega) | (congr 2; omega) | (congr 3; omega)) | (rw [if_neg (by omega), if_neg (by omega), if_neg (by omega), if_neg (by omega), if_neg (by omega)]; first | done | rfl | (congr 1; omega) | (congr 2; omega) | (congr 3; omega))) rfl (by omega) (by omega) dX1_valueOf_86
              · refine lv_bipush (v := nI 63) hx hb dX1_valueOf_80 (by decide) ?_
                refine lv_goto (tgt := 86) hx hb dX1_valueOf_82 (by decide) ?_
                subst hQ
                exact ret_i C hr hlocks h () trivial (by unfold valI; first | (rw [if_pos (by omega)]; first | done | rfl | (congr 1; omega) | (congr 2; omega) | (congr 3; omega)) | (rw [if_neg (by omega), if_pos (by omega)]; first | done | rfl | (congr 1; omega) | (congr 2; omega) | (congr 3; omega)) | (rw [if_neg (by omega), if_neg (by omega), if_pos (by omega)]; first | done | rfl | (congr 1; omega) | (congr 2; omega) | (congr 3; omega)) | (rw [if_neg (by omega), if_neg (by omega), if_neg (by omega), if_pos (by omega)]; first | done | rfl | (congr 1; omega) | (congr 2; omega) | (congr 3; omega)) | (rw [if_neg (by omega), if_neg (by omega), if_neg (by omega), if_neg (by omega), if_pos (by omega)]; first | done | rfl | (congr 1; omega) | (congr 2; omega) | (congr 3; omega)) | (rw [if_neg (by omega), if_neg (by omega), if_neg (by omega), if_neg (by omega), if_neg (by omega)]; first | done | rfl | (congr 1; omega) | (congr 2; omega) | (congr 3; omega))) rfl (by omega) (by omega) dX1_valueOf_86
            · refine lv_bipush (v := nI 62) hx hb dX1_valueOf_69 (by decide) ?_
              refine lv_goto (tgt := 86) hx hb dX1_valueOf_71 (by decide) ?_
              subst hQ
              exact ret_i C hr hlocks h () trivial (by unfold valI; first | (rw [if_pos (by omega)]; first | done | rfl | (congr 1; omega) | (congr 2; omega) | (congr 3; omega)) | (rw [if_neg (by omega), if_pos (by omega)]; first | done | rfl | (congr 1; omega) | (congr 2; omega) | (congr 3; omega)) | (rw [if_neg (by omega), if_neg (by omega), if_pos (by omega)]; first | done | rfl | (congr 1; omega) | (congr 2; omega) | (congr 3; omega)) | (rw [if_neg (by omega), if_neg (by omega), if_neg (by omega), if_pos (by omega)]; first | done | rfl | (congr 1; omega) | (congr 2; omega) | (congr 3; omega)) | (rw [if_neg (by omega), if_neg (by omega), if_neg (by omega), if_neg (by omega), if_pos (by omega)]; first | done | rfl | (congr 1; omega) | (congr 2; omega) | (congr 3; omega)) | (rw [if_neg (by omega), if_neg (by omega), if_neg (by omega), if_neg (by omega), if_neg (by omega)]; first | done | rfl | (congr 1; omega) | (congr 2; omega) | (congr 3; omega))) rfl (by omega) (by omega) dX1_valueOf_86
          · refine lv_iload_n hx hb dX1_valueOf_53 rfl (lv_at hl 0 rfl) ?_
            refine lv_bipush (v := nI 48) hx hb dX1_valueOf_54 (by decide) ?_
            refine lv_isub hx hb dX1_valueOf_56 (n_top (y := nI (x - 48)) (pk_sub (by omega)) ?_)
            refine lv_bipush (v := nI 52) hx hb dX1_valueOf_57 (by decide) ?_
            refine lv_iadd hx hb dX1_valueOf_59 (n_top (y := nI ((x - 48) + 52)) (nI_add (x - 48) 52) ?_)
            refine lv_goto (tgt := 86) hx hb dX1_valueOf_60 (by decide) ?_
            subst hQ
            exact ret_i C hr hlocks h () trivial (by unfold valI; first | (rw [if_pos (by omega)]; first | done | rfl | (congr 1; omega) | (congr 2; omega) | (congr 3; omega)) | (rw [if_neg (by omega), if_pos (by omega)]; first | done | rfl | (congr 1; omega) | (congr 2; omega) | (congr 3; omega)) | (rw [if_neg (by omega), if_neg (by omega), if_pos (by omega)]; first | done | rfl | (congr 1; omega) | (congr 2; omega) | (congr 3; omega)) | (rw [if_neg (by omega), if_neg (by omega), if_neg (by omega), if_pos (by omega)]; first | done | rfl | (congr 1; omega) | (congr 2; omega) | (congr 3; omega)) | (rw [if_neg (by omega), if_neg (by omega), if_neg (by omega), if_neg (by omega), if_pos (by omega)]; first | done | rfl | (congr 1; omega) | (congr 2; omega) | (congr 3; omega)) | (rw [if_neg (by omega), if_neg (by omega), if_neg (by omega), if_neg (by omega), if_neg (by omega)]; first | done | rfl | (congr 1; omega) | (congr 2; omega) | (congr 3; omega))) rfl (by omega) (by omega) dX1_valueOf_86
      · refine lv_iload_n hx hb dX1_valueOf_31 rfl (lv_at hl 0 rfl) ?_
        refine lv_bipush (v := nI 97) hx hb dX1_valueOf_32 (by decide) ?_
        refine lv_isub hx hb dX1_valueOf_34 (n_top (y := nI (x - 97)) (pk_sub (by omega)) ?_)
        refine lv_bipush (v := nI 26) hx hb dX1_valueOf_35 (by decide) ?_
        refine lv_iadd hx hb dX1_valueOf_37 (n_top (y := nI ((x - 97) + 26)) (nI_add (x - 97) 26) ?_)
        refine lv_goto (tgt := 86) hx hb dX1_valueOf_38 (by decide) ?_
        subst hQ
        exact ret_i C hr hlocks h () trivial (by unfold valI; first | (rw [if_pos (by omega)]; first | done | rfl | (congr 1; omega) | (congr 2; omega) | (congr 3; omega)) | (rw [if_neg (by omega), if_pos (by omega)]; first | done | rfl | (congr 1; omega) | (congr 2; omega) | (congr 3; omega)) | (rw [if_neg (by omega), if_neg (by omega), if_pos (by omega)]; first | done | rfl | (congr 1; omega) | (congr 2; omega) | (congr 3; omega)) | (rw [if_neg (by omega), if_neg (by omega), if_neg (by omega), if_pos (by omega)]; first | done | rfl | (congr 1; omega) | (congr 2; omega) | (congr 3; omega)) | (rw [if_neg (by omega), if_neg (by omega), if_neg (by omega), if_neg (by omega), if_pos (by omega)]; first | done | rfl | (congr 1; omega) | (congr 2; omega) | (congr 3; omega)) | (rw [if_neg (by omega), if_neg (by omega), if_neg (by omega), if_neg (by omega), if_neg (by omega)]; first | done | rfl | (congr 1; omega) | (congr 2; omega) | (congr 3; omega))) rfl (by omega) (by omega) dX1_valueOf_86
  · refine lv_iload_n hx hb dX1_valueOf_6 rfl (lv_at hl 0 rfl) ?_
    refine lv_bipush (v := nI 90) hx hb dX1_valueOf_7 (by decide) ?_
    refine n_icmp_gt (tgt := 19) hx hb (by omega) (by omega) dX1_valueOf_9 (by decide) (fun c9 => ?_) (fun c9 => ?_)
    · refine lv_iload_n hx hb dX1_valueOf_19 rfl (lv_at hl 0 rfl) ?_
      refine lv_bipush (v := nI 97) hx hb dX1_valueOf_20 (by decide) ?_
      refine n_icmp_lt (tgt := 41) hx hb (by omega) (by omega) dX1_valueOf_22 (by decide) (fun c22 => ?_) (fun c22 => ?_)
      · refine lv_iload_n hx hb dX1_valueOf_41 rfl (lv_at hl 0 rfl) ?_
        refine lv_bipush (v := nI 48) hx hb dX1_valueOf_42 (by decide) ?_
        refine n_icmp_lt (tgt := 63) hx hb (by omega) (by omega) dX1_valueOf_44 (by decide) (fun c44 => ?_) (fun c44 => ?_)
        · refine lv_iload_n hx hb dX1_valueOf_63 rfl (lv_at hl 0 rfl) ?_
          refine lv_bipush (v := nI 43) hx hb dX1_valueOf_64 (by decide) ?_
          refine n_icmp_ne (tgt := 74) hx hb (by omega) (by omega) dX1_valueOf_66 (by decide) (fun c66 => ?_) (fun c66 => ?_)
          · refine lv_iload_n hx hb dX1_valueOf_74 rfl (lv_at hl 0 rfl) ?_
            refine lv_bipush (v := nI 47) hx hb dX1_valueOf_75 (by decide) ?_
            refine n_icmp_ne (tgt := 85) hx hb (by omega) (by omega) dX1_valueOf_77 (by decide) (fun c77 => ?_) (fun c77 => ?_)
            · refine lv_iconst (v := -1) hx hb dX1_valueOf_85 (by decide) ?_
              subst hQ
              exact ret_i C hr hlocks h () trivial (by unfold valI; first | (rw [if_pos (by omega)]; first | done | rfl | (congr 1; omega) | (congr 2; omega) | (congr 3; omega)) | (rw [if_neg (by omega), if_pos (by omega)]; first | done | rfl | (congr 1; omega) | (congr 2; omega) | (congr 3; omega)) | (rw [if_neg (by omega), if_neg (by omega), if_pos (by omega)]; first | done | rfl | (congr 1; omega) | (congr 2; omega) | (congr 3; omega)) | (rw [if_neg (by omega), if_neg (by omega), if_neg (by omega), if_pos (by omega)]; first | done | rfl | (congr 1; omega) | (congr 2; omega) | (congr 3; omega)) | (rw [if_neg (by omega), if_neg (by omega), if_neg (by omega), if_neg (by omega), if_pos (by omega)]; first | done | rfl | (congr 1; omega) | (congr 2; omega) | (congr 3; omega)) | (rw [if_neg (by omega), if_neg (by omega), if_neg (by omega), if_neg (by omega), if_neg (by omega)]; first | done | rfl | (congr 1; omega) | (congr 2; omega) | (congr 3; omega))) rfl (by omega) (by omega) dX1_valueOf_86
            · refine lv_bipush (v := nI 63) hx hb dX1_valueOf_80 (by decide) ?_
              refine lv_goto (tgt := 86) hx hb dX1_valueOf_82 (by decide) ?_
              subst hQ
              exact ret_i C hr hlocks h () trivial (by unfold valI; first | (rw [if_pos (by omega)]; first | done | rfl | (congr 1; omega) | (congr 2; omega) | (congr 3; omega)) | (rw [if_neg (by omega), if_pos (by omega)]; first | done | rfl | (congr 1; omega) | (congr 2; omega) | (congr 3; omega)) | (rw [if_neg (by omega), if_neg (by omega), if_pos (by omega)]; first | done | rfl | (congr 1; omega) | (congr 2; omega) | (congr 3; omega)) | (rw [if_neg (by omega), if_neg (by omega), if_neg (by omega), if_pos (by omega)]; first | done | rfl | (congr 1; omega) | (congr 2; omega) | (congr 3; omega)) | (rw [if_neg (by omega), if_neg (by omega), if_neg (by omega), if_neg (by omega), if_pos (by omega)]; first | done | rfl | (congr 1; omega) | (congr 2; omega) | (congr 3; omega)) | (rw [if_neg (by omega), if_neg (by omega), if_neg (by omega), if_neg (by omega), if_neg (by omega)]; first | done | rfl | (congr 1; omega) | (congr 2; omega) | (congr 3; omega))) rfl (by omega) (by omega) dX1_valueOf_86
          · refine lv_bipush (v := nI 62) hx hb dX1_valueOf_69 (by decide) ?_
            refine lv_goto (tgt := 86) hx hb dX1_valueOf_71 (by decide) ?_
            subst hQ
            exact ret_i C hr hlocks h () trivial (by unfold valI; first | (rw [if_pos (by omega)]; first | done | rfl | (congr 1; omega) | (congr 2; omega) | (congr 3; omega)) | (rw [if_neg (by omega), if_pos (by omega)]; first | done | rfl | (congr 1; omega) | (congr 2; omega) | (congr 3; omega)) | (rw [if_neg (by omega), if_neg (by omega), if_pos (by omega)]; first | done | rfl | (congr 1; omega) | (congr 2; omega) | (congr 3; omega)) | (rw [if_neg (by omega), if_neg (by omega), if_neg (by omega), if_pos (by omega)]; first | done | rfl | (congr 1; omega) | (congr 2; omega) | (congr 3; omega)) | (rw [if_neg (by omega), if_neg (by omega), if_neg (by omega), if_neg (by omega), if_pos (by omega)]; first | done | rfl | (congr 1; omega) | (congr 2; omega) | (congr 3; omega)) | (rw [if_neg (by omega), if_neg (by omega), if_neg (by omega), if_neg (by omega), if_neg (by omega)]; first | done | rfl | (congr 1; omega) | (congr 2; omega) | (congr 3; omega))) rfl (by omega) (by omega) dX1_valueOf_86
        · refine lv_iload_n hx hb dX1_valueOf_47 rfl (lv_at hl 0 rfl) ?_
          refine lv_bipush (v := nI 57) hx hb dX1_valueOf_48 (by decide) ?_
          refine n_icmp_gt (tgt := 63) hx hb (by omega) (by omega) dX1_valueOf_50 (by decide) (fun c50 => ?_) (fun c50 => ?_)
          · refine lv_iload_n hx hb dX1_valueOf_63 rfl (lv_at hl 0 rfl) ?_
            refine lv_bipush (v := nI 43) hx hb dX1_valueOf_64 (by decide) ?_
            refine n_icmp_ne (tgt := 74) hx hb (by omega) (by omega) dX1_valueOf_66 (by decide) (fun c66 => ?_) (fun c66 => ?_)
            · refine lv_iload_n hx hb dX1_valueOf_74 rfl (lv_at hl 0 rfl) ?_
              refine lv_bipush (v := nI 47) hx hb dX1_valueOf_75 (by decide) ?_
              refine n_icmp_ne (tgt := 85) hx hb (by omega) (by omega) dX1_valueOf_77 (by decide) (fun c77 => ?_) (fun c77 => ?_)
              · refine lv_iconst (v := -1) hx hb dX1_valueOf_85 (by decide) ?_
                subst hQ
                exact ret_i C hr hlocks h () trivial (by unfold valI; first | (rw [if_pos (by omega)]; first | done | rfl | (congr 1; omega) | (congr 2; omega) | (congr 3; omega)) | (rw [if_neg (by omega), if_pos (by omega)]; first | done | rfl | (congr 1; omega) | (congr 2; omega) | (congr 3; omega)) | (rw [if_neg (by omega), if_neg (by omega), if_pos (by omega)]; first | done | rfl | (congr 1; omega) | (congr 2; omega) | (congr 3; omega)) | (rw [if_neg (by omega), if_neg (by omega), if_neg (by omega), if_pos (by omega)]; first | done | rfl | (congr 1; omega) | (congr 2; omega) | (congr 3; omega)) | (rw [if_neg (by omega), if_neg (by omega), if_neg (by omega), if_neg (by omega), if_pos (by omega)]; first | done | rfl | (congr 1; omega) | (congr 2; omega) | (congr 3; omega)) | (rw [if_neg (by omega), if_neg (by omega), if_neg (by omega), if_neg (by omega), if_neg (by omega)]; first | done | rfl | (congr 1; omega) | (congr 2; omega) | (congr 3; omega))) rfl (by omega) (by omega) dX1_valueOf_86
              · refine lv_bipush (v := nI 63) hx hb dX1_valueOf_80 (by decide) ?_
                refine lv_goto (tgt := 86) hx hb dX1_valueOf_82 (by decide) ?_
                subst hQ
                exact ret_i C hr hlocks h () trivial (by unfold valI; first | (rw [if_pos (by omega)]; first | done | rfl | (congr 1; omega) | (congr 2; omega) | (congr 3; omega)) | (rw [if_neg (by omega), if_pos (by omega)]; first | done | rfl | (congr 1; omega) | (congr 2; omega) | (congr 3; omega)) | (rw [if_neg (by omega), if_neg (by omega), if_pos (by omega)]; first | done | rfl | (congr 1; omega) | (congr 2; omega) | (congr 3; omega)) | (rw [if_neg (by omega), if_neg (by omega), if_neg (by omega), if_pos (by omega)]; first | done | rfl | (congr 1; omega) | (congr 2; omega) | (congr 3; omega)) | (rw [if_neg (by omega), if_neg (by omega), if_neg (by omega), if_neg (by omega), if_pos (by omega)]; first | done | rfl | (congr 1; omega) | (congr 2; omega) | (congr 3; omega)) | (rw [if_neg (by omega), if_neg (by omega), if_neg (by omega), if_neg (by omega), if_neg (by omega)]; first | done | rfl | (congr 1; omega) | (congr 2; omega) | (congr 3; omega))) rfl (by omega) (by omega) dX1_valueOf_86
            · refine lv_bipush (v := nI 62) hx hb dX1_valueOf_69 (by decide) ?_
              refine lv_goto (tgt := 86) hx hb dX1_valueOf_71 (by decide) ?_
              subst hQ
              exact ret_i C hr hlocks h () trivial (by unfold valI; first | (rw [if_pos (by omega)]; first | done | rfl | (congr 1; omega) | (congr 2; omega) | (congr 3; omega)) | (rw [if_neg (by omega), if_pos (by omega)]; first | done | rfl | (congr 1; omega) | (congr 2; omega) | (congr 3; omega)) | (rw [if_neg (by omega), if_neg (by omega), if_pos (by omega)]; first | done | rfl | (congr 1; omega) | (congr 2; omega) | (congr 3; omega)) | (rw [if_neg (by omega), if_neg (by omega), if_neg (by omega), if_pos (by omega)]; first | done | rfl | (congr 1; omega) | (congr 2; omega) | (congr 3; omega)) | (rw [if_neg (by omega), if_neg (by omega), if_neg (by omega), if_neg (by omega), if_pos (by omega)]; first | done | rfl | (congr 1; omega) | (congr 2; omega) | (congr 3; omega)) | (rw [if_neg (by omega), if_neg (by omega), if_neg (by omega), if_neg (by omega), if_neg (by omega)]; first | done | rfl | (congr 1; omega) | (congr 2; omega) | (congr 3; omega))) rfl (by omega) (by omega) dX1_valueOf_86
          · refine lv_iload_n hx hb dX1_valueOf_53 rfl (lv_at hl 0 rfl) ?_
            refine lv_bipush (v := nI 48) hx hb dX1_valueOf_54 (by decide) ?_
            refine lv_isub hx hb dX1_valueOf_56 (n_top (y := nI (x - 48)) (pk_sub (by omega)) ?_)
            refine lv_bipush (v := nI 52) hx hb dX1_valueOf_57 (by decide) ?_
            refine lv_iadd hx hb dX1_valueOf_59 (n_top (y := nI ((x - 48) + 52)) (nI_add (x - 48) 52) ?_)
            refine lv_goto (tgt := 86) hx hb dX1_valueOf_60 (by decide) ?_
            subst hQ
            exact ret_i C hr hlocks h () trivial (by unfold valI; first | (rw [if_pos (by omega)]; first | done | rfl | (congr 1; omega) | (congr 2; omega) | (congr 3; omega)) | (rw [if_neg (by omega), if_pos (by omega)]; first | done | rfl | (congr 1; omega) | (congr 2; omega) | (congr 3; omega)) | (rw [if_neg (by omega), if_neg (by omega), if_pos (by omega)]; first | done | rfl | (congr 1; omega) | (congr 2; omega) | (congr 3; omega)) | (rw [if_neg (by omega), if_neg (by omega), if_neg (by omega), if_pos (by omega)]; first | done | rfl | (congr 1; omega) | (congr 2; omega) | (congr 3; omega)) | (rw [if_neg (by omega), if_neg (by omega), if_neg (by omega), if_neg (by omega), if_pos (by omega)]; first | done | rfl | (congr 1; omega) | (congr 2; omega) | (congr 3; omega)) | (rw [if_neg (by omega), if_neg (by omega), if_neg (by omega), if_neg (by omega), if_neg (by omega)]; first | done | rfl | (congr 1; omega) | (congr 2; omega) | (congr 3; omega))) rfl (by omega) (by omega) dX1_valueOf_86
      · refine lv_iload_n hx hb dX1_valueOf_25 rfl (lv_at hl 0 rfl) ?_
        refine lv_bipush (v := nI 122) hx hb dX1_valueOf_26 (by decide) ?_
        refine n_icmp_gt (tgt := 41) hx hb (by omega) (by omega) dX1_valueOf_28 (by decide) (fun c28 => ?_) (fun c28 => ?_)
        · refine lv_iload_n hx hb dX1_valueOf_41 rfl (lv_at hl 0 rfl) ?_
          refine lv_bipush (v := nI 48) hx hb dX1_valueOf_42 (by decide) ?_
          refine n_icmp_lt (tgt := 63) hx hb (by omega) (by omega) dX1_valueOf_44 (by decide) (fun c44 => ?_) (fun c44 => ?_)
          · refine lv_iload_n hx hb dX1_valueOf_63 rfl (lv_at hl 0 rfl) ?_
            refine lv_bipush (v := nI 43) hx hb dX1_valueOf_64 (by decide) ?_
            refine n_icmp_ne (tgt := 74) hx hb (by omega) (by omega) dX1_valueOf_66 (by decide) (fun c66 => ?_) (fun c66 => ?_)
            · refine lv_iload_n hx hb dX1_valueOf_74 rfl (lv_at hl 0 rfl) ?_
              refine lv_bipush (v := nI 47) hx hb dX1_valueOf_75 (by decide) ?_
              refine n_icmp_ne (tgt := 85) hx hb (by omega) (by omega) dX1_valueOf_77 (by decide) (fun c77 => ?_) (fun c77 => ?_)
              · refine lv_iconst (v := -1) hx hb dX1_valueOf_85 (by decide) ?_
                subst hQ
                exact ret_i C hr hlocks h () trivial (by unfold valI; first | (rw [if_pos (by omega)]; first | done | rfl | (congr 1; omega) | (congr 2; omega) | (congr 3; omega)) | (rw [if_neg (by omega), if_pos (by omega)]; first | done | rfl | (congr 1; omega) | (congr 2; omega) | (congr 3; omega)) | (rw [if_neg (by omega), if_neg (by omega), if_pos (by omega)]; first | done | rfl | (congr 1; omega) | (congr 2; omega) | (congr 3; omega)) | (rw [if_neg (by omega), if_neg (by omega), if_neg (by omega), if_pos (by omega)]; first | done | rfl | (congr 1; omega) | (congr 2; omega) | (congr 3; omega)) | (rw [if_neg (by omega), if_neg (by omega), if_neg (by omega), if_neg (by omega), if_pos (by omega)]; first | done | rfl | (congr 1; omega) | (congr 2; omega) | (congr 3; omega)) | (rw [if_neg (by omega), if_neg (by omega), if_neg (by omega), if_neg (by omega), if_neg (by omega)]; first | done | rfl | (congr 1; omega) | (congr 2; omega) | (congr 3; omega))) rfl (by omega) (by omega) dX1_valueOf_86
              · refine lv_bipush (v := nI 63) hx hb dX1_valueOf_80 (by decide) ?_
                refine lv_goto (tgt := 86) hx hb dX1_valueOf_82 (by decide) ?_
                subst hQ
                exact ret_i C hr hlocks h () trivial (by unfold valI; first | (rw [if_pos (by omega)]; first | done | rfl | (congr 1; omega) | (congr 2; omega) | (congr 3; omega)) | (rw [if_neg (by omega), if_pos (by omega)]; first | done | rfl | (congr 1; omega) | (congr 2; omega) | (congr 3; omega)) | (rw [if_neg (by omega), if_neg (by omega), if_pos (by omega)]; first | done | rfl | (congr 1; omega) | (congr 2; omega) | (congr 3; omega)) | (rw [if_neg (by omega), if_neg (by omega), if_neg (by omega), if_pos (by omega)]; first | done | rfl | (congr 1; omega) | (congr 2; omega) | (congr 3; omega)) | (rw [if_neg (by omega), if_neg (by omega), if_neg (by omega), if_neg (by omega), if_pos (by omega)]; first | done | rfl | (congr 1; omega) | (congr 2; omega) | (congr 3; omega)) | (rw [if_neg (by omega), if_neg (by omega), if_neg (by omega), if_neg (by omega), if_neg (by omega)]; first | done | rfl | (congr 1; omega) | (congr 2; omega) | (congr 3; omega))) rfl (by omega) (by omega) dX1_valueOf_86
            · refine lv_bipush (v := nI 62) hx hb dX1_valueOf_69 (by decide) ?_
              refine lv_goto (tgt := 86) hx hb dX1_valueOf_71 (by decide) ?_
              subst hQ
              exact ret_i C hr hlocks h () trivial (by unfold valI; first | (rw [if_pos (by omega)]; first | done | rfl | (congr 1; omega) | (congr 2; omega) | (congr 3; omega)) | (rw [if_neg (by omega), if_pos (by omega)]; first | done | rfl | (congr 1; omega) | (congr 2; omega) | (congr 3; omega)) | (rw [if_neg (by omega), if_neg (by omega), if_pos (by omega)]; first | done | rfl | (congr 1; omega) | (congr 2; omega) | (congr 3; omega)) | (rw [if_neg (by omega), if_neg (by omega), if_neg (by omega), if_pos (by omega)]; first | done | rfl | (congr 1; omega) | (congr 2; omega) | (congr 3; omega)) | (rw [if_neg (by omega), if_neg (by omega), if_neg (by omega), if_neg (by omega), if_pos (by omega)]; first | done | rfl | (congr 1; omega) | (congr 2; omega) | (congr 3; omega)) | (rw [if_neg (by omega), if_neg (by omega), if_neg (by omega), if_neg (by omega), if_neg (by omega)]; first | done | rfl | (congr 1; omega) | (congr 2; omega) | (congr 3; omega))) rfl (by omega) (by omega) dX1_valueOf_86
          · refine lv_iload_n hx hb dX1_valueOf_47 rfl (lv_at hl 0 rfl) ?_
            refine lv_bipush (v := nI 57) hx hb dX1_valueOf_48 (by decide) ?_
            refine n_icmp_gt (tgt := 63) hx hb (by omega) (by omega) dX1_valueOf_50 (by decide) (fun c50 => ?_) (fun c50 => ?_)
            · refine lv_iload_n hx hb dX1_valueOf_63 rfl (lv_at hl 0 rfl) ?_
              refine lv_bipush (v := nI 43) hx hb dX1_valueOf_64 (by decide) ?_
              refine n_icmp_ne (tgt := 74) hx hb (by omega) (by omega) dX1_valueOf_66 (by decide) (fun c66 => ?_) (fun c66 => ?_)
              · refine lv_iload_n hx hb dX1_valueOf_74 rfl (lv_at hl 0 rfl) ?_
                refine lv_bipush (v := nI 47) hx hb dX1_valueOf_75 (by decide) ?_
                refine n_icmp_ne (tgt := 85) hx hb (by omega) (by omega) dX1_valueOf_77 (by decide) (fun c77 => ?_) (fun c77 => ?_)
                · refine lv_iconst (v := -1) hx hb dX1_valueOf_85 (by decide) ?_
                  subst hQ
                  exact ret_i C hr hlocks h () trivial (by unfold valI; first | (rw [if_pos (by omega)]; first | done | rfl | (congr 1; omega) | (congr 2; omega) | (congr 3; omega)) | (rw [if_neg (by omega), if_pos (by omega)]; first | done | rfl | (congr 1; omega) | (congr 2; omega) | (congr 3; omega)) | (rw [if_neg (by omega), if_neg (by omega), if_pos (by omega)]; first | done | rfl | (congr 1; omega) | (congr 2; omega) | (congr 3; omega)) | (rw [if_neg (by omega), if_neg (by omega), if_neg (by omega), if_pos (by omega)]; first | done | rfl | (congr 1; omega) | (congr 2; omega) | (congr 3; omega)) | (rw [if_neg (by omega), if_neg (by omega), if_neg (by omega), if_neg (by omega), if_pos (by omega)]; first | done | rfl | (congr 1; omega) | (congr 2; omega) | (congr 3; omega)) | (rw [if_neg (by omega), if_neg (by omega), if_neg (by omega), if_neg (by omega), if_neg (by omega)]; first | done | rfl | (congr 1; omega) | (congr 2; omega) | (congr 3; omega))) rfl (by omega) (by omega) dX1_valueOf_86
                · refine lv_bipush (v := nI 63) hx hb dX1_valueOf_80 (by decide) ?_
                  refine lv_goto (tgt := 86) hx hb dX1_valueOf_82 (by decide) ?_
                  subst hQ
                  exact ret_i C hr hlocks h () trivial (by unfold valI; first | (rw [if_pos (by omega)]; first | done | rfl | (congr 1; omega) | (congr 2; omega) | (congr 3; omega)) | (rw [if_neg (by omega), if_pos (by omega)]; first | done | rfl | (congr 1; omega) | (congr 2; omega) | (congr 3; omega)) | (rw [if_neg (by omega), if_neg (by omega), if_pos (by omega)]; first | done | rfl | (congr 1; omega) | (congr 2; omega) | (congr 3; omega)) | (rw [if_neg (by omega), if_neg (by omega), if_neg (by omega), if_pos (by omega)]; first | done | rfl | (congr 1; omega) | (congr 2; omega) | (congr 3; omega)) | (rw [if_neg (by omega), if_neg (by omega), if_neg (by omega), if_neg (by omega), if_pos (by omega)]; first | done | rfl | (congr 1; omega) | (congr 2; omega) | (congr 3; omega)) | (rw [if_neg (by omega), if_neg (by omega), if_neg (by omega), if_neg (by omega), if_neg (by omega)]; first | done | rfl | (congr 1; omega) | (congr 2; omega) | (congr 3; omega))) rfl (by omega) (by omega) dX1_valueOf_86
              · refine lv_bipush (v := nI 62) hx hb dX1_valueOf_69 (by decide) ?_
                refine lv_goto (tgt := 86) hx hb dX1_valueOf_71 (by decide) ?_
                subst hQ
                exact ret_i C hr hlocks h () trivial (by unfold valI; first | (rw [if_pos (by omega)]; first | done | rfl | (congr 1; omega) | (congr 2; omega) | (congr 3; omega)) | (rw [if_neg (by omega), if_pos (by omega)]; first | done | rfl | (congr 1; omega) | (congr 2; omega) | (congr 3; omega)) | (rw [if_neg (by omega), if_neg (by omega), if_pos (by omega)]; first | done | rfl | (congr 1; omega) | (congr 2; omega) | (congr 3; omega)) | (rw [if_neg (by omega), if_neg (by omega), if_neg (by omega), if_pos (by omega)]; first | done | rfl | (congr 1; omega) | (congr 2; omega) | (congr 3; omega)) | (rw [if_neg (by omega), if_neg (by omega), if_neg (by omega), if_neg (by omega), if_pos (by omega)]; first | done | rfl | (congr 1; omega) | (congr 2; omega) | (congr 3; omega)) | (rw [if_neg (by omega), if_neg (by omega), if_neg (by omega), if_neg (by omega), if_neg (by omega)]; first | done | rfl | (congr 1; omega) | (congr 2; omega) | (congr 3; omega))) rfl (by omega) (by omega) dX1_valueOf_86
            · refine lv_iload_n hx hb dX1_valueOf_53 rfl (lv_at hl 0 rfl) ?_
              refine lv_bipush (v := nI 48) hx hb dX1_valueOf_54 (by decide) ?_
              refine lv_isub hx hb dX1_valueOf_56 (n_top (y := nI (x - 48)) (pk_sub (by omega)) ?_)
              refine lv_bipush (v := nI 52) hx hb dX1_valueOf_57 (by decide) ?_
              refine lv_iadd hx hb dX1_valueOf_59 (n_top (y := nI ((x - 48) + 52)) (nI_add (x - 48) 52) ?_)
              refine lv_goto (tgt := 86) hx hb dX1_valueOf_60 (by decide) ?_
              subst hQ
              exact ret_i C hr hlocks h () trivial (by unfold valI; first | (rw [if_pos (by omega)]; first | done | rfl | (congr 1; omega) | (congr 2; omega) | (congr 3; omega)) | (rw [if_neg (by omega), if_pos (by omega)]; first | done | rfl | (congr 1; omega) | (congr 2; omega) | (congr 3; omega)) | (rw [if_neg (by omega), if_neg (by omega), if_pos (by omega)]; first | done | rfl | (congr 1; omega) | (congr 2; omega) | (congr 3; omega)) | (rw [if_neg (by omega), if_neg (by omega), if_neg (by omega), if_pos (by omega)]; first | done | rfl | (congr 1; omega) | (congr 2; omega) | (congr 3; omega)) | (rw [if_neg (by omega), if_neg (by omega), if_neg (by omega), if_neg (by omega), if_pos (by omega)]; first | done | rfl | (congr 1; omega) | (congr 2; omega) | (congr 3; omega)) | (rw [if_neg (by omega), if_neg (by omega), if_neg (by omega), if_neg (by omega), if_neg (by omega)]; first | done | rfl | (congr 1; omega) | (congr 2; omega) | (congr 3; omega))) rfl (by omega) (by omega) dX1_valueOf_86
        · refine lv_iload_n hx hb dX1_valueOf_31 rfl (lv_at hl 0 rfl) ?_
          refine lv_bipush (v := nI 97) hx hb dX1_valueOf_32 (by decide) ?_
          refine lv_isub hx hb dX1_valueOf_34 (n_top (y := nI (x - 97)) (pk_sub (by omega)) ?_)
          refine lv_bipush (v := nI 26) hx hb dX1_valueOf_35 (by decide) ?_
          refine lv_iadd hx hb dX1_valueOf_37 (n_top (y := nI ((x - 97) + 26)) (nI_add (x - 97) 26) ?_)
          refine lv_goto (tgt := 86) hx hb dX1_valueOf_38 (by decide) ?_
          subst hQ
          exact ret_i C hr hlocks h () trivial (by unfold valI; first | (rw [if_pos (by omega)]; first | done | rfl | (congr 1; omega) | (congr 2; omega) | (congr 3; omega)) | (rw [if_neg (by omega), if_pos (by omega)]; first | done | rfl | (congr 1; omega) | (congr 2; omega) | (congr 3; omega)) | (rw [if_neg (by omega), if_neg (by omega), if_pos (by omega)]; first | done | rfl | (congr 1; omega) | (congr 2; omega) | (congr 3; omega)) | (rw [if_neg (by omega), if_neg (by omega), if_neg (by omega), if_pos (by omega)]; first | done | rfl | (congr 1; omega) | (congr 2; omega) | (congr 3; omega)) | (rw [if_neg (by omega), if_neg (by omega), if_neg (by omega), if_neg (by omega), if_pos (by omega)]; first | done | rfl | (congr 1; omega) | (congr 2; omega) | (congr 3; omega)) | (rw [if_neg (by omega), if_neg (by omega), if_neg (by omega), if_neg (by omega), if_neg (by omega)]; first | done | rfl | (congr 1; omega) | (congr 2; omega) | (congr 3; omega))) rfl (by omega) (by omega) dX1_valueOf_86
    · refine lv_iload_n hx hb dX1_valueOf_12 rfl (lv_at hl 0 rfl) ?_
      refine lv_bipush (v := nI 65) hx hb dX1_valueOf_13 (by decide) ?_
      refine lv_isub hx hb dX1_valueOf_15 (n_top (y := nI (x - 65)) (pk_sub (by omega)) ?_)
      refine lv_goto (tgt := 86) hx hb dX1_valueOf_16 (by decide) ?_
      subst hQ
      exact ret_i C hr hlocks h () trivial (by unfold valI; first | (rw [if_pos (by omega)]; first | done | rfl | (congr 1; omega) | (congr 2; omega) | (congr 3; omega)) | (rw [if_neg (by omega), if_pos (by omega)]; first | done | rfl | (congr 1; omega) | (congr 2; omega) | (congr 3; omega)) | (rw [if_neg (by omega), if_neg (by omega), if_pos (by omega)]; first | done | rfl | (congr 1; omega) | (congr 2; omega) | (congr 3; omega)) | (rw [if_neg (by omega), if_neg (by omega), if_neg (by omega), if_pos (by omega)]; first | done | rfl | (congr 1; omega) | (congr 2; omega) | (congr 3; omega)) | (rw [if_neg (by omega), if_neg (by omega), if_neg (by omega), if_neg (by omega), if_pos (by omega)]; first | done | rfl | (congr 1; omega) | (congr 2; omega) | (congr 3; omega)) | (rw [if_neg (by omega), if_neg (by omega), if_neg (by omega), if_neg (by omega), if_neg (by omega)]; first | done | rfl | (congr 1; omega) | (congr 2; omega) | (congr 3; omega))) rfl (by omega) (by omega) dX1_valueOf_86
set_option maxHeartbeats 400000 in
set_option maxRecDepth 100000 in
theorem c1_number (l : Launch) (D : va_G) (dA : Nat → ClassId) (B : Nat) (Z : State → Prop) (hZ : Stab B Z) (ws : va_W) (a n0 : Nat) (g : Nat → Nat) (fr n : Nat) (hm : (a, bar dA n0 g) ∈ ws) (h1 : fr + n ≤ n0) (h2 : n0 < 1000000) (h3 : ∀ j, j < n0 → g j < 256) (h4 : n ≤ 4) :
    Ct (S := Unit) l D dA B Z yX1_number cX1_number 6 (some .long) 1 0 0 [.ref a, .int (nI fr), .int (nI n)] (ws) (fun _ => True) (fun _ => some (.long (lN (num (sl g fr n))))) (fun _ => ws) := by
  refine Ct.mk2 (by decide) (Nat.le_of_ble_eq_true rfl) hZ ?_
  intro p e R s m args below meth c ls Q C hr hlocks hin hQ hl h
  have C0 := C
  obtain ⟨hx, hb, hml, hown, hts, -⟩ := C0
  have hl : lv_has ls 6 [(0, .ref a), (1, .int (nI fr)), (2, .int (nI n))] := hl
  refine lv_lconst (v := lN 0) hx hb dX1_number_0 (by decide) ?_
  refine lv_lstore_n (lv' := [(3, .long (lN 0)), (0, .ref a), (1, .int (nI fr)), (2, .int (nI n))]) hx hb dX1_number_1 rfl hl (by decide) rfl (fun ls hl => ?_)
  refine lv_iconst (v := nI 0) hx hb dX1_number_2 (by decide) ?_
  refine lv_istore (lv' := [(5, .int (nI 0)), (3, .long (lN 0)), (0, .ref a), (1, .int (nI fr)), (2, .int (nI n))]) hx hb dX1_number_3 hl (by decide) rfl (fun ls hl => ?_)
  have loop : ∀ (nn : Nat) (i : Nat), (i ≤ n) → n - i < nn → ∀ (H : Heap) (locs : List Loc), Wd D B s (ws) H locs → ∀ (ls : Array Slot), lv_has ls 6 [(5, .int (nI i)), (3, .long (lN (num (sl g fr i)))), (0, .ref a), (1, .int (nI fr)), (2, .int (nI n))] → W p l e R s m args below meth c H locs 0 0 Q (F0 m 5 ls []) := by
    intro nn
    induction nn with
    | zero => intro i  hi0 hme; exact absurd hme (Nat.not_lt_zero _)
    | succ nn ih =>
      intro i  hi0 hme H locs h ls hl
      have hnl := num_lt (l := sl g fr i) (fun x hx => by
        unfold sl at hx
        obtain ⟨j, hj, rfl⟩ := List.mem_map.mp hx
        have := List.mem_range.mp hj
        exact h3 _ (by omega))
      rw [sl_len] at hnl
      have hpw : 256 ^ i ≤ 256 ^ 4 := Nat.pow_le_pow_right (by decide) (by omega)
      have hp4 : (256 : Nat) ^ 4 = 4294967296 := by decide
      refine lv_iload hx hb dX1_number_5 (lv_at hl 0 rfl) ?_
      refine lv_iload_n hx hb dX1_number_7 rfl (lv_at hl 4 rfl) ?_
      refine n_icmp_ge (tgt := 34) hx hb (by omega) (by omega) dX1_number_8 (by decide) (fun c8 => ?_) (fun c8 => ?_)
      · refine lv_lload_n hx hb dX1_number_34 rfl (lv_at hl 1 rfl) ?_
        subst hQ
        have hin : i = n := by omega
        exact ret_l C hr hlocks h () trivial (by rw [hin]) rfl (by omega) (by omega) dX1_number_35
      · have hg9 := h3 (fr + i) (by omega)
        refine lv_lload_n hx hb dX1_number_11 rfl (lv_at hl 1 rfl) ?_
        refine lv_bipush (v := nI 8) hx hb dX1_number_12 (by decide) ?_
        refine n_lshl hx hb dX1_number_14 (n_topl (y := lN ((num (sl g fr i)) * 256)) (l_shlN (k := 8) (by decide)) ?_)
        refine lv_aload_n hx hb dX1_number_15 rfl (lv_at hl 2 rfl) ?_
        refine lv_iload_n hx hb dX1_number_16 rfl (lv_at hl 3 rfl) ?_
        refine lv_iload hx hb dX1_number_17 (lv_at hl 0 rfl) ?_
        refine lv_iadd hx hb dX1_number_19 (n_top (y := nI (fr + i)) (nI_add fr i) ?_)
        refine n_bald C h (v := g (fr + i)) (hm) (show fr + i < n0 by omega) (by omega) rfl dX1_number_20 ?_
        refine lv_sipush (v := nI 255) hx hb dX1_number_21 (by decide) ?_
        refine lv_iand hx hb dX1_number_24 ?_
        refine n_top (y := nI (g (fr + i))) ((sb_byte _ hg9).1) ?_
        refine lv_i2l (v := lN (g (fr + i))) hx hb dX1_number_25 (nI_l (by omega)) ?_
        refine lv_lor hx hb dX1_number_26 ?_
        refine n_topl (y := lN (num (sl g fr (i + 1)))) (by rw [l_app (by omega) hg9, sl_succ, num_snoc]) ?_
        refine lv_lstore_n (lv' := [(3, .long (lN (num (sl g fr (i + 1))))), (5, .int (nI i)), (0, .ref a), (1, .int (nI fr)), (2, .int (nI n))]) hx hb dX1_number_27 rfl hl (by decide) rfl (fun ls hl => ?_)
        refine lv_iinc (v := nI (i + 1)) (lv' := [(5, .int (nI (i + 1))), (3, .long (lN (num (sl g fr (i + 1))))), (0, .ref a), (1, .int (nI fr)), (2, .int (nI n))]) hx hb dX1_number_28 hl (k := 1) rfl (nI_add i 1) (by decide) rfl (fun ls hl => ?_)
        refine lv_goto (tgt := 5) hx hb dX1_number_31 (by decide) ?_
        exact ih (i + 1) (by omega) (by omega) _ _ h _ (lv_sub hl [0, 1, 2, 3, 4] rfl)
  exact loop _ 0 (by omega) (Nat.lt_succ_self _) _ _ h _ (lv_sub hl [0, 1, 2, 3, 4] rfl)
set_option maxHeartbeats 400000 in
set_option maxRecDepth 100000 in
theorem c1_bitsOf (l : Launch) (D : va_G) (dA : Nat → ClassId) (B : Nat) (Z : State → Prop) (hZ : Stab B Z) (ws : va_W) (a n0 : Nat) (g : Nat → Nat) (hm : (a, bar dA n0 g) ∈ ws) (h1 : 0 < n0) (h2 : n0 < 1000000) (h3 : g 0 < 256) :
    Ct (S := Unit) l D dA B Z yX1_bitsOf cX1_bitsOf 3 (some .int) 1 0 0 [.ref a] (ws) (fun _ => True) (fun _ => some (.int (bitsI (g 0) n0))) (fun _ => ws) := by
  refine Ct.mk2 (by decide) (Nat.le_of_ble_eq_true rfl) hZ ?_
  intro p e R s m args below meth c ls Q C hr hlocks hin hQ hl h
  have C0 := C
  obtain ⟨hx, hb, hml, hown, hts, -⟩ := C0
  have hl : lv_has ls 3 [(0, .ref a)] := hl
  refine lv_bipush (v := nI 8) hx hb dX1_bitsOf_0 (by decide) ?_
  refine lv_aload_n hx hb dX1_bitsOf_2 rfl (lv_at hl 0 rfl) ?_
  refine n_balen C h (hm) dX1_bitsOf_3 ?_
  refine lv_imul hx hb dX1_bitsOf_4 (n_top (y := nI (8 * n0)) (pk_mul 8 n0) ?_)
  refine lv_istore_n (lv' := [(1, .int (nI (8 * n0))), (0, .ref a)]) hx hb dX1_bitsOf_5 rfl hl (by decide) rfl (fun ls hl => ?_)
  refine lv_aload_n hx hb dX1_bitsOf_6 rfl (lv_at hl 1 rfl) ?_
  refine lv_iconst (v := nI 0) hx hb dX1_bitsOf_7 (by decide) ?_
  refine n_bald C h (v := g 0) (hm) (show 0 < n0 by omega) (by omega) rfl dX1_bitsOf_8 ?_
  refine lv_sipush (v := nI 255) hx hb dX1_bitsOf_9 (by decide) ?_
  refine lv_iand hx hb dX1_bitsOf_12 ?_
  refine n_top (y := nI (g 0)) ((sb_byte _ h3).1) ?_
  refine lv_istore_n (lv' := [(2, .int (nI (g 0))), (1, .int (nI (8 * n0))), (0, .ref a)]) hx hb dX1_bitsOf_13 rfl hl (by decide) rfl (fun ls hl => ?_)
  refine lv_iload_n hx hb dX1_bitsOf_14 rfl (lv_at hl 0 rfl) ?_
  refine n_if_ne (tgt := 20) hx hb (by omega) dX1_bitsOf_15 (by decide) (fun c15 => ?_) (fun c15 => ?_)
  · have hl : lv_has ls 3 [(2, .int (nI (g 0))), (1, .int (nI (8 * n0 - 0))), (0, .ref a)] := hl
    have loop : ∀ (nn : Nat) (v i : Nat), (v < 256) → (0 < v) → (blen v = blen (g 0) + i) → (i ≤ 8) → 256 - v < nn → ∀ (H : Heap) (locs : List Loc), Wd D B s (ws) H locs → ∀ (ls : Array Slot), lv_has ls 3 [(2, .int (nI v)), (1, .int (nI (8 * n0 - i))), (0, .ref a)] → W p l e R s m args below meth c H locs 0 0 Q (F0 m 20 ls []) := by
      intro nn
      induction nn with
      | zero => intro v i  hi0 hi1 hi2 hi3 hme; exact absurd hme (Nat.not_lt_zero _)
      | succ nn ih =>
        intro v i  hi0 hi1 hi2 hi3 hme H locs h ls hl
        have hb8 := blen_le (v := v) (k := 8) (by omega)
        refine lv_iload_n hx hb dX1_bitsOf_20 rfl (lv_at hl 0 rfl) ?_
        refine lv_sipush (v := nI 128) hx hb dX1_bitsOf_21 (by decide) ?_
        refine n_icmp_ge (tgt := 37) hx hb (by omega) (by omega) dX1_bitsOf_24 (by decide) (fun c24 => ?_) (fun c24 => ?_)
        · refine lv_iload_n hx hb dX1_bitsOf_37 rfl (lv_at hl 1 rfl) ?_
          subst hQ
          have hb6 := blen_8 (by omega) hi0
          exact ret_i C hr hlocks h () trivial (by
            unfold bitsI
            rw [if_neg c15, show 8 * n0 - 8 + blen (g 0) = 8 * n0 - i by omega]) rfl (by omega) (by omega) dX1_bitsOf_38
        · have hb9 := blen_2 (v := v) (by omega)
          have hb7 := blen_le (v := v * 2) (k := 8) (by omega)
          refine lv_iload_n hx hb dX1_bitsOf_27 rfl (lv_at hl 0 rfl) ?_
          refine lv_iconst (v := nI 2) hx hb dX1_bitsOf_28 (by decide) ?_
          refine lv_imul hx hb dX1_bitsOf_29 (n_top (y := nI (v * 2)) (pk_mul v 2) ?_)
          refine lv_istore_n (lv' := [(2, .int (nI (v * 2))), (1, .int (nI (8 * n0 - i))), (0, .ref a)]) hx hb dX1_bitsOf_30 rfl hl (by decide) rfl (fun ls hl => ?_)
          refine lv_iinc (v := nI (8 * n0 - (i + 1))) (lv' := [(1, .int (nI (8 * n0 - (i + 1)))), (2, .int (nI (v * 2))), (0, .ref a)]) hx hb dX1_bitsOf_31 hl (k := 1) rfl (by rw [show 8 * n0 - (i + 1) = 8 * n0 - i - 1 by omega]; exact n_dec (by omega)) (by decide) rfl (fun ls hl => ?_)
          refine lv_goto (tgt := 20) hx hb dX1_bitsOf_34 (by decide) ?_
          exact ih (v * 2) (i + 1) (by omega) (by omega) (by rw [blen_2 (by omega)]; omega) (by omega) (by omega) _ _ h _ (lv_sub hl [1, 0, 2] rfl)
    exact loop _ (g 0) 0 h3 (by omega) (by omega) (by omega) (Nat.lt_succ_self _) _ _ h _ (lv_sub hl [0, 1, 2] rfl)
  · refine lv_iconst (v := -1) hx hb dX1_bitsOf_18 (by decide) ?_
    subst hQ
    exact ret_i C hr hlocks h () trivial (by unfold bitsI; rw [if_pos c15]) rfl (by omega) (by omega) dX1_bitsOf_19
set_option maxHeartbeats 400000 in
set_option maxRecDepth 100000 in
theorem c1_isBelow (l : Launch) (D : va_G) (dA : Nat → ClassId) (B : Nat) (Z : State → Prop) (hZ : Stab B Z) (ws : va_W) (a b : Nat) (la lb : List Nat) (hm : (a, bal dA la) ∈ ws) (hm2 : (b, bal dA lb) ∈ ws) (h1 : la.length < 1000000) (h2 : lb.length < 1000000) (hA : byt la) (hB : byt lb) :
    Ct (S := Unit) l D dA B Z yX1_isBelow cX1_isBelow 3 (some .boolean) 1 0 0 [.ref a, .ref b] (ws) (fun _ => True) (fun _ => some (.int (bZ (belowL la lb)))) (fun _ => ws) := by
  refine Ct.mk2 (by decide) (Nat.le_of_ble_eq_true rfl) hZ ?_
  intro p e R s m args below meth c ls Q C hr hlocks hin hQ hl h
  have C0 := C
  obtain ⟨hx, hb, hml, hown, hts, -⟩ := C0
  have hl : lv_has ls 3 [(0, .ref a), (1, .ref b)] := hl
  refine lv_aload_n hx hb dX1_isBelow_0 rfl (lv_at hl 0 rfl) ?_
  refine n_balen C h (hm) dX1_isBelow_1 ?_
  refine lv_aload_n hx hb dX1_isBelow_2 rfl (lv_at hl 1 rfl) ?_
  refine n_balen C h (hm2) dX1_isBelow_3 ?_
  refine n_icmp_eq (tgt := 20) hx hb (by omega) (by omega) dX1_isBelow_4 (by decide) (fun c4 => ?_) (fun c4 => ?_)
  · refine lv_iconst (v := nI 0) hx hb dX1_isBelow_20 (by decide) ?_
    refine lv_istore_n (lv' := [(2, .int (nI 0)), (0, .ref a), (1, .ref b)]) hx hb dX1_isBelow_21 rfl hl (by decide) rfl (fun ls hl => ?_)
    have loop : ∀ (nn : Nat) (i : Nat), (i ≤ la.length) → (lexlt la lb = lexlt (la.drop i) (lb.drop i)) → la.length - i < nn → ∀ (H : Heap) (locs : List Loc), Wd D B s (ws) H locs → ∀ (ls : Array Slot), lv_has ls 3 [(2, .int (nI i)), (0, .ref a), (1, .ref b)] → W p l e R s m args below meth c H locs 0 0 Q (F0 m 22 ls []) := by
      intro nn
      induction nn with
      | zero => intro i  hi0 hi1 hme; exact absurd hme (Nat.not_lt_zero _)
      | succ nn ih =>
        intro i  hi0 hi1 hme H locs h ls hl
        refine lv_iload_n hx hb dX1_isBelow_22 rfl (lv_at hl 0 rfl) ?_
        refine lv_aload_n hx hb dX1_isBelow_23 rfl (lv_at hl 1 rfl) ?_
        refine n_balen C h (hm) dX1_isBelow_24 ?_
        refine n_icmp_ge (tgt := 66) hx hb (by omega) (by omega) dX1_isBelow_25 (by decide) (fun c25 => ?_) (fun c25 => ?_)
        · refine lv_iconst (v := nI 0) hx hb dX1_isBelow_66 (by decide) ?_
          subst hQ
          refine n_top (y := bZ false) rfl ?_
          exact ret_z C hr hlocks h () trivial (by
            unfold belowL; rw [if_pos c4, hi1, List.drop_of_length_le (by omega)]; cases lb.drop i <;> rfl) rfl (by omega) (by omega) dX1_isBelow_67
        · have hda := drop_gD (l := la) (i := i) (by omega)
          have hdb := drop_gD (l := lb) (i := i) (by omega)
          have hba := byt_gD hA i
          have hbb := byt_gD hB i
          refine lv_aload_n hx hb dX1_isBelow_28 rfl (lv_at hl 1 rfl) ?_
          refine lv_iload_n hx hb dX1_isBelow_29 rfl (lv_at hl 0 rfl) ?_
          refine n_bald C h (v := (gD la) i) (hm) (show i < la.length by omega) (by omega) rfl dX1_isBelow_30 ?_
          refine lv_aload_n hx hb dX1_isBelow_31 rfl (lv_at hl 2 rfl) ?_
          refine lv_iload_n hx hb dX1_isBelow_32 rfl (lv_at hl 0 rfl) ?_
          refine n_bald C h (v := (gD lb) i) (hm2) (show i < lb.length by omega) (by omega) rfl dX1_isBelow_33 ?_
          refine lv_icmp_eq (tgt := 60) hx hb dX1_isBelow_34 (by decide) (fun c34 => ?_) (fun c34 => ?_)
          · refine lv_iinc (v := nI (i + 1)) (lv' := [(2, .int (nI (i + 1))), (0, .ref a), (1, .ref b)]) hx hb dX1_isBelow_60 hl (k := 0) rfl (nI_add i 1) (by decide) rfl (fun ls hl => ?_)
            refine lv_goto (tgt := 22) hx hb dX1_isBelow_63 (by decide) ?_
            exact ih (i + 1) (by omega) (by rw [hi1, hda, hdb]; show (if _ = _ then _ else _) = _; rw [if_pos (sb_inj hba hbb c34)]) (by omega) _ _ h _ (lv_sub hl [0, 1, 2] rfl)
          · refine lv_aload_n hx hb dX1_isBelow_37 rfl (lv_at hl 1 rfl) ?_
            refine lv_iload_n hx hb dX1_isBelow_38 rfl (lv_at hl 0 rfl) ?_
            refine n_bald C h (v := (gD la) i) (hm) (show i < la.length by omega) (by omega) rfl dX1_isBelow_39 ?_
            refine lv_sipush (v := nI 255) hx hb dX1_isBelow_40 (by decide) ?_
            refine lv_iand hx hb dX1_isBelow_43 ?_
            refine n_top (y := nI (gD la i)) ((sb_byte _ hba).1) ?_
            refine lv_aload_n hx hb dX1_isBelow_44 rfl (lv_at hl 2 rfl) ?_
            refine lv_iload_n hx hb dX1_isBelow_45 rfl (lv_at hl 0 rfl) ?_
            refine n_bald C h (v := (gD lb) i) (hm2) (show i < lb.length by omega) (by omega) rfl dX1_isBelow_46 ?_
            refine lv_sipush (v := nI 255) hx hb dX1_isBelow_47 (by decide) ?_
            refine lv_iand hx hb dX1_isBelow_50 ?_
            refine n_top (y := nI (gD lb i)) ((sb_byte _ hbb).1) ?_
            refine n_icmp_ge (tgt := 58) hx hb (by omega) (by omega) dX1_isBelow_51 (by decide) (fun c51 => ?_) (fun c51 => ?_)
            · refine lv_iconst (v := nI 0) hx hb dX1_isBelow_58 (by decide) ?_
              subst hQ
              refine n_top (y := bZ false) rfl ?_
              exact ret_z C hr hlocks h () trivial (by
                unfold belowL; rw [if_pos c4, hi1, hda, hdb]
                show some (Value.int (bZ (if _ = _ then _ else _))) = _
                rw [if_neg (fun z => c34 (congrArg sb_b z)), decide_eq_false (Nat.not_lt.mpr c51)]) rfl (by omega) (by omega) dX1_isBelow_59
            · refine lv_iconst (v := nI 1) hx hb dX1_isBelow_54 (by decide) ?_
              refine lv_goto (tgt := 59) hx hb dX1_isBelow_55 (by decide) ?_
              subst hQ
              refine n_top (y := bZ true) rfl ?_
              exact ret_z C hr hlocks h () trivial (by
                unfold belowL; rw [if_pos c4, hi1, hda, hdb]
                show some (Value.int (bZ (if _ = _ then _ else _))) = _
                rw [if_neg (fun z => c34 (congrArg sb_b z)), decide_eq_true c51]) rfl (by omega) (by omega) dX1_isBelow_59
    exact loop _ 0 (by omega) rfl (Nat.lt_succ_self _) _ _ h _ (lv_sub hl [0, 1, 2] rfl)
  · refine lv_aload_n hx hb dX1_isBelow_7 rfl (lv_at hl 0 rfl) ?_
    refine n_balen C h (hm) dX1_isBelow_8 ?_
    refine lv_aload_n hx hb dX1_isBelow_9 rfl (lv_at hl 1 rfl) ?_
    refine n_balen C h (hm2) dX1_isBelow_10 ?_
    refine n_icmp_ge (tgt := 18) hx hb (by omega) (by omega) dX1_isBelow_11 (by decide) (fun c11 => ?_) (fun c11 => ?_)
    · refine lv_iconst (v := nI 0) hx hb dX1_isBelow_18 (by decide) ?_
      subst hQ
      refine n_top (y := bZ false) rfl ?_
      exact ret_z C hr hlocks h () trivial (by unfold belowL; rw [if_neg c4, decide_eq_false (Nat.not_lt.mpr c11)]) rfl (by omega) (by omega) dX1_isBelow_19
    · refine lv_iconst (v := nI 1) hx hb dX1_isBelow_14 (by decide) ?_
      refine lv_goto (tgt := 19) hx hb dX1_isBelow_15 (by decide) ?_
      subst hQ
      refine n_top (y := bZ true) rfl ?_
      exact ret_z C hr hlocks h () trivial (by unfold belowL; rw [if_neg c4, decide_eq_true c11]) rfl (by omega) (by omega) dX1_isBelow_19
set_option maxHeartbeats 400000 in
set_option maxRecDepth 100000 in
theorem c1_sumOf (l : Launch) (D : va_G) (dA : Nat → ClassId) (B : Nat) (Z : State → Prop) (hZ : Stab B Z) (ws : va_W) (a n0 : Nat) (g : Nat → Nat) (n : Nat) (hm : (a, bar dA n0 g) ∈ ws) (h1 : n ≤ n0) (h2 : n0 < 1000000) (h3 : ∀ j, j < n → g j < 256) :
    Ct (S := Unit) l D dA B Z yX1_sumOf cX1_sumOf 5 (some .int) 1 0 0 [.ref a, .int (nI n)] (ws) (fun _ => True) (fun _ => some (.int (nI (crcS (sl g 0 n))))) (fun _ => ws) := by
  refine Ct.mk2 (by decide) (Nat.le_of_ble_eq_true rfl) hZ ?_
  intro p e R s m args below meth c ls Q C hr hlocks hin hQ hl h
  have C0 := C
  obtain ⟨hx, hb, hml, hown, hts, -⟩ := C0
  have hl : lv_has ls 5 [(0, .ref a), (1, .int (nI n))] := hl
  refine lv_ldc hx hb hown (hts _ q1002) dX1_sumOf_0 ?_
  refine n_top (y := nI 11994318) (by decide) ?_
  refine lv_istore_n (lv' := [(2, .int (nI 11994318)), (0, .ref a), (1, .int (nI n))]) hx hb dX1_sumOf_2 rfl hl (by decide) rfl (fun ls hl => ?_)
  refine lv_iconst (v := nI 0) hx hb dX1_sumOf_3 (by decide) ?_
  refine lv_istore_n (lv' := [(3, .int (nI 0)), (2, .int (nI 11994318)), (0, .ref a), (1, .int (nI n))]) hx hb dX1_sumOf_4 rfl hl (by decide) rfl (fun ls hl => ?_)
  have loop : ∀ (nn : Nat) (i : Nat), (i ≤ n) → n - i < nn → ∀ (H : Heap) (locs : List Loc), Wd D B s (ws) H locs → ∀ (ls : Array Slot), lv_has ls 5 [(3, .int (nI i)), (2, .int (nI (crcS (sl g 0 i)))), (0, .ref a), (1, .int (nI n))] → W p l e R s m args below meth c H locs 0 0 Q (F0 m 5 ls []) := by
    intro nn
    induction nn with
    | zero => intro i  hi0 hme; exact absurd hme (Nat.not_lt_zero _)
    | succ nn ih =>
      intro i  hi0 hme H locs h ls hl
      refine lv_iload_n hx hb dX1_sumOf_5 rfl (lv_at hl 0 rfl) ?_
      refine lv_iload_n hx hb dX1_sumOf_6 rfl (lv_at hl 3 rfl) ?_
      refine n_icmp_ge (tgt := 61) hx hb (by omega) (by omega) dX1_sumOf_7 (by decide) (fun c7 => ?_) (fun c7 => ?_)
      · refine lv_iload_n hx hb dX1_sumOf_61 rfl (lv_at hl 1 rfl) ?_
        subst hQ
        have hin : i = n := by omega
        exact ret_i C hr hlocks h () trivial (by rw [hin]) rfl (by omega) (by omega) dX1_sumOf_62
      · have hg := h3 i (by omega)
        have hc : crcS (sl g 0 i) < 16777216 := crcS_lt (fun x hx => by
          unfold sl at hx
          obtain ⟨j, hj, rfl⟩ := List.mem_map.mp hx
          have := List.mem_range.mp hj
          exact h3 _ (by omega))
        refine lv_iload_n hx hb dX1_sumOf_10 rfl (lv_at hl 1 rfl) ?_
        refine lv_aload_n hx hb dX1_sumOf_11 rfl (lv_at hl 2 rfl) ?_
        refine lv_iload_n hx hb dX1_sumOf_12 rfl (lv_at hl 0 rfl) ?_
        refine n_bald C h (v := g i) (hm) (show i < n0 by omega) (by omega) rfl dX1_sumOf_13 ?_
        refine lv_sipush (v := nI 255) hx hb dX1_sumOf_14 (by decide) ?_
        refine lv_iand hx hb dX1_sumOf_17 ?_
        refine n_top (y := nI (g i)) ((sb_byte _ hg).1) ?_
        refine lv_bipush (v := nI 16) hx hb dX1_sumOf_18 (by decide) ?_
        refine n_ishl hx hb dX1_sumOf_20 (n_top (y := nI ((g i) * 65536)) (pk_shlN _ 16 (by decide) (by omega)) ?_)
        refine lv_ixor hx hb dX1_sumOf_21 ?_
        refine n_top (y := nI (crcS (sl g 0 i) ^^^ (g i * 65536))) (nx_xor _ _) ?_
        refine lv_istore_n (lv' := [(2, .int (nI (crcS (sl g 0 i) ^^^ (g i * 65536)))), (3, .int (nI i)), (0, .ref a), (1, .int (nI n))]) hx hb dX1_sumOf_22 rfl hl (by decide) rfl (fun ls hl => ?_)
        refine lv_iconst (v := nI 0) hx hb dX1_sumOf_23 (by decide) ?_
        refine lv_istore (lv' := [(4, .int (nI 0)), (2, .int (nI (crcS (sl g 0 i) ^^^ (g i * 65536)))), (3, .int (nI i)), (0, .ref a), (1, .int (nI n))]) hx hb dX1_sumOf_24 hl (by decide) rfl (fun ls hl => ?_)
        have hx0 : crcS (sl g 0 i) ^^^ (g i * 65536) < 16777216 := Nat.xor_lt_two_pow (n := 24) hc (by omega)
        obtain ⟨z0, hz0⟩ : ∃ z, z = crcS (sl g 0 i) ^^^ (g i * 65536) := ⟨_, rfl⟩
        rw [← hz0] at hx0 hl
        have hl : lv_has ls 5 [(4, .int (nI 0)), (2, .int (nI (crcK 0 z0))), (3, .int (nI i)), (0, .ref a), (1, .int (nI n))] := hl
        have loopK : ∀ (nnK : Nat) (k : Nat), (k ≤ 8) → 8 - k < nnK → ∀ (H : Heap) (locs : List Loc), Wd D B s (ws) H locs → ∀ (ls : Array Slot), lv_has ls 5 [(4, .int (nI k)), (2, .int (nI (crcK k z0))), (3, .int (nI i)), (0, .ref a), (1, .int (nI n))] → W p l e R s m args below meth c H locs 0 0 Q (F0 m 26 ls []) := by
          intro nnK
          induction nnK with
          | zero => intro k  hk0 hme; exact absurd hme (Nat.not_lt_zero _)
          | succ nnK ihK =>
            intro k  hk0 hme H locs h ls hl
            refine lv_iload hx hb dX1_sumOf_26 (lv_at hl 0 rfl) ?_
            refine lv_bipush (v := nI 8) hx hb dX1_sumOf_28 (by decide) ?_
            refine n_icmp_ge (tgt := 55) hx hb (by omega) (by omega) dX1_sumOf_30 (by decide) (fun c30 => ?_) (fun c30 => ?_)
            · have hkk : crcK k z0 = crcS (sl g 0 (i + 1)) := by
                rw [show k = 8 by omega, sl_succ, Nat.zero_add, crcS_snoc, hz0]
              rw [hkk] at hl
              refine lv_iinc (v := nI (i + 1)) (lv' := [(3, .int (nI (i + 1))), (4, .int (nI k)), (2, .int (nI (crcS (sl g 0 (i + 1))))), (0, .ref a), (1, .int (nI n))]) hx hb dX1_sumOf_55 hl (k := 2) rfl (nI_add i 1) (by decide) rfl (fun ls hl => ?_)
              refine lv_goto (tgt := 5) hx hb dX1_sumOf_58 (by decide) ?_
              exact ih (i + 1) (by omega) (by omega) _ _ h _ (lv_sub hl [0, 2, 3, 4] rfl)
            · have hck := crcK_lt (k := k) hx0
              have hn24 := n_and24 (v := crcK k z0 * 2) (by omega)
              have jc : ∀ (H : Heap) (locs : List Loc), Wd D B s (ws) H locs → ∀ (ls : Array Slot), lv_has ls 5 [(2, .int (nI (crcK (k + 1) z0))), (4, .int (nI k)), (3, .int (nI i)), (0, .ref a), (1, .int (nI n))] → W p l e R s m args below meth c H locs 0 0 Q (F0 m 49 ls []) := by
                intro   H locs h ls hl
                refine lv_iinc (v := nI (k + 1)) (lv' := [(4, .int (nI (k + 1))), (2, .int (nI (crcK (k + 1) z0))), (3, .int (nI i)), (0, .ref a), (1, .int (nI n))]) hx hb dX1_sumOf_49 hl (k := 1) rfl (nI_add k 1) (by decide) rfl (fun ls hl => ?_)
                refine lv_goto (tgt := 26) hx hb dX1_sumOf_52 (by decide) ?_
                exact ihK (k + 1) (by omega) (by omega) _ _ h _ (lv_sub hl [0, 1, 2, 3, 4] rfl)
              refine lv_iload_n hx hb dX1_sumOf_33 rfl (lv_at hl 1 rfl) ?_
              refine lv_iconst (v := nI 1) hx hb dX1_sumOf_34 (by decide) ?_
              refine n_ishl hx hb dX1_sumOf_35 (n_top (y := nI ((crcK k z0) * 2)) (pk_shlN _ 1 (by decide) (by omega)) ?_)
              refine lv_istore_n (lv' := [(2, .int (nI ((crcK k z0) * 2))), (4, .int (nI k)), (3, .int (nI i)), (0, .ref a), (1, .int (nI n))]) hx hb dX1_sumOf_36 rfl hl (by decide) rfl (fun ls hl => ?_)
              refine lv_iload_n hx hb dX1_sumOf_37 rfl (lv_at hl 0 rfl) ?_
              refine lv_ldc hx hb hown (hts _ q1003) dX1_sumOf_38 ?_
              refine n_top (y := nI 16777216) (by decide) ?_
              refine lv_iand hx hb dX1_sumOf_40 ?_
              refine lv_if_eq (tgt := 49) hx hb dX1_sumOf_41 (by decide) (fun c41 => ?_) (fun c41 => ?_)
              · have e9 : nI (crcK k z0 * 2) = nI (crcK (k + 1) z0) := by
                  have hlt : crcK k z0 * 2 < 16777216 := hn24.mp c41
                  rw [show crcK (k + 1) z0 = crc1 (crcK k z0) from rfl]; unfold crc1; rw [if_neg (by omega), Nat.mul_comm]
                have hl : lv_has ls 5 [(2, .int (nI (crcK (k + 1) z0))), (4, .int (nI k)), (3, .int (nI i)), (0, .ref a), (1, .int (nI n))] := by rw [← e9]; exact lv_sub hl [0, 1, 2, 3, 4] rfl
                exact jc   _ _ h _ (lv_sub hl [0, 1, 2, 3, 4] rfl)
              · refine lv_iload_n hx hb dX1_sumOf_44 rfl (lv_at hl 0 rfl) ?_
                refine lv_ldc hx hb hown (hts _ q1004) dX1_sumOf_45 ?_
                refine n_top (y := nI 25578747) (by decide) ?_
                refine lv_ixor hx hb dX1_sumOf_47 ?_
                refine lv_istore_n (lv' := [(2, .int ((nI ((crcK k z0) * 2)) ^^^ (nI 25578747))), (4, .int (nI k)), (3, .int (nI i)), (0, .ref a), (1, .int (nI n))]) hx hb dX1_sumOf_48 rfl hl (by decide) rfl (fun ls hl => ?_)
                have e9 : nI (crcK k z0 * 2) ^^^ nI 25578747 = nI (crcK (k + 1) z0) := by
                  have hge : ¬ crcK k z0 * 2 < 16777216 := fun z => c41 (hn24.mpr z)
                  rw [nx_xor, show crcK (k + 1) z0 = crc1 (crcK k z0) from rfl]; unfold crc1; rw [if_pos (by omega), Nat.mul_comm]
                have hl : lv_has ls 5 [(2, .int (nI (crcK (k + 1) z0))), (4, .int (nI k)), (3, .int (nI i)), (0, .ref a), (1, .int (nI n))] := by rw [← e9]; exact lv_sub hl [0, 1, 2, 3, 4] rfl
                exact jc   _ _ h _ (lv_sub hl [0, 1, 2, 3, 4] rfl)
        exact loopK _ 0 (by omega) (Nat.lt_succ_self _) _ _ h _ (lv_sub hl [0, 1, 2, 3, 4] rfl)
  exact loop _ 0 (by omega) (Nat.lt_succ_self _) _ _ h _ (lv_sub hl [0, 1, 2, 3] rfl)
