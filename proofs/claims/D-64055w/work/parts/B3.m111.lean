set_option maxRecDepth 100000
set_option maxHeartbeats 400000 in
set_option maxRecDepth 100000 in
theorem c1_hash4 (l : Launch) (D : va_G) (dA : Nat → ClassId) (B : Nat) (Z : State → Prop) (hZ : Stab B Z) (F : va_W) (ho st fi bl wo : Nat) (me bs dc ou rg h2 dg tk pl pk tx sd : Nat) (sz : Nat) (po : Nat) (u9 : HS) (gd : Nat → Nat) (dc9 : List Nat) (y9 : Int32) (hlt : l.stackTraces = false) (hzx : ZX B Z)  (hfi : (fi, war dA 5 (t5 in1)) ∈ F) (hme : (me, .inr (0, [.ref bs, .int (nI sz), .ref dc, .ref ou, .ref rg, .ref ho, .ref h2, .ref dg, .ref po, .ref tk, .ref pl, .ref pk, .ref tx, .ref sd])) ∈ F) (hdc : (dc, bal dA dc9) ∈ F) (hdb : byt dc9) (hdl : dc9.length ≤ 4096) (hgb0 : ∀ j, j < 64 → u9.2.2.2.2 j < 256) (hgd0 : ∀ j, gd j < 256) :
    CtX (S := HS × (Nat → Nat)) (SX := Nat) l D dA B Z yX1_hash cX1_hash 4 (some .int) 7 2 12 [.ref me, .int (nI 1), .int y9] (h4C dA ho st fi bl wo u9 ++ ([(dg, bar dA 32 gd)] ++ F)) (fun u => (hshS dc9 (nI 1) y9).1 = 0 ∧ (∀ j, u.2 j < 256) ∧ ∀ j, j < 64 → u.1.2.2.2.2 j < 256) (fun _ => some (.int (nI (hshS dc9 (nI 1) y9).2))) (fun u => h4C dA ho st fi bl wo u.1 ++ ([(dg, bar dA 32 u.2)] ++ F)) (fun _ => (hshS dc9 (nI 1) y9).1 = 2) (fun u => u) (fun _ => "java/lang/IndexOutOfBoundsException") (fun _ => h4C dA ho st fi bl wo u9 ++ ([(dg, bar dA 32 gd)] ++ F)) := by
  refine CtX.mk2 (by decide) (Nat.le_of_ble_eq_true rfl) hZ ?_
  intro p e R s m args below meth c ls Q C hr hlocks hin hex hQ hl h
  have C0 := C
  obtain ⟨hx, hb, hml, hown, hts, -⟩ := C0
  have hl : lv_has ls 4 [(0, .ref me), (1, .int (nI 1)), (2, .int y9)] := hl
  have h : Wd D B s ([(ho, .inr (2, [.ref st, .ref fi, .ref bl, .long u9.1, .ref wo])), (st, war dA 5 u9.2.1), (wo, war dA 80 u9.2.2.1), (bl, bar dA 64 u9.2.2.2.2), (dg, bar dA 32 gd)] ++ F) s.heap [] := h
  have hU0 : hshS dc9 (nI 1) y9 = if y9 < 0 ∨ ¬ y9 < nI 20 then (2, 0) else (0, gD (sha1 dc9) y9.toInt.toNat) := by
    unfold hshS
    rw [if_neg (by decide)]
    rw [if_pos (show nI 1 = nI 1 from rfl), if_pos (show nI 1 = nI 1 from rfl)]; rfl
  refine lv_iload_n hx hb dX1_hash_0 rfl (lv_at hl 1 rfl) ?_
  refine lv_iconst (v := nI 1) hx hb dX1_hash_1 (by decide) ?_
  refine n_icmp_eq (tgt := 10) hx hb (by omega) (by omega) dX1_hash_2 (by decide) (fun c2 => ?_) (fun c2 => by exfalso; omega)
  refine lv_iconst (v := nI 1) hx hb dX1_hash_10 (by decide) ?_
  refine n_top (y := bZ true) rfl ?_
  refine lv_goto (tgt := 15) hx hb dX1_hash_11 (by decide) ?_
  refine call_SX (As := [.int (bZ true)]) (rest := []) (n := 1) C h (c1_want l D dA B Z hZ ([(ho, .inr (2, [.ref st, .ref fi, .ref bl, .long u9.1, .ref wo])), (st, war dA 5 u9.2.1), (wo, war dA 80 u9.2.2.1), (bl, bar dA 64 u9.2.2.2.2), (dg, bar dA 32 gd)] ++ F) true hlt hzx) (lw_S q1448 q1449 q129 q1450) (by decide +kernel) (by decide) (by decide) rfl hl rfl (Nat.le_of_ble_eq_true rfl) dX1_hash_15 (by omega) (fun ux ce9 H locs hbx8 h hce9 hcv9 hcl9 => ?_) (fun _ H locs hb8 h => ?_)
  · cases hbx8
  refine lv_iload_n hx hb dX1_hash_18 rfl (lv_at hl 1 rfl) ?_
  refine lv_iconst (v := nI 1) hx hb dX1_hash_19 (by decide) ?_
  refine n_icmp_ne (tgt := 30) hx hb (by omega) (by omega) dX1_hash_20 (by decide) (fun c20 => by exfalso; omega) (fun c20 => ?_)
  refine lv_aload_n hx hb dX1_hash_23 rfl (lv_at hl 0 rfl) ?_
  refine o_get C h (RC := RX1) (T := TX1) (N := 14) (List.mem_append_right _ hme) rfl in_X1 5 (by decide) q313 rfl (v := .ref ho) rfl dX1_hash_24 ?_
  refine lv_goto (tgt := 34) hx hb dX1_hash_27 (by decide) ?_
  refine lv_astore_n (lv' := [(3, .ref ho), (0, .ref me), (1, .int (nI 1)), (2, .int y9)]) hx hb dX1_hash_34 rfl hl (by decide) rfl (fun ls hl => ?_)
  have jn : ∀ (tjn : Bool) (cc cs : Nat), (tjn = decide (¬ y9 < 0 ∧ ¬ nI 20 ≤ y9)) → (cc ≤ 1) → (cs ≤ 6) → ∀ (H : Heap) (locs : List Loc), Wd D B s ([(ho, .inr (2, [.ref st, .ref fi, .ref bl, .long u9.1, .ref wo])), (st, war dA 5 u9.2.1), (wo, war dA 80 u9.2.2.1), (bl, bar dA 64 u9.2.2.2.2), (dg, bar dA 32 gd)] ++ F) H locs → ∀ (ls : Array Slot), lv_has ls 4 [(3, .ref ho), (0, .ref me), (1, .int (nI 1)), (2, .int y9)] → W p l e R s m args below meth c H locs cc cs Q (F0 m 52 ls [.int (bZ tjn)]) := by
    intro tjn  cc cs  hjn hcc hcs H locs h ls hl
    refine call_SX (As := [.int (bZ tjn)]) (rest := []) (n := 1) C h (c1_index l D dA B Z hZ ([(ho, .inr (2, [.ref st, .ref fi, .ref bl, .long u9.1, .ref wo])), (st, war dA 5 u9.2.1), (wo, war dA 80 u9.2.2.1), (bl, bar dA 64 u9.2.2.2.2), (dg, bar dA 32 gd)] ++ F) tjn hlt hzx) (lw_S q1680 q1681 q129 q1682) (by decide +kernel) (by decide) (by decide) rfl hl rfl (Nat.le_of_ble_eq_true rfl) dX1_hash_52 (by omega) (fun ux ce9 H locs hbx h hce9 hcv9 hcl9 => ?_) (fun _ H locs hb9 h => ?_)
    · have h : Wd D B s (h4C dA ho st fi bl wo u9 ++ ([(dg, bar dA 32 gd)] ++ F)) H locs := h
      subst hQ
      exact thr_out C hex hlocks h ux rfl rfl (by rw [hU0, if_pos]; exact Classical.byContradiction (fun q9 => by rw [hjn] at hbx; exact of_decide_eq_false hbx ⟨fun z => q9 (Or.inl z), fun z => q9 (Or.inr (fun z2 => absurd z (Int32.not_le.mpr z2)))⟩)) rfl hce9 hcv9 hcl9 (by omega) (by omega)
    have hpp : ¬ y9 < 0 ∧ ¬ nI 20 ≤ y9 := of_decide_eq_true (hjn ▸ hb9)
    obtain ⟨k9, hk9, hyk, htk⟩ := i_lt (n := 20) (by omega) hpp.1 (Int32.not_le.mp hpp.2)
    have hU : hshS dc9 (nI 1) y9 = (0, gD (sha1 dc9) k9) := by rw [hU0, if_neg (fun q9 => q9.elim hpp.1 (fun z => z (Int32.not_le.mp hpp.2))), htk]
    refine lv_aload_n hx hb dX1_hash_55 rfl (lv_at hl 0 rfl) ?_
    refine call_U (As := []) (rest := []) (n := 0) C h (c4_begin l D dA B Z hZ ([(dg, bar dA 32 gd)] ++ F) ho st fi bl wo u9.2.2.1 u9.2.2.2.2 u9.1 u9.2.1 (List.mem_append_right _ hfi)) (lw_U q1180 q1182 q1183 q1181 q134 q1185) rfl (by decide +kernel) (o_recv C h (RC := RX4) (T := TX4) (N := 5) (List.mem_of_getElem? (i := 0) rfl) rfl) (by decide) (by decide) rfl hl rfl (Nat.le_of_ble_eq_true rfl) dX1_hash_56 (by omega) (fun _ H locs _ h => ?_)
    have h : Wd D B s ([(ho, .inr (2, [.ref st, .ref fi, .ref bl, .long (lN (([] : List Nat).length)), .ref wo])), (st, war dA 5 (t5 (hs1 ([] : List Nat) (([] : List Nat).length / 64)))), (wo, war dA 80 u9.2.2.1), (bl, bar dA 64 u9.2.2.2.2), (dg, bar dA 32 gd)] ++ F) H locs := h
    obtain ⟨gw, hgw9⟩ : ∃ z, z = u9.2.2.1 := ⟨_, rfl⟩
    obtain ⟨y, hy9⟩ : ∃ z, z = u9.2.2.2.1 := ⟨_, rfl⟩
    obtain ⟨gb, hgb9⟩ : ∃ z, z = u9.2.2.2.2 := ⟨_, rfl⟩
    rw [← hgw9, ← hgb9] at h
    have hbk : Blk gb [] := Blk_nil (by rw [hgb9]; exact hgb0)
    have h : Wd D B s ([(ho, .inr (2, [.ref st, .ref fi, .ref bl, .long (lN (([] : List Nat).length)), .ref wo])), (st, war dA 5 (t5 (hs1 ([] : List Nat) (([] : List Nat).length / 64)))), (wo, war dA 80 gw), (bl, bar dA 64 gb), (dg, bar dA 32 gd)] ++ F) H locs := h
    refine lv_aload_n hx hb dX1_hash_59 rfl (lv_at hl 0 rfl) ?_
    refine lv_aload_n hx hb dX1_hash_60 rfl (lv_at hl 1 rfl) ?_
    refine o_get C h (RC := RX1) (T := TX1) (N := 14) (List.mem_append_right _ hme) rfl in_X1 2 (by decide) q310 rfl (v := .ref dc) rfl dX1_hash_61 ?_
    refine lv_iconst (v := nI 0) hx hb dX1_hash_64 (by decide) ?_
    refine lv_aload_n hx hb dX1_hash_65 rfl (lv_at hl 1 rfl) ?_
    refine o_get C h (RC := RX1) (T := TX1) (N := 14) (List.mem_append_right _ hme) rfl in_X1 2 (by decide) q310 rfl (v := .ref dc) rfl dX1_hash_66 ?_
    refine n_balen C h (List.mem_append_right _ hdc) dX1_hash_69 ?_
    refine call_U (As := [.ref dc, .int (nI 0), .int (nI dc9.length)]) (rest := []) (n := 3) C h (c4_putA l D dA B Z hZ ([(dg, bar dA 32 gd)] ++ F) ho st fi bl wo gw gb (([] : List Nat)) dc (dc9.length) (0) (dc9.length) (gD dc9) hbk (List.mem_append_right _ hdc) (by omega) (by omega) (by omega) (by (try simp only [List.length_append, be_len, sl_len, List.length_cons, List.length_nil]) <;> omega) (fun j _ => byt_gD hdb j)) (lw_U q1231 q1233 q1234 q1232 q134 q1236) rfl (by decide +kernel) (o_recv C h (RC := RX4) (T := TX4) (N := 5) (List.mem_of_getElem? (i := 0) rfl) rfl) (by decide) (by decide) rfl hl rfl (Nat.le_of_ble_eq_true rfl) dX1_hash_70 (by omega) (fun u3 H locs hbk_1 h => ?_)
    obtain ⟨gw_1, y_1, gb_1⟩ := u3
    dsimp only at hbk_1
    have h : Wd D B s ([(ho, .inr (2, [.ref st, .ref fi, .ref bl, .long (lN ((([] : List Nat) ++ sl (gD dc9) 0 (dc9.length - 0)).length)), .ref wo])), (st, war dA 5 (t5 (hs1 (([] : List Nat) ++ sl (gD dc9) 0 (dc9.length - 0)) ((([] : List Nat) ++ sl (gD dc9) 0 (dc9.length - 0)).length / 64)))), (wo, war dA 80 gw_1), (bl, bar dA 64 gb_1), (dg, bar dA 32 gd)] ++ F) H locs := h
    refine lv_aload_n hx hb dX1_hash_73 rfl (lv_at hl 0 rfl) ?_
    refine lv_aload_n hx hb dX1_hash_74 rfl (lv_at hl 1 rfl) ?_
    refine o_get C h (RC := RX1) (T := TX1) (N := 14) (List.mem_append_right _ hme) rfl in_X1 7 (by decide) q315 rfl (v := .ref dg) rfl dX1_hash_75 ?_
    have e9 : ([] : List Nat) ++ sl (gD dc9) 0 (dc9.length - 0) = dc9 := by rw [List.nil_append, Nat.sub_zero, sl_gD]
    rw [e9] at h hbk_1
    have h : Wd D B s ([(ho, .inr (2, [.ref st, .ref fi, .ref bl, .long (lN dc9.length), .ref wo])), (st, war dA 5 (t5 (hs1 dc9 (dc9.length / 64)))), (wo, war dA 80 gw_1), (bl, bar dA 64 gb_1), (dg, bar dA 32 gd)] ++ F) H locs := h
    refine call_U (As := [.ref dg]) (rest := []) (n := 1) C h (c4_end l D dA B Z hZ F ho st fi bl wo gw_1 gb_1 dc9 dg 32 gd hbk_1 (by omega) (by decide) (by decide)) (lw_U q1237 q1239 q1240 q1238 q134 q1242) rfl (by decide +kernel) (o_recv C h (RC := RX4) (T := TX4) (N := 5) (List.mem_of_getElem? (i := 0) rfl) rfl) (by decide) (by decide) rfl hl rfl (Nat.le_of_ble_eq_true rfl) dX1_hash_78 (by omega) (fun u3 H locs hbk_2 h => ?_)
    obtain ⟨gw_2, y_2, gb_2⟩ := u3
    dsimp only at hbk_2
    have h : Wd D B s ([(ho, .inr (2, [.ref st, .ref fi, .ref bl, .long (lN ((padded dc9).length)), .ref wo])), (st, war dA 5 (t5 (hs1 (padded dc9) ((padded dc9).length / 64)))), (wo, war dA 80 gw_2), (bl, bar dA 64 gb_2), (dg, bar dA 32 (mixF 20 (gD (sha1 dc9)) gd))] ++ F) H locs := h
    have hgd9 : ∀ j, (mixF 20 (gD (sha1 dc9)) gd) j < 256 := fun j => by unfold mixF; split; exact byt_gD (sha1_byt _) j; exact hgd0 j
    have hmk : (mixF 20 (gD (sha1 dc9)) gd) k9 = gD (sha1 dc9) k9 := mix_lo hk9
    have hg8 := byt_gD (sha1_byt dc9) k9
    refine lv_aload_n hx hb dX1_hash_81 rfl (lv_at hl 1 rfl) ?_
    refine o_get C h (RC := RX1) (T := TX1) (N := 14) (List.mem_append_right _ hme) rfl in_X1 7 (by decide) q315 rfl (v := .ref dg) rfl dX1_hash_82 ?_
    refine lv_iload_n hx hb dX1_hash_85 rfl (lv_at hl 3 rfl) ?_
    refine n_top (y := nI k9) hyk ?_
    refine n_bald C h (v := (mixF 20 (gD (sha1 dc9)) gd) k9) (List.mem_of_getElem? (i := 4) rfl) (show k9 < 32 by omega) (by decide) rfl dX1_hash_86 ?_
    refine lv_sipush (v := nI 255) hx hb dX1_hash_87 (by decide) ?_
    refine lv_iand hx hb dX1_hash_90 ?_
    refine n_top (y := nI (gD (sha1 dc9) k9)) (by rw [hmk]; exact (sb_byte _ hg8).1) ?_
    subst hQ
    have h : Wd D B s (h4C dA ho st fi bl wo (hs4 (padded dc9) gw_2 gw_2 gb_2) ++ ([(dg, bar dA 32 (mixF 20 (gD (sha1 dc9)) gd))] ++ F)) H locs := h
    refine vy_ret ?_
    exact ret_i C hr hlocks h (hs4 (padded dc9) gw_2 gw_2 gb_2, mixF 20 (gD (sha1 dc9)) gd) (⟨by rw [hU], hgd9, hbk_2.2⟩) (by rw [hU]) rfl (by omega) (by omega) dX1_hash_91
  refine lv_iload_n hx hb dX1_hash_35 rfl (lv_at hl 3 rfl) ?_
  refine lv_if_lt (tgt := 51) hx hb dX1_hash_36 (by decide) (fun c36 => ?_) (fun c36 => ?_)
  · refine lv_iconst (v := nI 0) hx hb dX1_hash_51 (by decide) ?_
    refine n_top (y := bZ false) rfl ?_
    exact jn false _ _ (by symm; exact decide_eq_false (fun q9 => by first | exact q9.1 c36 | exact q9.2 c44)) (by omega) (by omega) _ _ h _ (lv_sub hl [0, 1, 2, 3] rfl)
  · refine lv_iload_n hx hb dX1_hash_39 rfl (lv_at hl 3 rfl) ?_
    refine lv_aload_n hx hb dX1_hash_40 rfl (lv_at hl 0 rfl) ?_
    refine call_U (As := []) (rest := [.int y9]) (n := 0) C h (c4_size l D dA B Z hZ ([(dg, bar dA 32 gd)] ++ F) ho st fi bl wo u9.2.2.1 u9.2.2.2.2 u9.1 u9.2.1) (lw_U q1546 q1248 q1249 q1247 q134 q1251) rfl (by decide +kernel) (o_recv C h (RC := RX4) (T := TX4) (N := 5) (List.mem_of_getElem? (i := 0) rfl) rfl) (by decide) (by decide) rfl hl rfl (Nat.le_of_ble_eq_true rfl) dX1_hash_41 (by omega) (fun _ H locs _ h => ?_)
    have h : Wd D B s ([(ho, .inr (2, [.ref st, .ref fi, .ref bl, .long u9.1, .ref wo])), (st, war dA 5 u9.2.1), (wo, war dA 80 u9.2.2.1), (bl, bar dA 64 u9.2.2.2.2), (dg, bar dA 32 gd)] ++ F) H locs := h
    refine lv_icmp_ge (tgt := 51) hx hb dX1_hash_44 (by decide) (fun c44 => ?_) (fun c44 => ?_)
    · refine lv_iconst (v := nI 0) hx hb dX1_hash_51 (by decide) ?_
      refine n_top (y := bZ false) rfl ?_
      exact jn false _ _ (by symm; exact decide_eq_false (fun q9 => by first | exact q9.1 c36 | exact q9.2 c44)) (by omega) (by omega) _ _ h _ (lv_sub hl [0, 1, 2, 3] rfl)
    · refine lv_iconst (v := nI 1) hx hb dX1_hash_47 (by decide) ?_
      refine lv_goto (tgt := 52) hx hb dX1_hash_48 (by decide) ?_
      refine n_top (y := bZ true) rfl ?_
      exact jn true _ _ ((decide_eq_true ⟨c36, c44⟩).symm) (by omega) (by omega) _ _ h _ (lv_sub hl [0, 1, 2, 3] rfl)
set_option maxHeartbeats 400000 in
set_option maxRecDepth 100000 in
theorem c1_hash5 (l : Launch) (D : va_G) (dA : Nat → ClassId) (B : Nat) (Z : State → Prop) (hZ : Stab B Z) (F : va_W) (ho st fi bl wo ei : Nat) (me bs dc ou rg h1 dg tk pl pk tx sd : Nat) (sz : Nat) (po : Nat) (u9 : HS) (gd : Nat → Nat) (dc9 : List Nat) (y9 : Int32) (hlt : l.stackTraces = false) (hzx : ZX B Z) (hzA : ∀ U : State, Z U → ∃ t, va_Z "SignetRing$Second" "ADD" "[I" (.ref t) (bA B) U U.heap ∧ va_T .int t 64 (fun j => .int (K2 j)) (bA B) U U.heap) (hfi : (fi, war dA 8 in2) ∈ F) (hme : (me, .inr (0, [.ref bs, .int (nI sz), .ref dc, .ref ou, .ref rg, .ref h1, .ref ho, .ref dg, .ref po, .ref tk, .ref pl, .ref pk, .ref tx, .ref sd])) ∈ F) (hdc : (dc, bal dA dc9) ∈ F) (hdb : byt dc9) (hdl : dc9.length ≤ 4096) (hgb0 : ∀ j, j < 64 → u9.2.2.2.2 j < 256) (hgd0 : ∀ j, gd j < 256) :
    CtX (S := HS × (Nat → Nat)) (SX := Nat) l D dA B Z yX1_hash cX1_hash 4 (some .int) 7 2 12 [.ref me, .int (nI 2), .int y9] (h5C dA ho st fi bl wo ei u9 ++ ([(dg, bar dA 32 gd)] ++ F)) (fun u => (hshS dc9 (nI 2) y9).1 = 0 ∧ (∀ j, u.2 j < 256) ∧ ∀ j, j < 64 → u.1.2.2.2.2 j < 256) (fun _ => some (.int (nI (hshS dc9 (nI 2) y9).2))) (fun u => h5C dA ho st fi bl wo ei u.1 ++ ([(dg, bar dA 32 u.2)] ++ F)) (fun _ => (hshS dc9 (nI 2) y9).1 = 2) (fun u => u) (fun _ => "java/lang/IndexOutOfBoundsException") (fun _ => h5C dA ho st fi bl wo ei u9 ++ ([(dg, bar dA 32 gd)] ++ F)) := by
  refine CtX.mk2 (by decide) (Nat.le_of_ble_eq_true rfl) hZ ?_
  intro p e R s m args below meth c ls Q C hr hlocks hin hex hQ hl h
  have C0 := C
  obtain ⟨hx, hb, hml, hown, hts, -⟩ := C0
  have hl : lv_has ls 4 [(0, .ref me), (1, .int (nI 2)), (2, .int y9)] := hl
  have h : Wd D B s ([(ho, .inr (3, [.ref st, .ref fi, .ref bl, .long u9.1, .ref wo, .ref ei])), (st, war dA 8 u9.2.1), (wo, war dA 64 u9.2.2.1), (ei, war dA 8 u9.2.2.2.1), (bl, bar dA 64 u9.2.2.2.2), (dg, bar dA 32 gd)] ++ F) s.heap [] := h
  have hU0 : hshS dc9 (nI 2) y9 = if y9 < 0 ∨ ¬ y9 < nI 32 then (2, 0) else (0, gD (sha2 dc9) y9.toInt.toNat) := by
    unfold hshS
    rw [if_neg (by decide)]
    rw [if_neg (show ¬ nI 2 = nI 1 by decide), if_neg (show ¬ nI 2 = nI 1 by decide)]; rfl
  refine lv_iload_n hx hb dX1_hash_0 rfl (lv_at hl 1 rfl) ?_
  refine lv_iconst (v := nI 1) hx hb dX1_hash_1 (by decide) ?_
  refine n_icmp_eq (tgt := 10) hx hb (by omega) (by omega) dX1_hash_2 (by decide) (fun c2 => by exfalso; omega) (fun c2 => ?_)
  refine lv_iload_n hx hb dX1_hash_5 rfl (lv_at hl 1 rfl) ?_
  refine lv_iconst (v := nI 2) hx hb dX1_hash_6 (by decide) ?_
  refine n_icmp_ne (tgt := 14) hx hb (by omega) (by omega) dX1_hash_7 (by decide) (fun c7 => by exfalso; omega) (fun c7 => ?_)
  refine lv_iconst (v := nI 1) hx hb dX1_hash_10 (by decide) ?_
  refine n_top (y := bZ true) rfl ?_
  refine lv_goto (tgt := 15) hx hb dX1_hash_11 (by decide) ?_
  refine call_SX (As := [.int (bZ true)]) (rest := []) (n := 1) C h (c1_want l D dA B Z hZ ([(ho, .inr (3, [.ref st, .ref fi, .ref bl, .long u9.1, .ref wo, .ref ei])), (st, war dA 8 u9.2.1), (wo, war dA 64 u9.2.2.1), (ei, war dA 8 u9.2.2.2.1), (bl, bar dA 64 u9.2.2.2.2), (dg, bar dA 32 gd)] ++ F) true hlt hzx) (lw_S q1448 q1449 q129 q1450) (by decide +kernel) (by decide) (by decide) rfl hl rfl (Nat.le_of_ble_eq_true rfl) dX1_hash_15 (by omega) (fun ux ce9 H locs hbx8 h hce9 hcv9 hcl9 => ?_) (fun _ H locs hb8 h => ?_)
  · cases hbx8
  refine lv_iload_n hx hb dX1_hash_18 rfl (lv_at hl 1 rfl) ?_
  refine lv_iconst (v := nI 1) hx hb dX1_hash_19 (by decide) ?_
  refine n_icmp_ne (tgt := 30) hx hb (by omega) (by omega) dX1_hash_20 (by decide) (fun c20 => ?_) (fun c20 => by exfalso; omega)
  refine lv_aload_n hx hb dX1_hash_30 rfl (lv_at hl 0 rfl) ?_
  refine o_get C h (RC := RX1) (T := TX1) (N := 14) (List.mem_append_right _ hme) rfl in_X1 6 (by decide) q314 rfl (v := .ref ho) rfl dX1_hash_31 ?_
  refine lv_astore_n (lv' := [(3, .ref ho), (0, .ref me), (1, .int (nI 2)), (2, .int y9)]) hx hb dX1_hash_34 rfl hl (by decide) rfl (fun ls hl => ?_)
  have jn : ∀ (tjn : Bool) (cc cs : Nat), (tjn = decide (¬ y9 < 0 ∧ ¬ nI 32 ≤ y9)) → (cc ≤ 1) → (cs ≤ 6) → ∀ (H : Heap) (locs : List Loc), Wd D B s ([(ho, .inr (3, [.ref st, .ref fi, .ref bl, .long u9.1, .ref wo, .ref ei])), (st, war dA 8 u9.2.1), (wo, war dA 64 u9.2.2.1), (ei, war dA 8 u9.2.2.2.1), (bl, bar dA 64 u9.2.2.2.2), (dg, bar dA 32 gd)] ++ F) H locs → ∀ (ls : Array Slot), lv_has ls 4 [(3, .ref ho), (0, .ref me), (1, .int (nI 2)), (2, .int y9)] → W p l e R s m args below meth c H locs cc cs Q (F0 m 52 ls [.int (bZ tjn)]) := by
    intro tjn  cc cs  hjn hcc hcs H locs h ls hl
    refine call_SX (As := [.int (bZ tjn)]) (rest := []) (n := 1) C h (c1_index l D dA B Z hZ ([(ho, .inr (3, [.ref st, .ref fi, .ref bl, .long u9.1, .ref wo, .ref ei])), (st, war dA 8 u9.2.1), (wo, war dA 64 u9.2.2.1), (ei, war dA 8 u9.2.2.2.1), (bl, bar dA 64 u9.2.2.2.2), (dg, bar dA 32 gd)] ++ F) tjn hlt hzx) (lw_S q1680 q1681 q129 q1682) (by decide +kernel) (by decide) (by decide) rfl hl rfl (Nat.le_of_ble_eq_true rfl) dX1_hash_52 (by omega) (fun ux ce9 H locs hbx h hce9 hcv9 hcl9 => ?_) (fun _ H locs hb9 h => ?_)
    · have h : Wd D B s (h5C dA ho st fi bl wo ei u9 ++ ([(dg, bar dA 32 gd)] ++ F)) H locs := h
      subst hQ
      exact thr_out C hex hlocks h ux rfl rfl (by rw [hU0, if_pos]; exact Classical.byContradiction (fun q9 => by rw [hjn] at hbx; exact of_decide_eq_false hbx ⟨fun z => q9 (Or.inl z), fun z => q9 (Or.inr (fun z2 => absurd z (Int32.not_le.mpr z2)))⟩)) rfl hce9 hcv9 hcl9 (by omega) (by omega)
    have hpp : ¬ y9 < 0 ∧ ¬ nI 32 ≤ y9 := of_decide_eq_true (hjn ▸ hb9)
    obtain ⟨k9, hk9, hyk, htk⟩ := i_lt (n := 32) (by omega) hpp.1 (Int32.not_le.mp hpp.2)
    have hU : hshS dc9 (nI 2) y9 = (0, gD (sha2 dc9) k9) := by rw [hU0, if_neg (fun q9 => q9.elim hpp.1 (fun z => z (Int32.not_le.mp hpp.2))), htk]
    refine lv_aload_n hx hb dX1_hash_55 rfl (lv_at hl 0 rfl) ?_
    refine call_U (As := []) (rest := []) (n := 0) C h (c5_begin l D dA B Z hZ ([(dg, bar dA 32 gd)] ++ F) ho st fi bl wo ei u9.2.2.1 u9.2.2.2.1 u9.2.2.2.2 u9.1 u9.2.1 (List.mem_append_right _ hfi)) (lw_U q1180 q1182 q1184 q1181 q134 q1185) rfl (by decide +kernel) (o_recv C h (RC := RX5) (T := TX5) (N := 6) (List.mem_of_getElem? (i := 0) rfl) rfl) (by decide) (by decide) rfl hl rfl (Nat.le_of_ble_eq_true rfl) dX1_hash_56 (by omega) (fun _ H locs _ h => ?_)
    have h : Wd D B s ([(ho, .inr (3, [.ref st, .ref fi, .ref bl, .long (lN (([] : List Nat).length)), .ref wo, .ref ei])), (st, war dA 8 (hs2 ([] : List Nat) (([] : List Nat).length / 64))), (wo, war dA 64 u9.2.2.1), (ei, war dA 8 u9.2.2.2.1), (bl, bar dA 64 u9.2.2.2.2), (dg, bar dA 32 gd)] ++ F) H locs := h
    obtain ⟨gw, hgw9⟩ : ∃ z, z = u9.2.2.1 := ⟨_, rfl⟩
    obtain ⟨y, hy9⟩ : ∃ z, z = u9.2.2.2.1 := ⟨_, rfl⟩
    obtain ⟨gb, hgb9⟩ : ∃ z, z = u9.2.2.2.2 := ⟨_, rfl⟩
    rw [← hgw9, ← hy9, ← hgb9] at h
    have hbk : Blk gb [] := Blk_nil (by rw [hgb9]; exact hgb0)
    have h : Wd D B s ([(ho, .inr (3, [.ref st, .ref fi, .ref bl, .long (lN (([] : List Nat).length)), .ref wo, .ref ei])), (st, war dA 8 (hs2 ([] : List Nat) (([] : List Nat).length / 64))), (wo, war dA 64 gw), (ei, war dA 8 y), (bl, bar dA 64 gb), (dg, bar dA 32 gd)] ++ F) H locs := h
    refine lv_aload_n hx hb dX1_hash_59 rfl (lv_at hl 0 rfl) ?_
    refine lv_aload_n hx hb dX1_hash_60 rfl (lv_at hl 1 rfl) ?_
    refine o_get C h (RC := RX1) (T := TX1) (N := 14) (List.mem_append_right _ hme) rfl in_X1 2 (by decide) q310 rfl (v := .ref dc) rfl dX1_hash_61 ?_
    refine lv_iconst (v := nI 0) hx hb dX1_hash_64 (by decide) ?_
    refine lv_aload_n hx hb dX1_hash_65 rfl (lv_at hl 1 rfl) ?_
    refine o_get C h (RC := RX1) (T := TX1) (N := 14) (List.mem_append_right _ hme) rfl in_X1 2 (by decide) q310 rfl (v := .ref dc) rfl dX1_hash_66 ?_
    refine n_balen C h (List.mem_append_right _ hdc) dX1_hash_69 ?_
    refine call_U (As := [.ref dc, .int (nI 0), .int (nI dc9.length)]) (rest := []) (n := 3) C h (c5_putA l D dA B Z hZ ([(dg, bar dA 32 gd)] ++ F) ho st fi bl wo ei gw y gb (([] : List Nat)) dc (dc9.length) (0) (dc9.length) (gD dc9) hzA hbk (List.mem_append_right _ hdc) (by omega) (by omega) (by omega) (by (try simp only [List.length_append, be_len, sl_len, List.length_cons, List.length_nil]) <;> omega) (fun j _ => byt_gD hdb j)) (lw_U q1231 q1233 q1235 q1232 q134 q1236) rfl (by decide +kernel) (o_recv C h (RC := RX5) (T := TX5) (N := 6) (List.mem_of_getElem? (i := 0) rfl) rfl) (by decide) (by decide) rfl hl rfl (Nat.le_of_ble_eq_true rfl) dX1_hash_70 (by omega) (fun u3 H locs hbk_1 h => ?_)
    obtain ⟨gw_1, y_1, gb_1⟩ := u3
    dsimp only at hbk_1
    have h : Wd D B s ([(ho, .inr (3, [.ref st, .ref fi, .ref bl, .long (lN ((([] : List Nat) ++ sl (gD dc9) 0 (dc9.length - 0)).length)), .ref wo, .ref ei])), (st, war dA 8 (hs2 (([] : List Nat) ++ sl (gD dc9) 0 (dc9.length - 0)) ((([] : List Nat) ++ sl (gD dc9) 0 (dc9.length - 0)).length / 64))), (wo, war dA 64 gw_1), (ei, war dA 8 y_1), (bl, bar dA 64 gb_1), (dg, bar dA 32 gd)] ++ F) H locs := h
    refine lv_aload_n hx hb dX1_hash_73 rfl (lv_at hl 0 rfl) ?_
    refine lv_aload_n hx hb dX1_hash_74 rfl (lv_at hl 1 rfl) ?_
    refine o_get C h (RC := RX1) (T := TX1) (N := 14) (List.mem_append_right _ hme) rfl in_X1 7 (by decide) q315 rfl (v := .ref dg) rfl dX1_hash_75 ?_
    have e9 : ([] : List Nat) ++ sl (gD dc9) 0 (dc9.length - 0) = dc9 := by rw [List.nil_append, Nat.sub_zero, sl_gD]
    rw [e9] at h hbk_1
    have h : Wd D B s ([(ho, .inr (3, [.ref st, .ref fi, .ref bl, .long (lN dc9.length), .ref wo, .ref ei])), (st, war dA 8 (hs2 dc9 (dc9.length / 64))), (wo, war dA 64 gw_1), (ei, war dA 8 y_1), (bl, bar dA 64 gb_1), (dg, bar dA 32 gd)] ++ F) H locs := h
    refine call_U (As := [.ref dg]) (rest := []) (n := 1) C h (c5_end l D dA B Z hZ F ho st fi bl wo ei gw_1 y_1 gb_1 dc9 dg 32 gd hzA hbk_1 (by omega) (by decide) (by decide)) (lw_U q1237 q1239 q1241 q1238 q134 q1242) rfl (by decide +kernel) (o_recv C h (RC := RX5) (T := TX5) (N := 6) (List.mem_of_getElem? (i := 0) rfl) rfl) (by decide) (by decide) rfl hl rfl (Nat.le_of_ble_eq_true rfl) dX1_hash_78 (by omega) (fun u3 H locs hbk_2 h => ?_)
    obtain ⟨gw_2, y_2, gb_2⟩ := u3
    dsimp only at hbk_2
    have h : Wd D B s ([(ho, .inr (3, [.ref st, .ref fi, .ref bl, .long (lN ((padded dc9).length)), .ref wo, .ref ei])), (st, war dA 8 (hs2 (padded dc9) ((padded dc9).length / 64))), (wo, war dA 64 gw_2), (ei, war dA 8 y_2), (bl, bar dA 64 gb_2), (dg, bar dA 32 (mixF 32 (gD (sha2 dc9)) gd))] ++ F) H locs := h
    have hgd9 : ∀ j, (mixF 32 (gD (sha2 dc9)) gd) j < 256 := fun j => by unfold mixF; split; exact byt_gD (sha2_byt _) j; exact hgd0 j
    have hmk : (mixF 32 (gD (sha2 dc9)) gd) k9 = gD (sha2 dc9) k9 := mix_lo hk9
    have hg8 := byt_gD (sha2_byt dc9) k9
    refine lv_aload_n hx hb dX1_hash_81 rfl (lv_at hl 1 rfl) ?_
    refine o_get C h (RC := RX1) (T := TX1) (N := 14) (List.mem_append_right _ hme) rfl in_X1 7 (by decide) q315 rfl (v := .ref dg) rfl dX1_hash_82 ?_
    refine lv_iload_n hx hb dX1_hash_85 rfl (lv_at hl 3 rfl) ?_
    refine n_top (y := nI k9) hyk ?_
    refine n_bald C h (v := (mixF 32 (gD (sha2 dc9)) gd) k9) (List.mem_of_getElem? (i := 5) rfl) (show k9 < 32 by omega) (by decide) rfl dX1_hash_86 ?_
    refine lv_sipush (v := nI 255) hx hb dX1_hash_87 (by decide) ?_
    refine lv_iand hx hb dX1_hash_90 ?_
    refine n_top (y := nI (gD (sha2 dc9) k9)) (by rw [hmk]; exact (sb_byte _ hg8).1) ?_
    subst hQ
    have h : Wd D B s (h5C dA ho st fi bl wo ei (hs5 (padded dc9) gw_2 y_2 gb_2) ++ ([(dg, bar dA 32 (mixF 32 (gD (sha2 dc9)) gd))] ++ F)) H locs := h
    refine vy_ret ?_
    exact ret_i C hr hlocks h (hs5 (padded dc9) gw_2 y_2 gb_2, mixF 32 (gD (sha2 dc9)) gd) (⟨by rw [hU], hgd9, hbk_2.2⟩) (by rw [hU]) rfl (by omega) (by omega) dX1_hash_91
  refine lv_iload_n hx hb dX1_hash_35 rfl (lv_at hl 3 rfl) ?_
  refine lv_if_lt (tgt := 51) hx hb dX1_hash_36 (by decide) (fun c36 => ?_) (fun c36 => ?_)
  · refine lv_iconst (v := nI 0) hx hb dX1_hash_51 (by decide) ?_
    refine n_top (y := bZ false) rfl ?_
    exact jn false _ _ (by symm; exact decide_eq_false (fun q9 => by first | exact q9.1 c36 | exact q9.2 c44)) (by omega) (by omega) _ _ h _ (lv_sub hl [0, 1, 2, 3] rfl)
  · refine lv_iload_n hx hb dX1_hash_39 rfl (lv_at hl 3 rfl) ?_
    refine lv_aload_n hx hb dX1_hash_40 rfl (lv_at hl 0 rfl) ?_
    refine call_U (As := []) (rest := [.int y9]) (n := 0) C h (c5_size l D dA B Z hZ ([(dg, bar dA 32 gd)] ++ F) ho st fi bl wo ei u9.2.2.1 u9.2.2.2.1 u9.2.2.2.2 u9.1 u9.2.1) (lw_U q1546 q1248 q1250 q1247 q134 q1251) rfl (by decide +kernel) (o_recv C h (RC := RX5) (T := TX5) (N := 6) (List.mem_of_getElem? (i := 0) rfl) rfl) (by decide) (by decide) rfl hl rfl (Nat.le_of_ble_eq_true rfl) dX1_hash_41 (by omega) (fun _ H locs _ h => ?_)
    have h : Wd D B s ([(ho, .inr (3, [.ref st, .ref fi, .ref bl, .long u9.1, .ref wo, .ref ei])), (st, war dA 8 u9.2.1), (wo, war dA 64 u9.2.2.1), (ei, war dA 8 u9.2.2.2.1), (bl, bar dA 64 u9.2.2.2.2), (dg, bar dA 32 gd)] ++ F) H locs := h
    refine lv_icmp_ge (tgt := 51) hx hb dX1_hash_44 (by decide) (fun c44 => ?_) (fun c44 => ?_)
    · refine lv_iconst (v := nI 0) hx hb dX1_hash_51 (by decide) ?_
      refine n_top (y := bZ false) rfl ?_
      exact jn false _ _ (by symm; exact decide_eq_false (fun q9 => by first | exact q9.1 c36 | exact q9.2 c44)) (by omega) (by omega) _ _ h _ (lv_sub hl [0, 1, 2, 3] rfl)
    · refine lv_iconst (v := nI 1) hx hb dX1_hash_47 (by decide) ?_
      refine lv_goto (tgt := 52) hx hb dX1_hash_48 (by decide) ?_
      refine n_top (y := bZ true) rfl ?_
      exact jn true _ _ ((decide_eq_true ⟨c36, c44⟩).symm) (by omega) (by omega) _ _ h _ (lv_sub hl [0, 1, 2, 3] rfl)
set_option maxHeartbeats 400000 in
set_option maxRecDepth 100000 in
theorem c1_hashX (l : Launch) (D : va_G) (dA : Nat → ClassId) (B : Nat) (Z : State → Prop) (hZ : Stab B Z) (F : va_W) (me : Nat) (dc9 : List Nat) (x9 y9 : Int32) (hlt : l.stackTraces = false) (hzx : ZX B Z) (h1 : ¬ x9 = nI 1) (h2 : ¬ x9 = nI 2) :
    CtX (S := Unit) (SX := Nat) l D dA B Z yX1_hash cX1_hash 4 (some .int) 7 1 6 [.ref me, .int x9, .int y9] (F) (fun _ => False) (fun _ => some (.int 0)) (fun _ => F) (fun _ => (hshS dc9 x9 y9).1 = 1) (fun u => u) (fun _ => "java/lang/IllegalArgumentException") (fun _ => F) := by
  refine CtX.mk2 (by decide) (Nat.le_of_ble_eq_true rfl) hZ ?_
  intro p e R s m args below meth c ls Q C hr hlocks hin hex hQ hl h
  have C0 := C
  obtain ⟨hx, hb, hml, hown, hts, -⟩ := C0
  have hl : lv_has ls 4 [(0, .ref me), (1, .int x9), (2, .int y9)] := hl
  refine lv_iload_n hx hb dX1_hash_0 rfl (lv_at hl 1 rfl) ?_
  refine lv_iconst (v := nI 1) hx hb dX1_hash_1 (by decide) ?_
  refine lv_icmp_eq (tgt := 10) hx hb dX1_hash_2 (by decide) (fun c2 => by exfalso; exact h1 c2) (fun c2 => ?_)
  refine lv_iload_n hx hb dX1_hash_5 rfl (lv_at hl 1 rfl) ?_
  refine lv_iconst (v := nI 2) hx hb dX1_hash_6 (by decide) ?_
  refine lv_icmp_ne (tgt := 14) hx hb dX1_hash_7 (by decide) (fun c7 => ?_) (fun c7 => by exfalso; exact h2 c7)
  refine lv_iconst (v := nI 0) hx hb dX1_hash_14 (by decide) ?_
  refine n_top (y := bZ false) rfl ?_
  refine call_SX (As := [.int (bZ false)]) (rest := []) (n := 1) C h (c1_want l D dA B Z hZ F false hlt hzx) (lw_S q1448 q1449 q129 q1450) (by decide +kernel) (by decide) (by decide) rfl hl rfl (Nat.le_of_ble_eq_true rfl) dX1_hash_15 (by omega) (fun ux ce9 H locs hbx8 h hce9 hcv9 hcl9 => ?_) (fun _ H locs hb8 h => ?_)
  · subst hQ
    exact thr_out C hex hlocks h ux rfl rfl (by unfold hshS; rw [if_pos ⟨h1, h2⟩]) rfl hce9 hcv9 hcl9 (by omega) (by omega)
  cases hb8
