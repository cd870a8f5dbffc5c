set_option maxRecDepth 100000
set_option maxHeartbeats 400000 in
set_option maxRecDepth 100000 in
theorem c1_begun4 (l : Launch) (D : va_G) (dA : Nat → ClassId) (B : Nat) (Z : State → Prop) (hZ : Stab B Z) (F : va_W) (ho st fi bl wo : Nat) (me bs dc ou rg h2 dg tk pl pk tx sd : Nat) (sz : Nat) (po : Nat) (u : HS) (x : SL) (hfi : (fi, war dA 5 (t5 in1)) ∈ F) (hme : (me, .inr (0, [.ref bs, .int (nI sz), .ref dc, .ref ou, .ref rg, .ref ho, .ref h2, .ref dg, .ref po, .ref tk, .ref pl, .ref pk, .ref tx, .ref sd])) ∈ F) (hS : SealB dA F x) (hsh : sHash x.2 = 2) :
    Ct (S := Unit) l D dA B Z yX1_begun cX1_begun 3 (some ((.object "SignetRing$Hash"))) 3 0 0 [.ref me, .ref x.1] (h4C dA ho st fi bl wo u ++ F) (fun _ => True) (fun _ => some (.ref ho)) (fun _ => h4C dA ho st fi bl wo (hs4 [] u.2.2.1 u.2.2.2.1 u.2.2.2.2) ++ F) := by
  refine Ct.mk2 (by decide) (Nat.le_of_ble_eq_true rfl) hZ ?_
  intro p e R s m args below meth c ls Q C hr hlocks hin hQ hl h
  have C0 := C
  obtain ⟨hx, hb, hml, hown, hts, -⟩ := C0
  have hl : lv_has ls 3 [(0, .ref me), (1, .ref x.1)] := hl
  have h : Wd D B s ([(ho, .inr (2, [.ref st, .ref fi, .ref bl, .long u.1, .ref wo])), (st, war dA 5 u.2.1), (wo, war dA 80 u.2.2.1), (bl, bar dA 64 u.2.2.2.2)] ++ F) s.heap [] := h
  obtain ⟨tx, ⟨hbbx, hblx, hbox, hb0x⟩, bax, snx, r1x, r2x, r3x, w1x, w2x, w3x, hcex, hbax, hsnx, hr1x, hr2x, hr3x⟩ := hS
  have hsh9 : sHash x.2 < 256 := oneS_lt hbbx _
  refine lv_aload_n hx hb dX1_begun_0 rfl (lv_at hl 1 rfl) ?_
  refine o_get C h (RC := RX17) (T := TX17) (N := 19) (List.mem_append_right _ hcex) rfl in_X17 2 (by decide) q1310 rfl (v := .int (nI (sHash x.2))) rfl dX1_begun_1 ?_
  refine lv_iconst (v := nI 2) hx hb dX1_begun_4 (by decide) ?_
  refine n_icmp_ne (tgt := 15) hx hb (by omega) (by omega) dX1_begun_5 (by decide) (fun c5 => by exfalso; omega) (fun c5 => ?_)
  refine lv_aload_n hx hb dX1_begun_8 rfl (lv_at hl 0 rfl) ?_
  refine o_get C h (RC := RX1) (T := TX1) (N := 14) (List.mem_append_right _ hme) rfl in_X1 5 (by decide) q313 rfl (v := .ref ho) rfl dX1_begun_9 ?_
  refine lv_goto (tgt := 19) hx hb dX1_begun_12 (by decide) ?_
  refine lv_astore_n (lv' := [(2, .ref ho), (0, .ref me), (1, .ref x.1)]) hx hb dX1_begun_19 rfl hl (by decide) rfl (fun ls hl => ?_)
  refine lv_aload_n hx hb dX1_begun_20 rfl (lv_at hl 0 rfl) ?_
  refine call_U (As := []) (rest := []) (n := 0) C h (c4_begin l D dA B Z hZ F ho st fi bl wo u.2.2.1 u.2.2.2.2 u.1 u.2.1 hfi) (lw_U q1180 q1182 q1183 q1181 q134 q1185) rfl (by decide +kernel) (o_recv C h (RC := RX4) (T := TX4) (N := 5) (List.mem_of_getElem? (i := 0) rfl) rfl) (by decide) (by decide) rfl hl rfl (Nat.le_of_ble_eq_true rfl) dX1_begun_21 (by omega) (fun _ H locs _ h => ?_)
  have h : Wd D B s ([(ho, .inr (2, [.ref st, .ref fi, .ref bl, .long (lN (([] : List Nat).length)), .ref wo])), (st, war dA 5 (t5 (hs1 ([] : List Nat) (([] : List Nat).length / 64)))), (wo, war dA 80 u.2.2.1), (bl, bar dA 64 u.2.2.2.2)] ++ F) H locs := h
  refine lv_aload_n hx hb dX1_begun_24 rfl (lv_at hl 0 rfl) ?_
  subst hQ
  have h : Wd D B s (h4C dA ho st fi bl wo (hs4 [] u.2.2.1 u.2.2.2.1 u.2.2.2.2) ++ F) H locs := h
  exact ret_a C hr (Or.inl ⟨_, rfl⟩) hlocks h () trivial (Or.inr ⟨_, rfl⟩) rfl rfl (by omega) (by omega) dX1_begun_25
set_option maxHeartbeats 400000 in
set_option maxRecDepth 100000 in
theorem c1_isTrue4K (l : Launch) (D : va_G) (dA : Nat → ClassId) (B : Nat) (Z : State → Prop) (hZ : Stab B Z) (O G : va_W) (ho st fi bl wo : Nat) (me bs dc ou rg h2 dg tk pl pk tx sd : Nat) (sz : Nat) (po m9 b9 rs pr f1 f2 ka a1 a2 a3 : Nat) (u9 : HS) (gd : Nat → Nat) (ps : PS) (cx : CX) (x : SL) (kn : NBr)  (hfi : (fi, war dA 5 (t5 in1)) ∈ G) (hzf : ZF B f1 f2 Z) (hzn : ZN Z) (hme : (me, .inr (0, [.ref bs, .int (nI sz), .ref dc, .ref ou, .ref rg, .ref ho, .ref h2, .ref dg, .ref po, .ref tk, .ref pl, .ref pk, .ref tx, .ref sd])) ∈ G) (hS : SealT dA cx G x) (hk : (ka, .inr (6, [.ref a1, .ref kn.1, .ref a2, .ref a3])) ∈ G) (hkn : NumIn dA G kn) (hsh : sHash x.2 = 2) (hcx : cx x.1 = (keyMsg kn.2.1, kn.2.1)) (hgb0 : ∀ j, j < 64 → u9.2.2.2.2 j < 256) (hgd0 : ∀ j, gd j < 256) :
    Ct (S := HS × (Nat → Nat) × PS × va_W) l D dA B Z yX1_isTrue_2 cX1_isTrue_2 8 (some .boolean) 8 2 256 [.ref me, .ref x.1, .ref ka, .ref ka, .ref kn.1] (h4C dA ho st fi bl wo u9 ++ ([(dg, bar dA 32 gd)] ++ (pwC dA po m9 b9 rs pr ps ++ (O ++ G)))) (fun u => (∀ j, u.2.1 j < 256) ∧ (∀ j, j < 64 → u.1.2.2.2.2 j < 256) ∧ TR dA cx G u.2.2.2) (fun _ => some (.int (bZ (trueS (keyMsg kn.2.1) x.2 kn.2.1)))) (fun u => h4C dA ho st fi bl wo u.1 ++ ([(dg, bar dA 32 u.2.1)] ++ (pwC dA po m9 b9 rs pr u.2.2.1 ++ (O ++ u.2.2.2)))) := by
  refine Ct.mk2 (by decide) (Nat.le_of_ble_eq_true rfl) hZ ?_
  intro p e R s m args below meth c ls Q C hr hlocks hin hQ hl h
  have C0 := C
  obtain ⟨hx, hb, hml, hown, hts, -⟩ := C0
  have hl : lv_has ls 8 [(0, .ref me), (1, .ref x.1), (2, .ref ka), (3, .ref ka), (4, .ref kn.1)] := hl
  have h : Wd D B s ([(ho, .inr (2, [.ref st, .ref fi, .ref bl, .long u9.1, .ref wo])), (st, war dA 5 u9.2.1), (wo, war dA 80 u9.2.2.1), (bl, bar dA 64 u9.2.2.2.2), (dg, bar dA 32 gd), (po, .inr (4, [.ref m9, .ref b9, .ref rs, .ref pr, .int ps.2.2.2.2.1, .int ps.2.2.2.2.2])), (m9, iar dA 66 ps.1), (b9, iar dA 66 ps.2.1), (rs, iar dA 66 ps.2.2.1), (pr, iar dA 134 ps.2.2.2.1)] ++ (O ++ G)) s.heap [] := h
  have huq : ∀ a e e9, (a, e) ∈ G → (a, e9) ∈ G → e = e9 := fun a e e9 h1 h2 => Wd.uniq h (List.mem_append_right _ (List.mem_append_right _ h1)) (List.mem_append_right _ (List.mem_append_right _ h2))
  obtain ⟨t, hSi, ht⟩ := hS
  rw [hcx] at ht
  dsimp only at ht
  have hSi0 := hSi
  obtain ⟨⟨hbbx, hblx, hbox, hb0x⟩, bax, snx, r1x, r2x, r3x, w1x, w2x, w3x, hcex, hbax, hsnx, hr1x, hr2x, hr3x⟩ := hSi
  have hknL := hkn.1.2.1
  refine lv_aload_n hx hb dX1_isTrue_2_0 rfl (lv_at hl 1 rfl) ?_
  refine o_getN C h (RC := RX17) (T := TX17) (N := 19) (List.mem_append_right _ (List.mem_append_right _ hcex)) rfl in_X17 15 (by decide) q1334 rfl (v := .int t) rfl dX1_isTrue_2_1 ?_
  refine lv_if_eq (tgt := 20) hx hb dX1_isTrue_2_4 (by decide) (fun c4 => ?_) (fun c4 => ?_)
  · refine lv_aload_n hx hb dX1_isTrue_2_20 rfl (lv_at hl 0 rfl) ?_
    refine lv_aload_n hx hb dX1_isTrue_2_21 rfl (lv_at hl 1 rfl) ?_
    refine call_VR (As := [.ref x.1]) (rest := []) (n := 1) C h (c1_begun4 l D dA B Z hZ ([(dg, bar dA 32 gd), (po, .inr (4, [.ref m9, .ref b9, .ref rs, .ref pr, .int ps.2.2.2.2.1, .int ps.2.2.2.2.2])), (m9, iar dA 66 ps.1), (b9, iar dA 66 ps.2.1), (rs, iar dA 66 ps.2.2.1), (pr, iar dA 134 ps.2.2.2.1)] ++ (O ++ G)) ho st fi bl wo me bs dc ou rg h2 dg tk pl pk tx sd sz po u9 x (List.mem_append_right _ (List.mem_append_right _ hfi)) (List.mem_append_right _ (List.mem_append_right _ hme)) ⟨t, hSi0.sub (fun b q hq => List.mem_append_right _ (List.mem_append_right _ hq)) (fun a fs hq => List.mem_append_right _ (List.mem_append_right _ hq))⟩ hsh) (lw_V q1523 q1525 qs20 q129 q1526) (by decide +kernel) (o_recv C h (RC := RX1) (T := TX1) (N := 14) (List.mem_append_right _ (List.mem_append_right _ hme)) rfl) (by decide) (by decide) rfl hl rfl (Nat.le_of_ble_eq_true rfl) dX1_isTrue_2_22 (by omega) (fun _ H locs _ h => ?_)
    obtain ⟨gw, hgw9⟩ : ∃ z, z = u9.2.2.1 := ⟨_, rfl⟩
    obtain ⟨y, hy9⟩ : ∃ z, z = u9.2.2.2.1 := ⟨_, rfl⟩
    obtain ⟨gb, hgb9⟩ : ∃ z, z = u9.2.2.2.2 := ⟨_, rfl⟩
    rw [← hgw9, ← hy9, ← hgb9] at h
    have hbk : Blk gb [] := Blk_nil (by rw [hgb9]; exact hgb0)
    have h : Wd D B s ([(ho, .inr (2, [.ref st, .ref fi, .ref bl, .long (lN (([] : List Nat).length)), .ref wo])), (st, war dA 5 (t5 (hs1 ([] : List Nat) (([] : List Nat).length / 64)))), (wo, war dA 80 gw), (bl, bar dA 64 gb), (dg, bar dA 32 gd), (po, .inr (4, [.ref m9, .ref b9, .ref rs, .ref pr, .int ps.2.2.2.2.1, .int ps.2.2.2.2.2])), (m9, iar dA 66 ps.1), (b9, iar dA 66 ps.2.1), (rs, iar dA 66 ps.2.2.1), (pr, iar dA 134 ps.2.2.2.1)] ++ (O ++ G)) H locs := h
    refine lv_astore (lv' := [(5, .ref ho), (0, .ref me), (1, .ref x.1), (2, .ref ka), (3, .ref ka), (4, .ref kn.1)]) hx hb dX1_isTrue_2_25 hl (by decide) rfl (fun ls hl => ?_)
    refine lv_aload hx hb dX1_isTrue_2_27 (lv_at hl 0 rfl) ?_
    refine lv_aload_n hx hb dX1_isTrue_2_29 rfl (lv_at hl 3 rfl) ?_
    refine o_get C h (RC := RX9) (T := TX9) (N := 4) (List.mem_append_right _ (List.mem_append_right _ hk)) rfl in_X9 1 (by decide) q397 rfl (v := .ref kn.1) rfl dX1_isTrue_2_30 ?_
    refine call_S (As := [.ref ho, .ref kn.1]) (rest := []) (n := 2) C h (c1_putN4 l D dA B Z hZ ([(dg, bar dA 32 gd), (po, .inr (4, [.ref m9, .ref b9, .ref rs, .ref pr, .int ps.2.2.2.2.1, .int ps.2.2.2.2.2])), (m9, iar dA 66 ps.1), (b9, iar dA 66 ps.2.1), (rs, iar dA 66 ps.2.2.1), (pr, iar dA 134 ps.2.2.2.1)] ++ (O ++ G)) ho st fi bl wo gw gb (([] : List Nat)) kn hbk (hkn.sub (fun b q hq => List.mem_append_right _ (List.mem_append_right _ hq)) (fun a fs hq => List.mem_append_right _ (List.mem_append_right _ hq))) (by (try simp only [List.length_append, keyMsg_len, List.length_nil]) <;> omega)) (lw_S q1187 q1188 q129 q1189) (by decide +kernel) (by decide) (by decide) rfl hl rfl (Nat.le_of_ble_eq_true rfl) dX1_isTrue_2_33 (by omega) (fun u3 H locs hbk_1 h => ?_)
    obtain ⟨gw_1, y_1, gb_1⟩ := u3
    dsimp only at hbk_1
    have h : Wd D B s ([(ho, .inr (2, [.ref st, .ref fi, .ref bl, .long (lN ((([] : List Nat) ++ keyMsg kn.2.1).length)), .ref wo])), (st, war dA 5 (t5 (hs1 (([] : List Nat) ++ keyMsg kn.2.1) ((([] : List Nat) ++ keyMsg kn.2.1).length / 64)))), (wo, war dA 80 gw_1), (bl, bar dA 64 gb_1), (dg, bar dA 32 gd), (po, .inr (4, [.ref m9, .ref b9, .ref rs, .ref pr, .int ps.2.2.2.2.1, .int ps.2.2.2.2.2])), (m9, iar dA 66 ps.1), (b9, iar dA 66 ps.2.1), (rs, iar dA 66 ps.2.2.1), (pr, iar dA 134 ps.2.2.2.1)] ++ (O ++ G)) H locs := h
    refine lv_aload_n hx hb dX1_isTrue_2_36 rfl (lv_at hl 4 rfl) ?_
    refine o_instN C h (RC := RX9) (T := TX9) (N := 4) (List.mem_append_right _ (List.mem_append_right _ hk)) rfl q1289 hzn.1 dX1_isTrue_2_37 ?_
    refine z_if_eq (tgt := 90) hx hb dX1_isTrue_2_40 (by decide) (fun _ => ?_) (fun q => by cases q)
    refine lv_aload_n hx hb dX1_isTrue_2_90 rfl (lv_at hl 4 rfl) ?_
    refine o_instN C h (RC := RX9) (T := TX9) (N := 4) (List.mem_append_right _ (List.mem_append_right _ hk)) rfl q1279 hzn.2.1 dX1_isTrue_2_91 ?_
    refine z_if_eq (tgt := 113) hx hb dX1_isTrue_2_94 (by decide) (fun _ => ?_) (fun q => by cases q)
    refine lv_aload_n hx hb dX1_isTrue_2_113 rfl (lv_at hl 1 rfl) ?_
    refine lv_aload_n hx hb dX1_isTrue_2_114 rfl (lv_at hl 2 rfl) ?_
    refine lv_aload hx hb dX1_isTrue_2_115 (lv_at hl 0 rfl) ?_
    refine lv_aload hx hb dX1_isTrue_2_117 (lv_at hl 5 rfl) ?_
    have e9 : ([] : List Nat) ++ keyMsg kn.2.1 = keyMsg kn.2.1 := rfl
    rw [e9] at h hbk_1
    have hml9 : (keyMsg kn.2.1).length < 100000 := by (try simp only [List.length_append, keyMsg_len, be_len, List.length_nil, List.length_cons]) <;> omega
    obtain ⟨mg, hmg⟩ : ∃ z, z = keyMsg kn.2.1 := ⟨_, rfl⟩
    rw [← hmg] at h hbk_1 hml9 ht hcx
    have h : Wd D B s (h4C dA ho st fi bl wo (hs4 mg gw_1 gw_1 gb_1) ++ ([(dg, bar dA 32 gd)] ++ (pwC dA po m9 b9 rs pr ps ++ (O ++ G)))) H locs := h
    refine call_VR (As := [.ref x.1, .ref ho, .ref kn.1]) (rest := []) (n := 3) C h (c1_isTrueH4 l D dA B Z hZ (O ++ G) ho st fi bl wo gw_1 gb_1 mg me bs dc ou rg ho h2 dg tk pl pk tx sd sz po m9 b9 rs pr f1 f2 gd ps x t kn hbk_1 hzf (List.mem_append_right _ hme) (hSi0.sub (fun b q hq => List.mem_append_right _ hq) (fun a fs hq => List.mem_append_right _ hq)) (hkn.sub (fun b q hq => List.mem_append_right _ hq) (fun a fs hq => List.mem_append_right _ hq)) hml9 hgd0 hsh) (lw_V q1538 q1540 qs21 q129 q1541) (by decide +kernel) (o_recv C h (RC := RX1) (T := TX1) (N := 14) (List.mem_append_right _ (List.mem_append_right _ (List.mem_append_right _ (List.mem_append_right _ hme)))) rfl) (by decide) (by decide) rfl hl rfl (Nat.le_of_ble_eq_true rfl) dX1_isTrue_2_119 (by omega) (fun u8 H locs hu8 h => ?_)
    obtain ⟨uh, ug, up, E9⟩ := u8
    obtain ⟨hq1, hq2⟩ := hu8
    dsimp only at hq1 hq2
    obtain ⟨s9, t9, hG⟩ := List.append_of_mem hcex
    have h : Wd D B s (h4C dA ho st fi bl wo uh ++ ([(dg, bar dA 32 ug)] ++ (pwC dA po m9 b9 rs pr up ++ ((O ++ G) ++ E9)))) H locs := h
    rw [hG] at h
    have h : Wd D B s ([(x.1, .inr (14, [.ref bax, .int (nI (sType x.2)), .int (nI (sHash x.2)), .int (nI (sEnd x.2)), .int (nI (sLeft x.2)), .ref snx, .long (oL (sNote x.2).1), .long (lN (sNote x.2).2.1), .long (lN (sNote x.2).2.2.1), va_rf r1x, va_rf r2x, .int (oI (sNote x.2).2.2.2.2.2.2.1), .int (oI (sNote x.2).2.2.2.2.2.2.2.1), va_rf r3x, .int (bZ (sVain x.2)), .int t, .int (bZ w1x), .int (bZ w2x), .int (bZ w3x)]))] ++ (h4C dA ho st fi bl wo uh ++ ([(dg, bar dA 32 ug)] ++ (pwC dA po m9 b9 rs pr up ++ (O ++ ((s9 ++ t9) ++ E9)))))) H locs := h.permL (perm_add (fun g f p0 p1 p2 => by (try simp only [p0, p1, p2]) <;> omega))
    refine lv_istore (lv' := [(6, .int (bZ (trueS mg x.2 kn.2.1))), (5, .ref ho), (0, .ref me), (1, .ref x.1), (2, .ref ka), (3, .ref ka), (4, .ref kn.1)]) hx hb dX1_isTrue_2_122 hl (by decide) rfl (fun ls hl => ?_)
    refine lv_aload_n hx hb dX1_isTrue_2_124 rfl (lv_at hl 3 rfl) ?_
    refine lv_iload hx hb dX1_isTrue_2_125 (lv_at hl 0 rfl) ?_
    refine z_if_eq (tgt := 134) hx hb dX1_isTrue_2_127 (by decide) (fun c127 => ?_) (fun c127 => ?_)
    · refine lv_iconst (v := -1) hx hb dX1_isTrue_2_134 (by decide) ?_
      refine o_putN C h 0 (RC := RX17) (T := TX17) (N := 19) (ws' := [(x.1, .inr (14, [.ref bax, .int (nI (sType x.2)), .int (nI (sHash x.2)), .int (nI (sEnd x.2)), .int (nI (sLeft x.2)), .ref snx, .long (oL (sNote x.2).1), .long (lN (sNote x.2).2.1), .long (lN (sNote x.2).2.2.1), va_rf r1x, va_rf r2x, .int (oI (sNote x.2).2.2.2.2.2.2.1), .int (oI (sNote x.2).2.2.2.2.2.2.2.1), va_rf r3x, .int (bZ (sVain x.2)), .int (-1), .int (bZ w1x), .int (bZ w2x), .int (bZ w3x)]))] ++ (h4C dA ho st fi bl wo uh ++ ([(dg, bar dA 32 ug)] ++ (pwC dA po m9 b9 rs pr up ++ (O ++ ((s9 ++ t9) ++ E9)))))) rfl rfl in_X17 tyX17_ok nmX17 15 (by decide) q1334 rfl rfl (v := .int (-1)) rfl rfl (Nat.le_of_ble_eq_true rfl) rfl dX1_isTrue_2_135 (fun H locs h => ?_)
      refine lv_iload hx hb dX1_isTrue_2_138 (lv_at hl 0 rfl) ?_
      subst hQ
      have h : Wd D B s (h4C dA ho st fi bl wo uh ++ ([(dg, bar dA 32 ug)] ++ (pwC dA po m9 b9 rs pr up ++ (O ++ ((s9 ++ (x.1, .inr (14, [.ref bax, .int (nI (sType x.2)), .int (nI (sHash x.2)), .int (nI (sEnd x.2)), .int (nI (sLeft x.2)), .ref snx, .long (oL (sNote x.2).1), .long (lN (sNote x.2).2.1), .long (lN (sNote x.2).2.2.1), va_rf r1x, va_rf r2x, .int (oI (sNote x.2).2.2.2.2.2.2.1), .int (oI (sNote x.2).2.2.2.2.2.2.2.1), va_rf r3x, .int (bZ (sVain x.2)), .int (-1), .int (bZ w1x), .int (bZ w2x), .int (bZ w3x)])) :: t9) ++ E9))))) H locs := h.permL (perm_add (fun g f p0 p1 p2 => by (try simp only [p0, p1, p2]) <;> omega))
      exact ret_z C hr hlocks h (uh, ug, up, ((s9 ++ (x.1, .inr (14, [.ref bax, .int (nI (sType x.2)), .int (nI (sHash x.2)), .int (nI (sEnd x.2)), .int (nI (sLeft x.2)), .ref snx, .long (oL (sNote x.2).1), .long (lN (sNote x.2).2.1), .long (lN (sNote x.2).2.2.1), va_rf r1x, va_rf r2x, .int (oI (sNote x.2).2.2.2.2.2.2.1), .int (oI (sNote x.2).2.2.2.2.2.2.2.1), va_rf r3x, .int (bZ (sVain x.2)), .int (-1), .int (bZ w1x), .int (bZ w2x), .int (bZ w3x)])) :: t9) ++ E9)) (⟨hq1, hq2, TR.set (v := -1) huq hG hSi0 (by rw [hcx]; show -1 = trI (trueS mg x.2 kn.2.1); rw [c127]; rfl)⟩) (by rw [hmg]) rfl (by omega) (by omega) dX1_isTrue_2_140
    · refine lv_iconst (v := nI 1) hx hb dX1_isTrue_2_130 (by decide) ?_
      refine lv_goto (tgt := 135) hx hb dX1_isTrue_2_131 (by decide) ?_
      refine o_putN C h 0 (RC := RX17) (T := TX17) (N := 19) (ws' := [(x.1, .inr (14, [.ref bax, .int (nI (sType x.2)), .int (nI (sHash x.2)), .int (nI (sEnd x.2)), .int (nI (sLeft x.2)), .ref snx, .long (oL (sNote x.2).1), .long (lN (sNote x.2).2.1), .long (lN (sNote x.2).2.2.1), va_rf r1x, va_rf r2x, .int (oI (sNote x.2).2.2.2.2.2.2.1), .int (oI (sNote x.2).2.2.2.2.2.2.2.1), va_rf r3x, .int (bZ (sVain x.2)), .int (nI 1), .int (bZ w1x), .int (bZ w2x), .int (bZ w3x)]))] ++ (h4C dA ho st fi bl wo uh ++ ([(dg, bar dA 32 ug)] ++ (pwC dA po m9 b9 rs pr up ++ (O ++ ((s9 ++ t9) ++ E9)))))) rfl rfl in_X17 tyX17_ok nmX17 15 (by decide) q1334 rfl rfl (v := .int (nI 1)) rfl rfl (Nat.le_of_ble_eq_true rfl) rfl dX1_isTrue_2_135 (fun H locs h => ?_)
      refine lv_iload hx hb dX1_isTrue_2_138 (lv_at hl 0 rfl) ?_
      subst hQ
      have h : Wd D B s (h4C dA ho st fi bl wo uh ++ ([(dg, bar dA 32 ug)] ++ (pwC dA po m9 b9 rs pr up ++ (O ++ ((s9 ++ (x.1, .inr (14, [.ref bax, .int (nI (sType x.2)), .int (nI (sHash x.2)), .int (nI (sEnd x.2)), .int (nI (sLeft x.2)), .ref snx, .long (oL (sNote x.2).1), .long (lN (sNote x.2).2.1), .long (lN (sNote x.2).2.2.1), va_rf r1x, va_rf r2x, .int (oI (sNote x.2).2.2.2.2.2.2.1), .int (oI (sNote x.2).2.2.2.2.2.2.2.1), va_rf r3x, .int (bZ (sVain x.2)), .int (nI 1), .int (bZ w1x), .int (bZ w2x), .int (bZ w3x)])) :: t9) ++ E9))))) H locs := h.permL (perm_add (fun g f p0 p1 p2 => by (try simp only [p0, p1, p2]) <;> omega))
      exact ret_z C hr hlocks h (uh, ug, up, ((s9 ++ (x.1, .inr (14, [.ref bax, .int (nI (sType x.2)), .int (nI (sHash x.2)), .int (nI (sEnd x.2)), .int (nI (sLeft x.2)), .ref snx, .long (oL (sNote x.2).1), .long (lN (sNote x.2).2.1), .long (lN (sNote x.2).2.2.1), va_rf r1x, va_rf r2x, .int (oI (sNote x.2).2.2.2.2.2.2.1), .int (oI (sNote x.2).2.2.2.2.2.2.2.1), va_rf r3x, .int (bZ (sVain x.2)), .int (nI 1), .int (bZ w1x), .int (bZ w2x), .int (bZ w3x)])) :: t9) ++ E9)) (⟨hq1, hq2, TR.set (v := nI 1) huq hG hSi0 (by rw [hcx]; show nI 1 = trI (trueS mg x.2 kn.2.1); rw [c127]; rfl)⟩) (by rw [hmg]) rfl (by omega) (by omega) dX1_isTrue_2_140
  · refine lv_aload_n hx hb dX1_isTrue_2_7 rfl (lv_at hl 1 rfl) ?_
    refine o_getN C h (RC := RX17) (T := TX17) (N := 19) (List.mem_append_right _ (List.mem_append_right _ hcex)) rfl in_X17 15 (by decide) q1334 rfl (v := .int t) rfl dX1_isTrue_2_8 ?_
    refine lv_if_le (tgt := 18) hx hb dX1_isTrue_2_11 (by decide) (fun c11 => ?_) (fun c11 => ?_)
    · refine lv_iconst (v := nI 0) hx hb dX1_isTrue_2_18 (by decide) ?_
      subst hQ
      have hfin : trueS (keyMsg kn.2.1) x.2 kn.2.1 = false := by
        rcases ht with q | q
        · exact absurd q c4
        · rw [q] at c11
          cases q9 : trueS (keyMsg kn.2.1) x.2 kn.2.1 with
          | true => first | rfl | (rw [q9] at c11; exact absurd c11 (by decide))
          | false => first | rfl | (rw [q9] at c11; exact absurd c11 (by decide))
      refine n_top (y := bZ false) rfl ?_
      exact ret_z C hr hlocks h (u9, gd, ps, G) (⟨hgd0, hgb0, TR.rf⟩) (by rw [hfin]) rfl (by omega) (by omega) dX1_isTrue_2_19
    · refine lv_iconst (v := nI 1) hx hb dX1_isTrue_2_14 (by decide) ?_
      refine lv_goto (tgt := 19) hx hb dX1_isTrue_2_15 (by decide) ?_
      subst hQ
      have hfin : trueS (keyMsg kn.2.1) x.2 kn.2.1 = true := by
        rcases ht with q | q
        · exact absurd q c4
        · rw [q] at c11
          cases q9 : trueS (keyMsg kn.2.1) x.2 kn.2.1 with
          | true => first | rfl | (rw [q9] at c11; exact absurd c11 (by decide))
          | false => first | rfl | (rw [q9] at c11; exact absurd c11 (by decide))
      refine n_top (y := bZ true) rfl ?_
      exact ret_z C hr hlocks h (u9, gd, ps, G) (⟨hgd0, hgb0, TR.rf⟩) (by rw [hfin]) rfl (by omega) (by omega) dX1_isTrue_2_19
set_option maxHeartbeats 400000 in
set_option maxRecDepth 100000 in
theorem c1_isTrue4U (l : Launch) (D : va_G) (dA : Nat → ClassId) (B : Nat) (Z : State → Prop) (hZ : Stab B Z) (O G : va_W) (ho st fi bl wo : Nat) (me bs dc ou rg h2 dg tk pl pk tx sd : Nat) (sz : Nat) (po m9 b9 rs pr f1 f2 ka a1 a2 a3 : Nat) (u9 : HS) (gd : Nat → Nat) (ps : PS) (cx : CX) (x : SL) (kn : NBr) (oa la : Nat) (ub : List Nat)  (hfi : (fi, war dA 5 (t5 in1)) ∈ G) (hzf : ZF B f1 f2 Z) (hzn : ZN Z) (hme : (me, .inr (0, [.ref bs, .int (nI sz), .ref dc, .ref ou, .ref rg, .ref ho, .ref h2, .ref dg, .ref po, .ref tk, .ref pl, .ref pk, .ref tx, .ref sd])) ∈ G) (hS : SealT dA cx G x) (hk : (ka, .inr (6, [.ref a1, .ref kn.1, .ref a2, .ref a3])) ∈ G) (hkn : NumIn dA G kn) (hof : UserIn dA G oa ub la) (hsh : sHash x.2 = 2) (hcx : cx x.1 = (keyMsg kn.2.1 ++ ([180] ++ be 4 ub.length ++ ub), kn.2.1)) (hgb0 : ∀ j, j < 64 → u9.2.2.2.2 j < 256) (hgd0 : ∀ j, gd j < 256) :
    Ct (S := HS × (Nat → Nat) × PS × va_W) l D dA B Z yX1_isTrue_2 cX1_isTrue_2 8 (some .boolean) 8 2 256 [.ref me, .ref x.1, .ref ka, .ref oa, .ref kn.1] (h4C dA ho st fi bl wo u9 ++ ([(dg, bar dA 32 gd)] ++ (pwC dA po m9 b9 rs pr ps ++ (O ++ G)))) (fun u => (∀ j, u.2.1 j < 256) ∧ (∀ j, j < 64 → u.1.2.2.2.2 j < 256) ∧ TR dA cx G u.2.2.2) (fun _ => some (.int (bZ (trueS (keyMsg kn.2.1 ++ ([180] ++ be 4 ub.length ++ ub)) x.2 kn.2.1)))) (fun u => h4C dA ho st fi bl wo u.1 ++ ([(dg, bar dA 32 u.2.1)] ++ (pwC dA po m9 b9 rs pr u.2.2.1 ++ (O ++ u.2.2.2)))) := by
  refine Ct.mk2 (by decide) (Nat.le_of_ble_eq_true rfl) hZ ?_
  intro p e R s m args below meth c ls Q C hr hlocks hin hQ hl h
  have C0 := C
  obtain ⟨hx, hb, hml, hown, hts, -⟩ := C0
  have hl : lv_has ls 8 [(0, .ref me), (1, .ref x.1), (2, .ref ka), (3, .ref oa), (4, .ref kn.1)] := hl
  have h : Wd D B s ([(ho, .inr (2, [.ref st, .ref fi, .ref bl, .long u9.1, .ref wo])), (st, war dA 5 u9.2.1), (wo, war dA 80 u9.2.2.1), (bl, bar dA 64 u9.2.2.2.2), (dg, bar dA 32 gd), (po, .inr (4, [.ref m9, .ref b9, .ref rs, .ref pr, .int ps.2.2.2.2.1, .int ps.2.2.2.2.2])), (m9, iar dA 66 ps.1), (b9, iar dA 66 ps.2.1), (rs, iar dA 66 ps.2.2.1), (pr, iar dA 134 ps.2.2.2.1)] ++ (O ++ G)) s.heap [] := h
  have huq : ∀ a e e9, (a, e) ∈ G → (a, e9) ∈ G → e = e9 := fun a e e9 h1 h2 => Wd.uniq h (List.mem_append_right _ (List.mem_append_right _ h1)) (List.mem_append_right _ (List.mem_append_right _ h2))
  obtain ⟨t, hSi, ht⟩ := hS
  rw [hcx] at ht
  dsimp only at ht
  have hSi0 := hSi
  obtain ⟨⟨hbbx, hblx, hbox, hb0x⟩, bax, snx, r1x, r2x, r3x, w1x, w2x, w3x, hcex, hbax, hsnx, hr1x, hr2x, hr3x⟩ := hSi
  obtain ⟨⟨hub, hul⟩, uba, hcu, hcb⟩ := hof
  have hknL := hkn.1.2.1
  refine lv_aload_n hx hb dX1_isTrue_2_0 rfl (lv_at hl 1 rfl) ?_
  refine o_getN C h (RC := RX17) (T := TX17) (N := 19) (List.mem_append_right _ (List.mem_append_right _ hcex)) rfl in_X17 15 (by decide) q1334 rfl (v := .int t) rfl dX1_isTrue_2_1 ?_
  refine lv_if_eq (tgt := 20) hx hb dX1_isTrue_2_4 (by decide) (fun c4 => ?_) (fun c4 => ?_)
  · refine lv_aload_n hx hb dX1_isTrue_2_20 rfl (lv_at hl 0 rfl) ?_
    refine lv_aload_n hx hb dX1_isTrue_2_21 rfl (lv_at hl 1 rfl) ?_
    refine call_VR (As := [.ref x.1]) (rest := []) (n := 1) C h (c1_begun4 l D dA B Z hZ ([(dg, bar dA 32 gd), (po, .inr (4, [.ref m9, .ref b9, .ref rs, .ref pr, .int ps.2.2.2.2.1, .int ps.2.2.2.2.2])), (m9, iar dA 66 ps.1), (b9, iar dA 66 ps.2.1), (rs, iar dA 66 ps.2.2.1), (pr, iar dA 134 ps.2.2.2.1)] ++ (O ++ G)) ho st fi bl wo me bs dc ou rg h2 dg tk pl pk tx sd sz po u9 x (List.mem_append_right _ (List.mem_append_right _ hfi)) (List.mem_append_right _ (List.mem_append_right _ hme)) ⟨t, hSi0.sub (fun b q hq => List.mem_append_right _ (List.mem_append_right _ hq)) (fun a fs hq => List.mem_append_right _ (List.mem_append_right _ hq))⟩ hsh) (lw_V q1523 q1525 qs20 q129 q1526) (by decide +kernel) (o_recv C h (RC := RX1) (T := TX1) (N := 14) (List.mem_append_right _ (List.mem_append_right _ hme)) rfl) (by decide) (by decide) rfl hl rfl (Nat.le_of_ble_eq_true rfl) dX1_isTrue_2_22 (by omega) (fun _ H locs _ h => ?_)
    obtain ⟨gw, hgw9⟩ : ∃ z, z = u9.2.2.1 := ⟨_, rfl⟩
    obtain ⟨y, hy9⟩ : ∃ z, z = u9.2.2.2.1 := ⟨_, rfl⟩
    obtain ⟨gb, hgb9⟩ : ∃ z, z = u9.2.2.2.2 := ⟨_, rfl⟩
    rw [← hgw9, ← hy9, ← hgb9] at h
    have hbk : Blk gb [] := Blk_nil (by rw [hgb9]; exact hgb0)
    have h : Wd D B s ([(ho, .inr (2, [.ref st, .ref fi, .ref bl, .long (lN (([] : List Nat).length)), .ref wo])), (st, war dA 5 (t5 (hs1 ([] : List Nat) (([] : List Nat).length / 64)))), (wo, war dA 80 gw), (bl, bar dA 64 gb), (dg, bar dA 32 gd), (po, .inr (4, [.ref m9, .ref b9, .ref rs, .ref pr, .int ps.2.2.2.2.1, .int ps.2.2.2.2.2])), (m9, iar dA 66 ps.1), (b9, iar dA 66 ps.2.1), (rs, iar dA 66 ps.2.2.1), (pr, iar dA 134 ps.2.2.2.1)] ++ (O ++ G)) H locs := h
    refine lv_astore (lv' := [(5, .ref ho), (0, .ref me), (1, .ref x.1), (2, .ref ka), (3, .ref oa), (4, .ref kn.1)]) hx hb dX1_isTrue_2_25 hl (by decide) rfl (fun ls hl => ?_)
    refine lv_aload hx hb dX1_isTrue_2_27 (lv_at hl 0 rfl) ?_
    refine lv_aload_n hx hb dX1_isTrue_2_29 rfl (lv_at hl 3 rfl) ?_
    refine o_get C h (RC := RX9) (T := TX9) (N := 4) (List.mem_append_right _ (List.mem_append_right _ hk)) rfl in_X9 1 (by decide) q397 rfl (v := .ref kn.1) rfl dX1_isTrue_2_30 ?_
    refine call_S (As := [.ref ho, .ref kn.1]) (rest := []) (n := 2) C h (c1_putN4 l D dA B Z hZ ([(dg, bar dA 32 gd), (po, .inr (4, [.ref m9, .ref b9, .ref rs, .ref pr, .int ps.2.2.2.2.1, .int ps.2.2.2.2.2])), (m9, iar dA 66 ps.1), (b9, iar dA 66 ps.2.1), (rs, iar dA 66 ps.2.2.1), (pr, iar dA 134 ps.2.2.2.1)] ++ (O ++ G)) ho st fi bl wo gw gb (([] : List Nat)) kn hbk (hkn.sub (fun b q hq => List.mem_append_right _ (List.mem_append_right _ hq)) (fun a fs hq => List.mem_append_right _ (List.mem_append_right _ hq))) (by (try simp only [List.length_append, keyMsg_len, List.length_nil]) <;> omega)) (lw_S q1187 q1188 q129 q1189) (by decide +kernel) (by decide) (by decide) rfl hl rfl (Nat.le_of_ble_eq_true rfl) dX1_isTrue_2_33 (by omega) (fun u3 H locs hbk_1 h => ?_)
    obtain ⟨gw_1, y_1, gb_1⟩ := u3
    dsimp only at hbk_1
    have h : Wd D B s ([(ho, .inr (2, [.ref st, .ref fi, .ref bl, .long (lN ((([] : List Nat) ++ keyMsg kn.2.1).length)), .ref wo])), (st, war dA 5 (t5 (hs1 (([] : List Nat) ++ keyMsg kn.2.1) ((([] : List Nat) ++ keyMsg kn.2.1).length / 64)))), (wo, war dA 80 gw_1), (bl, bar dA 64 gb_1), (dg, bar dA 32 gd), (po, .inr (4, [.ref m9, .ref b9, .ref rs, .ref pr, .int ps.2.2.2.2.1, .int ps.2.2.2.2.2])), (m9, iar dA 66 ps.1), (b9, iar dA 66 ps.2.1), (rs, iar dA 66 ps.2.2.1), (pr, iar dA 134 ps.2.2.2.1)] ++ (O ++ G)) H locs := h
    refine lv_aload_n hx hb dX1_isTrue_2_36 rfl (lv_at hl 4 rfl) ?_
    refine o_instS C h (RC := RX10) (T := TX10) (N := 2) (List.mem_append_right _ (List.mem_append_right _ hcu)) rfl q1289 dX1_isTrue_2_37 ?_
    refine z_if_eq (tgt := 90) hx hb dX1_isTrue_2_40 (by decide) (fun q => by cases q) (fun _ => ?_)
    refine lv_aload_n hx hb dX1_isTrue_2_43 rfl (lv_at hl 4 rfl) ?_
    refine o_cast C h (RC := RX10) (T := TX10) (N := 2) (List.mem_append_right _ (List.mem_append_right _ hcu)) rfl q1289 dX1_isTrue_2_44 ?_
    refine lv_astore (lv' := [(6, .ref oa), (5, .ref ho), (0, .ref me), (1, .ref x.1), (2, .ref ka), (3, .ref oa), (4, .ref kn.1)]) hx hb dX1_isTrue_2_47 hl (by decide) rfl (fun ls hl => ?_)
    refine lv_aload hx hb dX1_isTrue_2_49 (lv_at hl 1 rfl) ?_
    refine lv_sipush (v := nI 180) hx hb dX1_isTrue_2_51 (by decide) ?_
    refine call_U (As := [.int (nI 180)]) (rest := []) (n := 1) C h (c4_put l D dA B Z hZ ([(dg, bar dA 32 gd), (po, .inr (4, [.ref m9, .ref b9, .ref rs, .ref pr, .int ps.2.2.2.2.1, .int ps.2.2.2.2.2])), (m9, iar dA 66 ps.1), (b9, iar dA 66 ps.2.1), (rs, iar dA 66 ps.2.2.1), (pr, iar dA 134 ps.2.2.2.1)] ++ (O ++ G)) ho st fi bl wo gw_1 gb_1 (([] : List Nat) ++ keyMsg kn.2.1) (nI 180) (180) hbk_1 (by simp only [List.length_append, keyMsg_len, be_len, List.length_nil, List.length_cons]; omega) (by decide) (by decide)) (lw_U q1190 q1192 q1193 q1191 q134 q1195) rfl (by decide +kernel) (o_recv C h (RC := RX4) (T := TX4) (N := 5) (List.mem_of_getElem? (i := 0) rfl) rfl) (by decide) (by decide) rfl hl rfl (Nat.le_of_ble_eq_true rfl) dX1_isTrue_2_54 (by omega) (fun u3 H locs hbk_2 h => ?_)
    obtain ⟨gw_2, y_2, gb_2⟩ := u3
    dsimp only at hbk_2
    have h : Wd D B s ([(ho, .inr (2, [.ref st, .ref fi, .ref bl, .long (lN ((([] : List Nat) ++ keyMsg kn.2.1 ++ [180]).length)), .ref wo])), (st, war dA 5 (t5 (hs1 (([] : List Nat) ++ keyMsg kn.2.1 ++ [180]) ((([] : List Nat) ++ keyMsg kn.2.1 ++ [180]).length / 64)))), (wo, war dA 80 gw_2), (bl, bar dA 64 gb_2), (dg, bar dA 32 gd), (po, .inr (4, [.ref m9, .ref b9, .ref rs, .ref pr, .int ps.2.2.2.2.1, .int ps.2.2.2.2.2])), (m9, iar dA 66 ps.1), (b9, iar dA 66 ps.2.1), (rs, iar dA 66 ps.2.2.1), (pr, iar dA 134 ps.2.2.2.1)] ++ (O ++ G)) H locs := h
    refine lv_aload hx hb dX1_isTrue_2_57 (lv_at hl 1 rfl) ?_
    refine lv_aload hx hb dX1_isTrue_2_59 (lv_at hl 0 rfl) ?_
    refine o_get C h (RC := RX10) (T := TX10) (N := 2) (List.mem_append_right _ (List.mem_append_right _ hcu)) rfl in_X10 1 (by decide) q511 rfl (v := .ref uba) rfl dX1_isTrue_2_61 ?_
    refine n_balen C h (List.mem_append_right _ (List.mem_append_right _ hcb)) dX1_isTrue_2_64 ?_
    refine lv_i2l (v := lN ub.length) hx hb dX1_isTrue_2_65 (nI_l (by omega)) ?_
    refine lv_iconst (v := nI 4) hx hb dX1_isTrue_2_66 (by decide) ?_
    refine call_U (As := [.long (lN ub.length), .int (nI 4)]) (rest := []) (n := 2) C h (c4_number l D dA B Z hZ ([(dg, bar dA 32 gd), (po, .inr (4, [.ref m9, .ref b9, .ref rs, .ref pr, .int ps.2.2.2.2.1, .int ps.2.2.2.2.2])), (m9, iar dA 66 ps.1), (b9, iar dA 66 ps.2.1), (rs, iar dA 66 ps.2.2.1), (pr, iar dA 134 ps.2.2.2.1)] ++ (O ++ G)) ho st fi bl wo gw_2 gb_2 (([] : List Nat) ++ keyMsg kn.2.1 ++ [180]) (ub.length) 4 hbk_2 (by omega) (by decide) (by simp only [List.length_append, keyMsg_len, be_len, List.length_nil, List.length_cons]; omega)) (lw_U q1224 q1226 q1227 q1225 q134 q1229) rfl (by decide +kernel) (o_recv C h (RC := RX4) (T := TX4) (N := 5) (List.mem_of_getElem? (i := 0) rfl) rfl) (by decide) (by decide) rfl hl rfl (Nat.le_of_ble_eq_true rfl) dX1_isTrue_2_67 (by omega) (fun u3 H locs hbk_3 h => ?_)
    obtain ⟨gw_3, y_3, gb_3⟩ := u3
    dsimp only at hbk_3
    have h : Wd D B s ([(ho, .inr (2, [.ref st, .ref fi, .ref bl, .long (lN ((([] : List Nat) ++ keyMsg kn.2.1 ++ [180] ++ be 4 ub.length).length)), .ref wo])), (st, war dA 5 (t5 (hs1 (([] : List Nat) ++ keyMsg kn.2.1 ++ [180] ++ be 4 ub.length) ((([] : List Nat) ++ keyMsg kn.2.1 ++ [180] ++ be 4 ub.length).length / 64)))), (wo, war dA 80 gw_3), (bl, bar dA 64 gb_3), (dg, bar dA 32 gd), (po, .inr (4, [.ref m9, .ref b9, .ref rs, .ref pr, .int ps.2.2.2.2.1, .int ps.2.2.2.2.2])), (m9, iar dA 66 ps.1), (b9, iar dA 66 ps.2.1), (rs, iar dA 66 ps.2.2.1), (pr, iar dA 134 ps.2.2.2.1)] ++ (O ++ G)) H locs := h
    refine lv_aload hx hb dX1_isTrue_2_70 (lv_at hl 1 rfl) ?_
    refine lv_aload hx hb dX1_isTrue_2_72 (lv_at hl 0 rfl) ?_
    refine o_get C h (RC := RX10) (T := TX10) (N := 2) (List.mem_append_right _ (List.mem_append_right _ hcu)) rfl in_X10 1 (by decide) q511 rfl (v := .ref uba) rfl dX1_isTrue_2_74 ?_
    refine lv_iconst (v := nI 0) hx hb dX1_isTrue_2_77 (by decide) ?_
    refine lv_aload hx hb dX1_isTrue_2_78 (lv_at hl 0 rfl) ?_
    refine o_get C h (RC := RX10) (T := TX10) (N := 2) (List.mem_append_right _ (List.mem_append_right _ hcu)) rfl in_X10 1 (by decide) q511 rfl (v := .ref uba) rfl dX1_isTrue_2_80 ?_
    refine n_balen C h (List.mem_append_right _ (List.mem_append_right _ hcb)) dX1_isTrue_2_83 ?_
    refine call_U (As := [.ref uba, .int (nI 0), .int (nI ub.length)]) (rest := []) (n := 3) C h (c4_putA l D dA B Z hZ ([(dg, bar dA 32 gd), (po, .inr (4, [.ref m9, .ref b9, .ref rs, .ref pr, .int ps.2.2.2.2.1, .int ps.2.2.2.2.2])), (m9, iar dA 66 ps.1), (b9, iar dA 66 ps.2.1), (rs, iar dA 66 ps.2.2.1), (pr, iar dA 134 ps.2.2.2.1)] ++ (O ++ G)) ho st fi bl wo gw_3 gb_3 (([] : List Nat) ++ keyMsg kn.2.1 ++ [180] ++ be 4 ub.length) uba (ub.length) (0) (ub.length) (gD ub) hbk_3 (List.mem_append_right _ (List.mem_append_right _ hcb)) (by omega) (by omega) (by omega) (by simp only [List.length_append, keyMsg_len, be_len, List.length_nil, List.length_cons]; omega) (fun j _ => byt_gD hub j)) (lw_U q1231 q1233 q1234 q1232 q134 q1236) rfl (by decide +kernel) (o_recv C h (RC := RX4) (T := TX4) (N := 5) (List.mem_of_getElem? (i := 0) rfl) rfl) (by decide) (by decide) rfl hl rfl (Nat.le_of_ble_eq_true rfl) dX1_isTrue_2_84 (by omega) (fun u3 H locs hbk_4 h => ?_)
    obtain ⟨gw_4, y_4, gb_4⟩ := u3
    dsimp only at hbk_4
    have h : Wd D B s ([(ho, .inr (2, [.ref st, .ref fi, .ref bl, .long (lN ((([] : List Nat) ++ keyMsg kn.2.1 ++ [180] ++ be 4 ub.length ++ sl (gD ub) 0 (ub.length - 0)).length)), .ref wo])), (st, war dA 5 (t5 (hs1 (([] : List Nat) ++ keyMsg kn.2.1 ++ [180] ++ be 4 ub.length ++ sl (gD ub) 0 (ub.length - 0)) ((([] : List Nat) ++ keyMsg kn.2.1 ++ [180] ++ be 4 ub.length ++ sl (gD ub) 0 (ub.length - 0)).length / 64)))), (wo, war dA 80 gw_4), (bl, bar dA 64 gb_4), (dg, bar dA 32 gd), (po, .inr (4, [.ref m9, .ref b9, .ref rs, .ref pr, .int ps.2.2.2.2.1, .int ps.2.2.2.2.2])), (m9, iar dA 66 ps.1), (b9, iar dA 66 ps.2.1), (rs, iar dA 66 ps.2.2.1), (pr, iar dA 134 ps.2.2.2.1)] ++ (O ++ G)) H locs := h
    refine lv_goto (tgt := 113) hx hb dX1_isTrue_2_87 (by decide) ?_
    refine lv_aload_n hx hb dX1_isTrue_2_113 rfl (lv_at hl 2 rfl) ?_
    refine lv_aload_n hx hb dX1_isTrue_2_114 rfl (lv_at hl 3 rfl) ?_
    refine lv_aload hx hb dX1_isTrue_2_115 (lv_at hl 1 rfl) ?_
    refine lv_aload hx hb dX1_isTrue_2_117 (lv_at hl 6 rfl) ?_
    have e9 : ([] : List Nat) ++ keyMsg kn.2.1 ++ [180] ++ be 4 ub.length ++ sl (gD ub) 0 (ub.length - 0) = keyMsg kn.2.1 ++ ([180] ++ be 4 ub.length ++ ub) := by rw [Nat.sub_zero, sl_gD]; simp
    rw [e9] at h hbk_4
    have hml9 : (keyMsg kn.2.1 ++ ([180] ++ be 4 ub.length ++ ub)).length < 100000 := by (try simp only [List.length_append, keyMsg_len, be_len, List.length_nil, List.length_cons]) <;> omega
    obtain ⟨mg, hmg⟩ : ∃ z, z = keyMsg kn.2.1 ++ ([180] ++ be 4 ub.length ++ ub) := ⟨_, rfl⟩
    rw [← hmg] at h hbk_4 hml9 ht hcx
    have h : Wd D B s (h4C dA ho st fi bl wo (hs4 mg gw_4 gw_4 gb_4) ++ ([(dg, bar dA 32 gd)] ++ (pwC dA po m9 b9 rs pr ps ++ (O ++ G)))) H locs := h
    refine call_VR (As := [.ref x.1, .ref ho, .ref kn.1]) (rest := []) (n := 3) C h (c1_isTrueH4 l D dA B Z hZ (O ++ G) ho st fi bl wo gw_4 gb_4 mg me bs dc ou rg ho h2 dg tk pl pk tx sd sz po m9 b9 rs pr f1 f2 gd ps x t kn hbk_4 hzf (List.mem_append_right _ hme) (hSi0.sub (fun b q hq => List.mem_append_right _ hq) (fun a fs hq => List.mem_append_right _ hq)) (hkn.sub (fun b q hq => List.mem_append_right _ hq) (fun a fs hq => List.mem_append_right _ hq)) hml9 hgd0 hsh) (lw_V q1538 q1540 qs21 q129 q1541) (by decide +kernel) (o_recv C h (RC := RX1) (T := TX1) (N := 14) (List.mem_append_right _ (List.mem_append_right _ (List.mem_append_right _ (List.mem_append_right _ hme)))) rfl) (by decide) (by decide) rfl hl rfl (Nat.le_of_ble_eq_true rfl) dX1_isTrue_2_119 (by omega) (fun u8 H locs hu8 h => ?_)
    obtain ⟨uh, ug, up, E9⟩ := u8
    obtain ⟨hq1, hq2⟩ := hu8
    dsimp only at hq1 hq2
    obtain ⟨s9, t9, hG⟩ := List.append_of_mem hcex
    have h : Wd D B s (h4C dA ho st fi bl wo uh ++ ([(dg, bar dA 32 ug)] ++ (pwC dA po m9 b9 rs pr up ++ ((O ++ G) ++ E9)))) H locs := h
    rw [hG] at h
    have h : Wd D B s ([(x.1, .inr (14, [.ref bax, .int (nI (sType x.2)), .int (nI (sHash x.2)), .int (nI (sEnd x.2)), .int (nI (sLeft x.2)), .ref snx, .long (oL (sNote x.2).1), .long (lN (sNote x.2).2.1), .long (lN (sNote x.2).2.2.1), va_rf r1x, va_rf r2x, .int (oI (sNote x.2).2.2.2.2.2.2.1), .int (oI (sNote x.2).2.2.2.2.2.2.2.1), va_rf r3x, .int (bZ (sVain x.2)), .int t, .int (bZ w1x), .int (bZ w2x), .int (bZ w3x)]))] ++ (h4C dA ho st fi bl wo uh ++ ([(dg, bar dA 32 ug)] ++ (pwC dA po m9 b9 rs pr up ++ (O ++ ((s9 ++ t9) ++ E9)))))) H locs := h.permL (perm_add (fun g f p0 p1 p2 => by (try simp only [p0, p1, p2]) <;> omega))
    refine lv_istore (lv' := [(6, .int (bZ (trueS mg x.2 kn.2.1))), (5, .ref ho), (0, .ref me), (1, .ref x.1), (2, .ref ka), (3, .ref oa), (4, .ref kn.1)]) hx hb dX1_isTrue_2_122 hl (by decide) rfl (fun ls hl => ?_)
    refine lv_aload_n hx hb dX1_isTrue_2_124 rfl (lv_at hl 3 rfl) ?_
    refine lv_iload hx hb dX1_isTrue_2_125 (lv_at hl 0 rfl) ?_
    refine z_if_eq (tgt := 134) hx hb dX1_isTrue_2_127 (by decide) (fun c127 => ?_) (fun c127 => ?_)
    · refine lv_iconst (v := -1) hx hb dX1_isTrue_2_134 (by decide) ?_
      refine o_putN C h 0 (RC := RX17) (T := TX17) (N := 19) (ws' := [(x.1, .inr (14, [.ref bax, .int (nI (sType x.2)), .int (nI (sHash x.2)), .int (nI (sEnd x.2)), .int (nI (sLeft x.2)), .ref snx, .long (oL (sNote x.2).1), .long (lN (sNote x.2).2.1), .long (lN (sNote x.2).2.2.1), va_rf r1x, va_rf r2x, .int (oI (sNote x.2).2.2.2.2.2.2.1), .int (oI (sNote x.2).2.2.2.2.2.2.2.1), va_rf r3x, .int (bZ (sVain x.2)), .int (-1), .int (bZ w1x), .int (bZ w2x), .int (bZ w3x)]))] ++ (h4C dA ho st fi bl wo uh ++ ([(dg, bar dA 32 ug)] ++ (pwC dA po m9 b9 rs pr up ++ (O ++ ((s9 ++ t9) ++ E9)))))) rfl rfl in_X17 tyX17_ok nmX17 15 (by decide) q1334 rfl rfl (v := .int (-1)) rfl rfl (Nat.le_of_ble_eq_true rfl) rfl dX1_isTrue_2_135 (fun H locs h => ?_)
      refine lv_iload hx hb dX1_isTrue_2_138 (lv_at hl 0 rfl) ?_
      subst hQ
      have h : Wd D B s (h4C dA ho st fi bl wo uh ++ ([(dg, bar dA 32 ug)] ++ (pwC dA po m9 b9 rs pr up ++ (O ++ ((s9 ++ (x.1, .inr (14, [.ref bax, .int (nI (sType x.2)), .int (nI (sHash x.2)), .int (nI (sEnd x.2)), .int (nI (sLeft x.2)), .ref snx, .long (oL (sNote x.2).1), .long (lN (sNote x.2).2.1), .long (lN (sNote x.2).2.2.1), va_rf r1x, va_rf r2x, .int (oI (sNote x.2).2.2.2.2.2.2.1), .int (oI (sNote x.2).2.2.2.2.2.2.2.1), va_rf r3x, .int (bZ (sVain x.2)), .int (-1), .int (bZ w1x), .int (bZ w2x), .int (bZ w3x)])) :: t9) ++ E9))))) H locs := h.permL (perm_add (fun g f p0 p1 p2 => by (try simp only [p0, p1, p2]) <;> omega))
      exact ret_z C hr hlocks h (uh, ug, up, ((s9 ++ (x.1, .inr (14, [.ref bax, .int (nI (sType x.2)), .int (nI (sHash x.2)), .int (nI (sEnd x.2)), .int (nI (sLeft x.2)), .ref snx, .long (oL (sNote x.2).1), .long (lN (sNote x.2).2.1), .long (lN (sNote x.2).2.2.1), va_rf r1x, va_rf r2x, .int (oI (sNote x.2).2.2.2.2.2.2.1), .int (oI (sNote x.2).2.2.2.2.2.2.2.1), va_rf r3x, .int (bZ (sVain x.2)), .int (-1), .int (bZ w1x), .int (bZ w2x), .int (bZ w3x)])) :: t9) ++ E9)) (⟨hq1, hq2, TR.set (v := -1) huq hG hSi0 (by rw [hcx]; show -1 = trI (trueS mg x.2 kn.2.1); rw [c127]; rfl)⟩) (by rw [hmg]) rfl (by omega) (by omega) dX1_isTrue_2_140
    · refine lv_iconst (v := nI 1) hx hb dX1_isTrue_2_130 (by decide) ?_
      refine lv_goto (tgt := 135) hx hb dX1_isTrue_2_131 (by decide) ?_
      refine o_putN C h 0 (RC := RX17) (T := TX17) (N := 19) (ws' := [(x.1, .inr (14, [.ref bax, .int (nI (sType x.2)), .int (nI (sHash x.2)), .int (nI (sEnd x.2)), .int (nI (sLeft x.2)), .ref snx, .long (oL (sNote x.2).1), .long (lN (sNote x.2).2.1), .long (lN (sNote x.2).2.2.1), va_rf r1x, va_rf r2x, .int (oI (sNote x.2).2.2.2.2.2.2.1), .int (oI (sNote x.2).2.2.2.2.2.2.2.1), va_rf r3x, .int (bZ (sVain x.2)), .int (nI 1), .int (bZ w1x), .int (bZ w2x), .int (bZ w3x)]))] ++ (h4C dA ho st fi bl wo uh ++ ([(dg, bar dA 32 ug)] ++ (pwC dA po m9 b9 rs pr up ++ (O ++ ((s9 ++ t9) ++ E9)))))) rfl rfl in_X17 tyX17_ok nmX17 15 (by decide) q1334 rfl rfl (v := .int (nI 1)) rfl rfl (Nat.le_of_ble_eq_true rfl) rfl dX1_isTrue_2_135 (fun H locs h => ?_)
      refine lv_iload hx hb dX1_isTrue_2_138 (lv_at hl 0 rfl) ?_
      subst hQ
      have h : Wd D B s (h4C dA ho st fi bl wo uh ++ ([(dg, bar dA 32 ug)] ++ (pwC dA po m9 b9 rs pr up ++ (O ++ ((s9 ++ (x.1, .inr (14, [.ref bax, .int (nI (sType x.2)), .int (nI (sHash x.2)), .int (nI (sEnd x.2)), .int (nI (sLeft x.2)), .ref snx, .long (oL (sNote x.2).1), .long (lN (sNote x.2).2.1), .long (lN (sNote x.2).2.2.1), va_rf r1x, va_rf r2x, .int (oI (sNote x.2).2.2.2.2.2.2.1), .int (oI (sNote x.2).2.2.2.2.2.2.2.1), va_rf r3x, .int (bZ (sVain x.2)), .int (nI 1), .int (bZ w1x), .int (bZ w2x), .int (bZ w3x)])) :: t9) ++ E9))))) H locs := h.permL (perm_add (fun g f p0 p1 p2 => by (try simp only [p0, p1, p2]) <;> omega))
      exact ret_z C hr hlocks h (uh, ug, up, ((s9 ++ (x.1, .inr (14, [.ref bax, .int (nI (sType x.2)), .int (nI (sHash x.2)), .int (nI (sEnd x.2)), .int (nI (sLeft x.2)), .ref snx, .long (oL (sNote x.2).1), .long (lN (sNote x.2).2.1), .long (lN (sNote x.2).2.2.1), va_rf r1x, va_rf r2x, .int (oI (sNote x.2).2.2.2.2.2.2.1), .int (oI (sNote x.2).2.2.2.2.2.2.2.1), va_rf r3x, .int (bZ (sVain x.2)), .int (nI 1), .int (bZ w1x), .int (bZ w2x), .int (bZ w3x)])) :: t9) ++ E9)) (⟨hq1, hq2, TR.set (v := nI 1) huq hG hSi0 (by rw [hcx]; show nI 1 = trI (trueS mg x.2 kn.2.1); rw [c127]; rfl)⟩) (by rw [hmg]) rfl (by omega) (by omega) dX1_isTrue_2_140
  · refine lv_aload_n hx hb dX1_isTrue_2_7 rfl (lv_at hl 1 rfl) ?_
    refine o_getN C h (RC := RX17) (T := TX17) (N := 19) (List.mem_append_right _ (List.mem_append_right _ hcex)) rfl in_X17 15 (by decide) q1334 rfl (v := .int t) rfl dX1_isTrue_2_8 ?_
    refine lv_if_le (tgt := 18) hx hb dX1_isTrue_2_11 (by decide) (fun c11 => ?_) (fun c11 => ?_)
    · refine lv_iconst (v := nI 0) hx hb dX1_isTrue_2_18 (by decide) ?_
      subst hQ
      have hfin : trueS (keyMsg kn.2.1 ++ ([180] ++ be 4 ub.length ++ ub)) x.2 kn.2.1 = false := by
        rcases ht with q | q
        · exact absurd q c4
        · rw [q] at c11
          cases q9 : trueS (keyMsg kn.2.1 ++ ([180] ++ be 4 ub.length ++ ub)) x.2 kn.2.1 with
          | true => first | rfl | (rw [q9] at c11; exact absurd c11 (by decide))
          | false => first | rfl | (rw [q9] at c11; exact absurd c11 (by decide))
      refine n_top (y := bZ false) rfl ?_
      exact ret_z C hr hlocks h (u9, gd, ps, G) (⟨hgd0, hgb0, TR.rf⟩) (by rw [hfin]) rfl (by omega) (by omega) dX1_isTrue_2_19
    · refine lv_iconst (v := nI 1) hx hb dX1_isTrue_2_14 (by decide) ?_
      refine lv_goto (tgt := 19) hx hb dX1_isTrue_2_15 (by decide) ?_
      subst hQ
      have hfin : trueS (keyMsg kn.2.1 ++ ([180] ++ be 4 ub.length ++ ub)) x.2 kn.2.1 = true := by
        rcases ht with q | q
        · exact absurd q c4
        · rw [q] at c11
          cases q9 : trueS (keyMsg kn.2.1 ++ ([180] ++ be 4 ub.length ++ ub)) x.2 kn.2.1 with
          | true => first | rfl | (rw [q9] at c11; exact absurd c11 (by decide))
          | false => first | rfl | (rw [q9] at c11; exact absurd c11 (by decide))
      refine n_top (y := bZ true) rfl ?_
      exact ret_z C hr hlocks h (u9, gd, ps, G) (⟨hgd0, hgb0, TR.rf⟩) (by rw [hfin]) rfl (by omega) (by omega) dX1_isTrue_2_19
set_option maxHeartbeats 400000 in
set_option maxRecDepth 100000 in
theorem c1_isTrue4P (l : Launch) (D : va_G) (dA : Nat → ClassId) (B : Nat) (Z : State → Prop) (hZ : Stab B Z) (O G : va_W) (ho st fi bl wo : Nat) (me bs dc ou rg h2 dg tk pl pk tx sd : Nat) (sz : Nat) (po m9 b9 rs pr f1 f2 ka a1 a2 a3 : Nat) (u9 : HS) (gd : Nat → Nat) (ps : PS) (cx : CX) (x : SL) (kn : NBr) (oa la : Nat) (pn by9 : NBr)  (hfi : (fi, war dA 5 (t5 in1)) ∈ G) (hzf : ZF B f1 f2 Z) (hzn : ZN Z) (hme : (me, .inr (0, [.ref bs, .int (nI sz), .ref dc, .ref ou, .ref rg, .ref ho, .ref h2, .ref dg, .ref po, .ref tk, .ref pl, .ref pk, .ref tx, .ref sd])) ∈ G) (hS : SealT dA cx G x) (hk : (ka, .inr (6, [.ref a1, .ref kn.1, .ref a2, .ref a3])) ∈ G) (hkn : NumIn dA G kn) (hof : (oa, .inr (8, [.ref la, .ref pn.1])) ∈ G) (hpn : NumIn dA G pn) (hby9 : NumIn dA G by9) (hsh : sHash x.2 = 2) (hcx : cx x.1 = (keyMsg kn.2.1 ++ keyMsg pn.2.1, by9.2.1)) (hgb0 : ∀ j, j < 64 → u9.2.2.2.2 j < 256) (hgd0 : ∀ j, gd j < 256) :
    Ct (S := HS × (Nat → Nat) × PS × va_W) l D dA B Z yX1_isTrue_2 cX1_isTrue_2 8 (some .boolean) 8 2 256 [.ref me, .ref x.1, .ref ka, .ref oa, .ref by9.1] (h4C dA ho st fi bl wo u9 ++ ([(dg, bar dA 32 gd)] ++ (pwC dA po m9 b9 rs pr ps ++ (O ++ G)))) (fun u => (∀ j, u.2.1 j < 256) ∧ (∀ j, j < 64 → u.1.2.2.2.2 j < 256) ∧ TR dA cx G u.2.2.2) (fun _ => some (.int (bZ (trueS (keyMsg kn.2.1 ++ keyMsg pn.2.1) x.2 by9.2.1)))) (fun u => h4C dA ho st fi bl wo u.1 ++ ([(dg, bar dA 32 u.2.1)] ++ (pwC dA po m9 b9 rs pr u.2.2.1 ++ (O ++ u.2.2.2)))) := by
  refine Ct.mk2 (by decide) (Nat.le_of_ble_eq_true rfl) hZ ?_
  intro p e R s m args below meth c ls Q C hr hlocks hin hQ hl h
  have C0 := C
  obtain ⟨hx, hb, hml, hown, hts, -⟩ := C0
  have hl : lv_has ls 8 [(0, .ref me), (1, .ref x.1), (2, .ref ka), (3, .ref oa), (4, .ref by9.1)] := hl
  have h : Wd D B s ([(ho, .inr (2, [.ref st, .ref fi, .ref bl, .long u9.1, .ref wo])), (st, war dA 5 u9.2.1), (wo, war dA 80 u9.2.2.1), (bl, bar dA 64 u9.2.2.2.2), (dg, bar dA 32 gd), (po, .inr (4, [.ref m9, .ref b9, .ref rs, .ref pr, .int ps.2.2.2.2.1, .int ps.2.2.2.2.2])), (m9, iar dA 66 ps.1), (b9, iar dA 66 ps.2.1), (rs, iar dA 66 ps.2.2.1), (pr, iar dA 134 ps.2.2.2.1)] ++ (O ++ G)) s.heap [] := h
  have huq : ∀ a e e9, (a, e) ∈ G → (a, e9) ∈ G → e = e9 := fun a e e9 h1 h2 => Wd.uniq h (List.mem_append_right _ (List.mem_append_right _ h1)) (List.mem_append_right _ (List.mem_append_right _ h2))
  obtain ⟨t, hSi, ht⟩ := hS
  rw [hcx] at ht
  dsimp only at ht
  have hSi0 := hSi
  obtain ⟨⟨hbbx, hblx, hbox, hb0x⟩, bax, snx, r1x, r2x, r3x, w1x, w2x, w3x, hcex, hbax, hsnx, hr1x, hr2x, hr3x⟩ := hSi
  have hknL := hkn.1.2.1
  have hpnL := hpn.1.2.1
  refine lv_aload_n hx hb dX1_isTrue_2_0 rfl (lv_at hl 1 rfl) ?_
  refine o_getN C h (RC := RX17) (T := TX17) (N := 19) (List.mem_append_right _ (List.mem_append_right _ hcex)) rfl in_X17 15 (by decide) q1334 rfl (v := .int t) rfl dX1_isTrue_2_1 ?_
  refine lv_if_eq (tgt := 20) hx hb dX1_isTrue_2_4 (by decide) (fun c4 => ?_) (fun c4 => ?_)
  · refine lv_aload_n hx hb dX1_isTrue_2_20 rfl (lv_at hl 0 rfl) ?_
    refine lv_aload_n hx hb dX1_isTrue_2_21 rfl (lv_at hl 1 rfl) ?_
    refine call_VR (As := [.ref x.1]) (rest := []) (n := 1) C h (c1_begun4 l D dA B Z hZ ([(dg, bar dA 32 gd), (po, .inr (4, [.ref m9, .ref b9, .ref rs, .ref pr, .int ps.2.2.2.2.1, .int ps.2.2.2.2.2])), (m9, iar dA 66 ps.1), (b9, iar dA 66 ps.2.1), (rs, iar dA 66 ps.2.2.1), (pr, iar dA 134 ps.2.2.2.1)] ++ (O ++ G)) ho st fi bl wo me bs dc ou rg h2 dg tk pl pk tx sd sz po u9 x (List.mem_append_right _ (List.mem_append_right _ hfi)) (List.mem_append_right _ (List.mem_append_right _ hme)) ⟨t, hSi0.sub (fun b q hq => List.mem_append_right _ (List.mem_append_right _ hq)) (fun a fs hq => List.mem_append_right _ (List.mem_append_right _ hq))⟩ hsh) (lw_V q1523 q1525 qs20 q129 q1526) (by decide +kernel) (o_recv C h (RC := RX1) (T := TX1) (N := 14) (List.mem_append_right _ (List.mem_append_right _ hme)) rfl) (by decide) (by decide) rfl hl rfl (Nat.le_of_ble_eq_true rfl) dX1_isTrue_2_22 (by omega) (fun _ H locs _ h => ?_)
    obtain ⟨gw, hgw9⟩ : ∃ z, z = u9.2.2.1 := ⟨_, rfl⟩
    obtain ⟨y, hy9⟩ : ∃ z, z = u9.2.2.2.1 := ⟨_, rfl⟩
    obtain ⟨gb, hgb9⟩ : ∃ z, z = u9.2.2.2.2 := ⟨_, rfl⟩
    rw [← hgw9, ← hy9, ← hgb9] at h
    have hbk : Blk gb [] := Blk_nil (by rw [hgb9]; exact hgb0)
    have h : Wd D B s ([(ho, .inr (2, [.ref st, .ref fi, .ref bl, .long (lN (([] : List Nat).length)), .ref wo])), (st, war dA 5 (t5 (hs1 ([] : List Nat) (([] : List Nat).length / 64)))), (wo, war dA 80 gw), (bl, bar dA 64 gb), (dg, bar dA 32 gd), (po, .inr (4, [.ref m9, .ref b9, .ref rs, .ref pr, .int ps.2.2.2.2.1, .int ps.2.2.2.2.2])), (m9, iar dA 66 ps.1), (b9, iar dA 66 ps.2.1), (rs, iar dA 66 ps.2.2.1), (pr, iar dA 134 ps.2.2.2.1)] ++ (O ++ G)) H locs := h
    refine lv_astore (lv' := [(5, .ref ho), (0, .ref me), (1, .ref x.1), (2, .ref ka), (3, .ref oa), (4, .ref by9.1)]) hx hb dX1_isTrue_2_25 hl (by decide) rfl (fun ls hl => ?_)
    refine lv_aload hx hb dX1_isTrue_2_27 (lv_at hl 0 rfl) ?_
    refine lv_aload_n hx hb dX1_isTrue_2_29 rfl (lv_at hl 3 rfl) ?_
    refine o_get C h (RC := RX9) (T := TX9) (N := 4) (List.mem_append_right _ (List.mem_append_right _ hk)) rfl in_X9 1 (by decide) q397 rfl (v := .ref kn.1) rfl dX1_isTrue_2_30 ?_
    refine call_S (As := [.ref ho, .ref kn.1]) (rest := []) (n := 2) C h (c1_putN4 l D dA B Z hZ ([(dg, bar dA 32 gd), (po, .inr (4, [.ref m9, .ref b9, .ref rs, .ref pr, .int ps.2.2.2.2.1, .int ps.2.2.2.2.2])), (m9, iar dA 66 ps.1), (b9, iar dA 66 ps.2.1), (rs, iar dA 66 ps.2.2.1), (pr, iar dA 134 ps.2.2.2.1)] ++ (O ++ G)) ho st fi bl wo gw gb (([] : List Nat)) kn hbk (hkn.sub (fun b q hq => List.mem_append_right _ (List.mem_append_right _ hq)) (fun a fs hq => List.mem_append_right _ (List.mem_append_right _ hq))) (by (try simp only [List.length_append, keyMsg_len, List.length_nil]) <;> omega)) (lw_S q1187 q1188 q129 q1189) (by decide +kernel) (by decide) (by decide) rfl hl rfl (Nat.le_of_ble_eq_true rfl) dX1_isTrue_2_33 (by omega) (fun u3 H locs hbk_1 h => ?_)
    obtain ⟨gw_1, y_1, gb_1⟩ := u3
    dsimp only at hbk_1
    have h : Wd D B s ([(ho, .inr (2, [.ref st, .ref fi, .ref bl, .long (lN ((([] : List Nat) ++ keyMsg kn.2.1).length)), .ref wo])), (st, war dA 5 (t5 (hs1 (([] : List Nat) ++ keyMsg kn.2.1) ((([] : List Nat) ++ keyMsg kn.2.1).length / 64)))), (wo, war dA 80 gw_1), (bl, bar dA 64 gb_1), (dg, bar dA 32 gd), (po, .inr (4, [.ref m9, .ref b9, .ref rs, .ref pr, .int ps.2.2.2.2.1, .int ps.2.2.2.2.2])), (m9, iar dA 66 ps.1), (b9, iar dA 66 ps.2.1), (rs, iar dA 66 ps.2.2.1), (pr, iar dA 134 ps.2.2.2.1)] ++ (O ++ G)) H locs := h
    refine lv_aload_n hx hb dX1_isTrue_2_36 rfl (lv_at hl 4 rfl) ?_
    refine o_instN C h (RC := RX11) (T := TX11) (N := 2) (List.mem_append_right _ (List.mem_append_right _ hof)) rfl q1289 hzn.2.2 dX1_isTrue_2_37 ?_
    refine z_if_eq (tgt := 90) hx hb dX1_isTrue_2_40 (by decide) (fun _ => ?_) (fun q => by cases q)
    refine lv_aload_n hx hb dX1_isTrue_2_90 rfl (lv_at hl 4 rfl) ?_
    refine o_instS C h (RC := RX11) (T := TX11) (N := 2) (List.mem_append_right _ (List.mem_append_right _ hof)) rfl q1279 dX1_isTrue_2_91 ?_
    refine z_if_eq (tgt := 113) hx hb dX1_isTrue_2_94 (by decide) (fun q => by cases q) (fun _ => ?_)
    refine lv_aload_n hx hb dX1_isTrue_2_97 rfl (lv_at hl 4 rfl) ?_
    refine o_cast C h (RC := RX11) (T := TX11) (N := 2) (List.mem_append_right _ (List.mem_append_right _ hof)) rfl q1279 dX1_isTrue_2_98 ?_
    refine lv_astore (lv' := [(7, .ref oa), (5, .ref ho), (0, .ref me), (1, .ref x.1), (2, .ref ka), (3, .ref oa), (4, .ref by9.1)]) hx hb dX1_isTrue_2_101 hl (by decide) rfl (fun ls hl => ?_)
    refine lv_aload hx hb dX1_isTrue_2_103 (lv_at hl 1 rfl) ?_
    refine lv_aload hx hb dX1_isTrue_2_105 (lv_at hl 0 rfl) ?_
    refine o_get C h (RC := RX11) (T := TX11) (N := 2) (List.mem_append_right _ (List.mem_append_right _ hof)) rfl in_X11 1 (by decide) q542 rfl (v := .ref pn.1) rfl dX1_isTrue_2_107 ?_
    refine call_S (As := [.ref ho, .ref pn.1]) (rest := []) (n := 2) C h (c1_putN4 l D dA B Z hZ ([(dg, bar dA 32 gd), (po, .inr (4, [.ref m9, .ref b9, .ref rs, .ref pr, .int ps.2.2.2.2.1, .int ps.2.2.2.2.2])), (m9, iar dA 66 ps.1), (b9, iar dA 66 ps.2.1), (rs, iar dA 66 ps.2.2.1), (pr, iar dA 134 ps.2.2.2.1)] ++ (O ++ G)) ho st fi bl wo gw_1 gb_1 (([] : List Nat) ++ keyMsg kn.2.1) pn hbk_1 (hpn.sub (fun b q hq => List.mem_append_right _ (List.mem_append_right _ hq)) (fun a fs hq => List.mem_append_right _ (List.mem_append_right _ hq))) (by (try simp only [List.length_append, keyMsg_len, List.length_nil]) <;> omega)) (lw_S q1187 q1188 q129 q1189) (by decide +kernel) (by decide) (by decide) rfl hl rfl (Nat.le_of_ble_eq_true rfl) dX1_isTrue_2_110 (by omega) (fun u3 H locs hbk_2 h => ?_)
    obtain ⟨gw_2, y_2, gb_2⟩ := u3
    dsimp only at hbk_2
    have h : Wd D B s ([(ho, .inr (2, [.ref st, .ref fi, .ref bl, .long (lN ((([] : List Nat) ++ keyMsg kn.2.1 ++ keyMsg pn.2.1).length)), .ref wo])), (st, war dA 5 (t5 (hs1 (([] : List Nat) ++ keyMsg kn.2.1 ++ keyMsg pn.2.1) ((([] : List Nat) ++ keyMsg kn.2.1 ++ keyMsg pn.2.1).length / 64)))), (wo, war dA 80 gw_2), (bl, bar dA 64 gb_2), (dg, bar dA 32 gd), (po, .inr (4, [.ref m9, .ref b9, .ref rs, .ref pr, .int ps.2.2.2.2.1, .int ps.2.2.2.2.2])), (m9, iar dA 66 ps.1), (b9, iar dA 66 ps.2.1), (rs, iar dA 66 ps.2.2.1), (pr, iar dA 134 ps.2.2.2.1)] ++ (O ++ G)) H locs := h
    refine lv_aload_n hx hb dX1_isTrue_2_113 rfl (lv_at hl 2 rfl) ?_
    refine lv_aload_n hx hb dX1_isTrue_2_114 rfl (lv_at hl 3 rfl) ?_
    refine lv_aload hx hb dX1_isTrue_2_115 (lv_at hl 1 rfl) ?_
    refine lv_aload hx hb dX1_isTrue_2_117 (lv_at hl 6 rfl) ?_
    have e9 : ([] : List Nat) ++ keyMsg kn.2.1 ++ keyMsg pn.2.1 = keyMsg kn.2.1 ++ keyMsg pn.2.1 := rfl
    rw [e9] at h hbk_2
    have hml9 : (keyMsg kn.2.1 ++ keyMsg pn.2.1).length < 100000 := by (try simp only [List.length_append, keyMsg_len, be_len, List.length_nil, List.length_cons]) <;> omega
    obtain ⟨mg, hmg⟩ : ∃ z, z = keyMsg kn.2.1 ++ keyMsg pn.2.1 := ⟨_, rfl⟩
    rw [← hmg] at h hbk_2 hml9 ht hcx
    have h : Wd D B s (h4C dA ho st fi bl wo (hs4 mg gw_2 gw_2 gb_2) ++ ([(dg, bar dA 32 gd)] ++ (pwC dA po m9 b9 rs pr ps ++ (O ++ G)))) H locs := h
    refine call_VR (As := [.ref x.1, .ref ho, .ref by9.1]) (rest := []) (n := 3) C h (c1_isTrueH4 l D dA B Z hZ (O ++ G) ho st fi bl wo gw_2 gb_2 mg me bs dc ou rg ho h2 dg tk pl pk tx sd sz po m9 b9 rs pr f1 f2 gd ps x t by9 hbk_2 hzf (List.mem_append_right _ hme) (hSi0.sub (fun b q hq => List.mem_append_right _ hq) (fun a fs hq => List.mem_append_right _ hq)) (hby9.sub (fun b q hq => List.mem_append_right _ hq) (fun a fs hq => List.mem_append_right _ hq)) hml9 hgd0 hsh) (lw_V q1538 q1540 qs21 q129 q1541) (by decide +kernel) (o_recv C h (RC := RX1) (T := TX1) (N := 14) (List.mem_append_right _ (List.mem_append_right _ (List.mem_append_right _ (List.mem_append_right _ hme)))) rfl) (by decide) (by decide) rfl hl rfl (Nat.le_of_ble_eq_true rfl) dX1_isTrue_2_119 (by omega) (fun u8 H locs hu8 h => ?_)
    obtain ⟨uh, ug, up, E9⟩ := u8
    obtain ⟨hq1, hq2⟩ := hu8
    dsimp only at hq1 hq2
    obtain ⟨s9, t9, hG⟩ := List.append_of_mem hcex
    have h : Wd D B s (h4C dA ho st fi bl wo uh ++ ([(dg, bar dA 32 ug)] ++ (pwC dA po m9 b9 rs pr up ++ ((O ++ G) ++ E9)))) H locs := h
    rw [hG] at h
    have h : Wd D B s ([(x.1, .inr (14, [.ref bax, .int (nI (sType x.2)), .int (nI (sHash x.2)), .int (nI (sEnd x.2)), .int (nI (sLeft x.2)), .ref snx, .long (oL (sNote x.2).1), .long (lN (sNote x.2).2.1), .long (lN (sNote x.2).2.2.1), va_rf r1x, va_rf r2x, .int (oI (sNote x.2).2.2.2.2.2.2.1), .int (oI (sNote x.2).2.2.2.2.2.2.2.1), va_rf r3x, .int (bZ (sVain x.2)), .int t, .int (bZ w1x), .int (bZ w2x), .int (bZ w3x)]))] ++ (h4C dA ho st fi bl wo uh ++ ([(dg, bar dA 32 ug)] ++ (pwC dA po m9 b9 rs pr up ++ (O ++ ((s9 ++ t9) ++ E9)))))) H locs := h.permL (perm_add (fun g f p0 p1 p2 => by (try simp only [p0, p1, p2]) <;> omega))
    refine lv_istore (lv' := [(6, .int (bZ (trueS mg x.2 by9.2.1))), (7, .ref oa), (5, .ref ho), (0, .ref me), (1, .ref x.1), (2, .ref ka), (3, .ref oa), (4, .ref by9.1)]) hx hb dX1_isTrue_2_122 hl (by decide) rfl (fun ls hl => ?_)
    refine lv_aload_n hx hb dX1_isTrue_2_124 rfl (lv_at hl 4 rfl) ?_
    refine lv_iload hx hb dX1_isTrue_2_125 (lv_at hl 0 rfl) ?_
    refine z_if_eq (tgt := 134) hx hb dX1_isTrue_2_127 (by decide) (fun c127 => ?_) (fun c127 => ?_)
    · refine lv_iconst (v := -1) hx hb dX1_isTrue_2_134 (by decide) ?_
      refine o_putN C h 0 (RC := RX17) (T := TX17) (N := 19) (ws' := [(x.1, .inr (14, [.ref bax, .int (nI (sType x.2)), .int (nI (sHash x.2)), .int (nI (sEnd x.2)), .int (nI (sLeft x.2)), .ref snx, .long (oL (sNote x.2).1), .long (lN (sNote x.2).2.1), .long (lN (sNote x.2).2.2.1), va_rf r1x, va_rf r2x, .int (oI (sNote x.2).2.2.2.2.2.2.1), .int (oI (sNote x.2).2.2.2.2.2.2.2.1), va_rf r3x, .int (bZ (sVain x.2)), .int (-1), .int (bZ w1x), .int (bZ w2x), .int (bZ w3x)]))] ++ (h4C dA ho st fi bl wo uh ++ ([(dg, bar dA 32 ug)] ++ (pwC dA po m9 b9 rs pr up ++ (O ++ ((s9 ++ t9) ++ E9)))))) rfl rfl in_X17 tyX17_ok nmX17 15 (by decide) q1334 rfl rfl (v := .int (-1)) rfl rfl (Nat.le_of_ble_eq_true rfl) rfl dX1_isTrue_2_135 (fun H locs h => ?_)
      refine lv_iload hx hb dX1_isTrue_2_138 (lv_at hl 0 rfl) ?_
      subst hQ
      have h : Wd D B s (h4C dA ho st fi bl wo uh ++ ([(dg, bar dA 32 ug)] ++ (pwC dA po m9 b9 rs pr up ++ (O ++ ((s9 ++ (x.1, .inr (14, [.ref bax, .int (nI (sType x.2)), .int (nI (sHash x.2)), .int (nI (sEnd x.2)), .int (nI (sLeft x.2)), .ref snx, .long (oL (sNote x.2).1), .long (lN (sNote x.2).2.1), .long (lN (sNote x.2).2.2.1), va_rf r1x, va_rf r2x, .int (oI (sNote x.2).2.2.2.2.2.2.1), .int (oI (sNote x.2).2.2.2.2.2.2.2.1), va_rf r3x, .int (bZ (sVain x.2)), .int (-1), .int (bZ w1x), .int (bZ w2x), .int (bZ w3x)])) :: t9) ++ E9))))) H locs := h.permL (perm_add (fun g f p0 p1 p2 => by (try simp only [p0, p1, p2]) <;> omega))
      exact ret_z C hr hlocks h (uh, ug, up, ((s9 ++ (x.1, .inr (14, [.ref bax, .int (nI (sType x.2)), .int (nI (sHash x.2)), .int (nI (sEnd x.2)), .int (nI (sLeft x.2)), .ref snx, .long (oL (sNote x.2).1), .long (lN (sNote x.2).2.1), .long (lN (sNote x.2).2.2.1), va_rf r1x, va_rf r2x, .int (oI (sNote x.2).2.2.2.2.2.2.1), .int (oI (sNote x.2).2.2.2.2.2.2.2.1), va_rf r3x, .int (bZ (sVain x.2)), .int (-1), .int (bZ w1x), .int (bZ w2x), .int (bZ w3x)])) :: t9) ++ E9)) (⟨hq1, hq2, TR.set (v := -1) huq hG hSi0 (by rw [hcx]; show -1 = trI (trueS mg x.2 by9.2.1); rw [c127]; rfl)⟩) (by rw [hmg]) rfl (by omega) (by omega) dX1_isTrue_2_140
    · refine lv_iconst (v := nI 1) hx hb dX1_isTrue_2_130 (by decide) ?_
      refine lv_goto (tgt := 135) hx hb dX1_isTrue_2_131 (by decide) ?_
      refine o_putN C h 0 (RC := RX17) (T := TX17) (N := 19) (ws' := [(x.1, .inr (14, [.ref bax, .int (nI (sType x.2)), .int (nI (sHash x.2)), .int (nI (sEnd x.2)), .int (nI (sLeft x.2)), .ref snx, .long (oL (sNote x.2).1), .long (lN (sNote x.2).2.1), .long (lN (sNote x.2).2.2.1), va_rf r1x, va_rf r2x, .int (oI (sNote x.2).2.2.2.2.2.2.1), .int (oI (sNote x.2).2.2.2.2.2.2.2.1), va_rf r3x, .int (bZ (sVain x.2)), .int (nI 1), .int (bZ w1x), .int (bZ w2x), .int (bZ w3x)]))] ++ (h4C dA ho st fi bl wo uh ++ ([(dg, bar dA 32 ug)] ++ (pwC dA po m9 b9 rs pr up ++ (O ++ ((s9 ++ t9) ++ E9)))))) rfl rfl in_X17 tyX17_ok nmX17 15 (by decide) q1334 rfl rfl (v := .int (nI 1)) rfl rfl (Nat.le_of_ble_eq_true rfl) rfl dX1_isTrue_2_135 (fun H locs h => ?_)
      refine lv_iload hx hb dX1_isTrue_2_138 (lv_at hl 0 rfl) ?_
      subst hQ
      have h : Wd D B s (h4C dA ho st fi bl wo uh ++ ([(dg, bar dA 32 ug)] ++ (pwC dA po m9 b9 rs pr up ++ (O ++ ((s9 ++ (x.1, .inr (14, [.ref bax, .int (nI (sType x.2)), .int (nI (sHash x.2)), .int (nI (sEnd x.2)), .int (nI (sLeft x.2)), .ref snx, .long (oL (sNote x.2).1), .long (lN (sNote x.2).2.1), .long (lN (sNote x.2).2.2.1), va_rf r1x, va_rf r2x, .int (oI (sNote x.2).2.2.2.2.2.2.1), .int (oI (sNote x.2).2.2.2.2.2.2.2.1), va_rf r3x, .int (bZ (sVain x.2)), .int (nI 1), .int (bZ w1x), .int (bZ w2x), .int (bZ w3x)])) :: t9) ++ E9))))) H locs := h.permL (perm_add (fun g f p0 p1 p2 => by (try simp only [p0, p1, p2]) <;> omega))
      exact ret_z C hr hlocks h (uh, ug, up, ((s9 ++ (x.1, .inr (14, [.ref bax, .int (nI (sType x.2)), .int (nI (sHash x.2)), .int (nI (sEnd x.2)), .int (nI (sLeft x.2)), .ref snx, .long (oL (sNote x.2).1), .long (lN (sNote x.2).2.1), .long (lN (sNote x.2).2.2.1), va_rf r1x, va_rf r2x, .int (oI (sNote x.2).2.2.2.2.2.2.1), .int (oI (sNote x.2).2.2.2.2.2.2.2.1), va_rf r3x, .int (bZ (sVain x.2)), .int (nI 1), .int (bZ w1x), .int (bZ w2x), .int (bZ w3x)])) :: t9) ++ E9)) (⟨hq1, hq2, TR.set (v := nI 1) huq hG hSi0 (by rw [hcx]; show nI 1 = trI (trueS mg x.2 by9.2.1); rw [c127]; rfl)⟩) (by rw [hmg]) rfl (by omega) (by omega) dX1_isTrue_2_140
  · refine lv_aload_n hx hb dX1_isTrue_2_7 rfl (lv_at hl 1 rfl) ?_
    refine o_getN C h (RC := RX17) (T := TX17) (N := 19) (List.mem_append_right _ (List.mem_append_right _ hcex)) rfl in_X17 15 (by decide) q1334 rfl (v := .int t) rfl dX1_isTrue_2_8 ?_
    refine lv_if_le (tgt := 18) hx hb dX1_isTrue_2_11 (by decide) (fun c11 => ?_) (fun c11 => ?_)
    · refine lv_iconst (v := nI 0) hx hb dX1_isTrue_2_18 (by decide) ?_
      subst hQ
      have hfin : trueS (keyMsg kn.2.1 ++ keyMsg pn.2.1) x.2 by9.2.1 = false := by
        rcases ht with q | q
        · exact absurd q c4
        · rw [q] at c11
          cases q9 : trueS (keyMsg kn.2.1 ++ keyMsg pn.2.1) x.2 by9.2.1 with
          | true => first | rfl | (rw [q9] at c11; exact absurd c11 (by decide))
          | false => first | rfl | (rw [q9] at c11; exact absurd c11 (by decide))
      refine n_top (y := bZ false) rfl ?_
      exact ret_z C hr hlocks h (u9, gd, ps, G) (⟨hgd0, hgb0, TR.rf⟩) (by rw [hfin]) rfl (by omega) (by omega) dX1_isTrue_2_19
    · refine lv_iconst (v := nI 1) hx hb dX1_isTrue_2_14 (by decide) ?_
      refine lv_goto (tgt := 19) hx hb dX1_isTrue_2_15 (by decide) ?_
      subst hQ
      have hfin : trueS (keyMsg kn.2.1 ++ keyMsg pn.2.1) x.2 by9.2.1 = true := by
        rcases ht with q | q
        · exact absurd q c4
        · rw [q] at c11
          cases q9 : trueS (keyMsg kn.2.1 ++ keyMsg pn.2.1) x.2 by9.2.1 with
          | true => first | rfl | (rw [q9] at c11; exact absurd c11 (by decide))
          | false => first | rfl | (rw [q9] at c11; exact absurd c11 (by decide))
      refine n_top (y := bZ true) rfl ?_
      exact ret_z C hr hlocks h (u9, gd, ps, G) (⟨hgd0, hgb0, TR.rf⟩) (by rw [hfin]) rfl (by omega) (by omega) dX1_isTrue_2_19
set_option maxHeartbeats 400000 in
set_option maxRecDepth 100000 in
theorem c1_begun5 (l : Launch) (D : va_G) (dA : Nat → ClassId) (B : Nat) (Z : State → Prop) (hZ : Stab B Z) (F : va_W) (ho st fi bl wo ei : Nat) (me bs dc ou rg h1 dg tk pl pk tx sd : Nat) (sz : Nat) (po : Nat) (u : HS) (x : SL) (hfi : (fi, war dA 8 in2) ∈ F) (hme : (me, .inr (0, [.ref bs, .int (nI sz), .ref dc, .ref ou, .ref rg, .ref h1, .ref ho, .ref dg, .ref po, .ref tk, .ref pl, .ref pk, .ref tx, .ref sd])) ∈ F) (hS : SealB dA F x) (hsh : ¬ sHash x.2 = 2) :
    Ct (S := Unit) l D dA B Z yX1_begun cX1_begun 3 (some ((.object "SignetRing$Hash"))) 3 0 0 [.ref me, .ref x.1] (h5C dA ho st fi bl wo ei u ++ F) (fun _ => True) (fun _ => some (.ref ho)) (fun _ => h5C dA ho st fi bl wo ei (hs5 [] u.2.2.1 u.2.2.2.1 u.2.2.2.2) ++ F) := by
  refine Ct.mk2 (by decide) (Nat.le_of_ble_eq_true rfl) hZ ?_
  intro p e R s m args below meth c ls Q C hr hlocks hin hQ hl h
  have C0 := C
  obtain ⟨hx, hb, hml, hown, hts, -⟩ := C0
  have hl : lv_has ls 3 [(0, .ref me), (1, .ref x.1)] := hl
  have h : Wd D B s ([(ho, .inr (3, [.ref st, .ref fi, .ref bl, .long u.1, .ref wo, .ref ei])), (st, war dA 8 u.2.1), (wo, war dA 64 u.2.2.1), (ei, war dA 8 u.2.2.2.1), (bl, bar dA 64 u.2.2.2.2)] ++ F) s.heap [] := h
  obtain ⟨tx, ⟨hbbx, hblx, hbox, hb0x⟩, bax, snx, r1x, r2x, r3x, w1x, w2x, w3x, hcex, hbax, hsnx, hr1x, hr2x, hr3x⟩ := hS
  have hsh9 : sHash x.2 < 256 := oneS_lt hbbx _
  refine lv_aload_n hx hb dX1_begun_0 rfl (lv_at hl 1 rfl) ?_
  refine o_get C h (RC := RX17) (T := TX17) (N := 19) (List.mem_append_right _ hcex) rfl in_X17 2 (by decide) q1310 rfl (v := .int (nI (sHash x.2))) rfl dX1_begun_1 ?_
  refine lv_iconst (v := nI 2) hx hb dX1_begun_4 (by decide) ?_
  refine n_icmp_ne (tgt := 15) hx hb (by omega) (by omega) dX1_begun_5 (by decide) (fun c5 => ?_) (fun c5 => by exfalso; omega)
  refine lv_aload_n hx hb dX1_begun_15 rfl (lv_at hl 0 rfl) ?_
  refine o_get C h (RC := RX1) (T := TX1) (N := 14) (List.mem_append_right _ hme) rfl in_X1 6 (by decide) q314 rfl (v := .ref ho) rfl dX1_begun_16 ?_
  refine lv_astore_n (lv' := [(2, .ref ho), (0, .ref me), (1, .ref x.1)]) hx hb dX1_begun_19 rfl hl (by decide) rfl (fun ls hl => ?_)
  refine lv_aload_n hx hb dX1_begun_20 rfl (lv_at hl 0 rfl) ?_
  refine call_U (As := []) (rest := []) (n := 0) C h (c5_begin l D dA B Z hZ F ho st fi bl wo ei u.2.2.1 u.2.2.2.1 u.2.2.2.2 u.1 u.2.1 hfi) (lw_U q1180 q1182 q1184 q1181 q134 q1185) rfl (by decide +kernel) (o_recv C h (RC := RX5) (T := TX5) (N := 6) (List.mem_of_getElem? (i := 0) rfl) rfl) (by decide) (by decide) rfl hl rfl (Nat.le_of_ble_eq_true rfl) dX1_begun_21 (by omega) (fun _ H locs _ h => ?_)
  have h : Wd D B s ([(ho, .inr (3, [.ref st, .ref fi, .ref bl, .long (lN (([] : List Nat).length)), .ref wo, .ref ei])), (st, war dA 8 (hs2 ([] : List Nat) (([] : List Nat).length / 64))), (wo, war dA 64 u.2.2.1), (ei, war dA 8 u.2.2.2.1), (bl, bar dA 64 u.2.2.2.2)] ++ F) H locs := h
  refine lv_aload_n hx hb dX1_begun_24 rfl (lv_at hl 0 rfl) ?_
  subst hQ
  have h : Wd D B s (h5C dA ho st fi bl wo ei (hs5 [] u.2.2.1 u.2.2.2.1 u.2.2.2.2) ++ F) H locs := h
  exact ret_a C hr (Or.inl ⟨_, rfl⟩) hlocks h () trivial (Or.inr ⟨_, rfl⟩) rfl rfl (by omega) (by omega) dX1_begun_25
set_option maxHeartbeats 400000 in
set_option maxRecDepth 100000 in
theorem c1_isTrue5K (l : Launch) (D : va_G) (dA : Nat → ClassId) (B : Nat) (Z : State → Prop) (hZ : Stab B Z) (O G : va_W) (ho st fi bl wo ei : Nat) (me bs dc ou rg h1 dg tk pl pk tx sd : Nat) (sz : Nat) (po m9 b9 rs pr f1 f2 ka a1 a2 a3 : Nat) (u9 : HS) (gd : Nat → Nat) (ps : PS) (cx : CX) (x : SL) (kn : NBr) (hzA : ∀ U : State, Z U → ∃ t, va_Z "SignetRing$Second" "ADD" "[I" (.ref t) (bA B) U U.heap ∧ va_T .int t 64 (fun j => .int (K2 j)) (bA B) U U.heap) (hfi : (fi, war dA 8 in2) ∈ G) (hzf : ZF B f1 f2 Z) (hzn : ZN Z) (hme : (me, .inr (0, [.ref bs, .int (nI sz), .ref dc, .ref ou, .ref rg, .ref h1, .ref ho, .ref dg, .ref po, .ref tk, .ref pl, .ref pk, .ref tx, .ref sd])) ∈ G) (hS : SealT dA cx G x) (hk : (ka, .inr (6, [.ref a1, .ref kn.1, .ref a2, .ref a3])) ∈ G) (hkn : NumIn dA G kn) (hsh : ¬ sHash x.2 = 2) (hcx : cx x.1 = (keyMsg kn.2.1, kn.2.1)) (hgb0 : ∀ j, j < 64 → u9.2.2.2.2 j < 256) (hgd0 : ∀ j, gd j < 256) :
    Ct (S := HS × (Nat → Nat) × PS × va_W) l D dA B Z yX1_isTrue_2 cX1_isTrue_2 8 (some .boolean) 8 2 256 [.ref me, .ref x.1, .ref ka, .ref ka, .ref kn.1] (h5C dA ho st fi bl wo ei u9 ++ ([(dg, bar dA 32 gd)] ++ (pwC dA po m9 b9 rs pr ps ++ (O ++ G)))) (fun u => (∀ j, u.2.1 j < 256) ∧ (∀ j, j < 64 → u.1.2.2.2.2 j < 256) ∧ TR dA cx G u.2.2.2) (fun _ => some (.int (bZ (trueS (keyMsg kn.2.1) x.2 kn.2.1)))) (fun u => h5C dA ho st fi bl wo ei u.1 ++ ([(dg, bar dA 32 u.2.1)] ++ (pwC dA po m9 b9 rs pr u.2.2.1 ++ (O ++ u.2.2.2)))) := by
  refine Ct.mk2 (by decide) (Nat.le_of_ble_eq_true rfl) hZ ?_
  intro p e R s m args below meth c ls Q C hr hlocks hin hQ hl h
  have C0 := C
  obtain ⟨hx, hb, hml, hown, hts, -⟩ := C0
  have hl : lv_has ls 8 [(0, .ref me), (1, .ref x.1), (2, .ref ka), (3, .ref ka), (4, .ref kn.1)] := hl
  have h : Wd D B s ([(ho, .inr (3, [.ref st, .ref fi, .ref bl, .long u9.1, .ref wo, .ref ei])), (st, war dA 8 u9.2.1), (wo, war dA 64 u9.2.2.1), (ei, war dA 8 u9.2.2.2.1), (bl, bar dA 64 u9.2.2.2.2), (dg, bar dA 32 gd), (po, .inr (4, [.ref m9, .ref b9, .ref rs, .ref pr, .int ps.2.2.2.2.1, .int ps.2.2.2.2.2])), (m9, iar dA 66 ps.1), (b9, iar dA 66 ps.2.1), (rs, iar dA 66 ps.2.2.1), (pr, iar dA 134 ps.2.2.2.1)] ++ (O ++ G)) s.heap [] := h
  have huq : ∀ a e e9, (a, e) ∈ G → (a, e9) ∈ G → e = e9 := fun a e e9 h1 h2 => Wd.uniq h (List.mem_append_right _ (List.mem_append_right _ h1)) (List.mem_append_right _ (List.mem_append_right _ h2))
  obtain ⟨t, hSi, ht⟩ := hS
  rw [hcx] at ht
  dsimp only at ht
  have hSi0 := hSi
  obtain ⟨⟨hbbx, hblx, hbox, hb0x⟩, bax, snx, r1x, r2x, r3x, w1x, w2x, w3x, hcex, hbax, hsnx, hr1x, hr2x, hr3x⟩ := hSi
  have hknL := hkn.1.2.1
  refine lv_aload_n hx hb dX1_isTrue_2_0 rfl (lv_at hl 1 rfl) ?_
  refine o_getN C h (RC := RX17) (T := TX17) (N := 19) (List.mem_append_right _ (List.mem_append_right _ hcex)) rfl in_X17 15 (by decide) q1334 rfl (v := .int t) rfl dX1_isTrue_2_1 ?_
  refine lv_if_eq (tgt := 20) hx hb dX1_isTrue_2_4 (by decide) (fun c4 => ?_) (fun c4 => ?_)
  · refine lv_aload_n hx hb dX1_isTrue_2_20 rfl (lv_at hl 0 rfl) ?_
    refine lv_aload_n hx hb dX1_isTrue_2_21 rfl (lv_at hl 1 rfl) ?_
    refine call_VR (As := [.ref x.1]) (rest := []) (n := 1) C h (c1_begun5 l D dA B Z hZ ([(dg, bar dA 32 gd), (po, .inr (4, [.ref m9, .ref b9, .ref rs, .ref pr, .int ps.2.2.2.2.1, .int ps.2.2.2.2.2])), (m9, iar dA 66 ps.1), (b9, iar dA 66 ps.2.1), (rs, iar dA 66 ps.2.2.1), (pr, iar dA 134 ps.2.2.2.1)] ++ (O ++ G)) ho st fi bl wo ei me bs dc ou rg h1 dg tk pl pk tx sd sz po u9 x (List.mem_append_right _ (List.mem_append_right _ hfi)) (List.mem_append_right _ (List.mem_append_right _ hme)) ⟨t, hSi0.sub (fun b q hq => List.mem_append_right _ (List.mem_append_right _ hq)) (fun a fs hq => List.mem_append_right _ (List.mem_append_right _ hq))⟩ hsh) (lw_V q1523 q1525 qs20 q129 q1526) (by decide +kernel) (o_recv C h (RC := RX1) (T := TX1) (N := 14) (List.mem_append_right _ (List.mem_append_right _ hme)) rfl) (by decide) (by decide) rfl hl rfl (Nat.le_of_ble_eq_true rfl) dX1_isTrue_2_22 (by omega) (fun _ H locs _ h => ?_)
    obtain ⟨gw, hgw9⟩ : ∃ z, z = u9.2.2.1 := ⟨_, rfl⟩
    obtain ⟨y, hy9⟩ : ∃ z, z = u9.2.2.2.1 := ⟨_, rfl⟩
    obtain ⟨gb, hgb9⟩ : ∃ z, z = u9.2.2.2.2 := ⟨_, rfl⟩
    rw [← hgw9, ← hy9, ← hgb9] at h
    have hbk : Blk gb [] := Blk_nil (by rw [hgb9]; exact hgb0)
    have h : Wd D B s ([(ho, .inr (3, [.ref st, .ref fi, .ref bl, .long (lN (([] : List Nat).length)), .ref wo, .ref ei])), (st, war dA 8 (hs2 ([] : List Nat) (([] : List Nat).length / 64))), (wo, war dA 64 gw), (ei, war dA 8 y), (bl, bar dA 64 gb), (dg, bar dA 32 gd), (po, .inr (4, [.ref m9, .ref b9, .ref rs, .ref pr, .int ps.2.2.2.2.1, .int ps.2.2.2.2.2])), (m9, iar dA 66 ps.1), (b9, iar dA 66 ps.2.1), (rs, iar dA 66 ps.2.2.1), (pr, iar dA 134 ps.2.2.2.1)] ++ (O ++ G)) H locs := h
    refine lv_astore (lv' := [(5, .ref ho), (0, .ref me), (1, .ref x.1), (2, .ref ka), (3, .ref ka), (4, .ref kn.1)]) hx hb dX1_isTrue_2_25 hl (by decide) rfl (fun ls hl => ?_)
    refine lv_aload hx hb dX1_isTrue_2_27 (lv_at hl 0 rfl) ?_
    refine lv_aload_n hx hb dX1_isTrue_2_29 rfl (lv_at hl 3 rfl) ?_
    refine o_get C h (RC := RX9) (T := TX9) (N := 4) (List.mem_append_right _ (List.mem_append_right _ hk)) rfl in_X9 1 (by decide) q397 rfl (v := .ref kn.1) rfl dX1_isTrue_2_30 ?_
    refine call_S (As := [.ref ho, .ref kn.1]) (rest := []) (n := 2) C h (c1_putN5 l D dA B Z hZ ([(dg, bar dA 32 gd), (po, .inr (4, [.ref m9, .ref b9, .ref rs, .ref pr, .int ps.2.2.2.2.1, .int ps.2.2.2.2.2])), (m9, iar dA 66 ps.1), (b9, iar dA 66 ps.2.1), (rs, iar dA 66 ps.2.2.1), (pr, iar dA 134 ps.2.2.2.1)] ++ (O ++ G)) ho st fi bl wo ei gw y gb (([] : List Nat)) kn hzA hbk (hkn.sub (fun b q hq => List.mem_append_right _ (List.mem_append_right _ hq)) (fun a fs hq => List.mem_append_right _ (List.mem_append_right _ hq))) (by (try simp only [List.length_append, keyMsg_len, List.length_nil]) <;> omega)) (lw_S q1187 q1188 q129 q1189) (by decide +kernel) (by decide) (by decide) rfl hl rfl (Nat.le_of_ble_eq_true rfl) dX1_isTrue_2_33 (by omega) (fun u3 H locs hbk_1 h => ?_)
    obtain ⟨gw_1, y_1, gb_1⟩ := u3
    dsimp only at hbk_1
    have h : Wd D B s ([(ho, .inr (3, [.ref st, .ref fi, .ref bl, .long (lN ((([] : List Nat) ++ keyMsg kn.2.1).length)), .ref wo, .ref ei])), (st, war dA 8 (hs2 (([] : List Nat) ++ keyMsg kn.2.1) ((([] : List Nat) ++ keyMsg kn.2.1).length / 64))), (wo, war dA 64 gw_1), (ei, war dA 8 y_1), (bl, bar dA 64 gb_1), (dg, bar dA 32 gd), (po, .inr (4, [.ref m9, .ref b9, .ref rs, .ref pr, .int ps.2.2.2.2.1, .int ps.2.2.2.2.2])), (m9, iar dA 66 ps.1), (b9, iar dA 66 ps.2.1), (rs, iar dA 66 ps.2.2.1), (pr, iar dA 134 ps.2.2.2.1)] ++ (O ++ G)) H locs := h
    refine lv_aload_n hx hb dX1_isTrue_2_36 rfl (lv_at hl 4 rfl) ?_
    refine o_instN C h (RC := RX9) (T := TX9) (N := 4) (List.mem_append_right _ (List.mem_append_right _ hk)) rfl q1289 hzn.1 dX1_isTrue_2_37 ?_
    refine z_if_eq (tgt := 90) hx hb dX1_isTrue_2_40 (by decide) (fun _ => ?_) (fun q => by cases q)
    refine lv_aload_n hx hb dX1_isTrue_2_90 rfl (lv_at hl 4 rfl) ?_
    refine o_instN C h (RC := RX9) (T := TX9) (N := 4) (List.mem_append_right _ (List.mem_append_right _ hk)) rfl q1279 hzn.2.1 dX1_isTrue_2_91 ?_
    refine z_if_eq (tgt := 113) hx hb dX1_isTrue_2_94 (by decide) (fun _ => ?_) (fun q => by cases q)
    refine lv_aload_n hx hb dX1_isTrue_2_113 rfl (lv_at hl 1 rfl) ?_
    refine lv_aload_n hx hb dX1_isTrue_2_114 rfl (lv_at hl 2 rfl) ?_
    refine lv_aload hx hb dX1_isTrue_2_115 (lv_at hl 0 rfl) ?_
    refine lv_aload hx hb dX1_isTrue_2_117 (lv_at hl 5 rfl) ?_
    have e9 : ([] : List Nat) ++ keyMsg kn.2.1 = keyMsg kn.2.1 := rfl
    rw [e9] at h hbk_1
    have hml9 : (keyMsg kn.2.1).length < 100000 := by (try simp only [List.length_append, keyMsg_len, be_len, List.length_nil, List.length_cons]) <;> omega
    obtain ⟨mg, hmg⟩ : ∃ z, z = keyMsg kn.2.1 := ⟨_, rfl⟩
    rw [← hmg] at h hbk_1 hml9 ht hcx
    have h : Wd D B s (h5C dA ho st fi bl wo ei (hs5 mg gw_1 y_1 gb_1) ++ ([(dg, bar dA 32 gd)] ++ (pwC dA po m9 b9 rs pr ps ++ (O ++ G)))) H locs := h
    refine call_VR (As := [.ref x.1, .ref ho, .ref kn.1]) (rest := []) (n := 3) C h (c1_isTrueH5 l D dA B Z hZ (O ++ G) ho st fi bl wo ei gw_1 y_1 gb_1 mg me bs dc ou rg h1 ho dg tk pl pk tx sd sz po m9 b9 rs pr f1 f2 gd ps x t kn hzA hbk_1 hzf (List.mem_append_right _ hme) (hSi0.sub (fun b q hq => List.mem_append_right _ hq) (fun a fs hq => List.mem_append_right _ hq)) (hkn.sub (fun b q hq => List.mem_append_right _ hq) (fun a fs hq => List.mem_append_right _ hq)) hml9 hgd0 hsh) (lw_V q1538 q1540 qs21 q129 q1541) (by decide +kernel) (o_recv C h (RC := RX1) (T := TX1) (N := 14) (List.mem_append_right _ (List.mem_append_right _ (List.mem_append_right _ (List.mem_append_right _ hme)))) rfl) (by decide) (by decide) rfl hl rfl (Nat.le_of_ble_eq_true rfl) dX1_isTrue_2_119 (by omega) (fun u8 H locs hu8 h => ?_)
    obtain ⟨uh, ug, up, E9⟩ := u8
    obtain ⟨hq1, hq2⟩ := hu8
    dsimp only at hq1 hq2
    obtain ⟨s9, t9, hG⟩ := List.append_of_mem hcex
    have h : Wd D B s (h5C dA ho st fi bl wo ei uh ++ ([(dg, bar dA 32 ug)] ++ (pwC dA po m9 b9 rs pr up ++ ((O ++ G) ++ E9)))) H locs := h
    rw [hG] at h
    have h : Wd D B s ([(x.1, .inr (14, [.ref bax, .int (nI (sType x.2)), .int (nI (sHash x.2)), .int (nI (sEnd x.2)), .int (nI (sLeft x.2)), .ref snx, .long (oL (sNote x.2).1), .long (lN (sNote x.2).2.1), .long (lN (sNote x.2).2.2.1), va_rf r1x, va_rf r2x, .int (oI (sNote x.2).2.2.2.2.2.2.1), .int (oI (sNote x.2).2.2.2.2.2.2.2.1), va_rf r3x, .int (bZ (sVain x.2)), .int t, .int (bZ w1x), .int (bZ w2x), .int (bZ w3x)]))] ++ (h5C dA ho st fi bl wo ei uh ++ ([(dg, bar dA 32 ug)] ++ (pwC dA po m9 b9 rs pr up ++ (O ++ ((s9 ++ t9) ++ E9)))))) H locs := h.permL (perm_add (fun g f p0 p1 p2 => by (try simp only [p0, p1, p2]) <;> omega))
    refine lv_istore (lv' := [(6, .int (bZ (trueS mg x.2 kn.2.1))), (5, .ref ho), (0, .ref me), (1, .ref x.1), (2, .ref ka), (3, .ref ka), (4, .ref kn.1)]) hx hb dX1_isTrue_2_122 hl (by decide) rfl (fun ls hl => ?_)
    refine lv_aload_n hx hb dX1_isTrue_2_124 rfl (lv_at hl 3 rfl) ?_
    refine lv_iload hx hb dX1_isTrue_2_125 (lv_at hl 0 rfl) ?_
    refine z_if_eq (tgt := 134) hx hb dX1_isTrue_2_127 (by decide) (fun c127 => ?_) (fun c127 => ?_)
    · refine lv_iconst (v := -1) hx hb dX1_isTrue_2_134 (by decide) ?_
      refine o_putN C h 0 (RC := RX17) (T := TX17) (N := 19) (ws' := [(x.1, .inr (14, [.ref bax, .int (nI (sType x.2)), .int (nI (sHash x.2)), .int (nI (sEnd x.2)), .int (nI (sLeft x.2)), .ref snx, .long (oL (sNote x.2).1), .long (lN (sNote x.2).2.1), .long (lN (sNote x.2).2.2.1), va_rf r1x, va_rf r2x, .int (oI (sNote x.2).2.2.2.2.2.2.1), .int (oI (sNote x.2).2.2.2.2.2.2.2.1), va_rf r3x, .int (bZ (sVain x.2)), .int (-1), .int (bZ w1x), .int (bZ w2x), .int (bZ w3x)]))] ++ (h5C dA ho st fi bl wo ei uh ++ ([(dg, bar dA 32 ug)] ++ (pwC dA po m9 b9 rs pr up ++ (O ++ ((s9 ++ t9) ++ E9)))))) rfl rfl in_X17 tyX17_ok nmX17 15 (by decide) q1334 rfl rfl (v := .int (-1)) rfl rfl (Nat.le_of_ble_eq_true rfl) rfl dX1_isTrue_2_135 (fun H locs h => ?_)
      refine lv_iload hx hb dX1_isTrue_2_138 (lv_at hl 0 rfl) ?_
      subst hQ
      have h : Wd D B s (h5C dA ho st fi bl wo ei uh ++ ([(dg, bar dA 32 ug)] ++ (pwC dA po m9 b9 rs pr up ++ (O ++ ((s9 ++ (x.1, .inr (14, [.ref bax, .int (nI (sType x.2)), .int (nI (sHash x.2)), .int (nI (sEnd x.2)), .int (nI (sLeft x.2)), .ref snx, .long (oL (sNote x.2).1), .long (lN (sNote x.2).2.1), .long (lN (sNote x.2).2.2.1), va_rf r1x, va_rf r2x, .int (oI (sNote x.2).2.2.2.2.2.2.1), .int (oI (sNote x.2).2.2.2.2.2.2.2.1), va_rf r3x, .int (bZ (sVain x.2)), .int (-1), .int (bZ w1x), .int (bZ w2x), .int (bZ w3x)])) :: t9) ++ E9))))) H locs := h.permL (perm_add (fun g f p0 p1 p2 => by (try simp only [p0, p1, p2]) <;> omega))
      exact ret_z C hr hlocks h (uh, ug, up, ((s9 ++ (x.1, .inr (14, [.ref bax, .int (nI (sType x.2)), .int (nI (sHash x.2)), .int (nI (sEnd x.2)), .int (nI (sLeft x.2)), .ref snx, .long (oL (sNote x.2).1), .long (lN (sNote x.2).2.1), .long (lN (sNote x.2).2.2.1), va_rf r1x, va_rf r2x, .int (oI (sNote x.2).2.2.2.2.2.2.1), .int (oI (sNote x.2).2.2.2.2.2.2.2.1), va_rf r3x, .int (bZ (sVain x.2)), .int (-1), .int (bZ w1x), .int (bZ w2x), .int (bZ w3x)])) :: t9) ++ E9)) (⟨hq1, hq2, TR.set (v := -1) huq hG hSi0 (by rw [hcx]; show -1 = trI (trueS mg x.2 kn.2.1); rw [c127]; rfl)⟩) (by rw [hmg]) rfl (by omega) (by omega) dX1_isTrue_2_140
    · refine lv_iconst (v := nI 1) hx hb dX1_isTrue_2_130 (by decide) ?_
      refine lv_goto (tgt := 135) hx hb dX1_isTrue_2_131 (by decide) ?_
      refine o_putN C h 0 (RC := RX17) (T := TX17) (N := 19) (ws' := [(x.1, .inr (14, [.ref bax, .int (nI (sType x.2)), .int (nI (sHash x.2)), .int (nI (sEnd x.2)), .int (nI (sLeft x.2)), .ref snx, .long (oL (sNote x.2).1), .long (lN (sNote x.2).2.1), .long (lN (sNote x.2).2.2.1), va_rf r1x, va_rf r2x, .int (oI (sNote x.2).2.2.2.2.2.2.1), .int (oI (sNote x.2).2.2.2.2.2.2.2.1), va_rf r3x, .int (bZ (sVain x.2)), .int (nI 1), .int (bZ w1x), .int (bZ w2x), .int (bZ w3x)]))] ++ (h5C dA ho st fi bl wo ei uh ++ ([(dg, bar dA 32 ug)] ++ (pwC dA po m9 b9 rs pr up ++ (O ++ ((s9 ++ t9) ++ E9)))))) rfl rfl in_X17 tyX17_ok nmX17 15 (by decide) q1334 rfl rfl (v := .int (nI 1)) rfl rfl (Nat.le_of_ble_eq_true rfl) rfl dX1_isTrue_2_135 (fun H locs h => ?_)
      refine lv_iload hx hb dX1_isTrue_2_138 (lv_at hl 0 rfl) ?_
      subst hQ
      have h : Wd D B s (h5C dA ho st fi bl wo ei uh ++ ([(dg, bar dA 32 ug)] ++ (pwC dA po m9 b9 rs pr up ++ (O ++ ((s9 ++ (x.1, .inr (14, [.ref bax, .int (nI (sType x.2)), .int (nI (sHash x.2)), .int (nI (sEnd x.2)), .int (nI (sLeft x.2)), .ref snx, .long (oL (sNote x.2).1), .long (lN (sNote x.2).2.1), .long (lN (sNote x.2).2.2.1), va_rf r1x, va_rf r2x, .int (oI (sNote x.2).2.2.2.2.2.2.1), .int (oI (sNote x.2).2.2.2.2.2.2.2.1), va_rf r3x, .int (bZ (sVain x.2)), .int (nI 1), .int (bZ w1x), .int (bZ w2x), .int (bZ w3x)])) :: t9) ++ E9))))) H locs := h.permL (perm_add (fun g f p0 p1 p2 => by (try simp only [p0, p1, p2]) <;> omega))
      exact ret_z C hr hlocks h (uh, ug, up, ((s9 ++ (x.1, .inr (14, [.ref bax, .int (nI (sType x.2)), .int (nI (sHash x.2)), .int (nI (sEnd x.2)), .int (nI (sLeft x.2)), .ref snx, .long (oL (sNote x.2).1), .long (lN (sNote x.2).2.1), .long (lN (sNote x.2).2.2.1), va_rf r1x, va_rf r2x, .int (oI (sNote x.2).2.2.2.2.2.2.1), .int (oI (sNote x.2).2.2.2.2.2.2.2.1), va_rf r3x, .int (bZ (sVain x.2)), .int (nI 1), .int (bZ w1x), .int (bZ w2x), .int (bZ w3x)])) :: t9) ++ E9)) (⟨hq1, hq2, TR.set (v := nI 1) huq hG hSi0 (by rw [hcx]; show nI 1 = trI (trueS mg x.2 kn.2.1); rw [c127]; rfl)⟩) (by rw [hmg]) rfl (by omega) (by omega) dX1_isTrue_2_140
  · refine lv_aload_n hx hb dX1_isTrue_2_7 rfl (lv_at hl 1 rfl) ?_
    refine o_getN C h (RC := RX17) (T := TX17) (N := 19) (List.mem_append_right _ (List.mem_append_right _ hcex)) rfl in_X17 15 (by decide) q1334 rfl (v := .int t) rfl dX1_isTrue_2_8 ?_
    refine lv_if_le (tgt := 18) hx hb dX1_isTrue_2_11 (by decide) (fun c11 => ?_) (fun c11 => ?_)
    · refine lv_iconst (v := nI 0) hx hb dX1_isTrue_2_18 (by decide) ?_
      subst hQ
      have hfin : trueS (keyMsg kn.2.1) x.2 kn.2.1 = false := by
        rcases ht with q | q
        · exact absurd q c4
        · rw [q] at c11
          cases q9 : trueS (keyMsg kn.2.1) x.2 kn.2.1 with
          | true => first | rfl | (rw [q9] at c11; exact absurd c11 (by decide))
          | false => first | rfl | (rw [q9] at c11; exact absurd c11 (by decide))
      refine n_top (y := bZ false) rfl ?_
      exact ret_z C hr hlocks h (u9, gd, ps, G) (⟨hgd0, hgb0, TR.rf⟩) (by rw [hfin]) rfl (by omega) (by omega) dX1_isTrue_2_19
    · refine lv_iconst (v := nI 1) hx hb dX1_isTrue_2_14 (by decide) ?_
      refine lv_goto (tgt := 19) hx hb dX1_isTrue_2_15 (by decide) ?_
      subst hQ
      have hfin : trueS (keyMsg kn.2.1) x.2 kn.2.1 = true := by
        rcases ht with q | q
        · exact absurd q c4
        · rw [q] at c11
          cases q9 : trueS (keyMsg kn.2.1) x.2 kn.2.1 with
          | true => first | rfl | (rw [q9] at c11; exact absurd c11 (by decide))
          | false => first | rfl | (rw [q9] at c11; exact absurd c11 (by decide))
      refine n_top (y := bZ true) rfl ?_
      exact ret_z C hr hlocks h (u9, gd, ps, G) (⟨hgd0, hgb0, TR.rf⟩) (by rw [hfin]) rfl (by omega) (by omega) dX1_isTrue_2_19
set_option maxHeartbeats 400000 in
set_option maxRecDepth 100000 in
theorem c1_isTrue5U (l : Launch) (D : va_G) (dA : Nat → ClassId) (B : Nat) (Z : State → Prop) (hZ : Stab B Z) (O G : va_W) (ho st fi bl wo ei : Nat) (me bs dc ou rg h1 dg tk pl pk tx sd : Nat) (sz : Nat) (po m9 b9 rs pr f1 f2 ka a1 a2 a3 : Nat) (u9 : HS) (gd : Nat → Nat) (ps : PS) (cx : CX) (x : SL) (kn : NBr) (oa la : Nat) (ub : List Nat) (hzA : ∀ U : State, Z U → ∃ t, va_Z "SignetRing$Second" "ADD" "[I" (.ref t) (bA B) U U.heap ∧ va_T .int t 64 (fun j => .int (K2 j)) (bA B) U U.heap) (hfi : (fi, war dA 8 in2) ∈ G) (hzf : ZF B f1 f2 Z) (hzn : ZN Z) (hme : (me, .inr (0, [.ref bs, .int (nI sz), .ref dc, .ref ou, .ref rg, .ref h1, .ref ho, .ref dg, .ref po, .ref tk, .ref pl, .ref pk, .ref tx, .ref sd])) ∈ G) (hS : SealT dA cx G x) (hk : (ka, .inr (6, [.ref a1, .ref kn.1, .ref a2, .ref a3])) ∈ G) (hkn : NumIn dA G kn) (hof : UserIn dA G oa ub la) (hsh : ¬ sHash x.2 = 2) (hcx : cx x.1 = (keyMsg kn.2.1 ++ ([180] ++ be 4 ub.length ++ ub), kn.2.1)) (hgb0 : ∀ j, j < 64 → u9.2.2.2.2 j < 256) (hgd0 : ∀ j, gd j < 256) :
    Ct (S := HS × (Nat → Nat) × PS × va_W) l D dA B Z yX1_isTrue_2 cX1_isTrue_2 8 (some .boolean) 8 2 256 [.ref me, .ref x.1, .ref ka, .ref oa, .ref kn.1] (h5C dA ho st fi bl wo ei u9 ++ ([(dg, bar dA 32 gd)] ++ (pwC dA po m9 b9 rs pr ps ++ (O ++ G)))) (fun u => (∀ j, u.2.1 j < 256) ∧ (∀ j, j < 64 → u.1.2.2.2.2 j < 256) ∧ TR dA cx G u.2.2.2) (fun _ => some (.int (bZ (trueS (keyMsg kn.2.1 ++ ([180] ++ be 4 ub.length ++ ub)) x.2 kn.2.1)))) (fun u => h5C dA ho st fi bl wo ei u.1 ++ ([(dg, bar dA 32 u.2.1)] ++ (pwC dA po m9 b9 rs pr u.2.2.1 ++ (O ++ u.2.2.2)))) := by
  refine Ct.mk2 (by decide) (Nat.le_of_ble_eq_true rfl) hZ ?_
  intro p e R s m args below meth c ls Q C hr hlocks hin hQ hl h
  have C0 := C
  obtain ⟨hx, hb, hml, hown, hts, -⟩ := C0
  have hl : lv_has ls 8 [(0, .ref me), (1, .ref x.1), (2, .ref ka), (3, .ref oa), (4, .ref kn.1)] := hl
  have h : Wd D B s ([(ho, .inr (3, [.ref st, .ref fi, .ref bl, .long u9.1, .ref wo, .ref ei])), (st, war dA 8 u9.2.1), (wo, war dA 64 u9.2.2.1), (ei, war dA 8 u9.2.2.2.1), (bl, bar dA 64 u9.2.2.2.2), (dg, bar dA 32 gd), (po, .inr (4, [.ref m9, .ref b9, .ref rs, .ref pr, .int ps.2.2.2.2.1, .int ps.2.2.2.2.2])), (m9, iar dA 66 ps.1), (b9, iar dA 66 ps.2.1), (rs, iar dA 66 ps.2.2.1), (pr, iar dA 134 ps.2.2.2.1)] ++ (O ++ G)) s.heap [] := h
  have huq : ∀ a e e9, (a, e) ∈ G → (a, e9) ∈ G → e = e9 := fun a e e9 h1 h2 => Wd.uniq h (List.mem_append_right _ (List.mem_append_right _ h1)) (List.mem_append_right _ (List.mem_append_right _ h2))
  obtain ⟨t, hSi, ht⟩ := hS
  rw [hcx] at ht
  dsimp only at ht
  have hSi0 := hSi
  obtain ⟨⟨hbbx, hblx, hbox, hb0x⟩, bax, snx, r1x, r2x, r3x, w1x, w2x, w3x, hcex, hbax, hsnx, hr1x, hr2x, hr3x⟩ := hSi
  obtain ⟨⟨hub, hul⟩, uba, hcu, hcb⟩ := hof
  have hknL := hkn.1.2.1
  refine lv_aload_n hx hb dX1_isTrue_2_0 rfl (lv_at hl 1 rfl) ?_
  refine o_getN C h (RC := RX17) (T := TX17) (N := 19) (List.mem_append_right _ (List.mem_append_right _ hcex)) rfl in_X17 15 (by decide) q1334 rfl (v := .int t) rfl dX1_isTrue_2_1 ?_
  refine lv_if_eq (tgt := 20) hx hb dX1_isTrue_2_4 (by decide) (fun c4 => ?_) (fun c4 => ?_)
  · refine lv_aload_n hx hb dX1_isTrue_2_20 rfl (lv_at hl 0 rfl) ?_
    refine lv_aload_n hx hb dX1_isTrue_2_21 rfl (lv_at hl 1 rfl) ?_
    refine call_VR (As := [.ref x.1]) (rest := []) (n := 1) C h (c1_begun5 l D dA B Z hZ ([(dg, bar dA 32 gd), (po, .inr (4, [.ref m9, .ref b9, .ref rs, .ref pr, .int ps.2.2.2.2.1, .int ps.2.2.2.2.2])), (m9, iar dA 66 ps.1), (b9, iar dA 66 ps.2.1), (rs, iar dA 66 ps.2.2.1), (pr, iar dA 134 ps.2.2.2.1)] ++ (O ++ G)) ho st fi bl wo ei me bs dc ou rg h1 dg tk pl pk tx sd sz po u9 x (List.mem_append_right _ (List.mem_append_right _ hfi)) (List.mem_append_right _ (List.mem_append_right _ hme)) ⟨t, hSi0.sub (fun b q hq => List.mem_append_right _ (List.mem_append_right _ hq)) (fun a fs hq => List.mem_append_right _ (List.mem_append_right _ hq))⟩ hsh) (lw_V q1523 q1525 qs20 q129 q1526) (by decide +kernel) (o_recv C h (RC := RX1) (T := TX1) (N := 14) (List.mem_append_right _ (List.mem_append_right _ hme)) rfl) (by decide) (by decide) rfl hl rfl (Nat.le_of_ble_eq_true rfl) dX1_isTrue_2_22 (by omega) (fun _ H locs _ h => ?_)
    obtain ⟨gw, hgw9⟩ : ∃ z, z = u9.2.2.1 := ⟨_, rfl⟩
    obtain ⟨y, hy9⟩ : ∃ z, z = u9.2.2.2.1 := ⟨_, rfl⟩
    obtain ⟨gb, hgb9⟩ : ∃ z, z = u9.2.2.2.2 := ⟨_, rfl⟩
    rw [← hgw9, ← hy9, ← hgb9] at h
    have hbk : Blk gb [] := Blk_nil (by rw [hgb9]; exact hgb0)
    have h : Wd D B s ([(ho, .inr (3, [.ref st, .ref fi, .ref bl, .long (lN (([] : List Nat).length)), .ref wo, .ref ei])), (st, war dA 8 (hs2 ([] : List Nat) (([] : List Nat).length / 64))), (wo, war dA 64 gw), (ei, war dA 8 y), (bl, bar dA 64 gb), (dg, bar dA 32 gd), (po, .inr (4, [.ref m9, .ref b9, .ref rs, .ref pr, .int ps.2.2.2.2.1, .int ps.2.2.2.2.2])), (m9, iar dA 66 ps.1), (b9, iar dA 66 ps.2.1), (rs, iar dA 66 ps.2.2.1), (pr, iar dA 134 ps.2.2.2.1)] ++ (O ++ G)) H locs := h
    refine lv_astore (lv' := [(5, .ref ho), (0, .ref me), (1, .ref x.1), (2, .ref ka), (3, .ref oa), (4, .ref kn.1)]) hx hb dX1_isTrue_2_25 hl (by decide) rfl (fun ls hl => ?_)
    refine lv_aload hx hb dX1_isTrue_2_27 (lv_at hl 0 rfl) ?_
    refine lv_aload_n hx hb dX1_isTrue_2_29 rfl (lv_at hl 3 rfl) ?_
    refine o_get C h (RC := RX9) (T := TX9) (N := 4) (List.mem_append_right _ (List.mem_append_right _ hk)) rfl in_X9 1 (by decide) q397 rfl (v := .ref kn.1) rfl dX1_isTrue_2_30 ?_
    refine call_S (As := [.ref ho, .ref kn.1]) (rest := []) (n := 2) C h (c1_putN5 l D dA B Z hZ ([(dg, bar dA 32 gd), (po, .inr (4, [.ref m9, .ref b9, .ref rs, .ref pr, .int ps.2.2.2.2.1, .int ps.2.2.2.2.2])), (m9, iar dA 66 ps.1), (b9, iar dA 66 ps.2.1), (rs, iar dA 66 ps.2.2.1), (pr, iar dA 134 ps.2.2.2.1)] ++ (O ++ G)) ho st fi bl wo ei gw y gb (([] : List Nat)) kn hzA hbk (hkn.sub (fun b q hq => List.mem_append_right _ (List.mem_append_right _ hq)) (fun a fs hq => List.mem_append_right _ (List.mem_append_right _ hq))) (by (try simp only [List.length_append, keyMsg_len, List.length_nil]) <;> omega)) (lw_S q1187 q1188 q129 q1189) (by decide +kernel) (by decide) (by decide) rfl hl rfl (Nat.le_of_ble_eq_true rfl) dX1_isTrue_2_33 (by omega) (fun u3 H locs hbk_1 h => ?_)
    obtain ⟨gw_1, y_1, gb_1⟩ := u3
    dsimp only at hbk_1
    have h : Wd D B s ([(ho, .inr (3, [.ref st, .ref fi, .ref bl, .long (lN ((([] : List Nat) ++ keyMsg kn.2.1).length)), .ref wo, .ref ei])), (st, war dA 8 (hs2 (([] : List Nat) ++ keyMsg kn.2.1) ((([] : List Nat) ++ keyMsg kn.2.1).length / 64))), (wo, war dA 64 gw_1), (ei, war dA 8 y_1), (bl, bar dA 64 gb_1), (dg, bar dA 32 gd), (po, .inr (4, [.ref m9, .ref b9, .ref rs, .ref pr, .int ps.2.2.2.2.1, .int ps.2.2.2.2.2])), (m9, iar dA 66 ps.1), (b9, iar dA 66 ps.2.1), (rs, iar dA 66 ps.2.2.1), (pr, iar dA 134 ps.2.2.2.1)] ++ (O ++ G)) H locs := h
    refine lv_aload_n hx hb dX1_isTrue_2_36 rfl (lv_at hl 4 rfl) ?_
    refine o_instS C h (RC := RX10) (T := TX10) (N := 2) (List.mem_append_right _ (List.mem_append_right _ hcu)) rfl q1289 dX1_isTrue_2_37 ?_
    refine z_if_eq (tgt := 90) hx hb dX1_isTrue_2_40 (by decide) (fun q => by cases q) (fun _ => ?_)
    refine lv_aload_n hx hb dX1_isTrue_2_43 rfl (lv_at hl 4 rfl) ?_
    refine o_cast C h (RC := RX10) (T := TX10) (N := 2) (List.mem_append_right _ (List.mem_append_right _ hcu)) rfl q1289 dX1_isTrue_2_44 ?_
    refine lv_astore (lv' := [(6, .ref oa), (5, .ref ho), (0, .ref me), (1, .ref x.1), (2, .ref ka), (3, .ref oa), (4, .ref kn.1)]) hx hb dX1_isTrue_2_47 hl (by decide) rfl (fun ls hl => ?_)
    refine lv_aload hx hb dX1_isTrue_2_49 (lv_at hl 1 rfl) ?_
    refine lv_sipush (v := nI 180) hx hb dX1_isTrue_2_51 (by decide) ?_
    refine call_U (As := [.int (nI 180)]) (rest := []) (n := 1) C h (c5_put l D dA B Z hZ ([(dg, bar dA 32 gd), (po, .inr (4, [.ref m9, .ref b9, .ref rs, .ref pr, .int ps.2.2.2.2.1, .int ps.2.2.2.2.2])), (m9, iar dA 66 ps.1), (b9, iar dA 66 ps.2.1), (rs, iar dA 66 ps.2.2.1), (pr, iar dA 134 ps.2.2.2.1)] ++ (O ++ G)) ho st fi bl wo ei gw_1 y_1 gb_1 (([] : List Nat) ++ keyMsg kn.2.1) (nI 180) (180) hzA hbk_1 (by simp only [List.length_append, keyMsg_len, be_len, List.length_nil, List.length_cons]; omega) (by decide) (by decide)) (lw_U q1190 q1192 q1194 q1191 q134 q1195) rfl (by decide +kernel) (o_recv C h (RC := RX5) (T := TX5) (N := 6) (List.mem_of_getElem? (i := 0) rfl) rfl) (by decide) (by decide) rfl hl rfl (Nat.le_of_ble_eq_true rfl) dX1_isTrue_2_54 (by omega) (fun u3 H locs hbk_2 h => ?_)
    obtain ⟨gw_2, y_2, gb_2⟩ := u3
    dsimp only at hbk_2
    have h : Wd D B s ([(ho, .inr (3, [.ref st, .ref fi, .ref bl, .long (lN ((([] : List Nat) ++ keyMsg kn.2.1 ++ [180]).length)), .ref wo, .ref ei])), (st, war dA 8 (hs2 (([] : List Nat) ++ keyMsg kn.2.1 ++ [180]) ((([] : List Nat) ++ keyMsg kn.2.1 ++ [180]).length / 64))), (wo, war dA 64 gw_2), (ei, war dA 8 y_2), (bl, bar dA 64 gb_2), (dg, bar dA 32 gd), (po, .inr (4, [.ref m9, .ref b9, .ref rs, .ref pr, .int ps.2.2.2.2.1, .int ps.2.2.2.2.2])), (m9, iar dA 66 ps.1), (b9, iar dA 66 ps.2.1), (rs, iar dA 66 ps.2.2.1), (pr, iar dA 134 ps.2.2.2.1)] ++ (O ++ G)) H locs := h
    refine lv_aload hx hb dX1_isTrue_2_57 (lv_at hl 1 rfl) ?_
    refine lv_aload hx hb dX1_isTrue_2_59 (lv_at hl 0 rfl) ?_
    refine o_get C h (RC := RX10) (T := TX10) (N := 2) (List.mem_append_right _ (List.mem_append_right _ hcu)) rfl in_X10 1 (by decide) q511 rfl (v := .ref uba) rfl dX1_isTrue_2_61 ?_
    refine n_balen C h (List.mem_append_right _ (List.mem_append_right _ hcb)) dX1_isTrue_2_64 ?_
    refine lv_i2l (v := lN ub.length) hx hb dX1_isTrue_2_65 (nI_l (by omega)) ?_
    refine lv_iconst (v := nI 4) hx hb dX1_isTrue_2_66 (by decide) ?_
    refine call_U (As := [.long (lN ub.length), .int (nI 4)]) (rest := []) (n := 2) C h (c5_number l D dA B Z hZ ([(dg, bar dA 32 gd), (po, .inr (4, [.ref m9, .ref b9, .ref rs, .ref pr, .int ps.2.2.2.2.1, .int ps.2.2.2.2.2])), (m9, iar dA 66 ps.1), (b9, iar dA 66 ps.2.1), (rs, iar dA 66 ps.2.2.1), (pr, iar dA 134 ps.2.2.2.1)] ++ (O ++ G)) ho st fi bl wo ei gw_2 y_2 gb_2 (([] : List Nat) ++ keyMsg kn.2.1 ++ [180]) (ub.length) 4 hzA hbk_2 (by omega) (by decide) (by simp only [List.length_append, keyMsg_len, be_len, List.length_nil, List.length_cons]; omega)) (lw_U q1224 q1226 q1228 q1225 q134 q1229) rfl (by decide +kernel) (o_recv C h (RC := RX5) (T := TX5) (N := 6) (List.mem_of_getElem? (i := 0) rfl) rfl) (by decide) (by decide) rfl hl rfl (Nat.le_of_ble_eq_true rfl) dX1_isTrue_2_67 (by omega) (fun u3 H locs hbk_3 h => ?_)
    obtain ⟨gw_3, y_3, gb_3⟩ := u3
    dsimp only at hbk_3
    have h : Wd D B s ([(ho, .inr (3, [.ref st, .ref fi, .ref bl, .long (lN ((([] : List Nat) ++ keyMsg kn.2.1 ++ [180] ++ be 4 ub.length).length)), .ref wo, .ref ei])), (st, war dA 8 (hs2 (([] : List Nat) ++ keyMsg kn.2.1 ++ [180] ++ be 4 ub.length) ((([] : List Nat) ++ keyMsg kn.2.1 ++ [180] ++ be 4 ub.length).length / 64))), (wo, war dA 64 gw_3), (ei, war dA 8 y_3), (bl, bar dA 64 gb_3), (dg, bar dA 32 gd), (po, .inr (4, [.ref m9, .ref b9, .ref rs, .ref pr, .int ps.2.2.2.2.1, .int ps.2.2.2.2.2])), (m9, iar dA 66 ps.1), (b9, iar dA 66 ps.2.1), (rs, iar dA 66 ps.2.2.1), (pr, iar dA 134 ps.2.2.2.1)] ++ (O ++ G)) H locs := h
    refine lv_aload hx hb dX1_isTrue_2_70 (lv_at hl 1 rfl) ?_
    refine lv_aload hx hb dX1_isTrue_2_72 (lv_at hl 0 rfl) ?_
    refine o_get C h (RC := RX10) (T := TX10) (N := 2) (List.mem_append_right _ (List.mem_append_right _ hcu)) rfl in_X10 1 (by decide) q511 rfl (v := .ref uba) rfl dX1_isTrue_2_74 ?_
    refine lv_iconst (v := nI 0) hx hb dX1_isTrue_2_77 (by decide) ?_
    refine lv_aload hx hb dX1_isTrue_2_78 (lv_at hl 0 rfl) ?_
    refine o_get C h (RC := RX10) (T := TX10) (N := 2) (List.mem_append_right _ (List.mem_append_right _ hcu)) rfl in_X10 1 (by decide) q511 rfl (v := .ref uba) rfl dX1_isTrue_2_80 ?_
    refine n_balen C h (List.mem_append_right _ (List.mem_append_right _ hcb)) dX1_isTrue_2_83 ?_
    refine call_U (As := [.ref uba, .int (nI 0), .int (nI ub.length)]) (rest := []) (n := 3) C h (c5_putA l D dA B Z hZ ([(dg, bar dA 32 gd), (po, .inr (4, [.ref m9, .ref b9, .ref rs, .ref pr, .int ps.2.2.2.2.1, .int ps.2.2.2.2.2])), (m9, iar dA 66 ps.1), (b9, iar dA 66 ps.2.1), (rs, iar dA 66 ps.2.2.1), (pr, iar dA 134 ps.2.2.2.1)] ++ (O ++ G)) ho st fi bl wo ei gw_3 y_3 gb_3 (([] : List Nat) ++ keyMsg kn.2.1 ++ [180] ++ be 4 ub.length) uba (ub.length) (0) (ub.length) (gD ub) hzA hbk_3 (List.mem_append_right _ (List.mem_append_right _ hcb)) (by omega) (by omega) (by omega) (by simp only [List.length_append, keyMsg_len, be_len, List.length_nil, List.length_cons]; omega) (fun j _ => byt_gD hub j)) (lw_U q1231 q1233 q1235 q1232 q134 q1236) rfl (by decide +kernel) (o_recv C h (RC := RX5) (T := TX5) (N := 6) (List.mem_of_getElem? (i := 0) rfl) rfl) (by decide) (by decide) rfl hl rfl (Nat.le_of_ble_eq_true rfl) dX1_isTrue_2_84 (by omega) (fun u3 H locs hbk_4 h => ?_)
    obtain ⟨gw_4, y_4, gb_4⟩ := u3
    dsimp only at hbk_4
    have h : Wd D B s ([(ho, .inr (3, [.ref st, .ref fi, .ref bl, .long (lN ((([] : List Nat) ++ keyMsg kn.2.1 ++ [180] ++ be 4 ub.length ++ sl (gD ub) 0 (ub.length - 0)).length)), .ref wo, .ref ei])), (st, war dA 8 (hs2 (([] : List Nat) ++ keyMsg kn.2.1 ++ [180] ++ be 4 ub.length ++ sl (gD ub) 0 (ub.length - 0)) ((([] : List Nat) ++ keyMsg kn.2.1 ++ [180] ++ be 4 ub.length ++ sl (gD ub) 0 (ub.length - 0)).length / 64))), (wo, war dA 64 gw_4), (ei, war dA 8 y_4), (bl, bar dA 64 gb_4), (dg, bar dA 32 gd), (po, .inr (4, [.ref m9, .ref b9, .ref rs, .ref pr, .int ps.2.2.2.2.1, .int ps.2.2.2.2.2])), (m9, iar dA 66 ps.1), (b9, iar dA 66 ps.2.1), (rs, iar dA 66 ps.2.2.1), (pr, iar dA 134 ps.2.2.2.1)] ++ (O ++ G)) H locs := h
    refine lv_goto (tgt := 113) hx hb dX1_isTrue_2_87 (by decide) ?_
    refine lv_aload_n hx hb dX1_isTrue_2_113 rfl (lv_at hl 2 rfl) ?_
    refine lv_aload_n hx hb dX1_isTrue_2_114 rfl (lv_at hl 3 rfl) ?_
    refine lv_aload hx hb dX1_isTrue_2_115 (lv_at hl 1 rfl) ?_
    refine lv_aload hx hb dX1_isTrue_2_117 (lv_at hl 6 rfl) ?_
    have e9 : ([] : List Nat) ++ keyMsg kn.2.1 ++ [180] ++ be 4 ub.length ++ sl (gD ub) 0 (ub.length - 0) = keyMsg kn.2.1 ++ ([180] ++ be 4 ub.length ++ ub) := by rw [Nat.sub_zero, sl_gD]; simp
    rw [e9] at h hbk_4
    have hml9 : (keyMsg kn.2.1 ++ ([180] ++ be 4 ub.length ++ ub)).length < 100000 := by (try simp only [List.length_append, keyMsg_len, be_len, List.length_nil, List.length_cons]) <;> omega
    obtain ⟨mg, hmg⟩ : ∃ z, z = keyMsg kn.2.1 ++ ([180] ++ be 4 ub.length ++ ub) := ⟨_, rfl⟩
    rw [← hmg] at h hbk_4 hml9 ht hcx
    have h : Wd D B s (h5C dA ho st fi bl wo ei (hs5 mg gw_4 y_4 gb_4) ++ ([(dg, bar dA 32 gd)] ++ (pwC dA po m9 b9 rs pr ps ++ (O ++ G)))) H locs := h
    refine call_VR (As := [.ref x.1, .ref ho, .ref kn.1]) (rest := []) (n := 3) C h (c1_isTrueH5 l D dA B Z hZ (O ++ G) ho st fi bl wo ei gw_4 y_4 gb_4 mg me bs dc ou rg h1 ho dg tk pl pk tx sd sz po m9 b9 rs pr f1 f2 gd ps x t kn hzA hbk_4 hzf (List.mem_append_right _ hme) (hSi0.sub (fun b q hq => List.mem_append_right _ hq) (fun a fs hq => List.mem_append_right _ hq)) (hkn.sub (fun b q hq => List.mem_append_right _ hq) (fun a fs hq => List.mem_append_right _ hq)) hml9 hgd0 hsh) (lw_V q1538 q1540 qs21 q129 q1541) (by decide +kernel) (o_recv C h (RC := RX1) (T := TX1) (N := 14) (List.mem_append_right _ (List.mem_append_right _ (List.mem_append_right _ (List.mem_append_right _ hme)))) rfl) (by decide) (by decide) rfl hl rfl (Nat.le_of_ble_eq_true rfl) dX1_isTrue_2_119 (by omega) (fun u8 H locs hu8 h => ?_)
    obtain ⟨uh, ug, up, E9⟩ := u8
    obtain ⟨hq1, hq2⟩ := hu8
    dsimp only at hq1 hq2
    obtain ⟨s9, t9, hG⟩ := List.append_of_mem hcex
    have h : Wd D B s (h5C dA ho st fi bl wo ei uh ++ ([(dg, bar dA 32 ug)] ++ (pwC dA po m9 b9 rs pr up ++ ((O ++ G) ++ E9)))) H locs := h
    rw [hG] at h
    have h : Wd D B s ([(x.1, .inr (14, [.ref bax, .int (nI (sType x.2)), .int (nI (sHash x.2)), .int (nI (sEnd x.2)), .int (nI (sLeft x.2)), .ref snx, .long (oL (sNote x.2).1), .long (lN (sNote x.2).2.1), .long (lN (sNote x.2).2.2.1), va_rf r1x, va_rf r2x, .int (oI (sNote x.2).2.2.2.2.2.2.1), .int (oI (sNote x.2).2.2.2.2.2.2.2.1), va_rf r3x, .int (bZ (sVain x.2)), .int t, .int (bZ w1x), .int (bZ w2x), .int (bZ w3x)]))] ++ (h5C dA ho st fi bl wo ei uh ++ ([(dg, bar dA 32 ug)] ++ (pwC dA po m9 b9 rs pr up ++ (O ++ ((s9 ++ t9) ++ E9)))))) H locs := h.permL (perm_add (fun g f p0 p1 p2 => by (try simp only [p0, p1, p2]) <;> omega))
    refine lv_istore (lv' := [(6, .int (bZ (trueS mg x.2 kn.2.1))), (5, .ref ho), (0, .ref me), (1, .ref x.1), (2, .ref ka), (3, .ref oa), (4, .ref kn.1)]) hx hb dX1_isTrue_2_122 hl (by decide) rfl (fun ls hl => ?_)
    refine lv_aload_n hx hb dX1_isTrue_2_124 rfl (lv_at hl 3 rfl) ?_
    refine lv_iload hx hb dX1_isTrue_2_125 (lv_at hl 0 rfl) ?_
    refine z_if_eq (tgt := 134) hx hb dX1_isTrue_2_127 (by decide) (fun c127 => ?_) (fun c127 => ?_)
    · refine lv_iconst (v := -1) hx hb dX1_isTrue_2_134 (by decide) ?_
      refine o_putN C h 0 (RC := RX17) (T := TX17) (N := 19) (ws' := [(x.1, .inr (14, [.ref bax, .int (nI (sType x.2)), .int (nI (sHash x.2)), .int (nI (sEnd x.2)), .int (nI (sLeft x.2)), .ref snx, .long (oL (sNote x.2).1), .long (lN (sNote x.2).2.1), .long (lN (sNote x.2).2.2.1), va_rf r1x, va_rf r2x, .int (oI (sNote x.2).2.2.2.2.2.2.1), .int (oI (sNote x.2).2.2.2.2.2.2.2.1), va_rf r3x, .int (bZ (sVain x.2)), .int (-1), .int (bZ w1x), .int (bZ w2x), .int (bZ w3x)]))] ++ (h5C dA ho st fi bl wo ei uh ++ ([(dg, bar dA 32 ug)] ++ (pwC dA po m9 b9 rs pr up ++ (O ++ ((s9 ++ t9) ++ E9)))))) rfl rfl in_X17 tyX17_ok nmX17 15 (by decide) q1334 rfl rfl (v := .int (-1)) rfl rfl (Nat.le_of_ble_eq_true rfl) rfl dX1_isTrue_2_135 (fun H locs h => ?_)
      refine lv_iload hx hb dX1_isTrue_2_138 (lv_at hl 0 rfl) ?_
      subst hQ
      have h : Wd D B s (h5C dA ho st fi bl wo ei uh ++ ([(dg, bar dA 32 ug)] ++ (pwC dA po m9 b9 rs pr up ++ (O ++ ((s9 ++ (x.1, .inr (14, [.ref bax, .int (nI (sType x.2)), .int (nI (sHash x.2)), .int (nI (sEnd x.2)), .int (nI (sLeft x.2)), .ref snx, .long (oL (sNote x.2).1), .long (lN (sNote x.2).2.1), .long (lN (sNote x.2).2.2.1), va_rf r1x, va_rf r2x, .int (oI (sNote x.2).2.2.2.2.2.2.1), .int (oI (sNote x.2).2.2.2.2.2.2.2.1), va_rf r3x, .int (bZ (sVain x.2)), .int (-1), .int (bZ w1x), .int (bZ w2x), .int (bZ w3x)])) :: t9) ++ E9))))) H locs := h.permL (perm_add (fun g f p0 p1 p2 => by (try simp only [p0, p1, p2]) <;> omega))
      exact ret_z C hr hlocks h (uh, ug, up, ((s9 ++ (x.1, .inr (14, [.ref bax, .int (nI (sType x.2)), .int (nI (sHash x.2)), .int (nI (sEnd x.2)), .int (nI (sLeft x.2)), .ref snx, .long (oL (sNote x.2).1), .long (lN (sNote x.2).2.1), .long (lN (sNote x.2).2.2.1), va_rf r1x, va_rf r2x, .int (oI (sNote x.2).2.2.2.2.2.2.1), .int (oI (sNote x.2).2.2.2.2.2.2.2.1), va_rf r3x, .int (bZ (sVain x.2)), .int (-1), .int (bZ w1x), .int (bZ w2x), .int (bZ w3x)])) :: t9) ++ E9)) (⟨hq1, hq2, TR.set (v := -1) huq hG hSi0 (by rw [hcx]; show -1 = trI (trueS mg x.2 kn.2.1); rw [c127]; rfl)⟩) (by rw [hmg]) rfl (by omega) (by omega) dX1_isTrue_2_140
    · refine lv_iconst (v := nI 1) hx hb dX1_isTrue_2_130 (by decide) ?_
      refine lv_goto (tgt := 135) hx hb dX1_isTrue_2_131 (by decide) ?_
      refine o_putN C h 0 (RC := RX17) (T := TX17) (N := 19) (ws' := [(x.1, .inr (14, [.ref bax, .int (nI (sType x.2)), .int (nI (sHash x.2)), .int (nI (sEnd x.2)), .int (nI (sLeft x.2)), .ref snx, .long (oL (sNote x.2).1), .long (lN (sNote x.2).2.1), .long (lN (sNote x.2).2.2.1), va_rf r1x, va_rf r2x, .int (oI (sNote x.2).2.2.2.2.2.2.1), .int (oI (sNote x.2).2.2.2.2.2.2.2.1), va_rf r3x, .int (bZ (sVain x.2)), .int (nI 1), .int (bZ w1x), .int (bZ w2x), .int (bZ w3x)]))] ++ (h5C dA ho st fi bl wo ei uh ++ ([(dg, bar dA 32 ug)] ++ (pwC dA po m9 b9 rs pr up ++ (O ++ ((s9 ++ t9) ++ E9)))))) rfl rfl in_X17 tyX17_ok nmX17 15 (by decide) q1334 rfl rfl (v := .int (nI 1)) rfl rfl (Nat.le_of_ble_eq_true rfl) rfl dX1_isTrue_2_135 (fun H locs h => ?_)
      refine lv_iload hx hb dX1_isTrue_2_138 (lv_at hl 0 rfl) ?_
      subst hQ
      have h : Wd D B s (h5C dA ho st fi bl wo ei uh ++ ([(dg, bar dA 32 ug)] ++ (pwC dA po m9 b9 rs pr up ++ (O ++ ((s9 ++ (x.1, .inr (14, [.ref bax, .int (nI (sType x.2)), .int (nI (sHash x.2)), .int (nI (sEnd x.2)), .int (nI (sLeft x.2)), .ref snx, .long (oL (sNote x.2).1), .long (lN (sNote x.2).2.1), .long (lN (sNote x.2).2.2.1), va_rf r1x, va_rf r2x, .int (oI (sNote x.2).2.2.2.2.2.2.1), .int (oI (sNote x.2).2.2.2.2.2.2.2.1), va_rf r3x, .int (bZ (sVain x.2)), .int (nI 1), .int (bZ w1x), .int (bZ w2x), .int (bZ w3x)])) :: t9) ++ E9))))) H locs := h.permL (perm_add (fun g f p0 p1 p2 => by (try simp only [p0, p1, p2]) <;> omega))
      exact ret_z C hr hlocks h (uh, ug, up, ((s9 ++ (x.1, .inr (14, [.ref bax, .int (nI (sType x.2)), .int (nI (sHash x.2)), .int (nI (sEnd x.2)), .int (nI (sLeft x.2)), .ref snx, .long (oL (sNote x.2).1), .long (lN (sNote x.2).2.1), .long (lN (sNote x.2).2.2.1), va_rf r1x, va_rf r2x, .int (oI (sNote x.2).2.2.2.2.2.2.1), .int (oI (sNote x.2).2.2.2.2.2.2.2.1), va_rf r3x, .int (bZ (sVain x.2)), .int (nI 1), .int (bZ w1x), .int (bZ w2x), .int (bZ w3x)])) :: t9) ++ E9)) (⟨hq1, hq2, TR.set (v := nI 1) huq hG hSi0 (by rw [hcx]; show nI 1 = trI (trueS mg x.2 kn.2.1); rw [c127]; rfl)⟩) (by rw [hmg]) rfl (by omega) (by omega) dX1_isTrue_2_140
  · refine lv_aload_n hx hb dX1_isTrue_2_7 rfl (lv_at hl 1 rfl) ?_
    refine o_getN C h (RC := RX17) (T := TX17) (N := 19) (List.mem_append_right _ (List.mem_append_right _ hcex)) rfl in_X17 15 (by decide) q1334 rfl (v := .int t) rfl dX1_isTrue_2_8 ?_
    refine lv_if_le (tgt := 18) hx hb dX1_isTrue_2_11 (by decide) (fun c11 => ?_) (fun c11 => ?_)
    · refine lv_iconst (v := nI 0) hx hb dX1_isTrue_2_18 (by decide) ?_
      subst hQ
      have hfin : trueS (keyMsg kn.2.1 ++ ([180] ++ be 4 ub.length ++ ub)) x.2 kn.2.1 = false := by
        rcases ht with q | q
        · exact absurd q c4
        · rw [q] at c11
          cases q9 : trueS (keyMsg kn.2.1 ++ ([180] ++ be 4 ub.length ++ ub)) x.2 kn.2.1 with
          | true => first | rfl | (rw [q9] at c11; exact absurd c11 (by decide))
          | false => first | rfl | (rw [q9] at c11; exact absurd c11 (by decide))
      refine n_top (y := bZ false) rfl ?_
      exact ret_z C hr hlocks h (u9, gd, ps, G) (⟨hgd0, hgb0, TR.rf⟩) (by rw [hfin]) rfl (by omega) (by omega) dX1_isTrue_2_19
    · refine lv_iconst (v := nI 1) hx hb dX1_isTrue_2_14 (by decide) ?_
      refine lv_goto (tgt := 19) hx hb dX1_isTrue_2_15 (by decide) ?_
      subst hQ
      have hfin : trueS (keyMsg kn.2.1 ++ ([180] ++ be 4 ub.length ++ ub)) x.2 kn.2.1 = true := by
        rcases ht with q | q
        · exact absurd q c4
        · rw [q] at c11
          cases q9 : trueS (keyMsg kn.2.1 ++ ([180] ++ be 4 ub.length ++ ub)) x.2 kn.2.1 with
          | true => first | rfl | (rw [q9] at c11; exact absurd c11 (by decide))
          | false => first | rfl | (rw [q9] at c11; exact absurd c11 (by decide))
      refine n_top (y := bZ true) rfl ?_
      exact ret_z C hr hlocks h (u9, gd, ps, G) (⟨hgd0, hgb0, TR.rf⟩) (by rw [hfin]) rfl (by omega) (by omega) dX1_isTrue_2_19
set_option maxHeartbeats 400000 in
set_option maxRecDepth 100000 in
theorem c1_isTrue5P (l : Launch) (D : va_G) (dA : Nat → ClassId) (B : Nat) (Z : State → Prop) (hZ : Stab B Z) (O G : va_W) (ho st fi bl wo ei : Nat) (me bs dc ou rg h1 dg tk pl pk tx sd : Nat) (sz : Nat) (po m9 b9 rs pr f1 f2 ka a1 a2 a3 : Nat) (u9 : HS) (gd : Nat → Nat) (ps : PS) (cx : CX) (x : SL) (kn : NBr) (oa la : Nat) (pn by9 : NBr) (hzA : ∀ U : State, Z U → ∃ t, va_Z "SignetRing$Second" "ADD" "[I" (.ref t) (bA B) U U.heap ∧ va_T .int t 64 (fun j => .int (K2 j)) (bA B) U U.heap) (hfi : (fi, war dA 8 in2) ∈ G) (hzf : ZF B f1 f2 Z) (hzn : ZN Z) (hme : (me, .inr (0, [.ref bs, .int (nI sz), .ref dc, .ref ou, .ref rg, .ref h1, .ref ho, .ref dg, .ref po, .ref tk, .ref pl, .ref pk, .ref tx, .ref sd])) ∈ G) (hS : SealT dA cx G x) (hk : (ka, .inr (6, [.ref a1, .ref kn.1, .ref a2, .ref a3])) ∈ G) (hkn : NumIn dA G kn) (hof : (oa, .inr (8, [.ref la, .ref pn.1])) ∈ G) (hpn : NumIn dA G pn) (hby9 : NumIn dA G by9) (hsh : ¬ sHash x.2 = 2) (hcx : cx x.1 = (keyMsg kn.2.1 ++ keyMsg pn.2.1, by9.2.1)) (hgb0 : ∀ j, j < 64 → u9.2.2.2.2 j < 256) (hgd0 : ∀ j, gd j < 256) :
    Ct (S := HS × (Nat → Nat) × PS × va_W) l D dA B Z yX1_isTrue_2 cX1_isTrue_2 8 (some .boolean) 8 2 256 [.ref me, .ref x.1, .ref ka, .ref oa, .ref by9.1] (h5C dA ho st fi bl wo ei u9 ++ ([(dg, bar dA 32 gd)] ++ (pwC dA po m9 b9 rs pr ps ++ (O ++ G)))) (fun u => (∀ j, u.2.1 j < 256) ∧ (∀ j, j < 64 → u.1.2.2.2.2 j < 256) ∧ TR dA cx G u.2.2.2) (fun _ => some (.int (bZ (trueS (keyMsg kn.2.1 ++ keyMsg pn.2.1) x.2 by9.2.1)))) (fun u => h5C dA ho st fi bl wo ei u.1 ++ ([(dg, bar dA 32 u.2.1)] ++ (pwC dA po m9 b9 rs pr u.2.2.1 ++ (O ++ u.2.2.2)))) := by
  refine Ct.mk2 (by decide) (Nat.le_of_ble_eq_true rfl) hZ ?_
  intro p e R s m args below meth c ls Q C hr hlocks hin hQ hl h
  have C0 := C
  obtain ⟨hx, hb, hml, hown, hts, -⟩ := C0
  have hl : lv_has ls 8 [(0, .ref me), (1, .ref x.1), (2, .ref ka), (3, .ref oa), (4, .ref by9.1)] := hl
  have h : Wd D B s ([(ho, .inr (3, [.ref st, .ref fi, .ref bl, .long u9.1, .ref wo, .ref ei])), (st, war dA 8 u9.2.1), (wo, war dA 64 u9.2.2.1), (ei, war dA 8 u9.2.2.2.1), (bl, bar dA 64 u9.2.2.2.2), (dg, bar dA 32 gd), (po, .inr (4, [.ref m9, .ref b9, .ref rs, .ref pr, .int ps.2.2.2.2.1, .int ps.2.2.2.2.2])), (m9, iar dA 66 ps.1), (b9, iar dA 66 ps.2.1), (rs, iar dA 66 ps.2.2.1), (pr, iar dA 134 ps.2.2.2.1)] ++ (O ++ G)) s.heap [] := h
  have huq : ∀ a e e9, (a, e) ∈ G → (a, e9) ∈ G → e = e9 := fun a e e9 h1 h2 => Wd.uniq h (List.mem_append_right _ (List.mem_append_right _ h1)) (List.mem_append_right _ (List.mem_append_right _ h2))
  obtain ⟨t, hSi, ht⟩ := hS
  rw [hcx] at ht
  dsimp only at ht
  have hSi0 := hSi
  obtain ⟨⟨hbbx, hblx, hbox, hb0x⟩, bax, snx, r1x, r2x, r3x, w1x, w2x, w3x, hcex, hbax, hsnx, hr1x, hr2x, hr3x⟩ := hSi
  have hknL := hkn.1.2.1
  have hpnL := hpn.1.2.1
  refine lv_aload_n hx hb dX1_isTrue_2_0 rfl (lv_at hl 1 rfl) ?_
  refine o_getN C h (RC := RX17) (T := TX17) (N := 19) (List.mem_append_right _ (List.mem_append_right _ hcex)) rfl in_X17 15 (by decide) q1334 rfl (v := .int t) rfl dX1_isTrue_2_1 ?_
  refine lv_if_eq (tgt := 20) hx hb dX1_isTrue_2_4 (by decide) (fun c4 => ?_) (fun c4 => ?_)
  · refine lv_aload_n hx hb dX1_isTrue_2_20 rfl (lv_at hl 0 rfl) ?_
    refine lv_aload_n hx hb dX1_isTrue_2_21 rfl (lv_at hl 1 rfl) ?_
    refine call_VR (As := [.ref x.1]) (rest := []) (n := 1) C h (c1_begun5 l D dA B Z hZ ([(dg, bar dA 32 gd), (po, .inr (4, [.ref m9, .ref b9, .ref rs, .ref pr, .int ps.2.2.2.2.1, .int ps.2.2.2.2.2])), (m9, iar dA 66 ps.1), (b9, iar dA 66 ps.2.1), (rs, iar dA 66 ps.2.2.1), (pr, iar dA 134 ps.2.2.2.1)] ++ (O ++ G)) ho st fi bl wo ei me bs dc ou rg h1 dg tk pl pk tx sd sz po u9 x (List.mem_append_right _ (List.mem_append_right _ hfi)) (List.mem_append_right _ (List.mem_append_right _ hme)) ⟨t, hSi0.sub (fun b q hq => List.mem_append_right _ (List.mem_append_right _ hq)) (fun a fs hq => List.mem_append_right _ (List.mem_append_right _ hq))⟩ hsh) (lw_V q1523 q1525 qs20 q129 q1526) (by decide +kernel) (o_recv C h (RC := RX1) (T := TX1) (N := 14) (List.mem_append_right _ (List.mem_append_right _ hme)) rfl) (by decide) (by decide) rfl hl rfl (Nat.le_of_ble_eq_true rfl) dX1_isTrue_2_22 (by omega) (fun _ H locs _ h => ?_)
    obtain ⟨gw, hgw9⟩ : ∃ z, z = u9.2.2.1 := ⟨_, rfl⟩
    obtain ⟨y, hy9⟩ : ∃ z, z = u9.2.2.2.1 := ⟨_, rfl⟩
    obtain ⟨gb, hgb9⟩ : ∃ z, z = u9.2.2.2.2 := ⟨_, rfl⟩
    rw [← hgw9, ← hy9, ← hgb9] at h
    have hbk : Blk gb [] := Blk_nil (by rw [hgb9]; exact hgb0)
    have h : Wd D B s ([(ho, .inr (3, [.ref st, .ref fi, .ref bl, .long (lN (([] : List Nat).length)), .ref wo, .ref ei])), (st, war dA 8 (hs2 ([] : List Nat) (([] : List Nat).length / 64))), (wo, war dA 64 gw), (ei, war dA 8 y), (bl, bar dA 64 gb), (dg, bar dA 32 gd), (po, .inr (4, [.ref m9, .ref b9, .ref rs, .ref pr, .int ps.2.2.2.2.1, .int ps.2.2.2.2.2])), (m9, iar dA 66 ps.1), (b9, iar dA 66 ps.2.1), (rs, iar dA 66 ps.2.2.1), (pr, iar dA 134 ps.2.2.2.1)] ++ (O ++ G)) H locs := h
    refine lv_astore (lv' := [(5, .ref ho), (0, .ref me), (1, .ref x.1), (2, .ref ka), (3, .ref oa), (4, .ref by9.1)]) hx hb dX1_isTrue_2_25 hl (by decide) rfl (fun ls hl => ?_)
    refine lv_aload hx hb dX1_isTrue_2_27 (lv_at hl 0 rfl) ?_
    refine lv_aload_n hx hb dX1_isTrue_2_29 rfl (lv_at hl 3 rfl) ?_
    refine o_get C h (RC := RX9) (T := TX9) (N := 4) (List.mem_append_right _ (List.mem_append_right _ hk)) rfl in_X9 1 (by decide) q397 rfl (v := .ref kn.1) rfl dX1_isTrue_2_30 ?_
    refine call_S (As := [.ref ho, .ref kn.1]) (rest := []) (n := 2) C h (c1_putN5 l D dA B Z hZ ([(dg, bar dA 32 gd), (po, .inr (4, [.ref m9, .ref b9, .ref rs, .ref pr, .int ps.2.2.2.2.1, .int ps.2.2.2.2.2])), (m9, iar dA 66 ps.1), (b9, iar dA 66 ps.2.1), (rs, iar dA 66 ps.2.2.1), (pr, iar dA 134 ps.2.2.2.1)] ++ (O ++ G)) ho st fi bl wo ei gw y gb (([] : List Nat)) kn hzA hbk (hkn.sub (fun b q hq => List.mem_append_right _ (List.mem_append_right _ hq)) (fun a fs hq => List.mem_append_right _ (List.mem_append_right _ hq))) (by (try simp only [List.length_append, keyMsg_len, List.length_nil]) <;> omega)) (lw_S q1187 q1188 q129 q1189) (by decide +kernel) (by decide) (by decide) rfl hl rfl (Nat.le_of_ble_eq_true rfl) dX1_isTrue_2_33 (by omega) (fun u3 H locs hbk_1 h => ?_)
    obtain ⟨gw_1, y_1, gb_1⟩ := u3
    dsimp only at hbk_1
    have h : Wd D B s ([(ho, .inr (3, [.ref st, .ref fi, .ref bl, .long (lN ((([] : List Nat) ++ keyMsg kn.2.1).length)), .ref wo, .ref ei])), (st, war dA 8 (hs2 (([] : List Nat) ++ keyMsg kn.2.1) ((([] : List Nat) ++ keyMsg kn.2.1).length / 64))), (wo, war dA 64 gw_1), (ei, war dA 8 y_1), (bl, bar dA 64 gb_1), (dg, bar dA 32 gd), (po, .inr (4, [.ref m9, .ref b9, .ref rs, .ref pr, .int ps.2.2.2.2.1, .int ps.2.2.2.2.2])), (m9, iar dA 66 ps.1), (b9, iar dA 66 ps.2.1), (rs, iar dA 66 ps.2.2.1), (pr, iar dA 134 ps.2.2.2.1)] ++ (O ++ G)) H locs := h
    refine lv_aload_n hx hb dX1_isTrue_2_36 rfl (lv_at hl 4 rfl) ?_
    refine o_instN C h (RC := RX11) (T := TX11) (N := 2) (List.mem_append_right _ (List.mem_append_right _ hof)) rfl q1289 hzn.2.2 dX1_isTrue_2_37 ?_
    refine z_if_eq (tgt := 90) hx hb dX1_isTrue_2_40 (by decide) (fun _ => ?_) (fun q => by cases q)
    refine lv_aload_n hx hb dX1_isTrue_2_90 rfl (lv_at hl 4 rfl) ?_
    refine o_instS C h (RC := RX11) (T := TX11) (N := 2) (List.mem_append_right _ (List.mem_append_right _ hof)) rfl q1279 dX1_isTrue_2_91 ?_
    refine z_if_eq (tgt := 113) hx hb dX1_isTrue_2_94 (by decide) (fun q => by cases q) (fun _ => ?_)
    refine lv_aload_n hx hb dX1_isTrue_2_97 rfl (lv_at hl 4 rfl) ?_
    refine o_cast C h (RC := RX11) (T := TX11) (N := 2) (List.mem_append_right _ (List.mem_append_right _ hof)) rfl q1279 dX1_isTrue_2_98 ?_
    refine lv_astore (lv' := [(7, .ref oa), (5, .ref ho), (0, .ref me), (1, .ref x.1), (2, .ref ka), (3, .ref oa), (4, .ref by9.1)]) hx hb dX1_isTrue_2_101 hl (by decide) rfl (fun ls hl => ?_)
    refine lv_aload hx hb dX1_isTrue_2_103 (lv_at hl 1 rfl) ?_
    refine lv_aload hx hb dX1_isTrue_2_105 (lv_at hl 0 rfl) ?_
    refine o_get C h (RC := RX11) (T := TX11) (N := 2) (List.mem_append_right _ (List.mem_append_right _ hof)) rfl in_X11 1 (by decide) q542 rfl (v := .ref pn.1) rfl dX1_isTrue_2_107 ?_
    refine call_S (As := [.ref ho, .ref pn.1]) (rest := []) (n := 2) C h (c1_putN5 l D dA B Z hZ ([(dg, bar dA 32 gd), (po, .inr (4, [.ref m9, .ref b9, .ref rs, .ref pr, .int ps.2.2.2.2.1, .int ps.2.2.2.2.2])), (m9, iar dA 66 ps.1), (b9, iar dA 66 ps.2.1), (rs, iar dA 66 ps.2.2.1), (pr, iar dA 134 ps.2.2.2.1)] ++ (O ++ G)) ho st fi bl wo ei gw_1 y_1 gb_1 (([] : List Nat) ++ keyMsg kn.2.1) pn hzA hbk_1 (hpn.sub (fun b q hq => List.mem_append_right _ (List.mem_append_right _ hq)) (fun a fs hq => List.mem_append_right _ (List.mem_append_right _ hq))) (by (try simp only [List.length_append, keyMsg_len, List.length_nil]) <;> omega)) (lw_S q1187 q1188 q129 q1189) (by decide +kernel) (by decide) (by decide) rfl hl rfl (Nat.le_of_ble_eq_true rfl) dX1_isTrue_2_110 (by omega) (fun u3 H locs hbk_2 h => ?_)
    obtain ⟨gw_2, y_2, gb_2⟩ := u3
    dsimp only at hbk_2
    have h : Wd D B s ([(ho, .inr (3, [.ref st, .ref fi, .ref bl, .long (lN ((([] : List Nat) ++ keyMsg kn.2.1 ++ keyMsg pn.2.1).length)), .ref wo, .ref ei])), (st, war dA 8 (hs2 (([] : List Nat) ++ keyMsg kn.2.1 ++ keyMsg pn.2.1) ((([] : List Nat) ++ keyMsg kn.2.1 ++ keyMsg pn.2.1).length / 64))), (wo, war dA 64 gw_2), (ei, war dA 8 y_2), (bl, bar dA 64 gb_2), (dg, bar dA 32 gd), (po, .inr (4, [.ref m9, .ref b9, .ref rs, .ref pr, .int ps.2.2.2.2.1, .int ps.2.2.2.2.2])), (m9, iar dA 66 ps.1), (b9, iar dA 66 ps.2.1), (rs, iar dA 66 ps.2.2.1), (pr, iar dA 134 ps.2.2.2.1)] ++ (O ++ G)) H locs := h
    refine lv_aload_n hx hb dX1_isTrue_2_113 rfl (lv_at hl 2 rfl) ?_
    refine lv_aload_n hx hb dX1_isTrue_2_114 rfl (lv_at hl 3 rfl) ?_
    refine lv_aload hx hb dX1_isTrue_2_115 (lv_at hl 1 rfl) ?_
    refine lv_aload hx hb dX1_isTrue_2_117 (lv_at hl 6 rfl) ?_
    have e9 : ([] : List Nat) ++ keyMsg kn.2.1 ++ keyMsg pn.2.1 = keyMsg kn.2.1 ++ keyMsg pn.2.1 := rfl
    rw [e9] at h hbk_2
    have hml9 : (keyMsg kn.2.1 ++ keyMsg pn.2.1).length < 100000 := by (try simp only [List.length_append, keyMsg_len, be_len, List.length_nil, List.length_cons]) <;> omega
    obtain ⟨mg, hmg⟩ : ∃ z, z = keyMsg kn.2.1 ++ keyMsg pn.2.1 := ⟨_, rfl⟩
    rw [← hmg] at h hbk_2 hml9 ht hcx
    have h : Wd D B s (h5C dA ho st fi bl wo ei (hs5 mg gw_2 y_2 gb_2) ++ ([(dg, bar dA 32 gd)] ++ (pwC dA po m9 b9 rs pr ps ++ (O ++ G)))) H locs := h
    refine call_VR (As := [.ref x.1, .ref ho, .ref by9.1]) (rest := []) (n := 3) C h (c1_isTrueH5 l D dA B Z hZ (O ++ G) ho st fi bl wo ei gw_2 y_2 gb_2 mg me bs dc ou rg h1 ho dg tk pl pk tx sd sz po m9 b9 rs pr f1 f2 gd ps x t by9 hzA hbk_2 hzf (List.mem_append_right _ hme) (hSi0.sub (fun b q hq => List.mem_append_right _ hq) (fun a fs hq => List.mem_append_right _ hq)) (hby9.sub (fun b q hq => List.mem_append_right _ hq) (fun a fs hq => List.mem_append_right _ hq)) hml9 hgd0 hsh) (lw_V q1538 q1540 qs21 q129 q1541) (by decide +kernel) (o_recv C h (RC := RX1) (T := TX1) (N := 14) (List.mem_append_right _ (List.mem_append_right _ (List.mem_append_right _ (List.mem_append_right _ hme)))) rfl) (by decide) (by decide) rfl hl rfl (Nat.le_of_ble_eq_true rfl) dX1_isTrue_2_119 (by omega) (fun u8 H locs hu8 h => ?_)
    obtain ⟨uh, ug, up, E9⟩ := u8
    obtain ⟨hq1, hq2⟩ := hu8
    dsimp only at hq1 hq2
    obtain ⟨s9, t9, hG⟩ := List.append_of_mem hcex
    have h : Wd D B s (h5C dA ho st fi bl wo ei uh ++ ([(dg, bar dA 32 ug)] ++ (pwC dA po m9 b9 rs pr up ++ ((O ++ G) ++ E9)))) H locs := h
    rw [hG] at h
    have h : Wd D B s ([(x.1, .inr (14, [.ref bax, .int (nI (sType x.2)), .int (nI (sHash x.2)), .int (nI (sEnd x.2)), .int (nI (sLeft x.2)), .ref snx, .long (oL (sNote x.2).1), .long (lN (sNote x.2).2.1), .long (lN (sNote x.2).2.2.1), va_rf r1x, va_rf r2x, .int (oI (sNote x.2).2.2.2.2.2.2.1), .int (oI (sNote x.2).2.2.2.2.2.2.2.1), va_rf r3x, .int (bZ (sVain x.2)), .int t, .int (bZ w1x), .int (bZ w2x), .int (bZ w3x)]))] ++ (h5C dA ho st fi bl wo ei uh ++ ([(dg, bar dA 32 ug)] ++ (pwC dA po m9 b9 rs pr up ++ (O ++ ((s9 ++ t9) ++ E9)))))) H locs := h.permL (perm_add (fun g f p0 p1 p2 => by (try simp only [p0, p1, p2]) <;> omega))
    refine lv_istore (lv' := [(6, .int (bZ (trueS mg x.2 by9.2.1))), (7, .ref oa), (5, .ref ho), (0, .ref me), (1, .ref x.1), (2, .ref ka), (3, .ref oa), (4, .ref by9.1)]) hx hb dX1_isTrue_2_122 hl (by decide) rfl (fun ls hl => ?_)
    refine lv_aload_n hx hb dX1_isTrue_2_124 rfl (lv_at hl 4 rfl) ?_
    refine lv_iload hx hb dX1_isTrue_2_125 (lv_at hl 0 rfl) ?_
    refine z_if_eq (tgt := 134) hx hb dX1_isTrue_2_127 (by decide) (fun c127 => ?_) (fun c127 => ?_)
    · refine lv_iconst (v := -1) hx hb dX1_isTrue_2_134 (by decide) ?_
      refine o_putN C h 0 (RC := RX17) (T := TX17) (N := 19) (ws' := [(x.1, .inr (14, [.ref bax, .int (nI (sType x.2)), .int (nI (sHash x.2)), .int (nI (sEnd x.2)), .int (nI (sLeft x.2)), .ref snx, .long (oL (sNote x.2).1), .long (lN (sNote x.2).2.1), .long (lN (sNote x.2).2.2.1), va_rf r1x, va_rf r2x, .int (oI (sNote x.2).2.2.2.2.2.2.1), .int (oI (sNote x.2).2.2.2.2.2.2.2.1), va_rf r3x, .int (bZ (sVain x.2)), .int (-1), .int (bZ w1x), .int (bZ w2x), .int (bZ w3x)]))] ++ (h5C dA ho st fi bl wo ei uh ++ ([(dg, bar dA 32 ug)] ++ (pwC dA po m9 b9 rs pr up ++ (O ++ ((s9 ++ t9) ++ E9)))))) rfl rfl in_X17 tyX17_ok nmX17 15 (by decide) q1334 rfl rfl (v := .int (-1)) rfl rfl (Nat.le_of_ble_eq_true rfl) rfl dX1_isTrue_2_135 (fun H locs h => ?_)
      refine lv_iload hx hb dX1_isTrue_2_138 (lv_at hl 0 rfl) ?_
      subst hQ
      have h : Wd D B s (h5C dA ho st fi bl wo ei uh ++ ([(dg, bar dA 32 ug)] ++ (pwC dA po m9 b9 rs pr up ++ (O ++ ((s9 ++ (x.1, .inr (14, [.ref bax, .int (nI (sType x.2)), .int (nI (sHash x.2)), .int (nI (sEnd x.2)), .int (nI (sLeft x.2)), .ref snx, .long (oL (sNote x.2).1), .long (lN (sNote x.2).2.1), .long (lN (sNote x.2).2.2.1), va_rf r1x, va_rf r2x, .int (oI (sNote x.2).2.2.2.2.2.2.1), .int (oI (sNote x.2).2.2.2.2.2.2.2.1), va_rf r3x, .int (bZ (sVain x.2)), .int (-1), .int (bZ w1x), .int (bZ w2x), .int (bZ w3x)])) :: t9) ++ E9))))) H locs := h.permL (perm_add (fun g f p0 p1 p2 => by (try simp only [p0, p1, p2]) <;> omega))
      exact ret_z C hr hlocks h (uh, ug, up, ((s9 ++ (x.1, .inr (14, [.ref bax, .int (nI (sType x.2)), .int (nI (sHash x.2)), .int (nI (sEnd x.2)), .int (nI (sLeft x.2)), .ref snx, .long (oL (sNote x.2).1), .long (lN (sNote x.2).2.1), .long (lN (sNote x.2).2.2.1), va_rf r1x, va_rf r2x, .int (oI (sNote x.2).2.2.2.2.2.2.1), .int (oI (sNote x.2).2.2.2.2.2.2.2.1), va_rf r3x, .int (bZ (sVain x.2)), .int (-1), .int (bZ w1x), .int (bZ w2x), .int (bZ w3x)])) :: t9) ++ E9)) (⟨hq1, hq2, TR.set (v := -1) huq hG hSi0 (by rw [hcx]; show -1 = trI (trueS mg x.2 by9.2.1); rw [c127]; rfl)⟩) (by rw [hmg]) rfl (by omega) (by omega) dX1_isTrue_2_140
    · refine lv_iconst (v := nI 1) hx hb dX1_isTrue_2_130 (by decide) ?_
      refine lv_goto (tgt := 135) hx hb dX1_isTrue_2_131 (by decide) ?_
      refine o_putN C h 0 (RC := RX17) (T := TX17) (N := 19) (ws' := [(x.1, .inr (14, [.ref bax, .int (nI (sType x.2)), .int (nI (sHash x.2)), .int (nI (sEnd x.2)), .int (nI (sLeft x.2)), .ref snx, .long (oL (sNote x.2).1), .long (lN (sNote x.2).2.1), .long (lN (sNote x.2).2.2.1), va_rf r1x, va_rf r2x, .int (oI (sNote x.2).2.2.2.2.2.2.1), .int (oI (sNote x.2).2.2.2.2.2.2.2.1), va_rf r3x, .int (bZ (sVain x.2)), .int (nI 1), .int (bZ w1x), .int (bZ w2x), .int (bZ w3x)]))] ++ (h5C dA ho st fi bl wo ei uh ++ ([(dg, bar dA 32 ug)] ++ (pwC dA po m9 b9 rs pr up ++ (O ++ ((s9 ++ t9) ++ E9)))))) rfl rfl in_X17 tyX17_ok nmX17 15 (by decide) q1334 rfl rfl (v := .int (nI 1)) rfl rfl (Nat.le_of_ble_eq_true rfl) rfl dX1_isTrue_2_135 (fun H locs h => ?_)
      refine lv_iload hx hb dX1_isTrue_2_138 (lv_at hl 0 rfl) ?_
      subst hQ
      have h : Wd D B s (h5C dA ho st fi bl wo ei uh ++ ([(dg, bar dA 32 ug)] ++ (pwC dA po m9 b9 rs pr up ++ (O ++ ((s9 ++ (x.1, .inr (14, [.ref bax, .int (nI (sType x.2)), .int (nI (sHash x.2)), .int (nI (sEnd x.2)), .int (nI (sLeft x.2)), .ref snx, .long (oL (sNote x.2).1), .long (lN (sNote x.2).2.1), .long (lN (sNote x.2).2.2.1), va_rf r1x, va_rf r2x, .int (oI (sNote x.2).2.2.2.2.2.2.1), .int (oI (sNote x.2).2.2.2.2.2.2.2.1), va_rf r3x, .int (bZ (sVain x.2)), .int (nI 1), .int (bZ w1x), .int (bZ w2x), .int (bZ w3x)])) :: t9) ++ E9))))) H locs := h.permL (perm_add (fun g f p0 p1 p2 => by (try simp only [p0, p1, p2]) <;> omega))
      exact ret_z C hr hlocks h (uh, ug, up, ((s9 ++ (x.1, .inr (14, [.ref bax, .int (nI (sType x.2)), .int (nI (sHash x.2)), .int (nI (sEnd x.2)), .int (nI (sLeft x.2)), .ref snx, .long (oL (sNote x.2).1), .long (lN (sNote x.2).2.1), .long (lN (sNote x.2).2.2.1), va_rf r1x, va_rf r2x, .int (oI (sNote x.2).2.2.2.2.2.2.1), .int (oI (sNote x.2).2.2.2.2.2.2.2.1), va_rf r3x, .int (bZ (sVain x.2)), .int (nI 1), .int (bZ w1x), .int (bZ w2x), .int (bZ w3x)])) :: t9) ++ E9)) (⟨hq1, hq2, TR.set (v := nI 1) huq hG hSi0 (by rw [hcx]; show nI 1 = trI (trueS mg x.2 by9.2.1); rw [c127]; rfl)⟩) (by rw [hmg]) rfl (by omega) (by omega) dX1_isTrue_2_140
  · refine lv_aload_n hx hb dX1_isTrue_2_7 rfl (lv_at hl 1 rfl) ?_
    refine o_getN C h (RC := RX17) (T := TX17) (N := 19) (List.mem_append_right _ (List.mem_append_right _ hcex)) rfl in_X17 15 (by decide) q1334 rfl (v := .int t) rfl dX1_isTrue_2_8 ?_
    refine lv_if_le (tgt := 18) hx hb dX1_isTrue_2_11 (by decide) (fun c11 => ?_) (fun c11 => ?_)
    · refine lv_iconst (v := nI 0) hx hb dX1_isTrue_2_18 (by decide) ?_
      subst hQ
      have hfin : trueS (keyMsg kn.2.1 ++ keyMsg pn.2.1) x.2 by9.2.1 = false := by
        rcases ht with q | q
        · exact absurd q c4
        · rw [q] at c11
          cases q9 : trueS (keyMsg kn.2.1 ++ keyMsg pn.2.1) x.2 by9.2.1 with
          | true => first | rfl | (rw [q9] at c11; exact absurd c11 (by decide))
          | false => first | rfl | (rw [q9] at c11; exact absurd c11 (by decide))
      refine n_top (y := bZ false) rfl ?_
      exact ret_z C hr hlocks h (u9, gd, ps, G) (⟨hgd0, hgb0, TR.rf⟩) (by rw [hfin]) rfl (by omega) (by omega) dX1_isTrue_2_19
    · refine lv_iconst (v := nI 1) hx hb dX1_isTrue_2_14 (by decide) ?_
      refine lv_goto (tgt := 19) hx hb dX1_isTrue_2_15 (by decide) ?_
      subst hQ
      have hfin : trueS (keyMsg kn.2.1 ++ keyMsg pn.2.1) x.2 by9.2.1 = true := by
        rcases ht with q | q
        · exact absurd q c4
        · rw [q] at c11
          cases q9 : trueS (keyMsg kn.2.1 ++ keyMsg pn.2.1) x.2 by9.2.1 with
          | true => first | rfl | (rw [q9] at c11; exact absurd c11 (by decide))
          | false => first | rfl | (rw [q9] at c11; exact absurd c11 (by decide))
      refine n_top (y := bZ true) rfl ?_
      exact ret_z C hr hlocks h (u9, gd, ps, G) (⟨hgd0, hgb0, TR.rf⟩) (by rw [hfin]) rfl (by omega) (by omega) dX1_isTrue_2_19
