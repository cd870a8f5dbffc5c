set_option maxRecDepth 100000

theorem txS_f (l : List Nat) : txS false l l.length = l := by
  have h : ∀ n, n ≤ l.length → txS false l n = l.take n := by
    intro n
    induction n with
    | zero => intro _; rfl
    | succ n ih =>
      intro hn
      have e : l[n]? = some (gD l n) := by
        unfold gD
        rw [List.getD_eq_getElem?_getD, List.getElem?_eq_getElem (by omega)]; rfl
      rw [txS, ih (by omega), List.take_succ, e]
      rfl
  rw [h _ (Nat.le_refl _), List.take_length]
def jdgC (tt : KY × Option Nat) (sb txt : List Nat) (t : Nat) : Int32 :=
  if trueS (txS (decide (sType sb = 1)) txt txt.length) sb (numC tt).2.1 = false then nI 3 else if t < mdN sb ∨ (0 < enN sb ∧ mdN sb + enN sb ≤ t) then nI 4 else lokU (usTC tt t)
def usTs (tt : KY × Option Nat) : Nat := 6 * tt.1.2.2.1.2.length + 4 * sumL (fun u : US => u.2.2.2.length) tt.1.2.2.2.1.2 + sumL (fun x : PTt => 6 * x.2.2.2.length + sumL (fun y : SL => y.2.length) x.2.2.2) tt.1.2.2.2.2.2 + 5
theorem uskC_lt (k : KY) (t : Nat) : uskC k t < 100 := Nat.lt_of_le_of_lt (uskC_le k t) (by decide)


theorem uspC_lt (k : KY) (x : PTt) (t : Nat) : uspC k x t < 100 := by
  have hu := uskC_lt k t
  unfold uspC
  split
  · exact hu
  · split
    · decide
    · split
      · decide
      · unfold usbC
        split
        · decide
        · split
          · exact Nat.lt_of_le_of_lt (byS_le _ _ _ _) (by decide)
          · split <;> decide
theorem mdv_of {b : List Nat} (hb : byt b) (hv : sVain b = false) : oL (sNote b).1 = lN (mdN b) ∧ mdN b < 4294967296 := by
  have hn := sNote_nb hb
  have h2 := sVain_f hv
  exact ⟨by rw [h2]; rfl, hn.1 _ h2⟩

set_option maxHeartbeats 400000 in
set_option maxRecDepth 100000 in
theorem c1_isIts (l : Launch) (D : va_G) (dA : Nat → ClassId) (B : Nat) (Z : State → Prop) (hZ : Stab B Z) (ws : va_W) (x : NBr) (y : SL) (t : Int32) (hN : NumIn dA ws x) (hS : SealIn dA ws y t) (hnm : ¬ ((sNote y.2).2.2.2.2.1 = none ∧ (sNote y.2).2.2.2.1 = none)) :
    Ct (S := Unit) l D dA B Z yX1_isIts cX1_isIts 2 (some .boolean) 3 0 0 [.ref x.1, .ref y.1] (ws) (fun _ => True) (fun _ => some (.int (bZ (nameOf y.2 (sha1 (keyMsg x.2.1)))))) (fun _ => ws) := by
  refine Ct.mk2 (by decide) (Nat.le_of_ble_eq_true rfl) hZ ?_
  intro p e R s m args below meth c ls Q C hr hlocks hin hQ hl h
  have C0 := C
  obtain ⟨hx, hb, hml, hown, hts, -⟩ := C0
  have hl : lv_has ls 2 [(0, .ref x.1), (1, .ref y.1)] := hl
  have hSi0 := hS
  obtain ⟨⟨hbby, hbly, hboy, hb0y⟩, bay, sny, r1y, r2y, r3y, w1y, w2y, w3y, hcey, hbay, hsny, hr1y, hr2y, hr3y⟩ := hS
  have hnby := sNote_nb hbby
  have hN0 := hN
  obtain ⟨_, _, _, _, _, _, hnc9, _⟩ := hN0
  refine lv_aload_n hx hb dX1_isIts_0 rfl (lv_at hl 1 rfl) ?_
  refine o_get C h (RC := RX17) (T := TX17) (N := 19) (hcey) rfl in_X17 10 (by decide) q1325 rfl (v := va_rf r2y) rfl dX1_isIts_1 ?_
  refine q_ifnull (tgt := 18) hx hb dX1_isIts_4 (by decide) (fun c4 => ?_) (fun a4 c4 => ?_)
  · have hpn : (sNote y.2).2.2.2.2.1 = none := ROb_n hr2y c4
    obtain ⟨nb, hnb⟩ : ∃ z, (sNote y.2).2.2.2.1 = some z := Option.ne_none_iff_exists'.mp (fun q => hnm ⟨hpn, q⟩)
    have hr1z := hr1y
    rw [hnb] at hr1z
    obtain ⟨q1, hq1, hq1m⟩ := hr1z
    obtain ⟨hnbb, hnbl⟩ := hnby.2.2.2.1 nb hnb
    have hfin : nameOf y.2 (sha1 (keyMsg x.2.1)) = decide (sl (gD (sha1 (keyMsg x.2.1))) 12 8 = nb) := by unfold nameOf; rw [hpn, hnb]; rfl
    refine lv_aload_n hx hb dX1_isIts_18 rfl (lv_at hl 0 rfl) ?_
    refine lv_aload_n hx hb dX1_isIts_19 rfl (lv_at hl 1 rfl) ?_
    refine o_get C h (RC := RX17) (T := TX17) (N := 19) (hcey) rfl in_X17 9 (by decide) q1323 rfl (v := va_rf r1y) rfl dX1_isIts_20 ?_
    refine n_topv (y := .ref q1) (by rw [hq1]; rfl) ?_
    refine call_VR (As := [.ref q1]) (rest := []) (n := 1) C h (c16_hasName l D dA B Z hZ _ x q1 nb hN hq1m hnbl hnbb) (lw_V q1515 q1516 q1517 q164 q1518) (by decide +kernel) (o_recv C h (RC := RX16) (T := TX16) (N := 6) (hnc9) rfl) (by decide) (by decide) rfl hl rfl (Nat.le_of_ble_eq_true rfl) dX1_isIts_23 (by omega) (fun _ H locs _ h => ?_)
    subst hQ
    exact ret_z C hr hlocks h () trivial (by rw [hfin]) rfl (by omega) (by omega) dX1_isIts_26
  · obtain ⟨pb, hpb, hpbm⟩ := ROb_s hr2y c4
    obtain ⟨hpbb, hpbl⟩ := hnby.2.2.2.2.1 pb hpb
    have hfin : nameOf y.2 (sha1 (keyMsg x.2.1)) = decide (sha1 (keyMsg x.2.1) = pb) := by unfold nameOf; rw [hpb]
    refine lv_aload_n hx hb dX1_isIts_7 rfl (lv_at hl 0 rfl) ?_
    refine lv_aload_n hx hb dX1_isIts_8 rfl (lv_at hl 1 rfl) ?_
    refine o_get C h (RC := RX17) (T := TX17) (N := 19) (hcey) rfl in_X17 10 (by decide) q1325 rfl (v := va_rf r2y) rfl dX1_isIts_9 ?_
    refine n_topv (y := .ref a4) (by rw [c4]; rfl) ?_
    refine call_VR (As := [.ref a4]) (rest := []) (n := 1) C h (c16_hasPrint l D dA B Z hZ _ x a4 pb hN hpbm (by omega) hpbb) (lw_V q1256 q1257 q1258 q164 q1259) (by decide +kernel) (o_recv C h (RC := RX16) (T := TX16) (N := 6) (hnc9) rfl) (by decide) (by decide) rfl hl rfl (Nat.le_of_ble_eq_true rfl) dX1_isIts_12 (by omega) (fun _ H locs _ h => ?_)
    refine lv_goto (tgt := 26) hx hb dX1_isIts_15 (by decide) ?_
    subst hQ
    exact ret_z C hr hlocks h () trivial (by rw [hfin]) rfl (by omega) (by omega) dX1_isIts_26
set_option maxHeartbeats 400000 in
set_option maxRecDepth 100000 in
theorem cC_seal (l : Launch) (D : va_G) (dA : Nat → ClassId) (B : Nat) (Z : State → Prop) (hZ : Stab B Z) (F : va_W) (k9 se tx sz : Nat) (hm : (k9, .inr (15, [.ref se, .ref tx, .int (nI sz)])) ∈ F) :
    Ct (S := Unit) l D dA B Z yX18_seal cX18_seal 1 (some ((.object "SignetRing$Seal"))) 1 0 0 [.ref k9] (F) (fun _ => True) (fun _ => some (.ref se)) (fun _ => F) := by
  refine Ct.mk2 (by decide) (Nat.le_of_ble_eq_true rfl) hZ ?_
  intro p e R s m args below meth c ls Q C hr hlocks hin hQ hl h
  have C0 := C
  obtain ⟨hx, hb, hml, hown, hts, -⟩ := C0
  have hl : lv_has ls 1 [(0, .ref k9)] := hl
  refine lv_aload_n hx hb dX18_seal_0 rfl (lv_at hl 0 rfl) ?_
  refine o_get C h (RC := RX18) (T := TX18) (N := 3) (hm) rfl in_X18 0 (by decide) q1476 rfl (v := .ref se) rfl dX18_seal_1 ?_
  subst hQ
  exact ret_a C hr (Or.inl ⟨_, rfl⟩) hlocks h () trivial (Or.inr ⟨_, rfl⟩) rfl rfl (by omega) (by omega) dX18_seal_4
set_option maxHeartbeats 400000 in
set_option maxRecDepth 100000 in
theorem cC_text (l : Launch) (D : va_G) (dA : Nat → ClassId) (B : Nat) (Z : State → Prop) (hZ : Stab B Z) (F : va_W) (k9 se tx sz : Nat) (hm : (k9, .inr (15, [.ref se, .ref tx, .int (nI sz)])) ∈ F) :
    Ct (S := Unit) l D dA B Z yX18_text cX18_text 1 (some ((.array .byte))) 1 0 0 [.ref k9] (F) (fun _ => True) (fun _ => some (.ref tx)) (fun _ => F) := by
  refine Ct.mk2 (by decide) (Nat.le_of_ble_eq_true rfl) hZ ?_
  intro p e R s m args below meth c ls Q C hr hlocks hin hQ hl h
  have C0 := C
  obtain ⟨hx, hb, hml, hown, hts, -⟩ := C0
  have hl : lv_has ls 1 [(0, .ref k9)] := hl
  refine lv_aload_n hx hb dX18_text_0 rfl (lv_at hl 0 rfl) ?_
  refine o_get C h (RC := RX18) (T := TX18) (N := 3) (hm) rfl in_X18 1 (by decide) q1477 rfl (v := .ref tx) rfl dX18_text_1 ?_
  subst hQ
  exact ret_a C hr (Or.inr ⟨_, rfl⟩) hlocks h () trivial (Or.inr ⟨_, rfl⟩) rfl rfl (by omega) (by omega) dX18_text_4
set_option maxHeartbeats 400000 in
set_option maxRecDepth 100000 in
theorem cC_size (l : Launch) (D : va_G) (dA : Nat → ClassId) (B : Nat) (Z : State → Prop) (hZ : Stab B Z) (F : va_W) (k9 se tx sz : Nat) (hm : (k9, .inr (15, [.ref se, .ref tx, .int (nI sz)])) ∈ F) :
    Ct (S := Unit) l D dA B Z yX18_size cX18_size 1 (some .int) 1 0 0 [.ref k9] (F) (fun _ => True) (fun _ => some (.int (nI sz))) (fun _ => F) := by
  refine Ct.mk2 (by decide) (Nat.le_of_ble_eq_true rfl) hZ ?_
  intro p e R s m args below meth c ls Q C hr hlocks hin hQ hl h
  have C0 := C
  obtain ⟨hx, hb, hml, hown, hts, -⟩ := C0
  have hl : lv_has ls 1 [(0, .ref k9)] := hl
  refine lv_aload_n hx hb dX18_size_0 rfl (lv_at hl 0 rfl) ?_
  refine o_get C h (RC := RX18) (T := TX18) (N := 3) (hm) rfl in_X18 2 (by decide) q1478 rfl (v := .int (nI sz)) rfl dX18_size_1 ?_
  subst hQ
  exact ret_i C hr hlocks h () trivial rfl rfl (by omega) (by omega) dX18_size_4
set_option maxHeartbeats 1000000 in
set_option maxRecDepth 100000 in
theorem c1_judge4 (l : Launch) (D : va_G) (dA : Nat → ClassId) (B : Nat) (Z : State → Prop) (hZ : Stab B Z) (O G : va_W) (ho st fi bl wo : Nat) (me bs dc ou rg h2 dg tk pl pk tx sd : Nat) (sz : Nat) (po m9 b9 rs pr f1 f2 : Nat) (u9 : HS) (gd : Nat → Nat) (ps : PS) (cx : CX) (e0 : Nat) (tt : KY × Option Nat) (Ry : List KY) (y : Int32) (k9 se : Nat) (sb txt : List Nat) (t : Nat) (SU : Type) (pU : SU → Prop) (wU : SU → va_W)  (hfi : (fi, war dA 5 (t5 in1)) ∈ G) (hzf : ZF B f1 f2 Z) (hme : (me, .inr (0, [.ref bs, .int (nI sz), .ref dc, .ref ou, .ref rg, .ref ho, .ref h2, .ref dg, .ref po, .ref tk, .ref pl, .ref pk, .ref tx, .ref sd])) ∈ G) (hC : CaseIn dA (O ++ G) k9 se sb txt) (hv : sVain sb = false) (hTI : ThIs Ry tt y) (hkw : ∀ z ∈ kyW dA e0 tt.1, z ∈ G) (hKk : KyIn dA G tt.1) (hsh : sHash sb = 2) (ht : t < 4294967296) (hgb0 : ∀ j, j < 64 → u9.2.2.2.2 j < 256) (hgd0 : ∀ j, gd j < 256) (hUE : ∀ (u : HS) (gd : Nat → Nat) (ps : PS) (G9 : va_W), (∀ j, gd j < 256) → (∀ j, j < 64 → u.2.2.2.2 j < 256) → TR dA cx G G9 → ∃ v : SU, pU v ∧ wU v = h4C dA ho st fi bl wo u ++ ([(dg, bar dA 32 gd)] ++ (pwC dA po m9 b9 rs pr ps ++ (O ++ G9)))) (hUK : ∀ (u : HS) (gd : Nat → Nat) (ps : PS) (G9 : va_W), (∀ j, gd j < 256) → (∀ j, j < 64 → u.2.2.2.2 j < 256) → TR dA cx G G9 → Ct (S := SU) l D dA B Z yX1_usable cX1_usable 5 (some .int) 12 (6 * tt.1.2.2.1.2.length + 4 * sumL (fun u : US => u.2.2.2.length) tt.1.2.2.2.1.2) (768 * tt.1.2.2.1.2.length + 512 * sumL (fun u : US => u.2.2.2.length) tt.1.2.2.2.1.2) [.ref me, .ref tt.1.1, .long (lN t)] (h4C dA ho st fi bl wo u ++ ([(dg, bar dA 32 gd)] ++ (pwC dA po m9 b9 rs pr ps ++ (O ++ G9)))) pU (fun _ => some (.int (nI (uskC tt.1 t)))) wU) (hUP : ∀ x ∈ tt.1.2.2.2.2.2, ∀ (u : HS) (gd : Nat → Nat) (ps : PS) (G9 : va_W), (∀ j, gd j < 256) → (∀ j, j < 64 → u.2.2.2.2 j < 256) → TR dA cx G G9 → Ct (S := SU) l D dA B Z yX1_usable_2 cX1_usable_2 7 (some .int) 13 (6 * tt.1.2.2.1.2.length + 4 * sumL (fun u : US => u.2.2.2.length) tt.1.2.2.2.1.2 + 6 * x.2.2.2.length + sumL (fun y : SL => y.2.length) x.2.2.2 + 5) (768 * tt.1.2.2.1.2.length + 512 * sumL (fun u : US => u.2.2.2.length) tt.1.2.2.2.1.2 + 768 * x.2.2.2.length + 5 * sumL (fun y : SL => y.2.length) x.2.2.2 + 278) [.ref me, .ref tt.1.1, .ref x.1, .long (lN t)] (h4C dA ho st fi bl wo u ++ ([(dg, bar dA 32 gd)] ++ (pwC dA po m9 b9 rs pr ps ++ (O ++ G9)))) pU (fun _ => some (.int (nI (uspC tt.1 x t)))) wU) :
    Ct (S := SU) l D dA B Z yX1_judge cX1_judge 9 (some .int) 14 (usTs tt + 2) (uSl tt.1 + 256) [.ref me, .ref k9, .ref tt.1.1, .int y, .long (lN t)] (h4C dA ho st fi bl wo u9 ++ ([(dg, bar dA 32 gd)] ++ (pwC dA po m9 b9 rs pr ps ++ (O ++ G)))) (pU) (fun _ => some (.int (jdgC tt sb txt t))) (wU) := by
  refine Ct.mk2 (by decide) (Nat.le_of_ble_eq_true rfl) hZ ?_
  intro p e R s m args below meth c ls Q C hr hlocks hin hQ hl h
  have C0 := C
  obtain ⟨hx, hb, hml, hown, hts, -⟩ := C0
  have hl : lv_has ls 9 [(0, .ref me), (1, .ref k9), (2, .ref tt.1.1), (3, .int y), (4, .long (lN t))] := hl
  obtain ⟨⟨ta, n9, g9, hca, hta, hts9, hn9⟩, hSi, htb, htl, kk9, hok9⟩ := hC
  have hSi0 := hSi
  obtain ⟨⟨hbbx, hblx, hbox, hb0x⟩, bax, snx, r1x, r2x, r3x, w1x, w2x, w3x, hcex, hbax, hsnx, hr1x, hr2x, hr3x⟩ := hSi
  dsimp only at hbbx hblx hbox hb0x
  have h : Wd D B s ([(ho, .inr (2, [.ref st, .ref fi, .ref bl, .long u9.1, .ref wo])), (st, war dA 5 u9.2.1), (wo, war dA 80 u9.2.2.1), (bl, bar dA 64 u9.2.2.2.2), (dg, bar dA 32 gd), (po, .inr (4, [.ref m9, .ref b9, .ref rs, .ref pr, .int ps.2.2.2.2.1, .int ps.2.2.2.2.2])), (m9, iar dA 66 ps.1), (b9, iar dA 66 ps.2.1), (rs, iar dA 66 ps.2.2.1), (pr, iar dA 134 ps.2.2.2.1)] ++ (O ++ G)) s.heap [] := h
  have hsh9 : sHash sb < 256 := oneS_lt hbbx _
  have hst9 := sType_lt hbbx
  refine lv_aload_n hx hb dX1_judge_0 rfl (lv_at hl 1 rfl) ?_
  refine call_VR (As := []) (rest := []) (n := 0) C h (cC_seal l D dA B Z hZ _ k9 se ta txt.length (List.mem_append_right _ hca)) (lw_V q1504 q1505 q1506 q166 q1507) (by decide +kernel) (o_recv C h (RC := RX18) (T := TX18) (N := 3) (List.mem_append_right _ hca) rfl) (by decide) (by decide) rfl hl rfl (Nat.le_of_ble_eq_true rfl) dX1_judge_1 (by omega) (fun _ H locs _ h => ?_)
  refine lv_astore (lv' := [(6, .ref se), (0, .ref me), (1, .ref k9), (2, .ref tt.1.1), (3, .int y), (4, .long (lN t))]) hx hb dX1_judge_4 hl (by decide) rfl (fun ls hl => ?_)
  refine lv_aload_n hx hb dX1_judge_6 rfl (lv_at hl 1 rfl) ?_
  refine lv_aload hx hb dX1_judge_7 (lv_at hl 0 rfl) ?_
  refine call_VR (As := [.ref se]) (rest := []) (n := 1) C h (c1_begun4 l D dA B Z hZ ([(dg, bar dA 32 gd), (po, .inr (4, [.ref m9, .ref b9, .ref rs, .ref pr, .int ps.2.2.2.2.1, .int ps.2.2.2.2.2])), (m9, iar dA 66 ps.1), (b9, iar dA 66 ps.2.1), (rs, iar dA 66 ps.2.2.1), (pr, iar dA 134 ps.2.2.2.1)] ++ (O ++ G)) ho st fi bl wo me bs dc ou rg h2 dg tk pl pk tx sd sz po u9 (se, sb) (List.mem_append_right _ (List.mem_append_right _ hfi)) (List.mem_append_right _ (List.mem_append_right _ hme)) ⟨0, hSi0.sub (fun b q hq => List.mem_append_right _ hq) (fun a fs hq => List.mem_append_right _ hq)⟩ hsh) (lw_V q1523 q1525 qs20 q129 q1526) (by decide +kernel) (o_recv C h (RC := RX1) (T := TX1) (N := 14) (List.mem_append_right _ (List.mem_append_right _ hme)) rfl) (by decide) (by decide) rfl hl rfl (Nat.le_of_ble_eq_true rfl) dX1_judge_9 (by omega) (fun _ H locs _ h => ?_)
  obtain ⟨gw, hgw9⟩ : ∃ z, z = u9.2.2.1 := ⟨_, rfl⟩
  obtain ⟨yq, hy9⟩ : ∃ z, z = u9.2.2.2.1 := ⟨_, rfl⟩
  obtain ⟨gb, hgb9⟩ : ∃ z, z = u9.2.2.2.2 := ⟨_, rfl⟩
  rw [← hgw9, ← hy9, ← hgb9] at h
  have hbk : Blk gb [] := Blk_nil (by rw [hgb9]; exact hgb0)
  have h : Wd D B s ([(ho, .inr (2, [.ref st, .ref fi, .ref bl, .long (lN (([] : List Nat).length)), .ref wo])), (st, war dA 5 (t5 (hs1 ([] : List Nat) (([] : List Nat).length / 64)))), (wo, war dA 80 gw), (bl, bar dA 64 gb), (dg, bar dA 32 gd), (po, .inr (4, [.ref m9, .ref b9, .ref rs, .ref pr, .int ps.2.2.2.2.1, .int ps.2.2.2.2.2])), (m9, iar dA 66 ps.1), (b9, iar dA 66 ps.2.1), (rs, iar dA 66 ps.2.2.1), (pr, iar dA 134 ps.2.2.2.1)] ++ (O ++ G)) H locs := h
  refine lv_astore (lv' := [(7, .ref ho), (6, .ref se), (0, .ref me), (1, .ref k9), (2, .ref tt.1.1), (3, .int y), (4, .long (lN t))]) hx hb dX1_judge_12 hl (by decide) rfl (fun ls hl => ?_)
  obtain ⟨mg, hmg⟩ : ∃ z, z = txS (decide (sType sb = 1)) txt txt.length := ⟨_, rfl⟩
  have hml9 : mg.length < 100000 := by rw [hmg]; have := txS_len (decide (sType sb = 1)) txt txt.length; omega
  have j53 : ∀ (gw5 : Nat → Int32) (gb5 : Nat → Nat), (Blk gb5 mg) → ∀ (H : Heap) (locs : List Loc), Wd D B s ([(ho, .inr (2, [.ref st, .ref fi, .ref bl, .long (lN mg.length), .ref wo])), (st, war dA 5 (t5 (hs1 mg (mg.length / 64)))), (wo, war dA 80 gw5), (bl, bar dA 64 gb5), (dg, bar dA 32 gd), (po, .inr (4, [.ref m9, .ref b9, .ref rs, .ref pr, .int ps.2.2.2.2.1, .int ps.2.2.2.2.2])), (m9, iar dA 66 ps.1), (b9, iar dA 66 ps.2.1), (rs, iar dA 66 ps.2.2.1), (pr, iar dA 134 ps.2.2.2.1)] ++ (O ++ G)) H locs → ∀ (ls : Array Slot), lv_has ls 9 [(7, .ref ho), (6, .ref se), (0, .ref me), (1, .ref k9), (2, .ref tt.1.1), (3, .int y), (4, .long (lN t))] → W p l e R s m args below meth c H locs (0 + 0 + 0) (0 + 0 + 0) Q (F0 m 53 ls []) := by
    intro gw5  gb5  hbk5 H locs h ls hl
    refine lv_aload_n hx hb dX1_judge_53 rfl (lv_at hl 2 rfl) ?_
    refine lv_aload hx hb dX1_judge_54 (lv_at hl 1 rfl) ?_
    refine lv_aload hx hb dX1_judge_56 (lv_at hl 0 rfl) ?_
    refine lv_aload_n hx hb dX1_judge_58 rfl (lv_at hl 4 rfl) ?_
    refine lv_iload_n hx hb dX1_judge_59 rfl (lv_at hl 5 rfl) ?_
    have hkw6 : ∀ z ∈ kyW dA e0 tt.1, z ∈ [(ho, .inr (2, [.ref st, .ref fi, .ref bl, .long (lN mg.length), .ref wo])), (st, war dA 5 (t5 (hs1 mg (mg.length / 64)))), (wo, war dA 80 gw5), (bl, bar dA 64 gb5), (dg, bar dA 32 gd), (po, .inr (4, [.ref m9, .ref b9, .ref rs, .ref pr, .int ps.2.2.2.2.1, .int ps.2.2.2.2.2])), (m9, iar dA 66 ps.1), (b9, iar dA 66 ps.2.1), (rs, iar dA 66 ps.2.2.1), (pr, iar dA 134 ps.2.2.2.1)] ++ (O ++ G) := fun z hz => List.mem_append_right _ (List.mem_append_right _ (hkw z hz))
    have hKk6 : KyIn dA ([(ho, .inr (2, [.ref st, .ref fi, .ref bl, .long (lN mg.length), .ref wo])), (st, war dA 5 (t5 (hs1 mg (mg.length / 64)))), (wo, war dA 80 gw5), (bl, bar dA 64 gb5), (dg, bar dA 32 gd), (po, .inr (4, [.ref m9, .ref b9, .ref rs, .ref pr, .int ps.2.2.2.2.1, .int ps.2.2.2.2.2])), (m9, iar dA 66 ps.1), (b9, iar dA 66 ps.2.1), (rs, iar dA 66 ps.2.2.1), (pr, iar dA 134 ps.2.2.2.1)] ++ (O ++ G)) tt.1 := hKk.sub (fun z hz => List.mem_append_right _ (List.mem_append_right _ hz))
    have hnum : Ct (S := Unit) l D dA B Z yX9_numbersOf cX9_numbersOf 2 (some ((.object "SignetRing$Numbers"))) 4 0 0 [.ref tt.1.1, .int y] ([(ho, .inr (2, [.ref st, .ref fi, .ref bl, .long (lN mg.length), .ref wo])), (st, war dA 5 (t5 (hs1 mg (mg.length / 64)))), (wo, war dA 80 gw5), (bl, bar dA 64 gb5), (dg, bar dA 32 gd), (po, .inr (4, [.ref m9, .ref b9, .ref rs, .ref pr, .int ps.2.2.2.2.1, .int ps.2.2.2.2.2])), (m9, iar dA 66 ps.1), (b9, iar dA 66 ps.2.1), (rs, iar dA 66 ps.2.2.1), (pr, iar dA 134 ps.2.2.2.1)] ++ (O ++ G)) (fun _ => True) (fun _ => some (.ref (numC tt).1)) (fun _ => [(ho, .inr (2, [.ref st, .ref fi, .ref bl, .long (lN mg.length), .ref wo])), (st, war dA 5 (t5 (hs1 mg (mg.length / 64)))), (wo, war dA 80 gw5), (bl, bar dA 64 gb5), (dg, bar dA 32 gd), (po, .inr (4, [.ref m9, .ref b9, .ref rs, .ref pr, .int ps.2.2.2.2.1, .int ps.2.2.2.2.2])), (m9, iar dA 66 ps.1), (b9, iar dA 66 ps.2.1), (rs, iar dA 66 ps.2.2.1), (pr, iar dA 134 ps.2.2.2.1)] ++ (O ++ G)) := by
      have hTI6 := hTI
      clear h
      obtain ⟨hm6, hc6⟩ := hTI6
      rcases hc6 with ⟨e1, e2⟩ | ⟨jq, pq, e1, e2, e3, e4⟩
      · rw [e2, show (numC tt).1 = tt.1.2.1.1 by unfold numC; rw [e1]]
        exact c9_numbersOfK l D dA B Z hZ _ tt.1.1 _ tt.1.2.1.1 _ _ (hkw6 _ kyc_in)
      · rw [e2, show (numC tt).1 = pq.2.1.1 by unfold numC; rw [e1]; dsimp only; rw [e4]]
        exact c9_numbersOf l D dA B Z hZ _ tt.1.1 _ tt.1.2.1.1 _ e0 jq tt.1.2.2.2.2.1 tt.1.2.2.2.2.2 pq (hkw6 _ kyc_in) (hKk6.pl hkw6) (fun y9 hy9 => ⟨(hKk6.2.2.2.2.2 y9 hy9).1, KyIn.ptc hkw6 hy9⟩) e4 (by omega)
    refine call_VR (As := [.int y]) (rest := [.ref ho, .ref se, .ref me]) (n := 1) C h hnum (lw_V q1508 q1509 q1510 q142 q1511) (by decide +kernel) (o_recv C h (RC := RX9) (T := TX9) (N := 4) (hkw6 _ kyc_in) rfl) (by decide) (by decide) rfl hl rfl (Nat.le_of_ble_eq_true rfl) dX1_judge_60 (by omega) (fun _ H locs _ h => ?_)
    have hNt := hTI.num hKk
    have h : Wd D B s (h4C dA ho st fi bl wo (hs4 mg gw5 gw5 gb5) ++ ([(dg, bar dA 32 gd)] ++ (pwC dA po m9 b9 rs pr ps ++ (O ++ G)))) H locs := h
    refine call_VR (As := [.ref se, .ref ho, .ref ((numC tt).1)]) (rest := []) (n := 3) C h (c1_isTrueH4 l D dA B Z hZ (O ++ G) ho st fi bl wo gw5 gb5 mg me bs dc ou rg ho h2 dg tk pl pk tx sd sz po m9 b9 rs pr f1 f2 gd ps (se, sb) 0 (numC tt) hbk5 hzf (List.mem_append_right _ hme) hSi0 (hNt.sub (fun b q hq => List.mem_append_right _ hq) (fun a fs hq => List.mem_append_right _ hq)) hml9 hgd0 hsh) (lw_V q1538 q1540 qs21 q129 q1541) (by decide +kernel) (o_recv C h (RC := RX1) (T := TX1) (N := 14) (List.mem_append_right _ (List.mem_append_right _ (List.mem_append_right _ (List.mem_append_right _ hme)))) rfl) (by decide) (by decide) rfl hl rfl (Nat.le_of_ble_eq_true rfl) dX1_judge_63 (by omega) (fun u8 H locs hu8 h => ?_)
    obtain ⟨uh, ug, up, E9⟩ := u8
    obtain ⟨hq1, hq2⟩ := hu8
    dsimp only at hq1 hq2
    have h : Wd D B s (h4C dA ho st fi bl wo uh ++ ([(dg, bar dA 32 ug)] ++ (pwC dA po m9 b9 rs pr up ++ (O ++ (G ++ E9))))) H locs := h.permL (perm_add (fun g f p0 p1 p2 => by (try simp only [p0, p1, p2]) <;> omega))
    have h : Wd D B s ([(ho, .inr (2, [.ref st, .ref fi, .ref bl, .long uh.1, .ref wo])), (st, war dA 5 uh.2.1), (wo, war dA 80 uh.2.2.1), (bl, bar dA 64 uh.2.2.2.2), (dg, bar dA 32 ug), (po, .inr (4, [.ref m9, .ref b9, .ref rs, .ref pr, .int up.2.2.2.2.1, .int up.2.2.2.2.2])), (m9, iar dA 66 up.1), (b9, iar dA 66 up.2.1), (rs, iar dA 66 up.2.2.1), (pr, iar dA 134 up.2.2.2.1)] ++ (O ++ (G ++ E9))) H locs := h
    refine z_if_ne (tgt := 71) hx hb dX1_judge_66 (by decide) (fun c66 => ?_) (fun c66 => ?_)
    · have hj8 : jdgC tt sb txt t = if t < mdN sb ∨ (0 < enN sb ∧ mdN sb + enN sb ≤ t) then nI 4 else lokU (usTC tt t) := by unfold jdgC; rw [← hmg, if_neg (by rw [c66]; decide)]
      obtain ⟨hmd9, hmdlt⟩ := mdv_of hbbx hv
      refine lv_aload hx hb dX1_judge_71 (lv_at hl 1 rfl) ?_
      refine o_get C h (RC := RX17) (T := TX17) (N := 19) (List.mem_append_right _ (memOE hcex)) rfl in_X17 6 (by decide) q1318 rfl (v := .long (oL (sNote sb).1)) rfl dX1_judge_73 ?_
      refine n_topl (y := lN (mdN sb)) hmd9 ?_
      refine lv_lload hx hb dX1_judge_76 (lv_at hl 6 rfl) ?_
      refine n_lcmp_gt (tgt := 92) hx hb (by omega) (by omega) dX1_judge_78 dX1_judge_79 (by decide) (fun c78 => ?_) (fun c78 => ?_)
      · have hj9 : jdgC tt sb txt t = nI 4 := by rw [hj8, if_pos (Or.inl (by omega))]
        refine lv_iconst (v := nI 4) hx hb dX1_judge_92 (by decide) ?_
        subst hQ
        have h : Wd D B s (h4C dA ho st fi bl wo uh ++ ([(dg, bar dA 32 ug)] ++ (pwC dA po m9 b9 rs pr up ++ (O ++ (G ++ E9))))) H locs := h
        obtain ⟨v9, hv9, hw9⟩ := hUE uh ug up (G ++ E9) hq1 hq2 TR.app
        exact ret_i C hr hlocks h v9 hv9 (by rw [hj9]) hw9 (by omega) (by omega) dX1_judge_93
      · refine lv_aload hx hb dX1_judge_82 (lv_at hl 1 rfl) ?_
        refine lv_lload hx hb dX1_judge_84 (lv_at hl 6 rfl) ?_
        refine call_VR (As := [.long (lN t)]) (rest := []) (n := 1) C h (c17_isEnded l D dA B Z hZ _ (se, sb) t ⟨0, hSi0.sub (fun b q hq => List.mem_append_right _ (memOE hq)) (fun a fs hq => List.mem_append_right _ (memOE hq))⟩ hv ht) (lw_V q1622 q1623 q1624 q165 q1625) (by decide +kernel) (o_recv C h (RC := RX17) (T := TX17) (N := 19) (List.mem_append_right _ (memOE hcex)) rfl) (by decide) (by decide) rfl hl rfl (Nat.le_of_ble_eq_true rfl) dX1_judge_86 (by omega) (fun _ H locs _ h => ?_)
        refine z_if_eq (tgt := 94) hx hb dX1_judge_89 (by decide) (fun c89 => ?_) (fun c89 => ?_)
        · have hj7 : jdgC tt sb txt t = lokU (usTC tt t) := by rw [hj8, if_neg (fun q => q.elim (fun z => absurd z (by omega)) (of_decide_eq_false c89))]
          have hcu : usTs tt = 6 * tt.1.2.2.1.2.length + 4 * sumL (fun u : US => u.2.2.2.length) tt.1.2.2.2.1.2 + sumL (fun x : PTt => 6 * x.2.2.2.length + sumL (fun y : SL => y.2.length) x.2.2.2) tt.1.2.2.2.2.2 + 5 := rfl
          have zs : uSl tt.1 = 768 * tt.1.2.2.1.2.length + 512 * sumL (fun u : US => u.2.2.2.length) tt.1.2.2.2.1.2 + sumL (fun x : PTt => 768 * x.2.2.2.length + 5 * sumL (fun y : SL => y.2.length) x.2.2.2) tt.1.2.2.2.2.2 + 278 := rfl
          rcases hTI.2 with ⟨e1, e2⟩ | ⟨jq, pq, e1, e2, e3, e4⟩
          · have hut : usTC tt t = uskC tt.1 t := by unfold usTC; rw [e1]
            rw [e2] at hl
            have hl : lv_has ls 9 [(7, .ref ho), (6, .ref se), (0, .ref me), (1, .ref k9), (2, .ref tt.1.1), (3, .int (-1)), (4, .long (lN t))] := hl
            refine lv_iload_n hx hb dX1_judge_94 rfl (lv_at hl 5 rfl) ?_
            refine lv_if_ge (tgt := 108) hx hb dX1_judge_95 (by decide) (fun c95 => absurd c95 (by decide)) (fun c95 => ?_)
            refine lv_aload_n hx hb dX1_judge_98 rfl (lv_at hl 2 rfl) ?_
            refine lv_aload_n hx hb dX1_judge_99 rfl (lv_at hl 4 rfl) ?_
            refine lv_lload hx hb dX1_judge_100 (lv_at hl 6 rfl) ?_
            have h : Wd D B s (h4C dA ho st fi bl wo uh ++ ([(dg, bar dA 32 ug)] ++ (pwC dA po m9 b9 rs pr up ++ (O ++ (G ++ E9))))) H locs := h
            refine call_VR (As := [.ref tt.1.1, .long (lN t)]) (rest := []) (n := 2) C h (hUK uh ug up (G ++ E9) hq1 hq2 TR.app) (lw_V q1626 q1628 qs27 q129 q1629) (by decide +kernel) (o_recv C h (RC := RX1) (T := TX1) (N := 14) (List.mem_append_right _ (List.mem_append_right _ (List.mem_append_right _ (List.mem_append_right _ (List.mem_append_left _ hme))))) rfl) (by decide) (by decide) rfl hl rfl (Nat.le_of_ble_eq_true rfl) dX1_judge_102 (by omega) (fun u7 H locs hu7 h => ?_)
            have hus9 : usTC tt t < 100 := by rw [hut]; exact uskC_lt _ _
            refine lv_goto (tgt := 126) hx hb dX1_judge_105 (by decide) ?_
            refine lv_istore (lv' := [(8, .int (nI (uskC tt.1 t))), (7, .ref ho), (6, .ref se), (0, .ref me), (1, .ref k9), (2, .ref tt.1.1), (3, .int (-1)), (4, .long (lN t))]) hx hb dX1_judge_126 hl (by decide) rfl (fun ls hl => ?_)
            refine lv_iload hx hb dX1_judge_128 (lv_at hl 0 rfl) ?_
            refine n_if_ne (tgt := 137) hx hb (by omega) dX1_judge_130 (by decide) (fun c130 => ?_) (fun c130 => ?_)
            · refine lv_bipush (v := nI 10) hx hb dX1_judge_137 (by decide) ?_
              refine lv_iload hx hb dX1_judge_139 (lv_at hl 0 rfl) ?_
              refine lv_iadd hx hb dX1_judge_141 (n_top (y := nI (10 + uskC tt.1 t)) (nI_add 10 (uskC tt.1 t)) ?_)
              subst hQ
              exact ret_i C hr hlocks h u7 hu7 (by rw [hj7]; unfold lokU; rw [hut]; rw [if_neg c130]) rfl (by omega) (by omega) dX1_judge_142
            · refine lv_iconst (v := nI 0) hx hb dX1_judge_133 (by decide) ?_
              refine lv_goto (tgt := 142) hx hb dX1_judge_134 (by decide) ?_
              subst hQ
              exact ret_i C hr hlocks h u7 hu7 (by rw [hj7]; unfold lokU; rw [hut]; rw [if_pos c130]) rfl (by omega) (by omega) dX1_judge_142
          · have hut : usTC tt t = uspC tt.1 pq t := by unfold usTC; rw [e1]; dsimp only; rw [e4]
            rw [e2] at hl
            have hl : lv_has ls 9 [(7, .ref ho), (6, .ref se), (0, .ref me), (1, .ref k9), (2, .ref tt.1.1), (3, .int (nI jq)), (4, .long (lN t))] := hl
            have hpm := List.mem_of_getElem? e4
            have hpl := hKk.pl hkw
            obtain ⟨edp, hcpl⟩ := hpl.cell
            have hcp := sumL_mem (fun x : PTt => 6 * x.2.2.2.length + sumL (fun y : SL => y.2.length) x.2.2.2) hpm
            have hcp2 := sumL_mem (fun x : PTt => 768 * x.2.2.2.length + 5 * sumL (fun y : SL => y.2.length) x.2.2.2) hpm
            dsimp only at hcp hcp2
            refine lv_iload_n hx hb dX1_judge_94 rfl (lv_at hl 5 rfl) ?_
            refine n_if_ge (tgt := 108) hx hb (by omega) dX1_judge_95 (by decide) ?_
            refine lv_aload_n hx hb dX1_judge_108 rfl (lv_at hl 2 rfl) ?_
            refine lv_aload_n hx hb dX1_judge_109 rfl (lv_at hl 4 rfl) ?_
            refine lv_aload_n hx hb dX1_judge_110 rfl (lv_at hl 4 rfl) ?_
            refine o_get C h (RC := RX9) (T := TX9) (N := 4) (List.mem_append_right _ (List.mem_append_right _ (List.mem_append_left _ (hkw _ kyc_in)))) rfl in_X9 3 (by decide) q401 rfl (v := .ref tt.1.2.2.2.2.1.1) rfl dX1_judge_111 ?_
            refine lv_iload_n hx hb dX1_judge_114 rfl (lv_at hl 5 rfl) ?_
            refine call_VR (As := [.int (nI jq)]) (rest := [.ref tt.1.1, .ref me]) (n := 1) C h (cA_get l D dA B Z hZ _ e0 tt.1.2.2.2.2.1 _ jq pq.1 (hpl.sub (fun z hz => List.mem_append_right _ (List.mem_append_right _ (List.mem_append_left _ (hpl.1 z hz))))) (at_map e4)) (lw_V q364 q365 q366 q133 q367) (by decide +kernel) (o_recv C h (RC := RJ2) (T := TJ2) (N := 3) (List.mem_append_right _ (List.mem_append_right _ (List.mem_append_left _ hcpl))) rfl) (by decide) (by decide) rfl hl rfl (Nat.le_of_ble_eq_true rfl) dX1_judge_115 (by omega) (fun _ H locs _ h => ?_)
            refine o_cast C h (RC := RX11) (T := TX11) (N := 2) (List.mem_append_right _ (List.mem_append_right _ (List.mem_append_left _ (KyIn.ptc hkw hpm)))) rfl q1279 dX1_judge_118 ?_
            refine lv_lload hx hb dX1_judge_121 (lv_at hl 6 rfl) ?_
            have h : Wd D B s (h4C dA ho st fi bl wo uh ++ ([(dg, bar dA 32 ug)] ++ (pwC dA po m9 b9 rs pr up ++ (O ++ (G ++ E9))))) H locs := h
            refine call_VR (As := [.ref tt.1.1, .ref pq.1, .long (lN t)]) (rest := []) (n := 3) C h (hUP pq hpm uh ug up (G ++ E9) hq1 hq2 TR.app) (lw_V q1658 q1660 qs35 q129 q1661) (by decide +kernel) (o_recv C h (RC := RX1) (T := TX1) (N := 14) (List.mem_append_right _ (List.mem_append_right _ (List.mem_append_right _ (List.mem_append_right _ (List.mem_append_left _ hme))))) rfl) (by decide) (by decide) rfl hl rfl (Nat.le_of_ble_eq_true rfl) dX1_judge_123 (by omega) (fun u7 H locs hu7 h => ?_)
            have hus9 : usTC tt t < 100 := by rw [hut]; exact uspC_lt _ _ _
            refine lv_istore (lv' := [(8, .int (nI (uspC tt.1 pq t))), (7, .ref ho), (6, .ref se), (0, .ref me), (1, .ref k9), (2, .ref tt.1.1), (3, .int (nI jq)), (4, .long (lN t))]) hx hb dX1_judge_126 hl (by decide) rfl (fun ls hl => ?_)
            refine lv_iload hx hb dX1_judge_128 (lv_at hl 0 rfl) ?_
            refine n_if_ne (tgt := 137) hx hb (by omega) dX1_judge_130 (by decide) (fun c130 => ?_) (fun c130 => ?_)
            · refine lv_bipush (v := nI 10) hx hb dX1_judge_137 (by decide) ?_
              refine lv_iload hx hb dX1_judge_139 (lv_at hl 0 rfl) ?_
              refine lv_iadd hx hb dX1_judge_141 (n_top (y := nI (10 + uspC tt.1 pq t)) (nI_add 10 (uspC tt.1 pq t)) ?_)
              subst hQ
              exact ret_i C hr hlocks h u7 hu7 (by rw [hj7]; unfold lokU; rw [hut]; rw [if_neg c130]) rfl (by omega) (by omega) dX1_judge_142
            · refine lv_iconst (v := nI 0) hx hb dX1_judge_133 (by decide) ?_
              refine lv_goto (tgt := 142) hx hb dX1_judge_134 (by decide) ?_
              subst hQ
              exact ret_i C hr hlocks h u7 hu7 (by rw [hj7]; unfold lokU; rw [hut]; rw [if_pos c130]) rfl (by omega) (by omega) dX1_judge_142
        · have hj9 : jdgC tt sb txt t = nI 4 := by rw [hj8, if_pos (Or.inr (of_decide_eq_true c89))]
          refine lv_iconst (v := nI 4) hx hb dX1_judge_92 (by decide) ?_
          subst hQ
          have h : Wd D B s (h4C dA ho st fi bl wo uh ++ ([(dg, bar dA 32 ug)] ++ (pwC dA po m9 b9 rs pr up ++ (O ++ (G ++ E9))))) H locs := h
          obtain ⟨v9, hv9, hw9⟩ := hUE uh ug up (G ++ E9) hq1 hq2 TR.app
          exact ret_i C hr hlocks h v9 hv9 (by rw [hj9]) hw9 (by omega) (by omega) dX1_judge_93
    · have hj9 : jdgC tt sb txt t = nI 3 := by unfold jdgC; rw [← hmg, if_pos c66]
      refine lv_iconst (v := nI 3) hx hb dX1_judge_69 (by decide) ?_
      subst hQ
      have h : Wd D B s (h4C dA ho st fi bl wo uh ++ ([(dg, bar dA 32 ug)] ++ (pwC dA po m9 b9 rs pr up ++ (O ++ (G ++ E9))))) H locs := h
      obtain ⟨v9, hv9, hw9⟩ := hUE uh ug up (G ++ E9) hq1 hq2 TR.app
      exact ret_i C hr hlocks h v9 hv9 (by rw [hj9]) hw9 (by omega) (by omega) dX1_judge_70
  refine lv_aload hx hb dX1_judge_14 (lv_at hl 1 rfl) ?_
  refine o_get C h (RC := RX17) (T := TX17) (N := 19) (List.mem_append_right _ hcex) rfl in_X17 1 (by decide) q1308 rfl (v := .int (nI (sType sb))) rfl dX1_judge_16 ?_
  refine lv_iconst (v := nI 1) hx hb dX1_judge_19 (by decide) ?_
  refine n_icmp_ne (tgt := 39) hx hb (by omega) (by omega) dX1_judge_20 (by decide) (fun c20 => ?_) (fun c20 => ?_)
  · refine lv_aload hx hb dX1_judge_39 (lv_at hl 0 rfl) ?_
    refine lv_aload_n hx hb dX1_judge_41 rfl (lv_at hl 3 rfl) ?_
    refine call_VR (As := []) (rest := [.ref ho]) (n := 0) C h (cC_text l D dA B Z hZ _ k9 se ta txt.length (List.mem_append_right _ hca)) (lw_V q1527 q1528 q1529 q166 q1530) (by decide +kernel) (o_recv C h (RC := RX18) (T := TX18) (N := 3) (List.mem_append_right _ hca) rfl) (by decide) (by decide) rfl hl rfl (Nat.le_of_ble_eq_true rfl) dX1_judge_42 (by omega) (fun _ H locs _ h => ?_)
    refine lv_iconst (v := nI 0) hx hb dX1_judge_45 (by decide) ?_
    refine lv_aload_n hx hb dX1_judge_46 rfl (lv_at hl 3 rfl) ?_
    refine call_VR (As := []) (rest := [.int (nI 0), .ref ta, .ref ho]) (n := 0) C h (cC_size l D dA B Z hZ _ k9 se ta txt.length (List.mem_append_right _ hca)) (lw_V q1531 q1532 q1533 q166 q1534) (by decide +kernel) (o_recv C h (RC := RX18) (T := TX18) (N := 3) (List.mem_append_right _ hca) rfl) (by decide) (by decide) rfl hl rfl (Nat.le_of_ble_eq_true rfl) dX1_judge_47 (by omega) (fun _ H locs _ h => ?_)
    refine call_U (As := [.ref ta, .int (nI 0), .int (nI txt.length)]) (rest := []) (n := 3) C h (c4_putA l D dA B Z hZ ([(dg, bar dA 32 gd), (po, .inr (4, [.ref m9, .ref b9, .ref rs, .ref pr, .int ps.2.2.2.2.1, .int ps.2.2.2.2.2])), (m9, iar dA 66 ps.1), (b9, iar dA 66 ps.2.1), (rs, iar dA 66 ps.2.2.1), (pr, iar dA 134 ps.2.2.2.1)] ++ (O ++ G)) ho st fi bl wo gw gb (([] : List Nat)) ta (n9) (0) (txt.length) (g9) hbk (List.mem_append_right _ hta) (by omega) (hts9.1) (by omega) (by (try simp only [List.length_append, be_len, sl_len, List.length_cons, List.length_nil]) <;> omega) (fun j hj => by rw [hts9.2 j hj]; exact byt_gD htb j)) (lw_U q1231 q1233 q1234 q1232 q134 q1236) rfl (by decide +kernel) (o_recv C h (RC := RX4) (T := TX4) (N := 5) (List.mem_of_getElem? (i := 0) rfl) rfl) (by decide) (by decide) rfl hl rfl (Nat.le_of_ble_eq_true rfl) dX1_judge_50 (by omega) (fun u3 H locs hbk_1 h => ?_)
    obtain ⟨gw_1, y_1, gb_1⟩ := u3
    dsimp only at hbk_1
    have h : Wd D B s ([(ho, .inr (2, [.ref st, .ref fi, .ref bl, .long (lN ((([] : List Nat) ++ sl g9 0 (txt.length - 0)).length)), .ref wo])), (st, war dA 5 (t5 (hs1 (([] : List Nat) ++ sl g9 0 (txt.length - 0)) ((([] : List Nat) ++ sl g9 0 (txt.length - 0)).length / 64)))), (wo, war dA 80 gw_1), (bl, bar dA 64 gb_1), (dg, bar dA 32 gd), (po, .inr (4, [.ref m9, .ref b9, .ref rs, .ref pr, .int ps.2.2.2.2.1, .int ps.2.2.2.2.2])), (m9, iar dA 66 ps.1), (b9, iar dA 66 ps.2.1), (rs, iar dA 66 ps.2.2.1), (pr, iar dA 134 ps.2.2.2.1)] ++ (O ++ G)) H locs := h
    have hmsg : ([] : List Nat) ++ sl g9 0 (txt.length - 0) = txS (decide (sType sb = 1)) txt txt.length := by rw [decide_eq_false c20, txS_f, List.nil_append, Nat.sub_zero]; exact hts9.sl
    rw [hmsg, ← hmg] at h hbk_1
    have h : Wd D B s ([(ho, .inr (2, [.ref st, .ref fi, .ref bl, .long (lN mg.length), .ref wo])), (st, war dA 5 (t5 (hs1 mg (mg.length / 64)))), (wo, war dA 80 gw_1), (bl, bar dA 64 gb_1), (dg, bar dA 32 gd), (po, .inr (4, [.ref m9, .ref b9, .ref rs, .ref pr, .int ps.2.2.2.2.1, .int ps.2.2.2.2.2])), (m9, iar dA 66 ps.1), (b9, iar dA 66 ps.2.1), (rs, iar dA 66 ps.2.2.1), (pr, iar dA 134 ps.2.2.2.1)] ++ (O ++ G)) H locs := h.permL (perm_add (fun g f p0 p1 p2 => by (try simp only [p0, p1, p2]) <;> omega))
    exact j53 gw_1 gb_1 hbk_1 _ _ h _ (lv_sub hl [0, 1, 2, 3, 4, 5, 6] rfl)
  · refine lv_aload hx hb dX1_judge_23 (lv_at hl 0 rfl) ?_
    refine lv_aload_n hx hb dX1_judge_25 rfl (lv_at hl 3 rfl) ?_
    refine call_VR (As := []) (rest := [.ref ho]) (n := 0) C h (cC_text l D dA B Z hZ _ k9 se ta txt.length (List.mem_append_right _ hca)) (lw_V q1527 q1528 q1529 q166 q1530) (by decide +kernel) (o_recv C h (RC := RX18) (T := TX18) (N := 3) (List.mem_append_right _ hca) rfl) (by decide) (by decide) rfl hl rfl (Nat.le_of_ble_eq_true rfl) dX1_judge_26 (by omega) (fun _ H locs _ h => ?_)
    refine lv_aload_n hx hb dX1_judge_29 rfl (lv_at hl 3 rfl) ?_
    refine call_VR (As := []) (rest := [.ref ta, .ref ho]) (n := 0) C h (cC_size l D dA B Z hZ _ k9 se ta txt.length (List.mem_append_right _ hca)) (lw_V q1531 q1532 q1533 q166 q1534) (by decide +kernel) (o_recv C h (RC := RX18) (T := TX18) (N := 3) (List.mem_append_right _ hca) rfl) (by decide) (by decide) rfl hl rfl (Nat.le_of_ble_eq_true rfl) dX1_judge_30 (by omega) (fun _ H locs _ h => ?_)
    refine call_S (As := [.ref ho, .ref ta, .int (nI txt.length)]) (rest := []) (n := 3) C h (c1_putText4 l D dA B Z hZ ([(dg, bar dA 32 gd), (po, .inr (4, [.ref m9, .ref b9, .ref rs, .ref pr, .int ps.2.2.2.2.1, .int ps.2.2.2.2.2])), (m9, iar dA 66 ps.1), (b9, iar dA 66 ps.2.1), (rs, iar dA 66 ps.2.2.1), (pr, iar dA 134 ps.2.2.2.1)] ++ (O ++ G)) ho st fi bl wo gw gb (([] : List Nat)) ta n9 g9 txt hbk (List.mem_append_right _ hta) hts9 htb (by omega) (by (try simp only [List.length_nil]) <;> omega)) (lw_S q1535 q1536 q129 q1537) (by decide +kernel) (by decide) (by decide) rfl hl rfl (Nat.le_of_ble_eq_true rfl) dX1_judge_33 (by omega) (fun u3 H locs hbk_2 h => ?_)
    obtain ⟨gw_2, y_2, gb_2⟩ := u3
    dsimp only at hbk_2
    have h : Wd D B s ([(ho, .inr (2, [.ref st, .ref fi, .ref bl, .long (lN ((([] : List Nat) ++ txS true txt txt.length).length)), .ref wo])), (st, war dA 5 (t5 (hs1 (([] : List Nat) ++ txS true txt txt.length) ((([] : List Nat) ++ txS true txt txt.length).length / 64)))), (wo, war dA 80 gw_2), (bl, bar dA 64 gb_2), (dg, bar dA 32 gd), (po, .inr (4, [.ref m9, .ref b9, .ref rs, .ref pr, .int ps.2.2.2.2.1, .int ps.2.2.2.2.2])), (m9, iar dA 66 ps.1), (b9, iar dA 66 ps.2.1), (rs, iar dA 66 ps.2.2.1), (pr, iar dA 134 ps.2.2.2.1)] ++ (O ++ G)) H locs := h
    have hmsg : ([] : List Nat) ++ txS true txt txt.length = txS (decide (sType sb = 1)) txt txt.length := by rw [decide_eq_true c20]; rfl
    refine lv_goto (tgt := 53) hx hb dX1_judge_36 (by decide) ?_
    rw [hmsg, ← hmg] at h hbk_2
    have h : Wd D B s ([(ho, .inr (2, [.ref st, .ref fi, .ref bl, .long (lN mg.length), .ref wo])), (st, war dA 5 (t5 (hs1 mg (mg.length / 64)))), (wo, war dA 80 gw_2), (bl, bar dA 64 gb_2), (dg, bar dA 32 gd), (po, .inr (4, [.ref m9, .ref b9, .ref rs, .ref pr, .int ps.2.2.2.2.1, .int ps.2.2.2.2.2])), (m9, iar dA 66 ps.1), (b9, iar dA 66 ps.2.1), (rs, iar dA 66 ps.2.2.1), (pr, iar dA 134 ps.2.2.2.1)] ++ (O ++ G)) H locs := h.permL (perm_add (fun g f p0 p1 p2 => by (try simp only [p0, p1, p2]) <;> omega))
    exact j53 gw_2 gb_2 hbk_2 _ _ h _ (lv_sub hl [0, 1, 2, 3, 4, 5, 6] rfl)
set_option maxHeartbeats 1000000 in
set_option maxRecDepth 100000 in
theorem c1_judge5 (l : Launch) (D : va_G) (dA : Nat → ClassId) (B : Nat) (Z : State → Prop) (hZ : Stab B Z) (O G : va_W) (ho st fi bl wo ei : Nat) (me bs dc ou rg h1 dg tk pl pk tx sd : Nat) (sz : Nat) (po m9 b9 rs pr f1 f2 : Nat) (u9 : HS) (gd : Nat → Nat) (ps : PS) (cx : CX) (e0 : Nat) (tt : KY × Option Nat) (Ry : List KY) (y : Int32) (k9 se : Nat) (sb txt : List Nat) (t : Nat) (SU : Type) (pU : SU → Prop) (wU : SU → va_W) (hzA : ∀ U : State, Z U → ∃ t, va_Z "SignetRing$Second" "ADD" "[I" (.ref t) (bA B) U U.heap ∧ va_T .int t 64 (fun j => .int (K2 j)) (bA B) U U.heap) (hfi : (fi, war dA 8 in2) ∈ G) (hzf : ZF B f1 f2 Z) (hme : (me, .inr (0, [.ref bs, .int (nI sz), .ref dc, .ref ou, .ref rg, .ref h1, .ref ho, .ref dg, .ref po, .ref tk, .ref pl, .ref pk, .ref tx, .ref sd])) ∈ G) (hC : CaseIn dA (O ++ G) k9 se sb txt) (hv : sVain sb = false) (hTI : ThIs Ry tt y) (hkw : ∀ z ∈ kyW dA e0 tt.1, z ∈ G) (hKk : KyIn dA G tt.1) (hsh : ¬ sHash sb = 2) (ht : t < 4294967296) (hgb0 : ∀ j, j < 64 → u9.2.2.2.2 j < 256) (hgd0 : ∀ j, gd j < 256) (hUE : ∀ (u : HS) (gd : Nat → Nat) (ps : PS) (G9 : va_W), (∀ j, gd j < 256) → (∀ j, j < 64 → u.2.2.2.2 j < 256) → TR dA cx G G9 → ∃ v : SU, pU v ∧ wU v = h5C dA ho st fi bl wo ei u ++ ([(dg, bar dA 32 gd)] ++ (pwC dA po m9 b9 rs pr ps ++ (O ++ G9)))) (hUK : ∀ (u : HS) (gd : Nat → Nat) (ps : PS) (G9 : va_W), (∀ j, gd j < 256) → (∀ j, j < 64 → u.2.2.2.2 j < 256) → TR dA cx G G9 → Ct (S := SU) l D dA B Z yX1_usable cX1_usable 5 (some .int) 12 (6 * tt.1.2.2.1.2.length + 4 * sumL (fun u : US => u.2.2.2.length) tt.1.2.2.2.1.2) (768 * tt.1.2.2.1.2.length + 512 * sumL (fun u : US => u.2.2.2.length) tt.1.2.2.2.1.2) [.ref me, .ref tt.1.1, .long (lN t)] (h5C dA ho st fi bl wo ei u ++ ([(dg, bar dA 32 gd)] ++ (pwC dA po m9 b9 rs pr ps ++ (O ++ G9)))) pU (fun _ => some (.int (nI (uskC tt.1 t)))) wU) (hUP : ∀ x ∈ tt.1.2.2.2.2.2, ∀ (u : HS) (gd : Nat → Nat) (ps : PS) (G9 : va_W), (∀ j, gd j < 256) → (∀ j, j < 64 → u.2.2.2.2 j < 256) → TR dA cx G G9 → Ct (S := SU) l D dA B Z yX1_usable_2 cX1_usable_2 7 (some .int) 13 (6 * tt.1.2.2.1.2.length + 4 * sumL (fun u : US => u.2.2.2.length) tt.1.2.2.2.1.2 + 6 * x.2.2.2.length + sumL (fun y : SL => y.2.length) x.2.2.2 + 5) (768 * tt.1.2.2.1.2.length + 512 * sumL (fun u : US => u.2.2.2.length) tt.1.2.2.2.1.2 + 768 * x.2.2.2.length + 5 * sumL (fun y : SL => y.2.length) x.2.2.2 + 278) [.ref me, .ref tt.1.1, .ref x.1, .long (lN t)] (h5C dA ho st fi bl wo ei u ++ ([(dg, bar dA 32 gd)] ++ (pwC dA po m9 b9 rs pr ps ++ (O ++ G9)))) pU (fun _ => some (.int (nI (uspC tt.1 x t)))) wU) :
    Ct (S := SU) l D dA B Z yX1_judge cX1_judge 9 (some .int) 14 (usTs tt + 2) (uSl tt.1 + 256) [.ref me, .ref k9, .ref tt.1.1, .int y, .long (lN t)] (h5C dA ho st fi bl wo ei u9 ++ ([(dg, bar dA 32 gd)] ++ (pwC dA po m9 b9 rs pr ps ++ (O ++ G)))) (pU) (fun _ => some (.int (jdgC tt sb txt t))) (wU) := by
  refine Ct.mk2 (by decide) (Nat.le_of_ble_eq_true rfl) hZ ?_
  intro p e R s m args below meth c ls Q C hr hlocks hin hQ hl h
  have C0 := C
  obtain ⟨hx, hb, hml, hown, hts, -⟩ := C0
  have hl : lv_has ls 9 [(0, .ref me), (1, .ref k9), (2, .ref tt.1.1), (3, .int y), (4, .long (lN t))] := hl
  obtain ⟨⟨ta, n9, g9, hca, hta, hts9, hn9⟩, hSi, htb, htl, kk9, hok9⟩ := hC
  have hSi0 := hSi
  obtain ⟨⟨hbbx, hblx, hbox, hb0x⟩, bax, snx, r1x, r2x, r3x, w1x, w2x, w3x, hcex, hbax, hsnx, hr1x, hr2x, hr3x⟩ := hSi
  dsimp only at hbbx hblx hbox hb0x
  have h : Wd D B s ([(ho, .inr (3, [.ref st, .ref fi, .ref bl, .long u9.1, .ref wo, .ref ei])), (st, war dA 8 u9.2.1), (wo, war dA 64 u9.2.2.1), (ei, war dA 8 u9.2.2.2.1), (bl, bar dA 64 u9.2.2.2.2), (dg, bar dA 32 gd), (po, .inr (4, [.ref m9, .ref b9, .ref rs, .ref pr, .int ps.2.2.2.2.1, .int ps.2.2.2.2.2])), (m9, iar dA 66 ps.1), (b9, iar dA 66 ps.2.1), (rs, iar dA 66 ps.2.2.1), (pr, iar dA 134 ps.2.2.2.1)] ++ (O ++ G)) s.heap [] := h
  have hsh9 : sHash sb < 256 := oneS_lt hbbx _
  have hst9 := sType_lt hbbx
  refine lv_aload_n hx hb dX1_judge_0 rfl (lv_at hl 1 rfl) ?_
  refine call_VR (As := []) (rest := []) (n := 0) C h (cC_seal l D dA B Z hZ _ k9 se ta txt.length (List.mem_append_right _ hca)) (lw_V q1504 q1505 q1506 q166 q1507) (by decide +kernel) (o_recv C h (RC := RX18) (T := TX18) (N := 3) (List.mem_append_right _ hca) rfl) (by decide) (by decide) rfl hl rfl (Nat.le_of_ble_eq_true rfl) dX1_judge_1 (by omega) (fun _ H locs _ h => ?_)
  refine lv_astore (lv' := [(6, .ref se), (0, .ref me), (1, .ref k9), (2, .ref tt.1.1), (3, .int y), (4, .long (lN t))]) hx hb dX1_judge_4 hl (by decide) rfl (fun ls hl => ?_)
  refine lv_aload_n hx hb dX1_judge_6 rfl (lv_at hl 1 rfl) ?_
  refine lv_aload hx hb dX1_judge_7 (lv_at hl 0 rfl) ?_
  refine call_VR (As := [.ref se]) (rest := []) (n := 1) C h (c1_begun5 l D dA B Z hZ ([(dg, bar dA 32 gd), (po, .inr (4, [.ref m9, .ref b9, .ref rs, .ref pr, .int ps.2.2.2.2.1, .int ps.2.2.2.2.2])), (m9, iar dA 66 ps.1), (b9, iar dA 66 ps.2.1), (rs, iar dA 66 ps.2.2.1), (pr, iar dA 134 ps.2.2.2.1)] ++ (O ++ G)) ho st fi bl wo ei me bs dc ou rg h1 dg tk pl pk tx sd sz po u9 (se, sb) (List.mem_append_right _ (List.mem_append_right _ hfi)) (List.mem_append_right _ (List.mem_append_right _ hme)) ⟨0, hSi0.sub (fun b q hq => List.mem_append_right _ hq) (fun a fs hq => List.mem_append_right _ hq)⟩ hsh) (lw_V q1523 q1525 qs20 q129 q1526) (by decide +kernel) (o_recv C h (RC := RX1) (T := TX1) (N := 14) (List.mem_append_right _ (List.mem_append_right _ hme)) rfl) (by decide) (by decide) rfl hl rfl (Nat.le_of_ble_eq_true rfl) dX1_judge_9 (by omega) (fun _ H locs _ h => ?_)
  obtain ⟨gw, hgw9⟩ : ∃ z, z = u9.2.2.1 := ⟨_, rfl⟩
  obtain ⟨yq, hy9⟩ : ∃ z, z = u9.2.2.2.1 := ⟨_, rfl⟩
  obtain ⟨gb, hgb9⟩ : ∃ z, z = u9.2.2.2.2 := ⟨_, rfl⟩
  rw [← hgw9, ← hy9, ← hgb9] at h
  have hbk : Blk gb [] := Blk_nil (by rw [hgb9]; exact hgb0)
  have h : Wd D B s ([(ho, .inr (3, [.ref st, .ref fi, .ref bl, .long (lN (([] : List Nat).length)), .ref wo, .ref ei])), (st, war dA 8 (hs2 ([] : List Nat) (([] : List Nat).length / 64))), (wo, war dA 64 gw), (ei, war dA 8 yq), (bl, bar dA 64 gb), (dg, bar dA 32 gd), (po, .inr (4, [.ref m9, .ref b9, .ref rs, .ref pr, .int ps.2.2.2.2.1, .int ps.2.2.2.2.2])), (m9, iar dA 66 ps.1), (b9, iar dA 66 ps.2.1), (rs, iar dA 66 ps.2.2.1), (pr, iar dA 134 ps.2.2.2.1)] ++ (O ++ G)) H locs := h
  refine lv_astore (lv' := [(7, .ref ho), (6, .ref se), (0, .ref me), (1, .ref k9), (2, .ref tt.1.1), (3, .int y), (4, .long (lN t))]) hx hb dX1_judge_12 hl (by decide) rfl (fun ls hl => ?_)
  obtain ⟨mg, hmg⟩ : ∃ z, z = txS (decide (sType sb = 1)) txt txt.length := ⟨_, rfl⟩
  have hml9 : mg.length < 100000 := by rw [hmg]; have := txS_len (decide (sType sb = 1)) txt txt.length; omega
  have j53 : ∀ (gw5 y5 : Nat → Int32) (gb5 : Nat → Nat), (Blk gb5 mg) → ∀ (H : Heap) (locs : List Loc), Wd D B s ([(ho, .inr (3, [.ref st, .ref fi, .ref bl, .long (lN mg.length), .ref wo, .ref ei])), (st, war dA 8 (hs2 mg (mg.length / 64))), (wo, war dA 64 gw5), (ei, war dA 8 y5), (bl, bar dA 64 gb5), (dg, bar dA 32 gd), (po, .inr (4, [.ref m9, .ref b9, .ref rs, .ref pr, .int ps.2.2.2.2.1, .int ps.2.2.2.2.2])), (m9, iar dA 66 ps.1), (b9, iar dA 66 ps.2.1), (rs, iar dA 66 ps.2.2.1), (pr, iar dA 134 ps.2.2.2.1)] ++ (O ++ G)) H locs → ∀ (ls : Array Slot), lv_has ls 9 [(7, .ref ho), (6, .ref se), (0, .ref me), (1, .ref k9), (2, .ref tt.1.1), (3, .int y), (4, .long (lN t))] → W p l e R s m args below meth c H locs (0 + 0 + 0) (0 + 0 + 0) Q (F0 m 53 ls []) := by
    intro gw5 y5  gb5  hbk5 H locs h ls hl
    refine lv_aload_n hx hb dX1_judge_53 rfl (lv_at hl 2 rfl) ?_
    refine lv_aload hx hb dX1_judge_54 (lv_at hl 1 rfl) ?_
    refine lv_aload hx hb dX1_judge_56 (lv_at hl 0 rfl) ?_
    refine lv_aload_n hx hb dX1_judge_58 rfl (lv_at hl 4 rfl) ?_
    refine lv_iload_n hx hb dX1_judge_59 rfl (lv_at hl 5 rfl) ?_
    have hkw6 : ∀ z ∈ kyW dA e0 tt.1, z ∈ [(ho, .inr (3, [.ref st, .ref fi, .ref bl, .long (lN mg.length), .ref wo, .ref ei])), (st, war dA 8 (hs2 mg (mg.length / 64))), (wo, war dA 64 gw5), (ei, war dA 8 y5), (bl, bar dA 64 gb5), (dg, bar dA 32 gd), (po, .inr (4, [.ref m9, .ref b9, .ref rs, .ref pr, .int ps.2.2.2.2.1, .int ps.2.2.2.2.2])), (m9, iar dA 66 ps.1), (b9, iar dA 66 ps.2.1), (rs, iar dA 66 ps.2.2.1), (pr, iar dA 134 ps.2.2.2.1)] ++ (O ++ G) := fun z hz => List.mem_append_right _ (List.mem_append_right _ (hkw z hz))
    have hKk6 : KyIn dA ([(ho, .inr (3, [.ref st, .ref fi, .ref bl, .long (lN mg.length), .ref wo, .ref ei])), (st, war dA 8 (hs2 mg (mg.length / 64))), (wo, war dA 64 gw5), (ei, war dA 8 y5), (bl, bar dA 64 gb5), (dg, bar dA 32 gd), (po, .inr (4, [.ref m9, .ref b9, .ref rs, .ref pr, .int ps.2.2.2.2.1, .int ps.2.2.2.2.2])), (m9, iar dA 66 ps.1), (b9, iar dA 66 ps.2.1), (rs, iar dA 66 ps.2.2.1), (pr, iar dA 134 ps.2.2.2.1)] ++ (O ++ G)) tt.1 := hKk.sub (fun z hz => List.mem_append_right _ (List.mem_append_right _ hz))
    have hnum : Ct (S := Unit) l D dA B Z yX9_numbersOf cX9_numbersOf 2 (some ((.object "SignetRing$Numbers"))) 4 0 0 [.ref tt.1.1, .int y] ([(ho, .inr (3, [.ref st, .ref fi, .ref bl, .long (lN mg.length), .ref wo, .ref ei])), (st, war dA 8 (hs2 mg (mg.length / 64))), (wo, war dA 64 gw5), (ei, war dA 8 y5), (bl, bar dA 64 gb5), (dg, bar dA 32 gd), (po, .inr (4, [.ref m9, .ref b9, .ref rs, .ref pr, .int ps.2.2.2.2.1, .int ps.2.2.2.2.2])), (m9, iar dA 66 ps.1), (b9, iar dA 66 ps.2.1), (rs, iar dA 66 ps.2.2.1), (pr, iar dA 134 ps.2.2.2.1)] ++ (O ++ G)) (fun _ => True) (fun _ => some (.ref (numC tt).1)) (fun _ => [(ho, .inr (3, [.ref st, .ref fi, .ref bl, .long (lN mg.length), .ref wo, .ref ei])), (st, war dA 8 (hs2 mg (mg.length / 64))), (wo, war dA 64 gw5), (ei, war dA 8 y5), (bl, bar dA 64 gb5), (dg, bar dA 32 gd), (po, .inr (4, [.ref m9, .ref b9, .ref rs, .ref pr, .int ps.2.2.2.2.1, .int ps.2.2.2.2.2])), (m9, iar dA 66 ps.1), (b9, iar dA 66 ps.2.1), (rs, iar dA 66 ps.2.2.1), (pr, iar dA 134 ps.2.2.2.1)] ++ (O ++ G)) := by
      have hTI6 := hTI
      clear h
      obtain ⟨hm6, hc6⟩ := hTI6
      rcases hc6 with ⟨e1, e2⟩ | ⟨jq, pq, e1, e2, e3, e4⟩
      · rw [e2, show (numC tt).1 = tt.1.2.1.1 by unfold numC; rw [e1]]
        exact c9_numbersOfK l D dA B Z hZ _ tt.1.1 _ tt.1.2.1.1 _ _ (hkw6 _ kyc_in)
      · rw [e2, show (numC tt).1 = pq.2.1.1 by unfold numC; rw [e1]; dsimp only; rw [e4]]
        exact c9_numbersOf l D dA B Z hZ _ tt.1.1 _ tt.1.2.1.1 _ e0 jq tt.1.2.2.2.2.1 tt.1.2.2.2.2.2 pq (hkw6 _ kyc_in) (hKk6.pl hkw6) (fun y9 hy9 => ⟨(hKk6.2.2.2.2.2 y9 hy9).1, KyIn.ptc hkw6 hy9⟩) e4 (by omega)
    refine call_VR (As := [.int y]) (rest := [.ref ho, .ref se, .ref me]) (n := 1) C h hnum (lw_V q1508 q1509 q1510 q142 q1511) (by decide +kernel) (o_recv C h (RC := RX9) (T := TX9) (N := 4) (hkw6 _ kyc_in) rfl) (by decide) (by decide) rfl hl rfl (Nat.le_of_ble_eq_true rfl) dX1_judge_60 (by omega) (fun _ H locs _ h => ?_)
    have hNt := hTI.num hKk
    have h : Wd D B s (h5C dA ho st fi bl wo ei (hs5 mg gw5 y5 gb5) ++ ([(dg, bar dA 32 gd)] ++ (pwC dA po m9 b9 rs pr ps ++ (O ++ G)))) H locs := h
    refine call_VR (As := [.ref se, .ref ho, .ref ((numC tt).1)]) (rest := []) (n := 3) C h (c1_isTrueH5 l D dA B Z hZ (O ++ G) ho st fi bl wo ei gw5 y5 gb5 mg me bs dc ou rg h1 ho dg tk pl pk tx sd sz po m9 b9 rs pr f1 f2 gd ps (se, sb) 0 (numC tt) hzA hbk5 hzf (List.mem_append_right _ hme) hSi0 (hNt.sub (fun b q hq => List.mem_append_right _ hq) (fun a fs hq => List.mem_append_right _ hq)) hml9 hgd0 hsh) (lw_V q1538 q1540 qs21 q129 q1541) (by decide +kernel) (o_recv C h (RC := RX1) (T := TX1) (N := 14) (List.mem_append_right _ (List.mem_append_right _ (List.mem_append_right _ (List.mem_append_right _ hme)))) rfl) (by decide) (by decide) rfl hl rfl (Nat.le_of_ble_eq_true rfl) dX1_judge_63 (by omega) (fun u8 H locs hu8 h => ?_)
    obtain ⟨uh, ug, up, E9⟩ := u8
    obtain ⟨hq1, hq2⟩ := hu8
    dsimp only at hq1 hq2
    have h : Wd D B s (h5C dA ho st fi bl wo ei uh ++ ([(dg, bar dA 32 ug)] ++ (pwC dA po m9 b9 rs pr up ++ (O ++ (G ++ E9))))) H locs := h.permL (perm_add (fun g f p0 p1 p2 => by (try simp only [p0, p1, p2]) <;> omega))
    have h : Wd D B s ([(ho, .inr (3, [.ref st, .ref fi, .ref bl, .long uh.1, .ref wo, .ref ei])), (st, war dA 8 uh.2.1), (wo, war dA 64 uh.2.2.1), (ei, war dA 8 uh.2.2.2.1), (bl, bar dA 64 uh.2.2.2.2), (dg, bar dA 32 ug), (po, .inr (4, [.ref m9, .ref b9, .ref rs, .ref pr, .int up.2.2.2.2.1, .int up.2.2.2.2.2])), (m9, iar dA 66 up.1), (b9, iar dA 66 up.2.1), (rs, iar dA 66 up.2.2.1), (pr, iar dA 134 up.2.2.2.1)] ++ (O ++ (G ++ E9))) H locs := h
    refine z_if_ne (tgt := 71) hx hb dX1_judge_66 (by decide) (fun c66 => ?_) (fun c66 => ?_)
    · have hj8 : jdgC tt sb txt t = if t < mdN sb ∨ (0 < enN sb ∧ mdN sb + enN sb ≤ t) then nI 4 else lokU (usTC tt t) := by unfold jdgC; rw [← hmg, if_neg (by rw [c66]; decide)]
      obtain ⟨hmd9, hmdlt⟩ := mdv_of hbbx hv
      refine lv_aload hx hb dX1_judge_71 (lv_at hl 1 rfl) ?_
      refine o_get C h (RC := RX17) (T := TX17) (N := 19) (List.mem_append_right _ (memOE hcex)) rfl in_X17 6 (by decide) q1318 rfl (v := .long (oL (sNote sb).1)) rfl dX1_judge_73 ?_
      refine n_topl (y := lN (mdN sb)) hmd9 ?_
      refine lv_lload hx hb dX1_judge_76 (lv_at hl 6 rfl) ?_
      refine n_lcmp_gt (tgt := 92) hx hb (by omega) (by omega) dX1_judge_78 dX1_judge_79 (by decide) (fun c78 => ?_) (fun c78 => ?_)
      · have hj9 : jdgC tt sb txt t = nI 4 := by rw [hj8, if_pos (Or.inl (by omega))]
        refine lv_iconst (v := nI 4) hx hb dX1_judge_92 (by decide) ?_
        subst hQ
        have h : Wd D B s (h5C dA ho st fi bl wo ei uh ++ ([(dg, bar dA 32 ug)] ++ (pwC dA po m9 b9 rs pr up ++ (O ++ (G ++ E9))))) H locs := h
        obtain ⟨v9, hv9, hw9⟩ := hUE uh ug up (G ++ E9) hq1 hq2 TR.app
        exact ret_i C hr hlocks h v9 hv9 (by rw [hj9]) hw9 (by omega) (by omega) dX1_judge_93
      · refine lv_aload hx hb dX1_judge_82 (lv_at hl 1 rfl) ?_
        refine lv_lload hx hb dX1_judge_84 (lv_at hl 6 rfl) ?_
        refine call_VR (As := [.long (lN t)]) (rest := []) (n := 1) C h (c17_isEnded l D dA B Z hZ _ (se, sb) t ⟨0, hSi0.sub (fun b q hq => List.mem_append_right _ (memOE hq)) (fun a fs hq => List.mem_append_right _ (memOE hq))⟩ hv ht) (lw_V q1622 q1623 q1624 q165 q1625) (by decide +kernel) (o_recv C h (RC := RX17) (T := TX17) (N := 19) (List.mem_append_right _ (memOE hcex)) rfl) (by decide) (by decide) rfl hl rfl (Nat.le_of_ble_eq_true rfl) dX1_judge_86 (by omega) (fun _ H locs _ h => ?_)
        refine z_if_eq (tgt := 94) hx hb dX1_judge_89 (by decide) (fun c89 => ?_) (fun c89 => ?_)
        · have hj7 : jdgC tt sb txt t = lokU (usTC tt t) := by rw [hj8, if_neg (fun q => q.elim (fun z => absurd z (by omega)) (of_decide_eq_false c89))]
          have hcu : usTs tt = 6 * tt.1.2.2.1.2.length + 4 * sumL (fun u : US => u.2.2.2.length) tt.1.2.2.2.1.2 + sumL (fun x : PTt => 6 * x.2.2.2.length + sumL (fun y : SL => y.2.length) x.2.2.2) tt.1.2.2.2.2.2 + 5 := rfl
          have zs : uSl tt.1 = 768 * tt.1.2.2.1.2.length + 512 * sumL (fun u : US => u.2.2.2.length) tt.1.2.2.2.1.2 + sumL (fun x : PTt => 768 * x.2.2.2.length + 5 * sumL (fun y : SL => y.2.length) x.2.2.2) tt.1.2.2.2.2.2 + 278 := rfl
          rcases hTI.2 with ⟨e1, e2⟩ | ⟨jq, pq, e1, e2, e3, e4⟩
          · have hut : usTC tt t = uskC tt.1 t := by unfold usTC; rw [e1]
            rw [e2] at hl
            have hl : lv_has ls 9 [(7, .ref ho), (6, .ref se), (0, .ref me), (1, .ref k9), (2, .ref tt.1.1), (3, .int (-1)), (4, .long (lN t))] := hl
            refine lv_iload_n hx hb dX1_judge_94 rfl (lv_at hl 5 rfl) ?_
            refine lv_if_ge (tgt := 108) hx hb dX1_judge_95 (by decide) (fun c95 => absurd c95 (by decide)) (fun c95 => ?_)
            refine lv_aload_n hx hb dX1_judge_98 rfl (lv_at hl 2 rfl) ?_
            refine lv_aload_n hx hb dX1_judge_99 rfl (lv_at hl 4 rfl) ?_
            refine lv_lload hx hb dX1_judge_100 (lv_at hl 6 rfl) ?_
            have h : Wd D B s (h5C dA ho st fi bl wo ei uh ++ ([(dg, bar dA 32 ug)] ++ (pwC dA po m9 b9 rs pr up ++ (O ++ (G ++ E9))))) H locs := h
            refine call_VR (As := [.ref tt.1.1, .long (lN t)]) (rest := []) (n := 2) C h (hUK uh ug up (G ++ E9) hq1 hq2 TR.app) (lw_V q1626 q1628 qs27 q129 q1629) (by decide +kernel) (o_recv C h (RC := RX1) (T := TX1) (N := 14) (List.mem_append_right _ (List.mem_append_right _ (List.mem_append_right _ (List.mem_append_right _ (List.mem_append_left _ hme))))) rfl) (by decide) (by decide) rfl hl rfl (Nat.le_of_ble_eq_true rfl) dX1_judge_102 (by omega) (fun u7 H locs hu7 h => ?_)
            have hus9 : usTC tt t < 100 := by rw [hut]; exact uskC_lt _ _
            refine lv_goto (tgt := 126) hx hb dX1_judge_105 (by decide) ?_
            refine lv_istore (lv' := [(8, .int (nI (uskC tt.1 t))), (7, .ref ho), (6, .ref se), (0, .ref me), (1, .ref k9), (2, .ref tt.1.1), (3, .int (-1)), (4, .long (lN t))]) hx hb dX1_judge_126 hl (by decide) rfl (fun ls hl => ?_)
            refine lv_iload hx hb dX1_judge_128 (lv_at hl 0 rfl) ?_
            refine n_if_ne (tgt := 137) hx hb (by omega) dX1_judge_130 (by decide) (fun c130 => ?_) (fun c130 => ?_)
            · refine lv_bipush (v := nI 10) hx hb dX1_judge_137 (by decide) ?_
              refine lv_iload hx hb dX1_judge_139 (lv_at hl 0 rfl) ?_
              refine lv_iadd hx hb dX1_judge_141 (n_top (y := nI (10 + uskC tt.1 t)) (nI_add 10 (uskC tt.1 t)) ?_)
              subst hQ
              exact ret_i C hr hlocks h u7 hu7 (by rw [hj7]; unfold lokU; rw [hut]; rw [if_neg c130]) rfl (by omega) (by omega) dX1_judge_142
            · refine lv_iconst (v := nI 0) hx hb dX1_judge_133 (by decide) ?_
              refine lv_goto (tgt := 142) hx hb dX1_judge_134 (by decide) ?_
              subst hQ
              exact ret_i C hr hlocks h u7 hu7 (by rw [hj7]; unfold lokU; rw [hut]; rw [if_pos c130]) rfl (by omega) (by omega) dX1_judge_142
          · have hut : usTC tt t = uspC tt.1 pq t := by unfold usTC; rw [e1]; dsimp only; rw [e4]
            rw [e2] at hl
            have hl : lv_has ls 9 [(7, .ref ho), (6, .ref se), (0, .ref me), (1, .ref k9), (2, .ref tt.1.1), (3, .int (nI jq)), (4, .long (lN t))] := hl
            have hpm := List.mem_of_getElem? e4
            have hpl := hKk.pl hkw
            obtain ⟨edp, hcpl⟩ := hpl.cell
            have hcp := sumL_mem (fun x : PTt => 6 * x.2.2.2.length + sumL (fun y : SL => y.2.length) x.2.2.2) hpm
            have hcp2 := sumL_mem (fun x : PTt => 768 * x.2.2.2.length + 5 * sumL (fun y : SL => y.2.length) x.2.2.2) hpm
            dsimp only at hcp hcp2
            refine lv_iload_n hx hb dX1_judge_94 rfl (lv_at hl 5 rfl) ?_
            refine n_if_ge (tgt := 108) hx hb (by omega) dX1_judge_95 (by decide) ?_
            refine lv_aload_n hx hb dX1_judge_108 rfl (lv_at hl 2 rfl) ?_
            refine lv_aload_n hx hb dX1_judge_109 rfl (lv_at hl 4 rfl) ?_
            refine lv_aload_n hx hb dX1_judge_110 rfl (lv_at hl 4 rfl) ?_
            refine o_get C h (RC := RX9) (T := TX9) (N := 4) (List.mem_append_right _ (List.mem_append_right _ (List.mem_append_left _ (hkw _ kyc_in)))) rfl in_X9 3 (by decide) q401 rfl (v := .ref tt.1.2.2.2.2.1.1) rfl dX1_judge_111 ?_
            refine lv_iload_n hx hb dX1_judge_114 rfl (lv_at hl 5 rfl) ?_
            refine call_VR (As := [.int (nI jq)]) (rest := [.ref tt.1.1, .ref me]) (n := 1) C h (cA_get l D dA B Z hZ _ e0 tt.1.2.2.2.2.1 _ jq pq.1 (hpl.sub (fun z hz => List.mem_append_right _ (List.mem_append_right _ (List.mem_append_left _ (hpl.1 z hz))))) (at_map e4)) (lw_V q364 q365 q366 q133 q367) (by decide +kernel) (o_recv C h (RC := RJ2) (T := TJ2) (N := 3) (List.mem_append_right _ (List.mem_append_right _ (List.mem_append_left _ hcpl))) rfl) (by decide) (by decide) rfl hl rfl (Nat.le_of_ble_eq_true rfl) dX1_judge_115 (by omega) (fun _ H locs _ h => ?_)
            refine o_cast C h (RC := RX11) (T := TX11) (N := 2) (List.mem_append_right _ (List.mem_append_right _ (List.mem_append_left _ (KyIn.ptc hkw hpm)))) rfl q1279 dX1_judge_118 ?_
            refine lv_lload hx hb dX1_judge_121 (lv_at hl 6 rfl) ?_
            have h : Wd D B s (h5C dA ho st fi bl wo ei uh ++ ([(dg, bar dA 32 ug)] ++ (pwC dA po m9 b9 rs pr up ++ (O ++ (G ++ E9))))) H locs := h
            refine call_VR (As := [.ref tt.1.1, .ref pq.1, .long (lN t)]) (rest := []) (n := 3) C h (hUP pq hpm uh ug up (G ++ E9) hq1 hq2 TR.app) (lw_V q1658 q1660 qs35 q129 q1661) (by decide +kernel) (o_recv C h (RC := RX1) (T := TX1) (N := 14) (List.mem_append_right _ (List.mem_append_right _ (List.mem_append_right _ (List.mem_append_right _ (List.mem_append_left _ hme))))) rfl) (by decide) (by decide) rfl hl rfl (Nat.le_of_ble_eq_true rfl) dX1_judge_123 (by omega) (fun u7 H locs hu7 h => ?_)
            have hus9 : usTC tt t < 100 := by rw [hut]; exact uspC_lt _ _ _
            refine lv_istore (lv' := [(8, .int (nI (uspC tt.1 pq t))), (7, .ref ho), (6, .ref se), (0, .ref me), (1, .ref k9), (2, .ref tt.1.1), (3, .int (nI jq)), (4, .long (lN t))]) hx hb dX1_judge_126 hl (by decide) rfl (fun ls hl => ?_)
            refine lv_iload hx hb dX1_judge_128 (lv_at hl 0 rfl) ?_
            refine n_if_ne (tgt := 137) hx hb (by omega) dX1_judge_130 (by decide) (fun c130 => ?_) (fun c130 => ?_)
            · refine lv_bipush (v := nI 10) hx hb dX1_judge_137 (by decide) ?_
              refine lv_iload hx hb dX1_judge_139 (lv_at hl 0 rfl) ?_
              refine lv_iadd hx hb dX1_judge_141 (n_top (y := nI (10 + uspC tt.1 pq t)) (nI_add 10 (uspC tt.1 pq t)) ?_)
              subst hQ
              exact ret_i C hr hlocks h u7 hu7 (by rw [hj7]; unfold lokU; rw [hut]; rw [if_neg c130]) rfl (by omega) (by omega) dX1_judge_142
            · refine lv_iconst (v := nI 0) hx hb dX1_judge_133 (by decide) ?_
              refine lv_goto (tgt := 142) hx hb dX1_judge_134 (by decide) ?_
              subst hQ
              exact ret_i C hr hlocks h u7 hu7 (by rw [hj7]; unfold lokU; rw [hut]; rw [if_pos c130]) rfl (by omega) (by omega) dX1_judge_142
        · have hj9 : jdgC tt sb txt t = nI 4 := by rw [hj8, if_pos (Or.inr (of_decide_eq_true c89))]
          refine lv_iconst (v := nI 4) hx hb dX1_judge_92 (by decide) ?_
          subst hQ
          have h : Wd D B s (h5C dA ho st fi bl wo ei uh ++ ([(dg, bar dA 32 ug)] ++ (pwC dA po m9 b9 rs pr up ++ (O ++ (G ++ E9))))) H locs := h
          obtain ⟨v9, hv9, hw9⟩ := hUE uh ug up (G ++ E9) hq1 hq2 TR.app
          exact ret_i C hr hlocks h v9 hv9 (by rw [hj9]) hw9 (by omega) (by omega) dX1_judge_93
    · have hj9 : jdgC tt sb txt t = nI 3 := by unfold jdgC; rw [← hmg, if_pos c66]
      refine lv_iconst (v := nI 3) hx hb dX1_judge_69 (by decide) ?_
      subst hQ
      have h : Wd D B s (h5C dA ho st fi bl wo ei uh ++ ([(dg, bar dA 32 ug)] ++ (pwC dA po m9 b9 rs pr up ++ (O ++ (G ++ E9))))) H locs := h
      obtain ⟨v9, hv9, hw9⟩ := hUE uh ug up (G ++ E9) hq1 hq2 TR.app
      exact ret_i C hr hlocks h v9 hv9 (by rw [hj9]) hw9 (by omega) (by omega) dX1_judge_70
  refine lv_aload hx hb dX1_judge_14 (lv_at hl 1 rfl) ?_
  refine o_get C h (RC := RX17) (T := TX17) (N := 19) (List.mem_append_right _ hcex) rfl in_X17 1 (by decide) q1308 rfl (v := .int (nI (sType sb))) rfl dX1_judge_16 ?_
  refine lv_iconst (v := nI 1) hx hb dX1_judge_19 (by decide) ?_
  refine n_icmp_ne (tgt := 39) hx hb (by omega) (by omega) dX1_judge_20 (by decide) (fun c20 => ?_) (fun c20 => ?_)
  · refine lv_aload hx hb dX1_judge_39 (lv_at hl 0 rfl) ?_
    refine lv_aload_n hx hb dX1_judge_41 rfl (lv_at hl 3 rfl) ?_
    refine call_VR (As := []) (rest := [.ref ho]) (n := 0) C h (cC_text l D dA B Z hZ _ k9 se ta txt.length (List.mem_append_right _ hca)) (lw_V q1527 q1528 q1529 q166 q1530) (by decide +kernel) (o_recv C h (RC := RX18) (T := TX18) (N := 3) (List.mem_append_right _ hca) rfl) (by decide) (by decide) rfl hl rfl (Nat.le_of_ble_eq_true rfl) dX1_judge_42 (by omega) (fun _ H locs _ h => ?_)
    refine lv_iconst (v := nI 0) hx hb dX1_judge_45 (by decide) ?_
    refine lv_aload_n hx hb dX1_judge_46 rfl (lv_at hl 3 rfl) ?_
    refine call_VR (As := []) (rest := [.int (nI 0), .ref ta, .ref ho]) (n := 0) C h (cC_size l D dA B Z hZ _ k9 se ta txt.length (List.mem_append_right _ hca)) (lw_V q1531 q1532 q1533 q166 q1534) (by decide +kernel) (o_recv C h (RC := RX18) (T := TX18) (N := 3) (List.mem_append_right _ hca) rfl) (by decide) (by decide) rfl hl rfl (Nat.le_of_ble_eq_true rfl) dX1_judge_47 (by omega) (fun _ H locs _ h => ?_)
    refine call_U (As := [.ref ta, .int (nI 0), .int (nI txt.length)]) (rest := []) (n := 3) C h (c5_putA l D dA B Z hZ ([(dg, bar dA 32 gd), (po, .inr (4, [.ref m9, .ref b9, .ref rs, .ref pr, .int ps.2.2.2.2.1, .int ps.2.2.2.2.2])), (m9, iar dA 66 ps.1), (b9, iar dA 66 ps.2.1), (rs, iar dA 66 ps.2.2.1), (pr, iar dA 134 ps.2.2.2.1)] ++ (O ++ G)) ho st fi bl wo ei gw yq gb (([] : List Nat)) ta (n9) (0) (txt.length) (g9) hzA hbk (List.mem_append_right _ hta) (by omega) (hts9.1) (by omega) (by (try simp only [List.length_append, be_len, sl_len, List.length_cons, List.length_nil]) <;> omega) (fun j hj => by rw [hts9.2 j hj]; exact byt_gD htb j)) (lw_U q1231 q1233 q1235 q1232 q134 q1236) rfl (by decide +kernel) (o_recv C h (RC := RX5) (T := TX5) (N := 6) (List.mem_of_getElem? (i := 0) rfl) rfl) (by decide) (by decide) rfl hl rfl (Nat.le_of_ble_eq_true rfl) dX1_judge_50 (by omega) (fun u3 H locs hbk_1 h => ?_)
    obtain ⟨gw_1, y_1, gb_1⟩ := u3
    dsimp only at hbk_1
    have h : Wd D B s ([(ho, .inr (3, [.ref st, .ref fi, .ref bl, .long (lN ((([] : List Nat) ++ sl g9 0 (txt.length - 0)).length)), .ref wo, .ref ei])), (st, war dA 8 (hs2 (([] : List Nat) ++ sl g9 0 (txt.length - 0)) ((([] : List Nat) ++ sl g9 0 (txt.length - 0)).length / 64))), (wo, war dA 64 gw_1), (ei, war dA 8 y_1), (bl, bar dA 64 gb_1), (dg, bar dA 32 gd), (po, .inr (4, [.ref m9, .ref b9, .ref rs, .ref pr, .int ps.2.2.2.2.1, .int ps.2.2.2.2.2])), (m9, iar dA 66 ps.1), (b9, iar dA 66 ps.2.1), (rs, iar dA 66 ps.2.2.1), (pr, iar dA 134 ps.2.2.2.1)] ++ (O ++ G)) H locs := h
    have hmsg : ([] : List Nat) ++ sl g9 0 (txt.length - 0) = txS (decide (sType sb = 1)) txt txt.length := by rw [decide_eq_false c20, txS_f, List.nil_append, Nat.sub_zero]; exact hts9.sl
    rw [hmsg, ← hmg] at h hbk_1
    have h : Wd D B s ([(ho, .inr (3, [.ref st, .ref fi, .ref bl, .long (lN mg.length), .ref wo, .ref ei])), (st, war dA 8 (hs2 mg (mg.length / 64))), (wo, war dA 64 gw_1), (ei, war dA 8 y_1), (bl, bar dA 64 gb_1), (dg, bar dA 32 gd), (po, .inr (4, [.ref m9, .ref b9, .ref rs, .ref pr, .int ps.2.2.2.2.1, .int ps.2.2.2.2.2])), (m9, iar dA 66 ps.1), (b9, iar dA 66 ps.2.1), (rs, iar dA 66 ps.2.2.1), (pr, iar dA 134 ps.2.2.2.1)] ++ (O ++ G)) H locs := h.permL (perm_add (fun g f p0 p1 p2 => by (try simp only [p0, p1, p2]) <;> omega))
    exact j53 gw_1 y_1 gb_1 hbk_1 _ _ h _ (lv_sub hl [0, 1, 2, 3, 4, 5, 6] rfl)
  · refine lv_aload hx hb dX1_judge_23 (lv_at hl 0 rfl) ?_
    refine lv_aload_n hx hb dX1_judge_25 rfl (lv_at hl 3 rfl) ?_
    refine call_VR (As := []) (rest := [.ref ho]) (n := 0) C h (cC_text l D dA B Z hZ _ k9 se ta txt.length (List.mem_append_right _ hca)) (lw_V q1527 q1528 q1529 q166 q1530) (by decide +kernel) (o_recv C h (RC := RX18) (T := TX18) (N := 3) (List.mem_append_right _ hca) rfl) (by decide) (by decide) rfl hl rfl (Nat.le_of_ble_eq_true rfl) dX1_judge_26 (by omega) (fun _ H locs _ h => ?_)
    refine lv_aload_n hx hb dX1_judge_29 rfl (lv_at hl 3 rfl) ?_
    refine call_VR (As := []) (rest := [.ref ta, .ref ho]) (n := 0) C h (cC_size l D dA B Z hZ _ k9 se ta txt.length (List.mem_append_right _ hca)) (lw_V q1531 q1532 q1533 q166 q1534) (by decide +kernel) (o_recv C h (RC := RX18) (T := TX18) (N := 3) (List.mem_append_right _ hca) rfl) (by decide) (by decide) rfl hl rfl (Nat.le_of_ble_eq_true rfl) dX1_judge_30 (by omega) (fun _ H locs _ h => ?_)
    refine call_S (As := [.ref ho, .ref ta, .int (nI txt.length)]) (rest := []) (n := 3) C h (c1_putText5 l D dA B Z hZ ([(dg, bar dA 32 gd), (po, .inr (4, [.ref m9, .ref b9, .ref rs, .ref pr, .int ps.2.2.2.2.1, .int ps.2.2.2.2.2])), (m9, iar dA 66 ps.1), (b9, iar dA 66 ps.2.1), (rs, iar dA 66 ps.2.2.1), (pr, iar dA 134 ps.2.2.2.1)] ++ (O ++ G)) ho st fi bl wo ei gw yq gb (([] : List Nat)) ta n9 g9 txt hzA hbk (List.mem_append_right _ hta) hts9 htb (by omega) (by (try simp only [List.length_nil]) <;> omega)) (lw_S q1535 q1536 q129 q1537) (by decide +kernel) (by decide) (by decide) rfl hl rfl (Nat.le_of_ble_eq_true rfl) dX1_judge_33 (by omega) (fun u3 H locs hbk_2 h => ?_)
    obtain ⟨gw_2, y_2, gb_2⟩ := u3
    dsimp only at hbk_2
    have h : Wd D B s ([(ho, .inr (3, [.ref st, .ref fi, .ref bl, .long (lN ((([] : List Nat) ++ txS true txt txt.length).length)), .ref wo, .ref ei])), (st, war dA 8 (hs2 (([] : List Nat) ++ txS true txt txt.length) ((([] : List Nat) ++ txS true txt txt.length).length / 64))), (wo, war dA 64 gw_2), (ei, war dA 8 y_2), (bl, bar dA 64 gb_2), (dg, bar dA 32 gd), (po, .inr (4, [.ref m9, .ref b9, .ref rs, .ref pr, .int ps.2.2.2.2.1, .int ps.2.2.2.2.2])), (m9, iar dA 66 ps.1), (b9, iar dA 66 ps.2.1), (rs, iar dA 66 ps.2.2.1), (pr, iar dA 134 ps.2.2.2.1)] ++ (O ++ G)) H locs := h
    have hmsg : ([] : List Nat) ++ txS true txt txt.length = txS (decide (sType sb = 1)) txt txt.length := by rw [decide_eq_true c20]; rfl
    refine lv_goto (tgt := 53) hx hb dX1_judge_36 (by decide) ?_
    rw [hmsg, ← hmg] at h hbk_2
    have h : Wd D B s ([(ho, .inr (3, [.ref st, .ref fi, .ref bl, .long (lN mg.length), .ref wo, .ref ei])), (st, war dA 8 (hs2 mg (mg.length / 64))), (wo, war dA 64 gw_2), (ei, war dA 8 y_2), (bl, bar dA 64 gb_2), (dg, bar dA 32 gd), (po, .inr (4, [.ref m9, .ref b9, .ref rs, .ref pr, .int ps.2.2.2.2.1, .int ps.2.2.2.2.2])), (m9, iar dA 66 ps.1), (b9, iar dA 66 ps.2.1), (rs, iar dA 66 ps.2.2.1), (pr, iar dA 134 ps.2.2.2.1)] ++ (O ++ G)) H locs := h.permL (perm_add (fun g f p0 p1 p2 => by (try simp only [p0, p1, p2]) <;> omega))
    exact j53 gw_2 y_2 gb_2 hbk_2 _ _ h _ (lv_sub hl [0, 1, 2, 3, 4, 5, 6] rfl)
