set_option maxRecDepth 100000

def cntC (msg kb sb : List Nat) (t : Nat) : Bool := !sVain sb && (decide (mdN sb ≤ t) && (decide (kMade kb ≤ mdN sb) && (!decide (0 < enN sb ∧ mdN sb + enN sb ≤ t) && trueS msg sb kb)))
def rvkC (msg kb sb : List Nat) (t : Nat) : Bool := !sVain sb && (trueS msg sb kb && (!mild sb || cntC msg kb sb t))
theorem kMade_lt {l : List Nat} (h : byt l) : kMade l < 4294967296 := (someS_ok h 4 0 0 (kU1 l).2 (oneS_le (Nat.zero_le _)).1 (by decide)).1


theorem oI_inj {o : Option Nat} {k : Nat} (hk : k < 1000) (hb : ∀ v, o = some v → v < 256) (h : oI o = nI k) : o = some k := by
  cases o with
  | none =>
    have h : (-1 : Int32) = nI k := h
    have h2 := congrArg Int32.toInt h
    rw [nI_toInt (by omega)] at h2
    have h3 : (-1 : Int32).toInt = -1 := by decide
    omega
  | some v =>
    have h2 : nI v = nI k := h
    have h3 := congrArg Int32.toInt h2
    have := hb v rfl
    rw [nI_toInt (by omega), nI_toInt (by omega)] at h3
    congr 1
    omega
theorem mild_t {b : List Nat} (hb : ∀ v, whyN b = some v → v < 256) (h : oI (whyN b) = nI 1 ∨ oI (whyN b) = nI 3) : mild b = true := by
  unfold mild
  rcases h with h | h
  · exact decide_eq_true (Or.inl (oI_inj (by decide) hb h))
  · exact decide_eq_true (Or.inr (oI_inj (by decide) hb h))
theorem mild_f {b : List Nat} (h1 : ¬ oI (whyN b) = nI 1) (h2 : ¬ oI (whyN b) = nI 3) : mild b = false := by
  unfold mild
  refine decide_eq_false (fun q => ?_)
  rcases q with q | q
  · exact h1 (by rw [q]; rfl)
  · exact h2 (by rw [q]; rfl)

set_option maxHeartbeats 400000 in
set_option maxRecDepth 100000 in
theorem cQ_countsK (l : Launch) (D : va_G) (dA : Nat → ClassId) (B : Nat) (Z : State → Prop) (hZ : Stab B Z) (G : va_W) (A : Nat → Nat) (O : va_W) (sz dc rg f1 f2 : Nat) (q : QS) (cx : CX) (x : SL) (t : Nat) (ka a1 a2 a3 : Nat) (kn : NBr) (hzq : ZQ B f1 f2 Z) (hQF : QF dA A sz dc rg G) (hqo : QOk q) (hS : SealT dA cx G x) (hk : (ka, .inr (6, [.ref a1, .ref kn.1, .ref a2, .ref a3])) ∈ G) (hkn : NumIn dA G kn) (hcx : cx x.1 = (keyMsg kn.2.1, kn.2.1)) (ht : t < 4294967296) :
    Ct (S := QS × va_W) l D dA B Z yX1_counts cX1_counts 6 (some .boolean) 9 2 256 [.ref (A 24), .ref x.1, .ref ka, .ref ka, .long (lN t)] (qW dA A O q ++ G) (fun u => QOk u.1 ∧ TR dA cx G u.2) (fun _ => some (.int (bZ (cntC (keyMsg kn.2.1) kn.2.1 x.2 t)))) (fun u => qW dA A O u.1 ++ u.2) := by
  refine Ct.mk2 (by decide) (Nat.le_of_ble_eq_true rfl) hZ ?_
  intro p e R s m args below meth c ls Q C hr hlocks hin hQ hl h
  have C0 := C
  obtain ⟨hx, hb, hml, hown, hts, -⟩ := C0
  have hl : lv_has ls 6 [(0, .ref (A 24)), (1, .ref x.1), (2, .ref ka), (3, .ref ka), (4, .long (lN t))] := hl
  obtain ⟨tx, ⟨hbbx, hblx, hbox, hb0x⟩, bax, snx, r1x, r2x, r3x, w1x, w2x, w3x, hcex, hbax, hsnx, hr1x, hr2x, hr3x⟩ := hS.b
  have hkn0 := hkn
  obtain ⟨⟨hkb, hkl, hko, hks⟩, nba, nan, nae, nap, nsa, hnm, _⟩ := hkn0
  have hkm := kMade_lt hkb
  refine lv_aload_n hx hb dX1_counts_0 rfl (lv_at hl 1 rfl) ?_
  refine o_get C h (RC := RX17) (T := TX17) (N := 19) (List.mem_append_right _ hcex) rfl in_X17 14 (by decide) q1333 rfl (v := .int (bZ (sVain x.2))) rfl dX1_counts_1 ?_
  refine z_if_ne (tgt := 59) hx hb dX1_counts_4 (by decide) (fun c4 => ?_) (fun c4 => ?_)
  · refine lv_iconst (v := nI 0) hx hb dX1_counts_59 (by decide) ?_
    subst hQ
    have hfin : cntC (keyMsg kn.2.1) kn.2.1 x.2 t = false := by unfold cntC; first | (rw [c4]; rfl) | (rw [decide_eq_false (show ¬ mdN x.2 ≤ t by omega)]; simp) | (rw [decide_eq_false (show ¬ kMade kn.2.1 ≤ mdN x.2 by omega)]; simp) | (rw [c52]; simp) | (rw [c38]; simp)
    refine n_top (y := bZ false) rfl ?_
    exact ret_z C hr hlocks h (q, G) (⟨hqo, TR.rf⟩) (by rw [hfin]) rfl (by omega) (by omega) dX1_counts_60
  · have hv9x : sVain x.2 = false := c4
    have hmdx : (sNote x.2).1 = some (mdN x.2) := vain_md hv9x
    have hnbx := sNote_nb hbbx
    have hm9x := hnbx.1 _ hmdx
    have he9x : enN x.2 < 4294967296 := hnbx.2.1
    have hcex : (x.1, .inr (14, [.ref bax, .int (nI (sType x.2)), .int (nI (sHash x.2)), .int (nI (sEnd x.2)), .int (nI (sLeft x.2)), .ref snx, .long (lN (mdN x.2)), .long (lN (sNote x.2).2.1), .long (lN (sNote x.2).2.2.1), va_rf r1x, va_rf r2x, .int (oI (sNote x.2).2.2.2.2.2.2.1), .int (oI (sNote x.2).2.2.2.2.2.2.2.1), va_rf r3x, .int (bZ (sVain x.2)), .int tx, .int (bZ w1x), .int (bZ w2x), .int (bZ w3x)])) ∈ G := by
      have h9 := hcex
      rw [hmdx] at h9
      exact h9
    refine lv_aload_n hx hb dX1_counts_7 rfl (lv_at hl 1 rfl) ?_
    refine o_get C h (RC := RX17) (T := TX17) (N := 19) (List.mem_append_right _ hcex) rfl in_X17 6 (by decide) q1318 rfl (v := .long (lN (mdN x.2))) rfl dX1_counts_8 ?_
    refine lv_lload hx hb dX1_counts_11 (lv_at hl 4 rfl) ?_
    refine n_lcmp_gt (tgt := 59) hx hb (by omega) (by omega) dX1_counts_13 dX1_counts_14 (by decide) (fun c13 => ?_) (fun c13 => ?_)
    · refine lv_iconst (v := nI 0) hx hb dX1_counts_59 (by decide) ?_
      subst hQ
      have hfin : cntC (keyMsg kn.2.1) kn.2.1 x.2 t = false := by unfold cntC; first | (rw [c4]; rfl) | (rw [decide_eq_false (show ¬ mdN x.2 ≤ t by omega)]; simp) | (rw [decide_eq_false (show ¬ kMade kn.2.1 ≤ mdN x.2 by omega)]; simp) | (rw [c52]; simp) | (rw [c38]; simp)
      refine n_top (y := bZ false) rfl ?_
      exact ret_z C hr hlocks h (q, G) (⟨hqo, TR.rf⟩) (by rw [hfin]) rfl (by omega) (by omega) dX1_counts_60
    · refine lv_aload_n hx hb dX1_counts_17 rfl (lv_at hl 1 rfl) ?_
      refine o_get C h (RC := RX17) (T := TX17) (N := 19) (List.mem_append_right _ hcex) rfl in_X17 6 (by decide) q1318 rfl (v := .long (lN (mdN x.2))) rfl dX1_counts_18 ?_
      refine lv_aload_n hx hb dX1_counts_21 rfl (lv_at hl 2 rfl) ?_
      refine o_get C h (RC := RX9) (T := TX9) (N := 4) (List.mem_append_right _ hk) rfl in_X9 1 (by decide) q397 rfl (v := .ref kn.1) rfl dX1_counts_22 ?_
      refine o_get C h (RC := RX16) (T := TX16) (N := 6) (List.mem_append_right _ hnm) rfl in_X16 1 (by decide) q1150 rfl (v := .long (lN (kMade kn.2.1))) rfl dX1_counts_25 ?_
      refine n_lcmp_lt (tgt := 59) hx hb (by omega) (by omega) dX1_counts_28 dX1_counts_29 (by decide) (fun c28 => ?_) (fun c28 => ?_)
      · refine lv_iconst (v := nI 0) hx hb dX1_counts_59 (by decide) ?_
        subst hQ
        have hfin : cntC (keyMsg kn.2.1) kn.2.1 x.2 t = false := by unfold cntC; first | (rw [c4]; rfl) | (rw [decide_eq_false (show ¬ mdN x.2 ≤ t by omega)]; simp) | (rw [decide_eq_false (show ¬ kMade kn.2.1 ≤ mdN x.2 by omega)]; simp) | (rw [c52]; simp) | (rw [c38]; simp)
        refine n_top (y := bZ false) rfl ?_
        exact ret_z C hr hlocks h (q, G) (⟨hqo, TR.rf⟩) (by rw [hfin]) rfl (by omega) (by omega) dX1_counts_60
      · refine lv_aload_n hx hb dX1_counts_32 rfl (lv_at hl 1 rfl) ?_
        refine lv_lload hx hb dX1_counts_33 (lv_at hl 4 rfl) ?_
        refine call_VR (As := [.long (lN t)]) (rest := []) (n := 1) C h (c17_isEnded l D dA B Z hZ _ x t (hS.b.sub (fun z hz => List.mem_append_right _ hz)) hv9x ht) (lw_V q1622 q1623 q1624 q165 q1625) (by decide +kernel) (o_recv C h (RC := RX17) (T := TX17) (N := 19) (List.mem_append_right _ hcex) rfl) (by decide) (by decide) rfl hl rfl (Nat.le_of_ble_eq_true rfl) dX1_counts_35 (by omega) (fun _ H locs _ h => ?_)
        refine z_if_ne (tgt := 59) hx hb dX1_counts_38 (by decide) (fun c38 => ?_) (fun c38 => ?_)
        · refine lv_iconst (v := nI 0) hx hb dX1_counts_59 (by decide) ?_
          subst hQ
          have hfin : cntC (keyMsg kn.2.1) kn.2.1 x.2 t = false := by unfold cntC; first | (rw [c4]; rfl) | (rw [decide_eq_false (show ¬ mdN x.2 ≤ t by omega)]; simp) | (rw [decide_eq_false (show ¬ kMade kn.2.1 ≤ mdN x.2 by omega)]; simp) | (rw [c52]; simp) | (rw [c38]; simp)
          refine n_top (y := bZ false) rfl ?_
          exact ret_z C hr hlocks h (q, G) (⟨hqo, TR.rf⟩) (by rw [hfin]) rfl (by omega) (by omega) dX1_counts_60
        · refine lv_aload_n hx hb dX1_counts_41 rfl (lv_at hl 0 rfl) ?_
          refine lv_aload_n hx hb dX1_counts_42 rfl (lv_at hl 1 rfl) ?_
          refine lv_aload_n hx hb dX1_counts_43 rfl (lv_at hl 2 rfl) ?_
          refine lv_aload_n hx hb dX1_counts_44 rfl (lv_at hl 3 rfl) ?_
          refine lv_aload_n hx hb dX1_counts_45 rfl (lv_at hl 2 rfl) ?_
          refine o_get C h (RC := RX9) (T := TX9) (N := 4) (List.mem_append_right _ hk) rfl in_X9 1 (by decide) q397 rfl (v := .ref kn.1) rfl dX1_counts_46 ?_
          refine call_VR (As := [.ref x.1, .ref ka, .ref ka, .ref kn.1]) (rest := []) (n := 4) C h (cQ_isTrueK l D dA B Z hZ G A O sz dc rg f1 f2 ka a1 a2 a3 q cx x kn hzq hQF hqo hS hk hkn hcx) (lw_V q1638 q1640 qs30 q129 q1641) (by decide +kernel) (o_recv C h (RC := RX1) (T := TX1) (N := 14) (List.mem_append_right _ hQF.2.2) rfl) (by decide) (by decide) rfl hl rfl (Nat.le_of_ble_eq_true rfl) dX1_counts_49 (by omega) (fun u9 H locs hu9 h => ?_)
          obtain ⟨q2, G2⟩ := u9
          dsimp only at hu9 h
          refine z_if_eq (tgt := 59) hx hb dX1_counts_52 (by decide) (fun c52 => ?_) (fun c52 => ?_)
          · refine lv_iconst (v := nI 0) hx hb dX1_counts_59 (by decide) ?_
            subst hQ
            have hfin : cntC (keyMsg kn.2.1) kn.2.1 x.2 t = false := by unfold cntC; first | (rw [c4]; rfl) | (rw [decide_eq_false (show ¬ mdN x.2 ≤ t by omega)]; simp) | (rw [decide_eq_false (show ¬ kMade kn.2.1 ≤ mdN x.2 by omega)]; simp) | (rw [c52]; simp) | (rw [c38]; simp)
            refine n_top (y := bZ false) rfl ?_
            exact ret_z C hr hlocks h (q2, G2) hu9 (by rw [hfin]) rfl (by omega) (by omega) dX1_counts_60
          · refine lv_iconst (v := nI 1) hx hb dX1_counts_55 (by decide) ?_
            refine lv_goto (tgt := 60) hx hb dX1_counts_56 (by decide) ?_
            subst hQ
            have hfin : cntC (keyMsg kn.2.1) kn.2.1 x.2 t = true := by unfold cntC; rw [hv9x, decide_eq_true (show mdN x.2 ≤ t by omega), decide_eq_true (show kMade kn.2.1 ≤ mdN x.2 by omega), c38, c52]; rfl
            refine n_top (y := bZ true) rfl ?_
            exact ret_z C hr hlocks h (q2, G2) hu9 (by rw [hfin]) rfl (by omega) (by omega) dX1_counts_60
set_option maxHeartbeats 400000 in
set_option maxRecDepth 100000 in
theorem cQ_revokesK (l : Launch) (D : va_G) (dA : Nat → ClassId) (B : Nat) (Z : State → Prop) (hZ : Stab B Z) (G : va_W) (A : Nat → Nat) (O : va_W) (sz dc rg f1 f2 : Nat) (q : QS) (cx : CX) (x : SL) (t : Nat) (ka a1 a2 a3 : Nat) (kn : NBr) (hzq : ZQ B f1 f2 Z) (hQF : QF dA A sz dc rg G) (hqo : QOk q) (hS : SealT dA cx G x) (hk : (ka, .inr (6, [.ref a1, .ref kn.1, .ref a2, .ref a3])) ∈ G) (hkn : NumIn dA G kn) (hcx : cx x.1 = (keyMsg kn.2.1, kn.2.1)) (ht : t < 4294967296) :
    Ct (S := QS × va_W) l D dA B Z yX1_revokes cX1_revokes 6 (some .boolean) 10 4 512 [.ref (A 24), .ref x.1, .ref ka, .ref ka, .long (lN t)] (qW dA A O q ++ G) (fun u => QOk u.1 ∧ TR dA cx G u.2) (fun _ => some (.int (bZ (rvkC (keyMsg kn.2.1) kn.2.1 x.2 t)))) (fun u => qW dA A O u.1 ++ u.2) := by
  refine Ct.mk2 (by decide) (Nat.le_of_ble_eq_true rfl) hZ ?_
  intro p e R s m args below meth c ls Q C hr hlocks hin hQ hl h
  have C0 := C
  obtain ⟨hx, hb, hml, hown, hts, -⟩ := C0
  have hl : lv_has ls 6 [(0, .ref (A 24)), (1, .ref x.1), (2, .ref ka), (3, .ref ka), (4, .long (lN t))] := hl
  obtain ⟨tx, ⟨hbbx, hblx, hbox, hb0x⟩, bax, snx, r1x, r2x, r3x, w1x, w2x, w3x, hcex, hbax, hsnx, hr1x, hr2x, hr3x⟩ := hS.b
  have hwy : ∀ v, whyN x.2 = some v → v < 256 := (sNote_nb hbbx).2.2.2.2.2.2.2
  refine lv_aload_n hx hb dX1_revokes_0 rfl (lv_at hl 1 rfl) ?_
  refine o_get C h (RC := RX17) (T := TX17) (N := 19) (List.mem_append_right _ hcex) rfl in_X17 14 (by decide) q1333 rfl (v := .int (bZ (sVain x.2))) rfl dX1_revokes_1 ?_
  refine z_if_ne (tgt := 53) hx hb dX1_revokes_4 (by decide) (fun c4 => ?_) (fun c4 => ?_)
  · refine lv_iconst (v := nI 0) hx hb dX1_revokes_53 (by decide) ?_
    subst hQ
    have hfin : rvkC (keyMsg kn.2.1) kn.2.1 x.2 t = false := by unfold rvkC; first | (rw [c46, (mild_t hwy (by first | exact Or.inl c26 | exact Or.inr c34))]; simp; done) | (rw [c4]; rfl) | (rw [c18]; simp; done)
    refine n_top (y := bZ false) rfl ?_
    exact ret_z C hr hlocks h (q, G) (⟨hqo, TR.rf⟩) (by rw [hfin]) rfl (by omega) (by omega) dX1_revokes_54
  · refine lv_aload_n hx hb dX1_revokes_7 rfl (lv_at hl 0 rfl) ?_
    refine lv_aload_n hx hb dX1_revokes_8 rfl (lv_at hl 1 rfl) ?_
    refine lv_aload_n hx hb dX1_revokes_9 rfl (lv_at hl 2 rfl) ?_
    refine lv_aload_n hx hb dX1_revokes_10 rfl (lv_at hl 3 rfl) ?_
    refine lv_aload_n hx hb dX1_revokes_11 rfl (lv_at hl 2 rfl) ?_
    refine o_get C h (RC := RX9) (T := TX9) (N := 4) (List.mem_append_right _ hk) rfl in_X9 1 (by decide) q397 rfl (v := .ref kn.1) rfl dX1_revokes_12 ?_
    refine call_VR (As := [.ref x.1, .ref ka, .ref ka, .ref kn.1]) (rest := []) (n := 4) C h (cQ_isTrueK l D dA B Z hZ G A O sz dc rg f1 f2 ka a1 a2 a3 q cx x kn hzq hQF hqo hS hk hkn hcx) (lw_V q1638 q1640 qs30 q129 q1641) (by decide +kernel) (o_recv C h (RC := RX1) (T := TX1) (N := 14) (List.mem_append_right _ hQF.2.2) rfl) (by decide) (by decide) rfl hl rfl (Nat.le_of_ble_eq_true rfl) dX1_revokes_15 (by omega) (fun u9 H locs hu9 h => ?_)
    obtain ⟨q2, G2⟩ := u9
    obtain ⟨hQ2, hT2⟩ := hu9
    dsimp only at hQ2 hT2 h
    have hS2 := hT2.2 x hS
    obtain ⟨ty, ⟨hbby, hbly, hboy, hb0y⟩, bay, sny, r1y, r2y, r3y, w1y, w2y, w3y, hcey, hbay, hsny, hr1y, hr2y, hr3y⟩ := hS2.b
    refine z_if_eq (tgt := 53) hx hb dX1_revokes_18 (by decide) (fun c18 => ?_) (fun c18 => ?_)
    · refine lv_iconst (v := nI 0) hx hb dX1_revokes_53 (by decide) ?_
      subst hQ
      have hfin : rvkC (keyMsg kn.2.1) kn.2.1 x.2 t = false := by unfold rvkC; first | (rw [c46, (mild_t hwy (by first | exact Or.inl c26 | exact Or.inr c34))]; simp; done) | (rw [c4]; rfl) | (rw [c18]; simp; done)
      refine n_top (y := bZ false) rfl ?_
      exact ret_z C hr hlocks h (q2, G2) (⟨hQ2, hT2⟩) (by rw [hfin]) rfl (by omega) (by omega) dX1_revokes_54
    · refine lv_aload_n hx hb dX1_revokes_21 rfl (lv_at hl 1 rfl) ?_
      refine o_get C h (RC := RX17) (T := TX17) (N := 19) (List.mem_append_right _ hcey) rfl in_X17 12 (by decide) q1329 rfl (v := .int (oI (sNote x.2).2.2.2.2.2.2.2.1)) rfl dX1_revokes_22 ?_
      refine lv_iconst (v := nI 1) hx hb dX1_revokes_25 (by decide) ?_
      refine lv_icmp_eq (tgt := 37) hx hb dX1_revokes_26 (by decide) (fun c26 => ?_) (fun c26 => ?_)
      · refine lv_aload_n hx hb dX1_revokes_37 rfl (lv_at hl 0 rfl) ?_
        refine lv_aload_n hx hb dX1_revokes_38 rfl (lv_at hl 1 rfl) ?_
        refine lv_aload_n hx hb dX1_revokes_39 rfl (lv_at hl 2 rfl) ?_
        refine lv_aload_n hx hb dX1_revokes_40 rfl (lv_at hl 3 rfl) ?_
        refine lv_lload hx hb dX1_revokes_41 (lv_at hl 4 rfl) ?_
        refine call_VR (As := [.ref x.1, .ref ka, .ref ka, .long (lN t)]) (rest := []) (n := 4) C h (cQ_countsK l D dA B Z hZ G2 A O sz dc rg f1 f2 q2 cx x t ka a1 a2 a3 kn hzq (hT2.qf hQF) hQ2 hS2 (hT2.ob (by decide) hk) (hT2.num hkn) hcx ht) (lw_V q1642 q1644 qs31 q129 q1645) (by decide +kernel) (o_recv C h (RC := RX1) (T := TX1) (N := 14) (List.mem_append_right _ (hT2.qf hQF).2.2) rfl) (by decide) (by decide) rfl hl rfl (Nat.le_of_ble_eq_true rfl) dX1_revokes_43 (by omega) (fun u8 H locs hu8 h => ?_)
        obtain ⟨q3, G3⟩ := u8
        obtain ⟨hQ3, hT3⟩ := hu8
        dsimp only at hQ3 hT3 h
        refine z_if_eq (tgt := 53) hx hb dX1_revokes_46 (by decide) (fun c46 => ?_) (fun c46 => ?_)
        · refine lv_iconst (v := nI 0) hx hb dX1_revokes_53 (by decide) ?_
          subst hQ
          have hfin : rvkC (keyMsg kn.2.1) kn.2.1 x.2 t = false := by unfold rvkC; first | (rw [c46, (mild_t hwy (by first | exact Or.inl c26 | exact Or.inr c34))]; simp; done) | (rw [c4]; rfl) | (rw [c18]; simp; done)
          refine n_top (y := bZ false) rfl ?_
          exact ret_z C hr hlocks h (q3, G3) (⟨hQ3, hT2.trans hT3⟩) (by rw [hfin]) rfl (by omega) (by omega) dX1_revokes_54
        · refine lv_iconst (v := nI 1) hx hb dX1_revokes_49 (by decide) ?_
          refine lv_goto (tgt := 54) hx hb dX1_revokes_50 (by decide) ?_
          subst hQ
          have hfin : rvkC (keyMsg kn.2.1) kn.2.1 x.2 t = true := by unfold rvkC; rw [c4, c18]; first | (rw [c46]; cases mild x.2 <;> rfl) | (rw [(mild_f c26 c34)]; rfl)
          refine n_top (y := bZ true) rfl ?_
          exact ret_z C hr hlocks h (q3, G3) (⟨hQ3, hT2.trans hT3⟩) (by rw [hfin]) rfl (by omega) (by omega) dX1_revokes_54
      · refine lv_aload_n hx hb dX1_revokes_29 rfl (lv_at hl 1 rfl) ?_
        refine o_get C h (RC := RX17) (T := TX17) (N := 19) (List.mem_append_right _ hcey) rfl in_X17 12 (by decide) q1329 rfl (v := .int (oI (sNote x.2).2.2.2.2.2.2.2.1)) rfl dX1_revokes_30 ?_
        refine lv_iconst (v := nI 3) hx hb dX1_revokes_33 (by decide) ?_
        refine lv_icmp_ne (tgt := 49) hx hb dX1_revokes_34 (by decide) (fun c34 => ?_) (fun c34 => ?_)
        · refine lv_iconst (v := nI 1) hx hb dX1_revokes_49 (by decide) ?_
          refine lv_goto (tgt := 54) hx hb dX1_revokes_50 (by decide) ?_
          subst hQ
          have hfin : rvkC (keyMsg kn.2.1) kn.2.1 x.2 t = true := by unfold rvkC; rw [c4, c18]; first | (rw [c46]; cases mild x.2 <;> rfl) | (rw [(mild_f c26 c34)]; rfl)
          refine n_top (y := bZ true) rfl ?_
          exact ret_z C hr hlocks h (q2, G2) (⟨hQ2, hT2⟩) (by rw [hfin]) rfl (by omega) (by omega) dX1_revokes_54
        · refine lv_aload_n hx hb dX1_revokes_37 rfl (lv_at hl 0 rfl) ?_
          refine lv_aload_n hx hb dX1_revokes_38 rfl (lv_at hl 1 rfl) ?_
          refine lv_aload_n hx hb dX1_revokes_39 rfl (lv_at hl 2 rfl) ?_
          refine lv_aload_n hx hb dX1_revokes_40 rfl (lv_at hl 3 rfl) ?_
          refine lv_lload hx hb dX1_revokes_41 (lv_at hl 4 rfl) ?_
          refine call_VR (As := [.ref x.1, .ref ka, .ref ka, .long (lN t)]) (rest := []) (n := 4) C h (cQ_countsK l D dA B Z hZ G2 A O sz dc rg f1 f2 q2 cx x t ka a1 a2 a3 kn hzq (hT2.qf hQF) hQ2 hS2 (hT2.ob (by decide) hk) (hT2.num hkn) hcx ht) (lw_V q1642 q1644 qs31 q129 q1645) (by decide +kernel) (o_recv C h (RC := RX1) (T := TX1) (N := 14) (List.mem_append_right _ (hT2.qf hQF).2.2) rfl) (by decide) (by decide) rfl hl rfl (Nat.le_of_ble_eq_true rfl) dX1_revokes_43 (by omega) (fun u8 H locs hu8 h => ?_)
          obtain ⟨q3, G3⟩ := u8
          obtain ⟨hQ3, hT3⟩ := hu8
          dsimp only at hQ3 hT3 h
          refine z_if_eq (tgt := 53) hx hb dX1_revokes_46 (by decide) (fun c46 => ?_) (fun c46 => ?_)
          · refine lv_iconst (v := nI 0) hx hb dX1_revokes_53 (by decide) ?_
            subst hQ
            have hfin : rvkC (keyMsg kn.2.1) kn.2.1 x.2 t = false := by unfold rvkC; first | (rw [c46, (mild_t hwy (by first | exact Or.inl c26 | exact Or.inr c34))]; simp; done) | (rw [c4]; rfl) | (rw [c18]; simp; done)
            refine n_top (y := bZ false) rfl ?_
            exact ret_z C hr hlocks h (q3, G3) (⟨hQ3, hT2.trans hT3⟩) (by rw [hfin]) rfl (by omega) (by omega) dX1_revokes_54
          · refine lv_iconst (v := nI 1) hx hb dX1_revokes_49 (by decide) ?_
            refine lv_goto (tgt := 54) hx hb dX1_revokes_50 (by decide) ?_
            subst hQ
            have hfin : rvkC (keyMsg kn.2.1) kn.2.1 x.2 t = true := by unfold rvkC; rw [c4, c18]; first | (rw [c46]; cases mild x.2 <;> rfl) | (rw [(mild_f c26 c34)]; rfl)
            refine n_top (y := bZ true) rfl ?_
            exact ret_z C hr hlocks h (q3, G3) (⟨hQ3, hT2.trans hT3⟩) (by rw [hfin]) rfl (by omega) (by omega) dX1_revokes_54
set_option maxHeartbeats 400000 in
set_option maxRecDepth 100000 in
theorem cQ_countsU (l : Launch) (D : va_G) (dA : Nat → ClassId) (B : Nat) (Z : State → Prop) (hZ : Stab B Z) (G : va_W) (A : Nat → Nat) (O : va_W) (sz dc rg f1 f2 : Nat) (q : QS) (cx : CX) (x : SL) (t : Nat) (ka a1 a2 a3 : Nat) (kn : NBr) (oa la : Nat) (ub : List Nat) (hzq : ZQ B f1 f2 Z) (hQF : QF dA A sz dc rg G) (hqo : QOk q) (hS : SealT dA cx G x) (hk : (ka, .inr (6, [.ref a1, .ref kn.1, .ref a2, .ref a3])) ∈ G) (hkn : NumIn dA G kn) (hof : UserIn dA G oa ub la) (hcx : cx x.1 = (keyMsg kn.2.1 ++ ([180] ++ be 4 ub.length ++ ub), kn.2.1)) (ht : t < 4294967296) :
    Ct (S := QS × va_W) l D dA B Z yX1_counts cX1_counts 6 (some .boolean) 9 2 256 [.ref (A 24), .ref x.1, .ref ka, .ref oa, .long (lN t)] (qW dA A O q ++ G) (fun u => QOk u.1 ∧ TR dA cx G u.2) (fun _ => some (.int (bZ (cntC (keyMsg kn.2.1 ++ ([180] ++ be 4 ub.length ++ ub)) kn.2.1 x.2 t)))) (fun u => qW dA A O u.1 ++ u.2) := by
  refine Ct.mk2 (by decide) (Nat.le_of_ble_eq_true rfl) hZ ?_
  intro p e R s m args below meth c ls Q C hr hlocks hin hQ hl h
  have C0 := C
  obtain ⟨hx, hb, hml, hown, hts, -⟩ := C0
  have hl : lv_has ls 6 [(0, .ref (A 24)), (1, .ref x.1), (2, .ref ka), (3, .ref oa), (4, .long (lN t))] := hl
  obtain ⟨tx, ⟨hbbx, hblx, hbox, hb0x⟩, bax, snx, r1x, r2x, r3x, w1x, w2x, w3x, hcex, hbax, hsnx, hr1x, hr2x, hr3x⟩ := hS.b
  have hkn0 := hkn
  obtain ⟨⟨hkb, hkl, hko, hks⟩, nba, nan, nae, nap, nsa, hnm, _⟩ := hkn0
  have hkm := kMade_lt hkb
  refine lv_aload_n hx hb dX1_counts_0 rfl (lv_at hl 1 rfl) ?_
  refine o_get C h (RC := RX17) (T := TX17) (N := 19) (List.mem_append_right _ hcex) rfl in_X17 14 (by decide) q1333 rfl (v := .int (bZ (sVain x.2))) rfl dX1_counts_1 ?_
  refine z_if_ne (tgt := 59) hx hb dX1_counts_4 (by decide) (fun c4 => ?_) (fun c4 => ?_)
  · refine lv_iconst (v := nI 0) hx hb dX1_counts_59 (by decide) ?_
    subst hQ
    have hfin : cntC (keyMsg kn.2.1 ++ ([180] ++ be 4 ub.length ++ ub)) kn.2.1 x.2 t = false := by unfold cntC; first | (rw [c4]; rfl) | (rw [decide_eq_false (show ¬ mdN x.2 ≤ t by omega)]; simp) | (rw [decide_eq_false (show ¬ kMade kn.2.1 ≤ mdN x.2 by omega)]; simp) | (rw [c52]; simp) | (rw [c38]; simp)
    refine n_top (y := bZ false) rfl ?_
    exact ret_z C hr hlocks h (q, G) (⟨hqo, TR.rf⟩) (by rw [hfin]) rfl (by omega) (by omega) dX1_counts_60
  · have hv9x : sVain x.2 = false := c4
    have hmdx : (sNote x.2).1 = some (mdN x.2) := vain_md hv9x
    have hnbx := sNote_nb hbbx
    have hm9x := hnbx.1 _ hmdx
    have he9x : enN x.2 < 4294967296 := hnbx.2.1
    have hcex : (x.1, .inr (14, [.ref bax, .int (nI (sType x.2)), .int (nI (sHash x.2)), .int (nI (sEnd x.2)), .int (nI (sLeft x.2)), .ref snx, .long (lN (mdN x.2)), .long (lN (sNote x.2).2.1), .long (lN (sNote x.2).2.2.1), va_rf r1x, va_rf r2x, .int (oI (sNote x.2).2.2.2.2.2.2.1), .int (oI (sNote x.2).2.2.2.2.2.2.2.1), va_rf r3x, .int (bZ (sVain x.2)), .int tx, .int (bZ w1x), .int (bZ w2x), .int (bZ w3x)])) ∈ G := by
      have h9 := hcex
      rw [hmdx] at h9
      exact h9
    refine lv_aload_n hx hb dX1_counts_7 rfl (lv_at hl 1 rfl) ?_
    refine o_get C h (RC := RX17) (T := TX17) (N := 19) (List.mem_append_right _ hcex) rfl in_X17 6 (by decide) q1318 rfl (v := .long (lN (mdN x.2))) rfl dX1_counts_8 ?_
    refine lv_lload hx hb dX1_counts_11 (lv_at hl 4 rfl) ?_
    refine n_lcmp_gt (tgt := 59) hx hb (by omega) (by omega) dX1_counts_13 dX1_counts_14 (by decide) (fun c13 => ?_) (fun c13 => ?_)
    · refine lv_iconst (v := nI 0) hx hb dX1_counts_59 (by decide) ?_
      subst hQ
      have hfin : cntC (keyMsg kn.2.1 ++ ([180] ++ be 4 ub.length ++ ub)) kn.2.1 x.2 t = false := by unfold cntC; first | (rw [c4]; rfl) | (rw [decide_eq_false (show ¬ mdN x.2 ≤ t by omega)]; simp) | (rw [decide_eq_false (show ¬ kMade kn.2.1 ≤ mdN x.2 by omega)]; simp) | (rw [c52]; simp) | (rw [c38]; simp)
      refine n_top (y := bZ false) rfl ?_
      exact ret_z C hr hlocks h (q, G) (⟨hqo, TR.rf⟩) (by rw [hfin]) rfl (by omega) (by omega) dX1_counts_60
    · refine lv_aload_n hx hb dX1_counts_17 rfl (lv_at hl 1 rfl) ?_
      refine o_get C h (RC := RX17) (T := TX17) (N := 19) (List.mem_append_right _ hcex) rfl in_X17 6 (by decide) q1318 rfl (v := .long (lN (mdN x.2))) rfl dX1_counts_18 ?_
      refine lv_aload_n hx hb dX1_counts_21 rfl (lv_at hl 2 rfl) ?_
      refine o_get C h (RC := RX9) (T := TX9) (N := 4) (List.mem_append_right _ hk) rfl in_X9 1 (by decide) q397 rfl (v := .ref kn.1) rfl dX1_counts_22 ?_
      refine o_get C h (RC := RX16) (T := TX16) (N := 6) (List.mem_append_right _ hnm) rfl in_X16 1 (by decide) q1150 rfl (v := .long (lN (kMade kn.2.1))) rfl dX1_counts_25 ?_
      refine n_lcmp_lt (tgt := 59) hx hb (by omega) (by omega) dX1_counts_28 dX1_counts_29 (by decide) (fun c28 => ?_) (fun c28 => ?_)
      · refine lv_iconst (v := nI 0) hx hb dX1_counts_59 (by decide) ?_
        subst hQ
        have hfin : cntC (keyMsg kn.2.1 ++ ([180] ++ be 4 ub.length ++ ub)) kn.2.1 x.2 t = false := by unfold cntC; first | (rw [c4]; rfl) | (rw [decide_eq_false (show ¬ mdN x.2 ≤ t by omega)]; simp) | (rw [decide_eq_false (show ¬ kMade kn.2.1 ≤ mdN x.2 by omega)]; simp) | (rw [c52]; simp) | (rw [c38]; simp)
        refine n_top (y := bZ false) rfl ?_
        exact ret_z C hr hlocks h (q, G) (⟨hqo, TR.rf⟩) (by rw [hfin]) rfl (by omega) (by omega) dX1_counts_60
      · refine lv_aload_n hx hb dX1_counts_32 rfl (lv_at hl 1 rfl) ?_
        refine lv_lload hx hb dX1_counts_33 (lv_at hl 4 rfl) ?_
        refine call_VR (As := [.long (lN t)]) (rest := []) (n := 1) C h (c17_isEnded l D dA B Z hZ _ x t (hS.b.sub (fun z hz => List.mem_append_right _ hz)) hv9x ht) (lw_V q1622 q1623 q1624 q165 q1625) (by decide +kernel) (o_recv C h (RC := RX17) (T := TX17) (N := 19) (List.mem_append_right _ hcex) rfl) (by decide) (by decide) rfl hl rfl (Nat.le_of_ble_eq_true rfl) dX1_counts_35 (by omega) (fun _ H locs _ h => ?_)
        refine z_if_ne (tgt := 59) hx hb dX1_counts_38 (by decide) (fun c38 => ?_) (fun c38 => ?_)
        · refine lv_iconst (v := nI 0) hx hb dX1_counts_59 (by decide) ?_
          subst hQ
          have hfin : cntC (keyMsg kn.2.1 ++ ([180] ++ be 4 ub.length ++ ub)) kn.2.1 x.2 t = false := by unfold cntC; first | (rw [c4]; rfl) | (rw [decide_eq_false (show ¬ mdN x.2 ≤ t by omega)]; simp) | (rw [decide_eq_false (show ¬ kMade kn.2.1 ≤ mdN x.2 by omega)]; simp) | (rw [c52]; simp) | (rw [c38]; simp)
          refine n_top (y := bZ false) rfl ?_
          exact ret_z C hr hlocks h (q, G) (⟨hqo, TR.rf⟩) (by rw [hfin]) rfl (by omega) (by omega) dX1_counts_60
        · refine lv_aload_n hx hb dX1_counts_41 rfl (lv_at hl 0 rfl) ?_
          refine lv_aload_n hx hb dX1_counts_42 rfl (lv_at hl 1 rfl) ?_
          refine lv_aload_n hx hb dX1_counts_43 rfl (lv_at hl 2 rfl) ?_
          refine lv_aload_n hx hb dX1_counts_44 rfl (lv_at hl 3 rfl) ?_
          refine lv_aload_n hx hb dX1_counts_45 rfl (lv_at hl 2 rfl) ?_
          refine o_get C h (RC := RX9) (T := TX9) (N := 4) (List.mem_append_right _ hk) rfl in_X9 1 (by decide) q397 rfl (v := .ref kn.1) rfl dX1_counts_46 ?_
          refine call_VR (As := [.ref x.1, .ref ka, .ref oa, .ref kn.1]) (rest := []) (n := 4) C h (cQ_isTrueU l D dA B Z hZ G A O sz dc rg f1 f2 ka a1 a2 a3 q cx x kn oa la ub hzq hQF hqo hS hk hkn hof hcx) (lw_V q1638 q1640 qs30 q129 q1641) (by decide +kernel) (o_recv C h (RC := RX1) (T := TX1) (N := 14) (List.mem_append_right _ hQF.2.2) rfl) (by decide) (by decide) rfl hl rfl (Nat.le_of_ble_eq_true rfl) dX1_counts_49 (by omega) (fun u9 H locs hu9 h => ?_)
          obtain ⟨q2, G2⟩ := u9
          dsimp only at hu9 h
          refine z_if_eq (tgt := 59) hx hb dX1_counts_52 (by decide) (fun c52 => ?_) (fun c52 => ?_)
          · refine lv_iconst (v := nI 0) hx hb dX1_counts_59 (by decide) ?_
            subst hQ
            have hfin : cntC (keyMsg kn.2.1 ++ ([180] ++ be 4 ub.length ++ ub)) kn.2.1 x.2 t = false := by unfold cntC; first | (rw [c4]; rfl) | (rw [decide_eq_false (show ¬ mdN x.2 ≤ t by omega)]; simp) | (rw [decide_eq_false (show ¬ kMade kn.2.1 ≤ mdN x.2 by omega)]; simp) | (rw [c52]; simp) | (rw [c38]; simp)
            refine n_top (y := bZ false) rfl ?_
            exact ret_z C hr hlocks h (q2, G2) hu9 (by rw [hfin]) rfl (by omega) (by omega) dX1_counts_60
          · refine lv_iconst (v := nI 1) hx hb dX1_counts_55 (by decide) ?_
            refine lv_goto (tgt := 60) hx hb dX1_counts_56 (by decide) ?_
            subst hQ
            have hfin : cntC (keyMsg kn.2.1 ++ ([180] ++ be 4 ub.length ++ ub)) kn.2.1 x.2 t = true := by unfold cntC; rw [hv9x, decide_eq_true (show mdN x.2 ≤ t by omega), decide_eq_true (show kMade kn.2.1 ≤ mdN x.2 by omega), c38, c52]; rfl
            refine n_top (y := bZ true) rfl ?_
            exact ret_z C hr hlocks h (q2, G2) hu9 (by rw [hfin]) rfl (by omega) (by omega) dX1_counts_60
set_option maxHeartbeats 400000 in
set_option maxRecDepth 100000 in
theorem cQ_revokesU (l : Launch) (D : va_G) (dA : Nat → ClassId) (B : Nat) (Z : State → Prop) (hZ : Stab B Z) (G : va_W) (A : Nat → Nat) (O : va_W) (sz dc rg f1 f2 : Nat) (q : QS) (cx : CX) (x : SL) (t : Nat) (ka a1 a2 a3 : Nat) (kn : NBr) (oa la : Nat) (ub : List Nat) (hzq : ZQ B f1 f2 Z) (hQF : QF dA A sz dc rg G) (hqo : QOk q) (hS : SealT dA cx G x) (hk : (ka, .inr (6, [.ref a1, .ref kn.1, .ref a2, .ref a3])) ∈ G) (hkn : NumIn dA G kn) (hof : UserIn dA G oa ub la) (hcx : cx x.1 = (keyMsg kn.2.1 ++ ([180] ++ be 4 ub.length ++ ub), kn.2.1)) (ht : t < 4294967296) :
    Ct (S := QS × va_W) l D dA B Z yX1_revokes cX1_revokes 6 (some .boolean) 10 4 512 [.ref (A 24), .ref x.1, .ref ka, .ref oa, .long (lN t)] (qW dA A O q ++ G) (fun u => QOk u.1 ∧ TR dA cx G u.2) (fun _ => some (.int (bZ (rvkC (keyMsg kn.2.1 ++ ([180] ++ be 4 ub.length ++ ub)) kn.2.1 x.2 t)))) (fun u => qW dA A O u.1 ++ u.2) := by
  refine Ct.mk2 (by decide) (Nat.le_of_ble_eq_true rfl) hZ ?_
  intro p e R s m args below meth c ls Q C hr hlocks hin hQ hl h
  have C0 := C
  obtain ⟨hx, hb, hml, hown, hts, -⟩ := C0
  have hl : lv_has ls 6 [(0, .ref (A 24)), (1, .ref x.1), (2, .ref ka), (3, .ref oa), (4, .long (lN t))] := hl
  obtain ⟨tx, ⟨hbbx, hblx, hbox, hb0x⟩, bax, snx, r1x, r2x, r3x, w1x, w2x, w3x, hcex, hbax, hsnx, hr1x, hr2x, hr3x⟩ := hS.b
  have hwy : ∀ v, whyN x.2 = some v → v < 256 := (sNote_nb hbbx).2.2.2.2.2.2.2
  refine lv_aload_n hx hb dX1_revokes_0 rfl (lv_at hl 1 rfl) ?_
  refine o_get C h (RC := RX17) (T := TX17) (N := 19) (List.mem_append_right _ hcex) rfl in_X17 14 (by decide) q1333 rfl (v := .int (bZ (sVain x.2))) rfl dX1_revokes_1 ?_
  refine z_if_ne (tgt := 53) hx hb dX1_revokes_4 (by decide) (fun c4 => ?_) (fun c4 => ?_)
  · refine lv_iconst (v := nI 0) hx hb dX1_revokes_53 (by decide) ?_
    subst hQ
    have hfin : rvkC (keyMsg kn.2.1 ++ ([180] ++ be 4 ub.length ++ ub)) kn.2.1 x.2 t = false := by unfold rvkC; first | (rw [c46, (mild_t hwy (by first | exact Or.inl c26 | exact Or.inr c34))]; simp; done) | (rw [c4]; rfl) | (rw [c18]; simp; done)
    refine n_top (y := bZ false) rfl ?_
    exact ret_z C hr hlocks h (q, G) (⟨hqo, TR.rf⟩) (by rw [hfin]) rfl (by omega) (by omega) dX1_revokes_54
  · refine lv_aload_n hx hb dX1_revokes_7 rfl (lv_at hl 0 rfl) ?_
    refine lv_aload_n hx hb dX1_revokes_8 rfl (lv_at hl 1 rfl) ?_
    refine lv_aload_n hx hb dX1_revokes_9 rfl (lv_at hl 2 rfl) ?_
    refine lv_aload_n hx hb dX1_revokes_10 rfl (lv_at hl 3 rfl) ?_
    refine lv_aload_n hx hb dX1_revokes_11 rfl (lv_at hl 2 rfl) ?_
    refine o_get C h (RC := RX9) (T := TX9) (N := 4) (List.mem_append_right _ hk) rfl in_X9 1 (by decide) q397 rfl (v := .ref kn.1) rfl dX1_revokes_12 ?_
    refine call_VR (As := [.ref x.1, .ref ka, .ref oa, .ref kn.1]) (rest := []) (n := 4) C h (cQ_isTrueU l D dA B Z hZ G A O sz dc rg f1 f2 ka a1 a2 a3 q cx x kn oa la ub hzq hQF hqo hS hk hkn hof hcx) (lw_V q1638 q1640 qs30 q129 q1641) (by decide +kernel) (o_recv C h (RC := RX1) (T := TX1) (N := 14) (List.mem_append_right _ hQF.2.2) rfl) (by decide) (by decide) rfl hl rfl (Nat.le_of_ble_eq_true rfl) dX1_revokes_15 (by omega) (fun u9 H locs hu9 h => ?_)
    obtain ⟨q2, G2⟩ := u9
    obtain ⟨hQ2, hT2⟩ := hu9
    dsimp only at hQ2 hT2 h
    have hS2 := hT2.2 x hS
    obtain ⟨ty, ⟨hbby, hbly, hboy, hb0y⟩, bay, sny, r1y, r2y, r3y, w1y, w2y, w3y, hcey, hbay, hsny, hr1y, hr2y, hr3y⟩ := hS2.b
    refine z_if_eq (tgt := 53) hx hb dX1_revokes_18 (by decide) (fun c18 => ?_) (fun c18 => ?_)
    · refine lv_iconst (v := nI 0) hx hb dX1_revokes_53 (by decide) ?_
      subst hQ
      have hfin : rvkC (keyMsg kn.2.1 ++ ([180] ++ be 4 ub.length ++ ub)) kn.2.1 x.2 t = false := by unfold rvkC; first | (rw [c46, (mild_t hwy (by first | exact Or.inl c26 | exact Or.inr c34))]; simp; done) | (rw [c4]; rfl) | (rw [c18]; simp; done)
      refine n_top (y := bZ false) rfl ?_
      exact ret_z C hr hlocks h (q2, G2) (⟨hQ2, hT2⟩) (by rw [hfin]) rfl (by omega) (by omega) dX1_revokes_54
    · refine lv_aload_n hx hb dX1_revokes_21 rfl (lv_at hl 1 rfl) ?_
      refine o_get C h (RC := RX17) (T := TX17) (N := 19) (List.mem_append_right _ hcey) rfl in_X17 12 (by decide) q1329 rfl (v := .int (oI (sNote x.2).2.2.2.2.2.2.2.1)) rfl dX1_revokes_22 ?_
      refine lv_iconst (v := nI 1) hx hb dX1_revokes_25 (by decide) ?_
      refine lv_icmp_eq (tgt := 37) hx hb dX1_revokes_26 (by decide) (fun c26 => ?_) (fun c26 => ?_)
      · refine lv_aload_n hx hb dX1_revokes_37 rfl (lv_at hl 0 rfl) ?_
        refine lv_aload_n hx hb dX1_revokes_38 rfl (lv_at hl 1 rfl) ?_
        refine lv_aload_n hx hb dX1_revokes_39 rfl (lv_at hl 2 rfl) ?_
        refine lv_aload_n hx hb dX1_revokes_40 rfl (lv_at hl 3 rfl) ?_
        refine lv_lload hx hb dX1_revokes_41 (lv_at hl 4 rfl) ?_
        refine call_VR (As := [.ref x.1, .ref ka, .ref oa, .long (lN t)]) (rest := []) (n := 4) C h (cQ_countsU l D dA B Z hZ G2 A O sz dc rg f1 f2 q2 cx x t ka a1 a2 a3 kn oa la ub hzq (hT2.qf hQF) hQ2 hS2 (hT2.ob (by decide) hk) (hT2.num hkn) (hT2.us hof) hcx ht) (lw_V q1642 q1644 qs31 q129 q1645) (by decide +kernel) (o_recv C h (RC := RX1) (T := TX1) (N := 14) (List.mem_append_right _ (hT2.qf hQF).2.2) rfl) (by decide) (by decide) rfl hl rfl (Nat.le_of_ble_eq_true rfl) dX1_revokes_43 (by omega) (fun u8 H locs hu8 h => ?_)
        obtain ⟨q3, G3⟩ := u8
        obtain ⟨hQ3, hT3⟩ := hu8
        dsimp only at hQ3 hT3 h
        refine z_if_eq (tgt := 53) hx hb dX1_revokes_46 (by decide) (fun c46 => ?_) (fun c46 => ?_)
        · refine lv_iconst (v := nI 0) hx hb dX1_revokes_53 (by decide) ?_
          subst hQ
          have hfin : rvkC (keyMsg kn.2.1 ++ ([180] ++ be 4 ub.length ++ ub)) kn.2.1 x.2 t = false := by unfold rvkC; first | (rw [c46, (mild_t hwy (by first | exact Or.inl c26 | exact Or.inr c34))]; simp; done) | (rw [c4]; rfl) | (rw [c18]; simp; done)
          refine n_top (y := bZ false) rfl ?_
          exact ret_z C hr hlocks h (q3, G3) (⟨hQ3, hT2.trans hT3⟩) (by rw [hfin]) rfl (by omega) (by omega) dX1_revokes_54
        · refine lv_iconst (v := nI 1) hx hb dX1_revokes_49 (by decide) ?_
          refine lv_goto (tgt := 54) hx hb dX1_revokes_50 (by decide) ?_
          subst hQ
          have hfin : rvkC (keyMsg kn.2.1 ++ ([180] ++ be 4 ub.length ++ ub)) kn.2.1 x.2 t = true := by unfold rvkC; rw [c4, c18]; first | (rw [c46]; cases mild x.2 <;> rfl) | (rw [(mild_f c26 c34)]; rfl)
          refine n_top (y := bZ true) rfl ?_
          exact ret_z C hr hlocks h (q3, G3) (⟨hQ3, hT2.trans hT3⟩) (by rw [hfin]) rfl (by omega) (by omega) dX1_revokes_54
      · refine lv_aload_n hx hb dX1_revokes_29 rfl (lv_at hl 1 rfl) ?_
        refine o_get C h (RC := RX17) (T := TX17) (N := 19) (List.mem_append_right _ hcey) rfl in_X17 12 (by decide) q1329 rfl (v := .int (oI (sNote x.2).2.2.2.2.2.2.2.1)) rfl dX1_revokes_30 ?_
        refine lv_iconst (v := nI 3) hx hb dX1_revokes_33 (by decide) ?_
        refine lv_icmp_ne (tgt := 49) hx hb dX1_revokes_34 (by decide) (fun c34 => ?_) (fun c34 => ?_)
        · refine lv_iconst (v := nI 1) hx hb dX1_revokes_49 (by decide) ?_
          refine lv_goto (tgt := 54) hx hb dX1_revokes_50 (by decide) ?_
          subst hQ
          have hfin : rvkC (keyMsg kn.2.1 ++ ([180] ++ be 4 ub.length ++ ub)) kn.2.1 x.2 t = true := by unfold rvkC; rw [c4, c18]; first | (rw [c46]; cases mild x.2 <;> rfl) | (rw [(mild_f c26 c34)]; rfl)
          refine n_top (y := bZ true) rfl ?_
          exact ret_z C hr hlocks h (q2, G2) (⟨hQ2, hT2⟩) (by rw [hfin]) rfl (by omega) (by omega) dX1_revokes_54
        · refine lv_aload_n hx hb dX1_revokes_37 rfl (lv_at hl 0 rfl) ?_
          refine lv_aload_n hx hb dX1_revokes_38 rfl (lv_at hl 1 rfl) ?_
          refine lv_aload_n hx hb dX1_revokes_39 rfl (lv_at hl 2 rfl) ?_
          refine lv_aload_n hx hb dX1_revokes_40 rfl (lv_at hl 3 rfl) ?_
          refine lv_lload hx hb dX1_revokes_41 (lv_at hl 4 rfl) ?_
          refine call_VR (As := [.ref x.1, .ref ka, .ref oa, .long (lN t)]) (rest := []) (n := 4) C h (cQ_countsU l D dA B Z hZ G2 A O sz dc rg f1 f2 q2 cx x t ka a1 a2 a3 kn oa la ub hzq (hT2.qf hQF) hQ2 hS2 (hT2.ob (by decide) hk) (hT2.num hkn) (hT2.us hof) hcx ht) (lw_V q1642 q1644 qs31 q129 q1645) (by decide +kernel) (o_recv C h (RC := RX1) (T := TX1) (N := 14) (List.mem_append_right _ (hT2.qf hQF).2.2) rfl) (by decide) (by decide) rfl hl rfl (Nat.le_of_ble_eq_true rfl) dX1_revokes_43 (by omega) (fun u8 H locs hu8 h => ?_)
          obtain ⟨q3, G3⟩ := u8
          obtain ⟨hQ3, hT3⟩ := hu8
          dsimp only at hQ3 hT3 h
          refine z_if_eq (tgt := 53) hx hb dX1_revokes_46 (by decide) (fun c46 => ?_) (fun c46 => ?_)
          · refine lv_iconst (v := nI 0) hx hb dX1_revokes_53 (by decide) ?_
            subst hQ
            have hfin : rvkC (keyMsg kn.2.1 ++ ([180] ++ be 4 ub.length ++ ub)) kn.2.1 x.2 t = false := by unfold rvkC; first | (rw [c46, (mild_t hwy (by first | exact Or.inl c26 | exact Or.inr c34))]; simp; done) | (rw [c4]; rfl) | (rw [c18]; simp; done)
            refine n_top (y := bZ false) rfl ?_
            exact ret_z C hr hlocks h (q3, G3) (⟨hQ3, hT2.trans hT3⟩) (by rw [hfin]) rfl (by omega) (by omega) dX1_revokes_54
          · refine lv_iconst (v := nI 1) hx hb dX1_revokes_49 (by decide) ?_
            refine lv_goto (tgt := 54) hx hb dX1_revokes_50 (by decide) ?_
            subst hQ
            have hfin : rvkC (keyMsg kn.2.1 ++ ([180] ++ be 4 ub.length ++ ub)) kn.2.1 x.2 t = true := by unfold rvkC; rw [c4, c18]; first | (rw [c46]; cases mild x.2 <;> rfl) | (rw [(mild_f c26 c34)]; rfl)
            refine n_top (y := bZ true) rfl ?_
            exact ret_z C hr hlocks h (q3, G3) (⟨hQ3, hT2.trans hT3⟩) (by rw [hfin]) rfl (by omega) (by omega) dX1_revokes_54
set_option maxHeartbeats 400000 in
set_option maxRecDepth 100000 in
theorem cQ_countsP (l : Launch) (D : va_G) (dA : Nat → ClassId) (B : Nat) (Z : State → Prop) (hZ : Stab B Z) (G : va_W) (A : Nat → Nat) (O : va_W) (sz dc rg f1 f2 : Nat) (q : QS) (cx : CX) (x : SL) (t : Nat) (ka a1 a2 a3 : Nat) (kn : NBr) (oa la : Nat) (pn : NBr) (hzq : ZQ B f1 f2 Z) (hQF : QF dA A sz dc rg G) (hqo : QOk q) (hS : SealT dA cx G x) (hk : (ka, .inr (6, [.ref a1, .ref kn.1, .ref a2, .ref a3])) ∈ G) (hkn : NumIn dA G kn) (hof : (oa, .inr (8, [.ref la, .ref pn.1])) ∈ G) (hpn : NumIn dA G pn) (hcx : cx x.1 = (keyMsg kn.2.1 ++ keyMsg pn.2.1, kn.2.1)) (ht : t < 4294967296) :
    Ct (S := QS × va_W) l D dA B Z yX1_counts cX1_counts 6 (some .boolean) 9 2 256 [.ref (A 24), .ref x.1, .ref ka, .ref oa, .long (lN t)] (qW dA A O q ++ G) (fun u => QOk u.1 ∧ TR dA cx G u.2) (fun _ => some (.int (bZ (cntC (keyMsg kn.2.1 ++ keyMsg pn.2.1) kn.2.1 x.2 t)))) (fun u => qW dA A O u.1 ++ u.2) := by
  refine Ct.mk2 (by decide) (Nat.le_of_ble_eq_true rfl) hZ ?_
  intro p e R s m args below meth c ls Q C hr hlocks hin hQ hl h
  have C0 := C
  obtain ⟨hx, hb, hml, hown, hts, -⟩ := C0
  have hl : lv_has ls 6 [(0, .ref (A 24)), (1, .ref x.1), (2, .ref ka), (3, .ref oa), (4, .long (lN t))] := hl
  obtain ⟨tx, ⟨hbbx, hblx, hbox, hb0x⟩, bax, snx, r1x, r2x, r3x, w1x, w2x, w3x, hcex, hbax, hsnx, hr1x, hr2x, hr3x⟩ := hS.b
  have hkn0 := hkn
  obtain ⟨⟨hkb, hkl, hko, hks⟩, nba, nan, nae, nap, nsa, hnm, _⟩ := hkn0
  have hkm := kMade_lt hkb
  refine lv_aload_n hx hb dX1_counts_0 rfl (lv_at hl 1 rfl) ?_
  refine o_get C h (RC := RX17) (T := TX17) (N := 19) (List.mem_append_right _ hcex) rfl in_X17 14 (by decide) q1333 rfl (v := .int (bZ (sVain x.2))) rfl dX1_counts_1 ?_
  refine z_if_ne (tgt := 59) hx hb dX1_counts_4 (by decide) (fun c4 => ?_) (fun c4 => ?_)
  · refine lv_iconst (v := nI 0) hx hb dX1_counts_59 (by decide) ?_
    subst hQ
    have hfin : cntC (keyMsg kn.2.1 ++ keyMsg pn.2.1) kn.2.1 x.2 t = false := by unfold cntC; first | (rw [c4]; rfl) | (rw [decide_eq_false (show ¬ mdN x.2 ≤ t by omega)]; simp) | (rw [decide_eq_false (show ¬ kMade kn.2.1 ≤ mdN x.2 by omega)]; simp) | (rw [c52]; simp) | (rw [c38]; simp)
    refine n_top (y := bZ false) rfl ?_
    exact ret_z C hr hlocks h (q, G) (⟨hqo, TR.rf⟩) (by rw [hfin]) rfl (by omega) (by omega) dX1_counts_60
  · have hv9x : sVain x.2 = false := c4
    have hmdx : (sNote x.2).1 = some (mdN x.2) := vain_md hv9x
    have hnbx := sNote_nb hbbx
    have hm9x := hnbx.1 _ hmdx
    have he9x : enN x.2 < 4294967296 := hnbx.2.1
    have hcex : (x.1, .inr (14, [.ref bax, .int (nI (sType x.2)), .int (nI (sHash x.2)), .int (nI (sEnd x.2)), .int (nI (sLeft x.2)), .ref snx, .long (lN (mdN x.2)), .long (lN (sNote x.2).2.1), .long (lN (sNote x.2).2.2.1), va_rf r1x, va_rf r2x, .int (oI (sNote x.2).2.2.2.2.2.2.1), .int (oI (sNote x.2).2.2.2.2.2.2.2.1), va_rf r3x, .int (bZ (sVain x.2)), .int tx, .int (bZ w1x), .int (bZ w2x), .int (bZ w3x)])) ∈ G := by
      have h9 := hcex
      rw [hmdx] at h9
      exact h9
    refine lv_aload_n hx hb dX1_counts_7 rfl (lv_at hl 1 rfl) ?_
    refine o_get C h (RC := RX17) (T := TX17) (N := 19) (List.mem_append_right _ hcex) rfl in_X17 6 (by decide) q1318 rfl (v := .long (lN (mdN x.2))) rfl dX1_counts_8 ?_
    refine lv_lload hx hb dX1_counts_11 (lv_at hl 4 rfl) ?_
    refine n_lcmp_gt (tgt := 59) hx hb (by omega) (by omega) dX1_counts_13 dX1_counts_14 (by decide) (fun c13 => ?_) (fun c13 => ?_)
    · refine lv_iconst (v := nI 0) hx hb dX1_counts_59 (by decide) ?_
      subst hQ
      have hfin : cntC (keyMsg kn.2.1 ++ keyMsg pn.2.1) kn.2.1 x.2 t = false := by unfold cntC; first | (rw [c4]; rfl) | (rw [decide_eq_false (show ¬ mdN x.2 ≤ t by omega)]; simp) | (rw [decide_eq_false (show ¬ kMade kn.2.1 ≤ mdN x.2 by omega)]; simp) | (rw [c52]; simp) | (rw [c38]; simp)
      refine n_top (y := bZ false) rfl ?_
      exact ret_z C hr hlocks h (q, G) (⟨hqo, TR.rf⟩) (by rw [hfin]) rfl (by omega) (by omega) dX1_counts_60
    · refine lv_aload_n hx hb dX1_counts_17 rfl (lv_at hl 1 rfl) ?_
      refine o_get C h (RC := RX17) (T := TX17) (N := 19) (List.mem_append_right _ hcex) rfl in_X17 6 (by decide) q1318 rfl (v := .long (lN (mdN x.2))) rfl dX1_counts_18 ?_
      refine lv_aload_n hx hb dX1_counts_21 rfl (lv_at hl 2 rfl) ?_
      refine o_get C h (RC := RX9) (T := TX9) (N := 4) (List.mem_append_right _ hk) rfl in_X9 1 (by decide) q397 rfl (v := .ref kn.1) rfl dX1_counts_22 ?_
      refine o_get C h (RC := RX16) (T := TX16) (N := 6) (List.mem_append_right _ hnm) rfl in_X16 1 (by decide) q1150 rfl (v := .long (lN (kMade kn.2.1))) rfl dX1_counts_25 ?_
      refine n_lcmp_lt (tgt := 59) hx hb (by omega) (by omega) dX1_counts_28 dX1_counts_29 (by decide) (fun c28 => ?_) (fun c28 => ?_)
      · refine lv_iconst (v := nI 0) hx hb dX1_counts_59 (by decide) ?_
        subst hQ
        have hfin : cntC (keyMsg kn.2.1 ++ keyMsg pn.2.1) kn.2.1 x.2 t = false := by unfold cntC; first | (rw [c4]; rfl) | (rw [decide_eq_false (show ¬ mdN x.2 ≤ t by omega)]; simp) | (rw [decide_eq_false (show ¬ kMade kn.2.1 ≤ mdN x.2 by omega)]; simp) | (rw [c52]; simp) | (rw [c38]; simp)
        refine n_top (y := bZ false) rfl ?_
        exact ret_z C hr hlocks h (q, G) (⟨hqo, TR.rf⟩) (by rw [hfin]) rfl (by omega) (by omega) dX1_counts_60
      · refine lv_aload_n hx hb dX1_counts_32 rfl (lv_at hl 1 rfl) ?_
        refine lv_lload hx hb dX1_counts_33 (lv_at hl 4 rfl) ?_
        refine call_VR (As := [.long (lN t)]) (rest := []) (n := 1) C h (c17_isEnded l D dA B Z hZ _ x t (hS.b.sub (fun z hz => List.mem_append_right _ hz)) hv9x ht) (lw_V q1622 q1623 q1624 q165 q1625) (by decide +kernel) (o_recv C h (RC := RX17) (T := TX17) (N := 19) (List.mem_append_right _ hcex) rfl) (by decide) (by decide) rfl hl rfl (Nat.le_of_ble_eq_true rfl) dX1_counts_35 (by omega) (fun _ H locs _ h => ?_)
        refine z_if_ne (tgt := 59) hx hb dX1_counts_38 (by decide) (fun c38 => ?_) (fun c38 => ?_)
        · refine lv_iconst (v := nI 0) hx hb dX1_counts_59 (by decide) ?_
          subst hQ
          have hfin : cntC (keyMsg kn.2.1 ++ keyMsg pn.2.1) kn.2.1 x.2 t = false := by unfold cntC; first | (rw [c4]; rfl) | (rw [decide_eq_false (show ¬ mdN x.2 ≤ t by omega)]; simp) | (rw [decide_eq_false (show ¬ kMade kn.2.1 ≤ mdN x.2 by omega)]; simp) | (rw [c52]; simp) | (rw [c38]; simp)
          refine n_top (y := bZ false) rfl ?_
          exact ret_z C hr hlocks h (q, G) (⟨hqo, TR.rf⟩) (by rw [hfin]) rfl (by omega) (by omega) dX1_counts_60
        · refine lv_aload_n hx hb dX1_counts_41 rfl (lv_at hl 0 rfl) ?_
          refine lv_aload_n hx hb dX1_counts_42 rfl (lv_at hl 1 rfl) ?_
          refine lv_aload_n hx hb dX1_counts_43 rfl (lv_at hl 2 rfl) ?_
          refine lv_aload_n hx hb dX1_counts_44 rfl (lv_at hl 3 rfl) ?_
          refine lv_aload_n hx hb dX1_counts_45 rfl (lv_at hl 2 rfl) ?_
          refine o_get C h (RC := RX9) (T := TX9) (N := 4) (List.mem_append_right _ hk) rfl in_X9 1 (by decide) q397 rfl (v := .ref kn.1) rfl dX1_counts_46 ?_
          refine call_VR (As := [.ref x.1, .ref ka, .ref oa, .ref kn.1]) (rest := []) (n := 4) C h (cQ_isTrueP l D dA B Z hZ G A O sz dc rg f1 f2 ka a1 a2 a3 q cx x kn oa la pn kn hzq hQF hqo hS hk hkn hof hpn hkn hcx) (lw_V q1638 q1640 qs30 q129 q1641) (by decide +kernel) (o_recv C h (RC := RX1) (T := TX1) (N := 14) (List.mem_append_right _ hQF.2.2) rfl) (by decide) (by decide) rfl hl rfl (Nat.le_of_ble_eq_true rfl) dX1_counts_49 (by omega) (fun u9 H locs hu9 h => ?_)
          obtain ⟨q2, G2⟩ := u9
          dsimp only at hu9 h
          refine z_if_eq (tgt := 59) hx hb dX1_counts_52 (by decide) (fun c52 => ?_) (fun c52 => ?_)
          · refine lv_iconst (v := nI 0) hx hb dX1_counts_59 (by decide) ?_
            subst hQ
            have hfin : cntC (keyMsg kn.2.1 ++ keyMsg pn.2.1) kn.2.1 x.2 t = false := by unfold cntC; first | (rw [c4]; rfl) | (rw [decide_eq_false (show ¬ mdN x.2 ≤ t by omega)]; simp) | (rw [decide_eq_false (show ¬ kMade kn.2.1 ≤ mdN x.2 by omega)]; simp) | (rw [c52]; simp) | (rw [c38]; simp)
            refine n_top (y := bZ false) rfl ?_
            exact ret_z C hr hlocks h (q2, G2) hu9 (by rw [hfin]) rfl (by omega) (by omega) dX1_counts_60
          · refine lv_iconst (v := nI 1) hx hb dX1_counts_55 (by decide) ?_
            refine lv_goto (tgt := 60) hx hb dX1_counts_56 (by decide) ?_
            subst hQ
            have hfin : cntC (keyMsg kn.2.1 ++ keyMsg pn.2.1) kn.2.1 x.2 t = true := by unfold cntC; rw [hv9x, decide_eq_true (show mdN x.2 ≤ t by omega), decide_eq_true (show kMade kn.2.1 ≤ mdN x.2 by omega), c38, c52]; rfl
            refine n_top (y := bZ true) rfl ?_
            exact ret_z C hr hlocks h (q2, G2) hu9 (by rw [hfin]) rfl (by omega) (by omega) dX1_counts_60
set_option maxHeartbeats 400000 in
set_option maxRecDepth 100000 in
theorem cQ_revokesP (l : Launch) (D : va_G) (dA : Nat → ClassId) (B : Nat) (Z : State → Prop) (hZ : Stab B Z) (G : va_W) (A : Nat → Nat) (O : va_W) (sz dc rg f1 f2 : Nat) (q : QS) (cx : CX) (x : SL) (t : Nat) (ka a1 a2 a3 : Nat) (kn : NBr) (oa la : Nat) (pn : NBr) (hzq : ZQ B f1 f2 Z) (hQF : QF dA A sz dc rg G) (hqo : QOk q) (hS : SealT dA cx G x) (hk : (ka, .inr (6, [.ref a1, .ref kn.1, .ref a2, .ref a3])) ∈ G) (hkn : NumIn dA G kn) (hof : (oa, .inr (8, [.ref la, .ref pn.1])) ∈ G) (hpn : NumIn dA G pn) (hcx : cx x.1 = (keyMsg kn.2.1 ++ keyMsg pn.2.1, kn.2.1)) (ht : t < 4294967296) :
    Ct (S := QS × va_W) l D dA B Z yX1_revokes cX1_revokes 6 (some .boolean) 10 4 512 [.ref (A 24), .ref x.1, .ref ka, .ref oa, .long (lN t)] (qW dA A O q ++ G) (fun u => QOk u.1 ∧ TR dA cx G u.2) (fun _ => some (.int (bZ (rvkC (keyMsg kn.2.1 ++ keyMsg pn.2.1) kn.2.1 x.2 t)))) (fun u => qW dA A O u.1 ++ u.2) := by
  refine Ct.mk2 (by decide) (Nat.le_of_ble_eq_true rfl) hZ ?_
  intro p e R s m args below meth c ls Q C hr hlocks hin hQ hl h
  have C0 := C
  obtain ⟨hx, hb, hml, hown, hts, -⟩ := C0
  have hl : lv_has ls 6 [(0, .ref (A 24)), (1, .ref x.1), (2, .ref ka), (3, .ref oa), (4, .long (lN t))] := hl
  obtain ⟨tx, ⟨hbbx, hblx, hbox, hb0x⟩, bax, snx, r1x, r2x, r3x, w1x, w2x, w3x, hcex, hbax, hsnx, hr1x, hr2x, hr3x⟩ := hS.b
  have hwy : ∀ v, whyN x.2 = some v → v < 256 := (sNote_nb hbbx).2.2.2.2.2.2.2
  refine lv_aload_n hx hb dX1_revokes_0 rfl (lv_at hl 1 rfl) ?_
  refine o_get C h (RC := RX17) (T := TX17) (N := 19) (List.mem_append_right _ hcex) rfl in_X17 14 (by decide) q1333 rfl (v := .int (bZ (sVain x.2))) rfl dX1_revokes_1 ?_
  refine z_if_ne (tgt := 53) hx hb dX1_revokes_4 (by decide) (fun c4 => ?_) (fun c4 => ?_)
  · refine lv_iconst (v := nI 0) hx hb dX1_revokes_53 (by decide) ?_
    subst hQ
    have hfin : rvkC (keyMsg kn.2.1 ++ keyMsg pn.2.1) kn.2.1 x.2 t = false := by unfold rvkC; first | (rw [c46, (mild_t hwy (by first | exact Or.inl c26 | exact Or.inr c34))]; simp; done) | (rw [c4]; rfl) | (rw [c18]; simp; done)
    refine n_top (y := bZ false) rfl ?_
    exact ret_z C hr hlocks h (q, G) (⟨hqo, TR.rf⟩) (by rw [hfin]) rfl (by omega) (by omega) dX1_revokes_54
  · refine lv_aload_n hx hb dX1_revokes_7 rfl (lv_at hl 0 rfl) ?_
    refine lv_aload_n hx hb dX1_revokes_8 rfl (lv_at hl 1 rfl) ?_
    refine lv_aload_n hx hb dX1_revokes_9 rfl (lv_at hl 2 rfl) ?_
    refine lv_aload_n hx hb dX1_revokes_10 rfl (lv_at hl 3 rfl) ?_
    refine lv_aload_n hx hb dX1_revokes_11 rfl (lv_at hl 2 rfl) ?_
    refine o_get C h (RC := RX9) (T := TX9) (N := 4) (List.mem_append_right _ hk) rfl in_X9 1 (by decide) q397 rfl (v := .ref kn.1) rfl dX1_revokes_12 ?_
    refine call_VR (As := [.ref x.1, .ref ka, .ref oa, .ref kn.1]) (rest := []) (n := 4) C h (cQ_isTrueP l D dA B Z hZ G A O sz dc rg f1 f2 ka a1 a2 a3 q cx x kn oa la pn kn hzq hQF hqo hS hk hkn hof hpn hkn hcx) (lw_V q1638 q1640 qs30 q129 q1641) (by decide +kernel) (o_recv C h (RC := RX1) (T := TX1) (N := 14) (List.mem_append_right _ hQF.2.2) rfl) (by decide) (by decide) rfl hl rfl (Nat.le_of_ble_eq_true rfl) dX1_revokes_15 (by omega) (fun u9 H locs hu9 h => ?_)
    obtain ⟨q2, G2⟩ := u9
    obtain ⟨hQ2, hT2⟩ := hu9
    dsimp only at hQ2 hT2 h
    have hS2 := hT2.2 x hS
    obtain ⟨ty, ⟨hbby, hbly, hboy, hb0y⟩, bay, sny, r1y, r2y, r3y, w1y, w2y, w3y, hcey, hbay, hsny, hr1y, hr2y, hr3y⟩ := hS2.b
    refine z_if_eq (tgt := 53) hx hb dX1_revokes_18 (by decide) (fun c18 => ?_) (fun c18 => ?_)
    · refine lv_iconst (v := nI 0) hx hb dX1_revokes_53 (by decide) ?_
      subst hQ
      have hfin : rvkC (keyMsg kn.2.1 ++ keyMsg pn.2.1) kn.2.1 x.2 t = false := by unfold rvkC; first | (rw [c46, (mild_t hwy (by first | exact Or.inl c26 | exact Or.inr c34))]; simp; done) | (rw [c4]; rfl) | (rw [c18]; simp; done)
      refine n_top (y := bZ false) rfl ?_
      exact ret_z C hr hlocks h (q2, G2) (⟨hQ2, hT2⟩) (by rw [hfin]) rfl (by omega) (by omega) dX1_revokes_54
    · refine lv_aload_n hx hb dX1_revokes_21 rfl (lv_at hl 1 rfl) ?_
      refine o_get C h (RC := RX17) (T := TX17) (N := 19) (List.mem_append_right _ hcey) rfl in_X17 12 (by decide) q1329 rfl (v := .int (oI (sNote x.2).2.2.2.2.2.2.2.1)) rfl dX1_revokes_22 ?_
      refine lv_iconst (v := nI 1) hx hb dX1_revokes_25 (by decide) ?_
      refine lv_icmp_eq (tgt := 37) hx hb dX1_revokes_26 (by decide) (fun c26 => ?_) (fun c26 => ?_)
      · refine lv_aload_n hx hb dX1_revokes_37 rfl (lv_at hl 0 rfl) ?_
        refine lv_aload_n hx hb dX1_revokes_38 rfl (lv_at hl 1 rfl) ?_
        refine lv_aload_n hx hb dX1_revokes_39 rfl (lv_at hl 2 rfl) ?_
        refine lv_aload_n hx hb dX1_revokes_40 rfl (lv_at hl 3 rfl) ?_
        refine lv_lload hx hb dX1_revokes_41 (lv_at hl 4 rfl) ?_
        refine call_VR (As := [.ref x.1, .ref ka, .ref oa, .long (lN t)]) (rest := []) (n := 4) C h (cQ_countsP l D dA B Z hZ G2 A O sz dc rg f1 f2 q2 cx x t ka a1 a2 a3 kn oa la pn hzq (hT2.qf hQF) hQ2 hS2 (hT2.ob (by decide) hk) (hT2.num hkn) (hT2.ob (by decide) hof) (hT2.num hpn) hcx ht) (lw_V q1642 q1644 qs31 q129 q1645) (by decide +kernel) (o_recv C h (RC := RX1) (T := TX1) (N := 14) (List.mem_append_right _ (hT2.qf hQF).2.2) rfl) (by decide) (by decide) rfl hl rfl (Nat.le_of_ble_eq_true rfl) dX1_revokes_43 (by omega) (fun u8 H locs hu8 h => ?_)
        obtain ⟨q3, G3⟩ := u8
        obtain ⟨hQ3, hT3⟩ := hu8
        dsimp only at hQ3 hT3 h
        refine z_if_eq (tgt := 53) hx hb dX1_revokes_46 (by decide) (fun c46 => ?_) (fun c46 => ?_)
        · refine lv_iconst (v := nI 0) hx hb dX1_revokes_53 (by decide) ?_
          subst hQ
          have hfin : rvkC (keyMsg kn.2.1 ++ keyMsg pn.2.1) kn.2.1 x.2 t = false := by unfold rvkC; first | (rw [c46, (mild_t hwy (by first | exact Or.inl c26 | exact Or.inr c34))]; simp; done) | (rw [c4]; rfl) | (rw [c18]; simp; done)
          refine n_top (y := bZ false) rfl ?_
          exact ret_z C hr hlocks h (q3, G3) (⟨hQ3, hT2.trans hT3⟩) (by rw [hfin]) rfl (by omega) (by omega) dX1_revokes_54
        · refine lv_iconst (v := nI 1) hx hb dX1_revokes_49 (by decide) ?_
          refine lv_goto (tgt := 54) hx hb dX1_revokes_50 (by decide) ?_
          subst hQ
          have hfin : rvkC (keyMsg kn.2.1 ++ keyMsg pn.2.1) kn.2.1 x.2 t = true := by unfold rvkC; rw [c4, c18]; first | (rw [c46]; cases mild x.2 <;> rfl) | (rw [(mild_f c26 c34)]; rfl)
          refine n_top (y := bZ true) rfl ?_
          exact ret_z C hr hlocks h (q3, G3) (⟨hQ3, hT2.trans hT3⟩) (by rw [hfin]) rfl (by omega) (by omega) dX1_revokes_54
      · refine lv_aload_n hx hb dX1_revokes_29 rfl (lv_at hl 1 rfl) ?_
        refine o_get C h (RC := RX17) (T := TX17) (N := 19) (List.mem_append_right _ hcey) rfl in_X17 12 (by decide) q1329 rfl (v := .int (oI (sNote x.2).2.2.2.2.2.2.2.1)) rfl dX1_revokes_30 ?_
        refine lv_iconst (v := nI 3) hx hb dX1_revokes_33 (by decide) ?_
        refine lv_icmp_ne (tgt := 49) hx hb dX1_revokes_34 (by decide) (fun c34 => ?_) (fun c34 => ?_)
        · refine lv_iconst (v := nI 1) hx hb dX1_revokes_49 (by decide) ?_
          refine lv_goto (tgt := 54) hx hb dX1_revokes_50 (by decide) ?_
          subst hQ
          have hfin : rvkC (keyMsg kn.2.1 ++ keyMsg pn.2.1) kn.2.1 x.2 t = true := by unfold rvkC; rw [c4, c18]; first | (rw [c46]; cases mild x.2 <;> rfl) | (rw [(mild_f c26 c34)]; rfl)
          refine n_top (y := bZ true) rfl ?_
          exact ret_z C hr hlocks h (q2, G2) (⟨hQ2, hT2⟩) (by rw [hfin]) rfl (by omega) (by omega) dX1_revokes_54
        · refine lv_aload_n hx hb dX1_revokes_37 rfl (lv_at hl 0 rfl) ?_
          refine lv_aload_n hx hb dX1_revokes_38 rfl (lv_at hl 1 rfl) ?_
          refine lv_aload_n hx hb dX1_revokes_39 rfl (lv_at hl 2 rfl) ?_
          refine lv_aload_n hx hb dX1_revokes_40 rfl (lv_at hl 3 rfl) ?_
          refine lv_lload hx hb dX1_revokes_41 (lv_at hl 4 rfl) ?_
          refine call_VR (As := [.ref x.1, .ref ka, .ref oa, .long (lN t)]) (rest := []) (n := 4) C h (cQ_countsP l D dA B Z hZ G2 A O sz dc rg f1 f2 q2 cx x t ka a1 a2 a3 kn oa la pn hzq (hT2.qf hQF) hQ2 hS2 (hT2.ob (by decide) hk) (hT2.num hkn) (hT2.ob (by decide) hof) (hT2.num hpn) hcx ht) (lw_V q1642 q1644 qs31 q129 q1645) (by decide +kernel) (o_recv C h (RC := RX1) (T := TX1) (N := 14) (List.mem_append_right _ (hT2.qf hQF).2.2) rfl) (by decide) (by decide) rfl hl rfl (Nat.le_of_ble_eq_true rfl) dX1_revokes_43 (by omega) (fun u8 H locs hu8 h => ?_)
          obtain ⟨q3, G3⟩ := u8
          obtain ⟨hQ3, hT3⟩ := hu8
          dsimp only at hQ3 hT3 h
          refine z_if_eq (tgt := 53) hx hb dX1_revokes_46 (by decide) (fun c46 => ?_) (fun c46 => ?_)
          · refine lv_iconst (v := nI 0) hx hb dX1_revokes_53 (by decide) ?_
            subst hQ
            have hfin : rvkC (keyMsg kn.2.1 ++ keyMsg pn.2.1) kn.2.1 x.2 t = false := by unfold rvkC; first | (rw [c46, (mild_t hwy (by first | exact Or.inl c26 | exact Or.inr c34))]; simp; done) | (rw [c4]; rfl) | (rw [c18]; simp; done)
            refine n_top (y := bZ false) rfl ?_
            exact ret_z C hr hlocks h (q3, G3) (⟨hQ3, hT2.trans hT3⟩) (by rw [hfin]) rfl (by omega) (by omega) dX1_revokes_54
          · refine lv_iconst (v := nI 1) hx hb dX1_revokes_49 (by decide) ?_
            refine lv_goto (tgt := 54) hx hb dX1_revokes_50 (by decide) ?_
            subst hQ
            have hfin : rvkC (keyMsg kn.2.1 ++ keyMsg pn.2.1) kn.2.1 x.2 t = true := by unfold rvkC; rw [c4, c18]; first | (rw [c46]; cases mild x.2 <;> rfl) | (rw [(mild_f c26 c34)]; rfl)
            refine n_top (y := bZ true) rfl ?_
            exact ret_z C hr hlocks h (q3, G3) (⟨hQ3, hT2.trans hT3⟩) (by rw [hfin]) rfl (by omega) (by omega) dX1_revokes_54
