set_option maxRecDepth 100000

def slsB (ls : List (List Nat)) : List Nat := ls.flatMap (pktB 2)
theorem slsB_step {l : List SL} {i : Nat} {y : SL} (h : l[i]? = some y) : slsB ((l.take (i + 1)).map Prod.snd) = slsB ((l.take i).map Prod.snd) ++ pktB 2 y.2 := by
  rw [take_map_step h]; unfold slsB; rw [List.flatMap_append]; exact congrArg _ (List.append_nil _)
theorem slsB_mono (l : List SL) (i : Nat) : (slsB ((l.take i).map Prod.snd)).length ≤ (slsB (l.map Prod.snd)).length := by
  have e : l.map Prod.snd = (l.take i).map Prod.snd ++ (l.drop i).map Prod.snd := by rw [← List.map_append, List.take_append_drop]
  rw [e]; unfold slsB; rw [List.flatMap_append, List.length_append]; omega


theorem sl_drop (l : List Nat) (i : Nat) : sl (gD l) i (l.length - i) = l.drop i := by
  by_cases h : i ≤ l.length
  · rw [← sliceL_sl (by omega)]
    unfold sliceL
    exact List.take_of_length_le (by rw [List.length_drop]; omega)
  · rw [show l.length - i = 0 by omega, List.drop_eq_nil_of_le (by omega)]; rfl
def nbrB (l : List Nat) : List Nat := be 2 (bitN (zL l)) ++ zL l
theorem bitsI_bitN {l : List Nat} (h0 : 0 < l.length) (h1 : gD l 0 ≠ 0) : bitsI (gD l 0) l.length = nI (bitN l) := by
  unfold bitN bitsI
  rw [if_neg h1, if_neg (show ¬ l.length = 0 by omega)]
theorem bitN_le {l : List Nat} (h : gD l 0 < 256) : bitN l ≤ 8 * l.length := by
  unfold bitN
  have := blen_le8 (gD l 0) h
  split <;> omega
theorem sb_zero {v : Nat} (hv : v < 256) (h : sb_b v = 0) : v = 0 := sb_inj hv (by decide) (h.trans (by decide))

set_option maxHeartbeats 400000 in
set_option maxRecDepth 100000 in
theorem c1_length (l : Launch) (D : va_G) (dA : Nat → ClassId) (B : Nat) (Z : State → Prop) (hZ : Stab B Z) (F : va_W) (r b cap : Nat) (g : Nat → Nat) (lt : List Nat) (k : Nat) (hsb : SBis g cap lt) (hcap : 64 ≤ cap) (hll : lt.length < 290000) (hcm : cap < 900000) (hk : k < 8384) :
    Ct (S := Nat × (Nat → Nat) × va_W) l D dA B Z yX1_length cX1_length 2 none 5 (rC cap (lt ++ lenB k).length) (rS cap (lt ++ lenB k).length) [.ref r, .int (nI k)] ([(r, .inr (1, [.ref b, .int (nI lt.length)])), (b, bar dA cap g)] ++ F) (fun u => SBis u.2.1 (gro cap (lt ++ lenB k).length) (lt ++ lenB k)) (fun _ => none) (fun u => [(r, .inr (1, [.ref u.1, .int (nI ((lt ++ lenB k).length))])), (u.1, bar dA (gro cap (lt ++ lenB k).length) u.2.1)] ++ (F ++ u.2.2)) := by
  refine Ct.mk2 (by decide) (Nat.le_of_ble_eq_true rfl) hZ ?_
  intro p e R s m args below meth c ls Q C hr hlocks hin hQ hl h
  have C0 := C
  obtain ⟨hx, hb, hml, hown, hts, -⟩ := C0
  have hl : lv_has ls 2 [(0, .ref r), (1, .int (nI k))] := hl
  have hg0r : gro cap lt.length = cap := gro_le hsb.1
  have hSr0 : SBis g (gro cap lt.length) lt := by rw [hg0r]; exact hsb
  have hz0r : rC cap lt.length = 0 ∧ rS cap lt.length = 0 := rC_0 hg0r
  have h : Wd D B s ([(r, .inr (1, [.ref b, .int (nI lt.length)])), (b, bar dA (gro cap lt.length) g)] ++ F) s.heap [] := by rw [hg0r]; exact h
  refine W.widen (k := 0 + rC cap lt.length) (n := 0 + rS cap lt.length) (by omega) (by omega) ?_
  have hFL : (lt ++ lenB k).length = lt.length + (if k < 192 then 1 else 2) := by rw [List.length_append]; unfold lenB; split <;> rfl
  refine lv_iload_n hx hb dX1_length_0 rfl (lv_at hl 1 rfl) ?_
  refine lv_sipush (v := nI 192) hx hb dX1_length_1 (by decide) ?_
  refine n_icmp_ge (tgt := 15) hx hb (by omega) (by omega) dX1_length_4 (by decide) (fun c4 => ?_) (fun c4 => ?_)
  · rw [if_neg (by omega)] at hFL
    refine lv_iload_n hx hb dX1_length_15 rfl (lv_at hl 1 rfl) ?_
    refine lv_sipush (v := nI 8384) hx hb dX1_length_16 (by decide) ?_
    refine n_icmp_ge (tgt := 50) hx hb (by omega) (by omega) dX1_length_19 (by decide) (fun c19 => by exfalso; omega) (fun c19 => ?_)
    refine lv_aload_n hx hb dX1_length_22 rfl (lv_at hl 0 rfl) ?_
    refine lv_iload_n hx hb dX1_length_23 rfl (lv_at hl 1 rfl) ?_
    refine lv_sipush (v := nI 192) hx hb dX1_length_24 (by decide) ?_
    refine lv_isub hx hb dX1_length_27 (n_top (y := nI (k - 192)) (pk_sub (by omega)) ?_)
    refine lv_bipush (v := nI 8) hx hb dX1_length_28 (by decide) ?_
    refine n_ishr hx hb dX1_length_30 (n_top (y := nI ((k - 192) / 256)) (pk_shrN (by omega) _ 8 (by decide)) ?_)
    refine lv_sipush (v := nI 192) hx hb dX1_length_31 (by decide) ?_
    refine lv_iadd hx hb dX1_length_34 (n_top (y := nI (((k - 192) / 256) + 192)) (nI_add ((k - 192) / 256) 192) ?_)
    have hnlr1 : (lt ++ [(k - 192) / 256 + 192]).length = lt.length + 1 := by rw [List.length_append]; rfl
    have hnqr1 : (lt.length + 1) = (lt ++ [(k - 192) / 256 + 192]).length := hnlr1.symm
    have hcbr1 := gro_b (cap := cap) (m := lt.length) (by omega)
    have hcar1 := rC_add (cap := cap) (m := lt.length) (m' := (lt.length + 1)) (by omega) (by omega)
    have hcmr1 := rC_mono (cap := cap) (m := (lt.length + 1)) (m' := (lt ++ lenB k).length) (by omega) (by omega)
    refine call_VR (As := [.int (nI (((k - 192) / 256) + 192))]) (rest := []) (n := 1) C h (c2_put l D dA B Z hZ F r b (gro cap lt.length) g lt (nI ((k - 192) / 256 + 192)) ((k - 192) / 256 + 192) hSr0 (by omega) (by omega) (by omega) rfl) (lw_V q1503 q562 q563 q130 q564) (by decide +kernel) (o_recv C h (RC := RX2) (T := TX2) (N := 2) (List.mem_of_getElem? (i := 0) rfl) rfl) (by decide) (by decide) rfl hl rfl (Nat.le_of_ble_eq_true rfl) dX1_length_35 (by omega) (fun urr1 H locs hur1 h => ?_)
    obtain ⟨br1, gr1, Er1⟩ := urr1
    obtain ⟨Lr1, hLr1⟩ : ∃ z, z = lt ++ [(k - 192) / 256 + 192] := ⟨_, rfl⟩
    dsimp only at hur1 h
    rw [← hLr1] at h hur1 hnlr1
    have hger1 : gro (gro cap lt.length) Lr1.length = gro cap Lr1.length := gro_gro (by omega) (by omega)
    rw [hger1] at h hur1
    have hclr1 : rC cap (lt.length + 1) = rC cap Lr1.length ∧ rS cap (lt.length + 1) = rS cap Lr1.length := by rw [hLr1, hnqr1]; exact ⟨rfl, rfl⟩
    have h : Wd D B s ([(r, .inr (1, [.ref br1, .int (nI Lr1.length)])), (br1, bar dA (gro cap Lr1.length) gr1)] ++ (F ++ Er1)) H locs := h
    refine W.widen (k := 0 + rC cap Lr1.length) (n := 0 + rS cap Lr1.length) (by omega) (by omega) ?_
    refine lv_aload_n hx hb dX1_length_38 rfl (lv_at hl 0 rfl) ?_
    refine lv_iload_n hx hb dX1_length_39 rfl (lv_at hl 1 rfl) ?_
    refine lv_sipush (v := nI 192) hx hb dX1_length_40 (by decide) ?_
    refine lv_isub hx hb dX1_length_43 (n_top (y := nI (k - 192)) (pk_sub (by omega)) ?_)
    have hnlr2 : (Lr1 ++ [(k - 192) % 256]).length = Lr1.length + 1 := by rw [List.length_append]; rfl
    have hnqr2 : (Lr1.length + 1) = (Lr1 ++ [(k - 192) % 256]).length := hnlr2.symm
    have hcbr2 := gro_b (cap := cap) (m := Lr1.length) (by omega)
    have hcar2 := rC_add (cap := cap) (m := Lr1.length) (m' := (Lr1.length + 1)) (by omega) (by omega)
    have hcmr2 := rC_mono (cap := cap) (m := (Lr1.length + 1)) (m' := (lt ++ lenB k).length) (by omega) (by omega)
    refine call_VR (As := [.int (nI (k - 192))]) (rest := []) (n := 1) C h (c2_put l D dA B Z hZ (F ++ Er1) r br1 (gro cap Lr1.length) gr1 Lr1 (nI (k - 192)) ((k - 192) % 256) hur1 (by omega) (by omega) (by omega) (sb_mod _)) (lw_V q1503 q562 q563 q130 q564) (by decide +kernel) (o_recv C h (RC := RX2) (T := TX2) (N := 2) (List.mem_of_getElem? (i := 0) rfl) rfl) (by decide) (by decide) rfl hl rfl (Nat.le_of_ble_eq_true rfl) dX1_length_44 (by omega) (fun urr2 H locs hur2 h => ?_)
    obtain ⟨br2, gr2, Er2⟩ := urr2
    obtain ⟨Lr2, hLr2⟩ : ∃ z, z = Lr1 ++ [(k - 192) % 256] := ⟨_, rfl⟩
    dsimp only at hur2 h
    rw [← hLr2] at h hur2 hnlr2
    have hger2 : gro (gro cap Lr1.length) Lr2.length = gro cap Lr2.length := gro_gro (by omega) (by omega)
    rw [hger2] at h hur2
    have hclr2 : rC cap (Lr1.length + 1) = rC cap Lr2.length ∧ rS cap (Lr1.length + 1) = rS cap Lr2.length := by rw [hLr2, hnqr2]; exact ⟨rfl, rfl⟩
    have h : Wd D B s ([(r, .inr (1, [.ref br2, .int (nI Lr2.length)])), (br2, bar dA (gro cap Lr2.length) gr2)] ++ ((F ++ Er1) ++ Er2)) H locs := h
    refine W.widen (k := 0 + rC cap Lr2.length) (n := 0 + rS cap Lr2.length) (by omega) (by omega) ?_
    refine lv_goto (tgt := 64) hx hb dX1_length_47 (by decide) ?_
    subst hQ
    have hfin : Lr2 = lt ++ lenB k := by rw [hLr2, hLr1]; unfold lenB; rw [if_neg (by omega), List.append_assoc]; rfl
    have h : Wd D B s ([(r, .inr (1, [.ref br2, .int (nI Lr2.length)])), (br2, bar dA (gro cap Lr2.length) gr2)] ++ (F ++ (Er1 ++ Er2))) H locs := h.permL (perm_add (fun g f p0 p1 p2 => by (try simp only [p0, p1, p2]) <;> omega))
    rw [hfin] at h hur2
    have hcf : rC cap Lr2.length = rC cap (lt ++ lenB k).length ∧ rS cap Lr2.length = rS cap (lt ++ lenB k).length := by rw [hfin]; exact ⟨rfl, rfl⟩
    exact ret_v C hr hlocks h (br2, gr2, Er1 ++ Er2) hur2 rfl rfl (by omega) (by omega) dX1_length_64
  · rw [if_pos (by omega)] at hFL
    refine lv_aload_n hx hb dX1_length_7 rfl (lv_at hl 0 rfl) ?_
    refine lv_iload_n hx hb dX1_length_8 rfl (lv_at hl 1 rfl) ?_
    have hnlr3 : (lt ++ [k]).length = lt.length + 1 := by rw [List.length_append]; rfl
    have hnqr3 : (lt.length + 1) = (lt ++ [k]).length := hnlr3.symm
    have hcbr3 := gro_b (cap := cap) (m := lt.length) (by omega)
    have hcar3 := rC_add (cap := cap) (m := lt.length) (m' := (lt.length + 1)) (by omega) (by omega)
    have hcmr3 := rC_mono (cap := cap) (m := (lt.length + 1)) (m' := (lt ++ lenB k).length) (by omega) (by omega)
    refine call_VR (As := [.int (nI k)]) (rest := []) (n := 1) C h (c2_put l D dA B Z hZ F r b (gro cap lt.length) g lt (nI k) k hSr0 (by omega) (by omega) (by omega) rfl) (lw_V q1503 q562 q563 q130 q564) (by decide +kernel) (o_recv C h (RC := RX2) (T := TX2) (N := 2) (List.mem_of_getElem? (i := 0) rfl) rfl) (by decide) (by decide) rfl hl rfl (Nat.le_of_ble_eq_true rfl) dX1_length_9 (by omega) (fun urr3 H locs hur3 h => ?_)
    obtain ⟨br3, gr3, Er3⟩ := urr3
    obtain ⟨Lr3, hLr3⟩ : ∃ z, z = lt ++ [k] := ⟨_, rfl⟩
    dsimp only at hur3 h
    rw [← hLr3] at h hur3 hnlr3
    have hger3 : gro (gro cap lt.length) Lr3.length = gro cap Lr3.length := gro_gro (by omega) (by omega)
    rw [hger3] at h hur3
    have hclr3 : rC cap (lt.length + 1) = rC cap Lr3.length ∧ rS cap (lt.length + 1) = rS cap Lr3.length := by rw [hLr3, hnqr3]; exact ⟨rfl, rfl⟩
    have h : Wd D B s ([(r, .inr (1, [.ref br3, .int (nI Lr3.length)])), (br3, bar dA (gro cap Lr3.length) gr3)] ++ (F ++ Er3)) H locs := h
    refine W.widen (k := 0 + rC cap Lr3.length) (n := 0 + rS cap Lr3.length) (by omega) (by omega) ?_
    refine lv_goto (tgt := 64) hx hb dX1_length_12 (by decide) ?_
    subst hQ
    have hfin : Lr3 = lt ++ lenB k := by rw [hLr3]; unfold lenB; rw [if_pos (by omega)]
    have h : Wd D B s ([(r, .inr (1, [.ref br3, .int (nI Lr3.length)])), (br3, bar dA (gro cap Lr3.length) gr3)] ++ (F ++ Er3)) H locs := by (try rw [← List.append_assoc]) <;> exact h
    rw [hfin] at h hur3
    have hcf : rC cap Lr3.length = rC cap (lt ++ lenB k).length ∧ rS cap Lr3.length = rS cap (lt ++ lenB k).length := by rw [hfin]; exact ⟨rfl, rfl⟩
    exact ret_v C hr hlocks h (br3, gr3, Er3) hur3 rfl rfl (by omega) (by omega) dX1_length_64
set_option maxHeartbeats 400000 in
set_option maxRecDepth 100000 in
theorem c1_packet (l : Launch) (D : va_G) (dA : Nat → ClassId) (B : Nat) (Z : State → Prop) (hZ : Stab B Z) (F : va_W) (r b cap : Nat) (g : Nat → Nat) (lt : List Nat) (k a : Nat) (lb : List Nat) (hsb : SBis g cap lt) (hcap : 64 ≤ cap) (hll : lt.length < 250000) (hcm : cap < 400000) (hk : k < 60) (hm : (a, bal dA lb) ∈ F) (hlb : byt lb) (hl8 : lb.length < 8384) :
    Ct (S := Nat × (Nat → Nat) × va_W) l D dA B Z yX1_packet cX1_packet 3 none 6 (rC cap (lt ++ pktB k lb).length) (rS cap (lt ++ pktB k lb).length) [.ref r, .int (nI k), .ref a] ([(r, .inr (1, [.ref b, .int (nI lt.length)])), (b, bar dA cap g)] ++ F) (fun u => SBis u.2.1 (gro cap (lt ++ pktB k lb).length) (lt ++ pktB k lb)) (fun _ => none) (fun u => [(r, .inr (1, [.ref u.1, .int (nI ((lt ++ pktB k lb).length))])), (u.1, bar dA (gro cap (lt ++ pktB k lb).length) u.2.1)] ++ (F ++ u.2.2)) := by
  refine Ct.mk2 (by decide) (Nat.le_of_ble_eq_true rfl) hZ ?_
  intro p e R s m args below meth c ls Q C hr hlocks hin hQ hl h
  have C0 := C
  obtain ⟨hx, hb, hml, hown, hts, -⟩ := C0
  have hl : lv_has ls 3 [(0, .ref r), (1, .int (nI k)), (2, .ref a)] := hl
  have hg0r : gro cap lt.length = cap := gro_le hsb.1
  have hSr0 : SBis g (gro cap lt.length) lt := by rw [hg0r]; exact hsb
  have hz0r : rC cap lt.length = 0 ∧ rS cap lt.length = 0 := rC_0 hg0r
  have h : Wd D B s ([(r, .inr (1, [.ref b, .int (nI lt.length)])), (b, bar dA (gro cap lt.length) g)] ++ F) s.heap [] := by rw [hg0r]; exact h
  refine W.widen (k := 0 + rC cap lt.length) (n := 0 + rS cap lt.length) (by omega) (by omega) ?_
  have hFL : (lt ++ pktB k lb).length = lt.length + (1 + (lenB lb.length).length + lb.length) := by unfold pktB; simp only [List.length_append, List.length_cons, List.length_nil] <;> omega
  have hl2 : (lenB lb.length).length ≤ 2 := by unfold lenB; split <;> simp
  refine lv_aload_n hx hb dX1_packet_0 rfl (lv_at hl 0 rfl) ?_
  refine lv_sipush (v := nI 192) hx hb dX1_packet_1 (by decide) ?_
  refine lv_iload_n hx hb dX1_packet_4 rfl (lv_at hl 1 rfl) ?_
  refine lv_iadd hx hb dX1_packet_5 (n_top (y := nI (192 + k)) (nI_add 192 k) ?_)
  have hnlr1 : (lt ++ [192 + k]).length = lt.length + 1 := by rw [List.length_append]; rfl
  have hnqr1 : (lt.length + 1) = (lt ++ [192 + k]).length := hnlr1.symm
  have hcbr1 := gro_b (cap := cap) (m := lt.length) (by omega)
  have hcar1 := rC_add (cap := cap) (m := lt.length) (m' := (lt.length + 1)) (by omega) (by omega)
  have hcmr1 := rC_mono (cap := cap) (m := (lt.length + 1)) (m' := (lt ++ pktB k lb).length) (by omega) (by omega)
  refine call_VR (As := [.int (nI (192 + k))]) (rest := []) (n := 1) C h (c2_put l D dA B Z hZ F r b (gro cap lt.length) g lt (nI (192 + k)) (192 + k) hSr0 (by omega) (by omega) (by omega) rfl) (lw_V q1503 q562 q563 q130 q564) (by decide +kernel) (o_recv C h (RC := RX2) (T := TX2) (N := 2) (List.mem_of_getElem? (i := 0) rfl) rfl) (by decide) (by decide) rfl hl rfl (Nat.le_of_ble_eq_true rfl) dX1_packet_6 (by omega) (fun urr1 H locs hur1 h => ?_)
  obtain ⟨br1, gr1, Er1⟩ := urr1
  obtain ⟨Lr1, hLr1⟩ : ∃ z, z = lt ++ [192 + k] := ⟨_, rfl⟩
  dsimp only at hur1 h
  rw [← hLr1] at h hur1 hnlr1
  have hger1 : gro (gro cap lt.length) Lr1.length = gro cap Lr1.length := gro_gro (by omega) (by omega)
  rw [hger1] at h hur1
  have hclr1 : rC cap (lt.length + 1) = rC cap Lr1.length ∧ rS cap (lt.length + 1) = rS cap Lr1.length := by rw [hLr1, hnqr1]; exact ⟨rfl, rfl⟩
  have h : Wd D B s ([(r, .inr (1, [.ref br1, .int (nI Lr1.length)])), (br1, bar dA (gro cap Lr1.length) gr1)] ++ (F ++ Er1)) H locs := h
  refine W.widen (k := 0 + rC cap Lr1.length) (n := 0 + rS cap Lr1.length) (by omega) (by omega) ?_
  refine lv_aload_n hx hb dX1_packet_9 rfl (lv_at hl 0 rfl) ?_
  refine lv_aload_n hx hb dX1_packet_10 rfl (lv_at hl 2 rfl) ?_
  refine n_balen C h (List.mem_append_right _ (List.mem_append_left _ hm)) dX1_packet_11 ?_
  have hnlr2 : (Lr1 ++ lenB lb.length).length = Lr1.length + ((lenB lb.length).length) := by rw [List.length_append]
  have hcbr2 := gro_b (cap := cap) (m := Lr1.length) (by omega)
  have hcar2 := rC_add (cap := cap) (m := Lr1.length) (m' := (Lr1 ++ lenB lb.length).length) (by omega) (by omega)
  have hcmr2 := rC_mono (cap := cap) (m := (Lr1 ++ lenB lb.length).length) (m' := (lt ++ pktB k lb).length) (by omega) (by omega)
  refine call_S (As := [.ref r, .int (nI lb.length)]) (rest := []) (n := 2) C h (c1_length l D dA B Z hZ (F ++ Er1) r br1 (gro cap Lr1.length) gr1 Lr1 lb.length hur1 (by omega) (by omega) (by omega) (by omega)) (lw_S q1773 q1774 q129 q1775) (by decide +kernel) (by decide) (by decide) rfl hl rfl (Nat.le_of_ble_eq_true rfl) dX1_packet_12 (by omega) (fun urr2 H locs hur2 h => ?_)
  obtain ⟨br2, gr2, Er2⟩ := urr2
  obtain ⟨Lr2, hLr2⟩ : ∃ z, z = Lr1 ++ lenB lb.length := ⟨_, rfl⟩
  dsimp only at hur2 h
  rw [← hLr2] at h hur2 hnlr2
  have hger2 : gro (gro cap Lr1.length) Lr2.length = gro cap Lr2.length := gro_gro (by omega) (by omega)
  rw [hger2] at h hur2
  have hclr2 : rC cap (Lr1 ++ lenB lb.length).length = rC cap Lr2.length ∧ rS cap (Lr1 ++ lenB lb.length).length = rS cap Lr2.length := by rw [hLr2]; exact ⟨rfl, rfl⟩
  have h : Wd D B s ([(r, .inr (1, [.ref br2, .int (nI Lr2.length)])), (br2, bar dA (gro cap Lr2.length) gr2)] ++ ((F ++ Er1) ++ Er2)) H locs := h
  refine W.widen (k := 0 + rC cap Lr2.length) (n := 0 + rS cap Lr2.length) (by omega) (by omega) ?_
  refine lv_aload_n hx hb dX1_packet_15 rfl (lv_at hl 0 rfl) ?_
  refine lv_aload_n hx hb dX1_packet_16 rfl (lv_at hl 2 rfl) ?_
  refine lv_iconst (v := nI 0) hx hb dX1_packet_17 (by decide) ?_
  refine lv_aload_n hx hb dX1_packet_18 rfl (lv_at hl 2 rfl) ?_
  refine n_balen C h (List.mem_append_right _ (List.mem_append_left _ (List.mem_append_left _ hm))) dX1_packet_19 ?_
  have hnlr3 : (Lr2 ++ sl (gD lb) 0 (lb.length - 0)).length = Lr2.length + (lb.length - 0) := by rw [List.length_append, sl_len]
  have hcbr3 := gro_b (cap := cap) (m := Lr2.length) (by omega)
  have hcar3 := rC_add (cap := cap) (m := Lr2.length) (m' := (Lr2 ++ sl (gD lb) 0 (lb.length - 0)).length) (by omega) (by omega)
  have hcmr3 := rC_mono (cap := cap) (m := (Lr2 ++ sl (gD lb) 0 (lb.length - 0)).length) (m' := (lt ++ pktB k lb).length) (by omega) (by omega)
  refine call_VR (As := [.ref a, .int (nI 0), .int (nI lb.length)]) (rest := []) (n := 3) C h (c2_putA l D dA B Z hZ ((F ++ Er1) ++ Er2) r br2 (gro cap Lr2.length) gr2 Lr2 a lb.length 0 lb.length (gD lb) hur2 (by omega) (List.mem_append_left _ (List.mem_append_left _ hm)) (by omega) (by omega) (by omega) (by omega) (by omega) (fun j _ => byt_gD hlb j)) (lw_V q557 q558 q559 q130 q560) (by decide +kernel) (o_recv C h (RC := RX2) (T := TX2) (N := 2) (List.mem_of_getElem? (i := 0) rfl) rfl) (by decide) (by decide) rfl hl rfl (Nat.le_of_ble_eq_true rfl) dX1_packet_20 (by omega) (fun urr3 H locs hur3 h => ?_)
  obtain ⟨br3, gr3, Er3⟩ := urr3
  obtain ⟨Lr3, hLr3⟩ : ∃ z, z = Lr2 ++ sl (gD lb) 0 (lb.length - 0) := ⟨_, rfl⟩
  dsimp only at hur3 h
  rw [← hLr3] at h hur3 hnlr3
  have hger3 : gro (gro cap Lr2.length) Lr3.length = gro cap Lr3.length := gro_gro (by omega) (by omega)
  rw [hger3] at h hur3
  have hclr3 : rC cap (Lr2 ++ sl (gD lb) 0 (lb.length - 0)).length = rC cap Lr3.length ∧ rS cap (Lr2 ++ sl (gD lb) 0 (lb.length - 0)).length = rS cap Lr3.length := by rw [hLr3]; exact ⟨rfl, rfl⟩
  have h : Wd D B s ([(r, .inr (1, [.ref br3, .int (nI Lr3.length)])), (br3, bar dA (gro cap Lr3.length) gr3)] ++ (((F ++ Er1) ++ Er2) ++ Er3)) H locs := h
  refine W.widen (k := 0 + rC cap Lr3.length) (n := 0 + rS cap Lr3.length) (by omega) (by omega) ?_
  subst hQ
  have hfin : Lr3 = lt ++ pktB k lb := by rw [hLr3, hLr2, hLr1, Nat.sub_zero, sl_gD]; unfold pktB; simp only [List.append_assoc]
  have h : Wd D B s ([(r, .inr (1, [.ref br3, .int (nI Lr3.length)])), (br3, bar dA (gro cap Lr3.length) gr3)] ++ (F ++ (Er1 ++ Er2 ++ Er3))) H locs := h.permL (perm_add (fun g f p0 p1 p2 => by (try simp only [p0, p1, p2]) <;> omega))
  rw [hfin] at h hur3
  have hcf : rC cap Lr3.length = rC cap (lt ++ pktB k lb).length ∧ rS cap Lr3.length = rS cap (lt ++ pktB k lb).length := by rw [hfin]; exact ⟨rfl, rfl⟩
  exact ret_v C hr hlocks h (br3, gr3, Er1 ++ Er2 ++ Er3) hur3 rfl rfl (by omega) (by omega) dX1_packet_23
set_option maxHeartbeats 400000 in
set_option maxRecDepth 100000 in
theorem c1_putSealsK (l : Launch) (D : va_G) (dA : Nat → ClassId) (B : Nat) (Z : State → Prop) (hZ : Stab B Z) (F : va_W) (r b cap : Nat) (g : Nat → Nat) (lt : List Nat) (oa a2 a3 a4 e0 : Nat) (x : LD) (sls : List SL) (hsb : SBis g cap lt) (hcap : 64 ≤ cap) (hll : lt.length < 100000) (hcm : cap < 400000) (hof : (oa, .inr (6, [.ref x.1, .ref a2, .ref a3, .ref a4])) ∈ F) (hA : ∀ z ∈ lW dA e0 x sls.length, z ∈ F) (hS9 : SlOk dA F x sls) (hsm : (slsB (sls.map Prod.snd)).length < 100000) :
    Ct (S := Nat × (Nat → Nat) × va_W) l D dA B Z yX1_putSeals cX1_putSeals 3 none 7 (rC cap (lt ++ slsB (sls.map Prod.snd)).length) (rS cap (lt ++ slsB (sls.map Prod.snd)).length) [.ref r, .ref oa] ([(r, .inr (1, [.ref b, .int (nI lt.length)])), (b, bar dA cap g)] ++ F) (fun u => SBis u.2.1 (gro cap (lt ++ slsB (sls.map Prod.snd)).length) (lt ++ slsB (sls.map Prod.snd))) (fun _ => none) (fun u => [(r, .inr (1, [.ref u.1, .int (nI ((lt ++ slsB (sls.map Prod.snd)).length))])), (u.1, bar dA (gro cap (lt ++ slsB (sls.map Prod.snd)).length) u.2.1)] ++ (F ++ u.2.2)) := by
  refine Ct.mk2 (by decide) (Nat.le_of_ble_eq_true rfl) hZ ?_
  intro p e R s m args below meth c ls Q C hr hlocks hin hQ hl h
  have C0 := C
  obtain ⟨hx, hb, hml, hown, hts, -⟩ := C0
  have hl : lv_has ls 3 [(0, .ref r), (1, .ref oa)] := hl
  have hg0r : gro cap lt.length = cap := gro_le hsb.1
  have hSr0 : SBis g (gro cap lt.length) lt := by rw [hg0r]; exact hsb
  have hz0r : rC cap lt.length = 0 ∧ rS cap lt.length = 0 := rC_0 hg0r
  have h : Wd D B s ([(r, .inr (1, [.ref b, .int (nI lt.length)])), (b, bar dA (gro cap lt.length) g)] ++ F) s.heap [] := by rw [hg0r]; exact h
  refine W.widen (k := 0 + rC cap lt.length) (n := 0 + rS cap lt.length) (by omega) (by omega) ?_
  have hFL : (lt ++ slsB (sls.map Prod.snd)).length = lt.length + (slsB (sls.map Prod.snd)).length := List.length_append ..
  have hn16 := hS9.2.2.1
  refine lv_iconst (v := nI 0) hx hb dX1_putSeals_0 (by decide) ?_
  refine lv_istore_n (lv' := [(2, .int (nI 0)), (0, .ref r), (1, .ref oa)]) hx hb dX1_putSeals_1 rfl hl (by decide) rfl (fun ls hl => ?_)
  have h : Wd D B s ([(r, .inr (1, [.ref b, .int (nI lt.length)])), (b, bar dA (gro cap lt.length) g)] ++ (F ++ [])) s.heap [] := by rw [List.append_nil]; exact h
  have loop : ∀ (nn : Nat) (i b2 : Nat) (g2 : Nat → Nat) (L2 : List Nat) (E : va_W), (i ≤ sls.length) → (SBis g2 (gro cap L2.length) L2) → (L2 = lt ++ slsB ((sls.take i).map Prod.snd)) → sls.length - i < nn → ∀ (H : Heap) (locs : List Loc), Wd D B s ([(r, .inr (1, [.ref b2, .int (nI L2.length)])), (b2, bar dA (gro cap L2.length) g2)] ++ (F ++ E)) H locs → ∀ (ls : Array Slot), lv_has ls 3 [(0, .ref r), (1, .ref oa), (2, .int (nI i))] → W p l e R s m args below meth c H locs (0 + rC cap L2.length) (0 + rS cap L2.length) Q (F0 m 2 ls []) := by
    intro nn
    induction nn with
    | zero => intro i b2  g2  L2  E  hi0 hS2 hL2e hme; exact absurd hme (Nat.not_lt_zero _)
    | succ nn ih =>
      intro i b2  g2  L2  E  hi0 hS2 hL2e hme H locs h ls hl
      have hsF : ∀ z ∈ F, z ∈ F ++ E := fun z hz => List.mem_append_left _ hz
      have hLI : LIn dA e0 (F ++ E) x (sls.map Prod.fst) := ⟨by rw [List.length_map]; exact fun z hz => hsF z (hA z hz), hS9.1⟩
      obtain ⟨ed9, hcl9⟩ := hLI.cell
      have hsm2 := slsB_mono sls i
      have hsm3 := slsB_mono sls (i + 1)
      have hLl : L2.length = lt.length + (slsB ((sls.take i).map Prod.snd)).length := by rw [hL2e, List.length_append]
      have hcm9 := rC_mono (cap := cap) (m := L2.length) (m' := (lt ++ slsB (sls.map Prod.snd)).length) (by omega) (by omega)
      refine lv_iload_n hx hb dX1_putSeals_2 rfl (lv_at hl 2 rfl) ?_
      refine lv_aload_n hx hb dX1_putSeals_3 rfl (lv_at hl 1 rfl) ?_
      refine o_get C h (RC := RX9) (T := TX9) (N := 4) (List.mem_append_right _ (List.mem_append_left _ hof)) rfl in_X9 0 (by decide) q411 rfl (v := .ref x.1) rfl dX1_putSeals_4 ?_
      refine call_VR (As := []) (rest := [.int (nI i)]) (n := 0) C h (cA_size l D dA B Z hZ _ e0 x _ (hLI.sub (fun z hz => List.mem_append_right _ (hLI.1 z hz)))) (lw_V q360 q361 q362 q133 q363) (by decide +kernel) (o_recv C h (RC := RJ2) (T := TJ2) (N := 3) (List.mem_append_right _ hcl9) rfl) (by decide) (by decide) rfl hl rfl (Nat.le_of_ble_eq_true rfl) dX1_putSeals_7 (by omega) (fun _ H locs _ h => ?_)
      refine W.widen (k := 0 + rC cap L2.length) (n := 0 + rS cap L2.length) (by omega) (by omega) ?_
      refine n_top (y := nI sls.length) (by rw [List.length_map]) ?_
      refine n_icmp_ge (tgt := 38) hx hb (by omega) (by omega) dX1_putSeals_10 (by decide) (fun c10 => ?_) (fun c10 => ?_)
      · subst hQ
        have hie : i = sls.length := by omega
        have hfin : L2 = lt ++ slsB (sls.map Prod.snd) := by rw [hL2e, hie, List.take_length]
        rw [hfin] at h hS2
        have hcf : rC cap L2.length = rC cap (lt ++ slsB (sls.map Prod.snd)).length ∧ rS cap L2.length = rS cap (lt ++ slsB (sls.map Prod.snd)).length := by rw [hfin]; exact ⟨rfl, rfl⟩
        exact ret_v C hr hlocks h (b2, g2, E) hS2 rfl rfl (by omega) (by omega) dX1_putSeals_38
      · refine lv_aload_n hx hb dX1_putSeals_13 rfl (lv_at hl 0 rfl) ?_
        refine lv_iconst (v := nI 2) hx hb dX1_putSeals_14 (by decide) ?_
        refine lv_aload_n hx hb dX1_putSeals_15 rfl (lv_at hl 1 rfl) ?_
        refine o_get C h (RC := RX9) (T := TX9) (N := 4) (List.mem_append_right _ (List.mem_append_left _ hof)) rfl in_X9 0 (by decide) q411 rfl (v := .ref x.1) rfl dX1_putSeals_16 ?_
        refine lv_iload_n hx hb dX1_putSeals_19 rfl (lv_at hl 2 rfl) ?_
        obtain ⟨y, hy⟩ := at_lt (l := sls) (i := i) (by omega)
        have hym := List.mem_of_getElem? hy
        obtain ⟨t9, hSy⟩ := hS9.2.2.2 y hym
        obtain ⟨⟨hbby, hbly, hboy, hb0y⟩, bay, sny, r1y, r2y, r3y, w1y, w2y, w3y, hcey, hbay, hsny, hr1y, hr2y, hr3y⟩ := hSy
        have hst9 := slsB_step hy
        have hst8 : (slsB ((sls.take (i + 1)).map Prod.snd)).length = (slsB ((sls.take i).map Prod.snd)).length + (pktB 2 y.2).length := by rw [hst9, List.length_append]
        refine call_VR (As := [.int (nI i)]) (rest := [.int (nI 2), .ref r]) (n := 1) C h (cA_get l D dA B Z hZ _ e0 x _ i y.1 (hLI.sub (fun z hz => List.mem_append_right _ (hLI.1 z hz))) (at_map hy)) (lw_V q364 q365 q366 q133 q367) (by decide +kernel) (o_recv C h (RC := RJ2) (T := TJ2) (N := 3) (List.mem_append_right _ hcl9) rfl) (by decide) (by decide) rfl hl rfl (Nat.le_of_ble_eq_true rfl) dX1_putSeals_20 (by omega) (fun _ H locs _ h => ?_)
        refine W.widen (k := 0 + rC cap L2.length) (n := 0 + rS cap L2.length) (by omega) (by omega) ?_
        refine o_cast C h (RC := RX17) (T := TX17) (N := 19) (List.mem_append_right _ (List.mem_append_left _ hcey)) rfl q1297 dX1_putSeals_23 ?_
        refine o_get C h (RC := RX17) (T := TX17) (N := 19) (List.mem_append_right _ (List.mem_append_left _ hcey)) rfl in_X17 0 (by decide) q1306 rfl (v := .ref bay) rfl dX1_putSeals_26 ?_
        have hnlr1 : (L2 ++ pktB 2 y.2).length = L2.length + ((pktB 2 y.2).length) := by rw [List.length_append]
        have hcbr1 := gro_b (cap := cap) (m := L2.length) (by omega)
        have hcar1 := rC_add (cap := cap) (m := L2.length) (m' := (L2 ++ pktB 2 y.2).length) (by omega) (by omega)
        have hcmr1 := rC_mono (cap := cap) (m := (L2 ++ pktB 2 y.2).length) (m' := (lt ++ slsB (sls.map Prod.snd)).length) (by omega) (by omega)
        refine call_S (As := [.ref r, .int (nI 2), .ref bay]) (rest := []) (n := 3) C h (c1_packet l D dA B Z hZ (F ++ E) r b2 (gro cap L2.length) g2 L2 2 bay y.2 hS2 (by omega) (by omega) (by omega) (by omega) (List.mem_append_left _ hbay) (hbby) (by omega)) (lw_S q1770 q1771 q129 q1772) (by decide +kernel) (by decide) (by decide) rfl hl rfl (Nat.le_of_ble_eq_true rfl) dX1_putSeals_29 (by omega) (fun urr1 H locs hur1 h => ?_)
        obtain ⟨br1, gr1, Er1⟩ := urr1
        obtain ⟨Lr1, hLr1⟩ : ∃ z, z = L2 ++ pktB 2 y.2 := ⟨_, rfl⟩
        dsimp only at hur1 h
        rw [← hLr1] at h hur1 hnlr1
        have hger1 : gro (gro cap L2.length) Lr1.length = gro cap Lr1.length := gro_gro (by omega) (by omega)
        rw [hger1] at h hur1
        have hclr1 : rC cap (L2 ++ pktB 2 y.2).length = rC cap Lr1.length ∧ rS cap (L2 ++ pktB 2 y.2).length = rS cap Lr1.length := by rw [hLr1]; exact ⟨rfl, rfl⟩
        have h : Wd D B s ([(r, .inr (1, [.ref br1, .int (nI Lr1.length)])), (br1, bar dA (gro cap Lr1.length) gr1)] ++ ((F ++ E) ++ Er1)) H locs := h
        refine W.widen (k := 0 + rC cap Lr1.length) (n := 0 + rS cap Lr1.length) (by omega) (by omega) ?_
        refine lv_iinc (v := nI (i + 1)) (lv' := [(2, .int (nI (i + 1))), (0, .ref r), (1, .ref oa)]) hx hb dX1_putSeals_32 hl (k := 2) rfl (nI_add i 1) (by decide) rfl (fun ls hl => ?_)
        refine lv_goto (tgt := 2) hx hb dX1_putSeals_35 (by decide) ?_
        have h : Wd D B s ([(r, .inr (1, [.ref br1, .int (nI Lr1.length)])), (br1, bar dA (gro cap Lr1.length) gr1)] ++ (F ++ (E ++ Er1))) H locs := h.permL (perm_add (fun g f p0 p1 p2 => by (try simp only [p0, p1, p2]) <;> omega))
        exact ih (i + 1) br1 gr1 Lr1 (E ++ Er1) (by omega) hur1 (by rw [hLr1, hL2e, slsB_step hy, List.append_assoc]) (by omega) _ _ h _ (lv_sub hl [1, 2, 0] rfl)
  exact loop _ 0 b g lt [] (by omega) hSr0 ((List.append_nil _).symm) (Nat.lt_succ_self _) _ _ h _ (lv_sub hl [1, 2, 0] rfl)
set_option maxHeartbeats 400000 in
set_option maxRecDepth 100000 in
theorem c1_putSealsU (l : Launch) (D : va_G) (dA : Nat → ClassId) (B : Nat) (Z : State → Prop) (hZ : Stab B Z) (F : va_W) (r b cap : Nat) (g : Nat → Nat) (lt : List Nat) (oa a2 e0 : Nat) (x : LD) (sls : List SL) (hsb : SBis g cap lt) (hcap : 64 ≤ cap) (hll : lt.length < 100000) (hcm : cap < 400000) (hof : (oa, .inr (7, [.ref x.1, .ref a2])) ∈ F) (hA : ∀ z ∈ lW dA e0 x sls.length, z ∈ F) (hS9 : SlOk dA F x sls) (hsm : (slsB (sls.map Prod.snd)).length < 100000) :
    Ct (S := Nat × (Nat → Nat) × va_W) l D dA B Z yX1_putSeals cX1_putSeals 3 none 7 (rC cap (lt ++ slsB (sls.map Prod.snd)).length) (rS cap (lt ++ slsB (sls.map Prod.snd)).length) [.ref r, .ref oa] ([(r, .inr (1, [.ref b, .int (nI lt.length)])), (b, bar dA cap g)] ++ F) (fun u => SBis u.2.1 (gro cap (lt ++ slsB (sls.map Prod.snd)).length) (lt ++ slsB (sls.map Prod.snd))) (fun _ => none) (fun u => [(r, .inr (1, [.ref u.1, .int (nI ((lt ++ slsB (sls.map Prod.snd)).length))])), (u.1, bar dA (gro cap (lt ++ slsB (sls.map Prod.snd)).length) u.2.1)] ++ (F ++ u.2.2)) := by
  refine Ct.mk2 (by decide) (Nat.le_of_ble_eq_true rfl) hZ ?_
  intro p e R s m args below meth c ls Q C hr hlocks hin hQ hl h
  have C0 := C
  obtain ⟨hx, hb, hml, hown, hts, -⟩ := C0
  have hl : lv_has ls 3 [(0, .ref r), (1, .ref oa)] := hl
  have hg0r : gro cap lt.length = cap := gro_le hsb.1
  have hSr0 : SBis g (gro cap lt.length) lt := by rw [hg0r]; exact hsb
  have hz0r : rC cap lt.length = 0 ∧ rS cap lt.length = 0 := rC_0 hg0r
  have h : Wd D B s ([(r, .inr (1, [.ref b, .int (nI lt.length)])), (b, bar dA (gro cap lt.length) g)] ++ F) s.heap [] := by rw [hg0r]; exact h
  refine W.widen (k := 0 + rC cap lt.length) (n := 0 + rS cap lt.length) (by omega) (by omega) ?_
  have hFL : (lt ++ slsB (sls.map Prod.snd)).length = lt.length + (slsB (sls.map Prod.snd)).length := List.length_append ..
  have hn16 := hS9.2.2.1
  refine lv_iconst (v := nI 0) hx hb dX1_putSeals_0 (by decide) ?_
  refine lv_istore_n (lv' := [(2, .int (nI 0)), (0, .ref r), (1, .ref oa)]) hx hb dX1_putSeals_1 rfl hl (by decide) rfl (fun ls hl => ?_)
  have h : Wd D B s ([(r, .inr (1, [.ref b, .int (nI lt.length)])), (b, bar dA (gro cap lt.length) g)] ++ (F ++ [])) s.heap [] := by rw [List.append_nil]; exact h
  have loop : ∀ (nn : Nat) (i b2 : Nat) (g2 : Nat → Nat) (L2 : List Nat) (E : va_W), (i ≤ sls.length) → (SBis g2 (gro cap L2.length) L2) → (L2 = lt ++ slsB ((sls.take i).map Prod.snd)) → sls.length - i < nn → ∀ (H : Heap) (locs : List Loc), Wd D B s ([(r, .inr (1, [.ref b2, .int (nI L2.length)])), (b2, bar dA (gro cap L2.length) g2)] ++ (F ++ E)) H locs → ∀ (ls : Array Slot), lv_has ls 3 [(0, .ref r), (1, .ref oa), (2, .int (nI i))] → W p l e R s m args below meth c H locs (0 + rC cap L2.length) (0 + rS cap L2.length) Q (F0 m 2 ls []) := by
    intro nn
    induction nn with
    | zero => intro i b2  g2  L2  E  hi0 hS2 hL2e hme; exact absurd hme (Nat.not_lt_zero _)
    | succ nn ih =>
      intro i b2  g2  L2  E  hi0 hS2 hL2e hme H locs h ls hl
      have hsF : ∀ z ∈ F, z ∈ F ++ E := fun z hz => List.mem_append_left _ hz
      have hLI : LIn dA e0 (F ++ E) x (sls.map Prod.fst) := ⟨by rw [List.length_map]; exact fun z hz => hsF z (hA z hz), hS9.1⟩
      obtain ⟨ed9, hcl9⟩ := hLI.cell
      have hsm2 := slsB_mono sls i
      have hsm3 := slsB_mono sls (i + 1)
      have hLl : L2.length = lt.length + (slsB ((sls.take i).map Prod.snd)).length := by rw [hL2e, List.length_append]
      have hcm9 := rC_mono (cap := cap) (m := L2.length) (m' := (lt ++ slsB (sls.map Prod.snd)).length) (by omega) (by omega)
      refine lv_iload_n hx hb dX1_putSeals_2 rfl (lv_at hl 2 rfl) ?_
      refine lv_aload_n hx hb dX1_putSeals_3 rfl (lv_at hl 1 rfl) ?_
      refine o_get C h (RC := RX10) (T := TX10) (N := 2) (List.mem_append_right _ (List.mem_append_left _ hof)) rfl in_X10 0 (by decide) q411 rfl (v := .ref x.1) rfl dX1_putSeals_4 ?_
      refine call_VR (As := []) (rest := [.int (nI i)]) (n := 0) C h (cA_size l D dA B Z hZ _ e0 x _ (hLI.sub (fun z hz => List.mem_append_right _ (hLI.1 z hz)))) (lw_V q360 q361 q362 q133 q363) (by decide +kernel) (o_recv C h (RC := RJ2) (T := TJ2) (N := 3) (List.mem_append_right _ hcl9) rfl) (by decide) (by decide) rfl hl rfl (Nat.le_of_ble_eq_true rfl) dX1_putSeals_7 (by omega) (fun _ H locs _ h => ?_)
      refine W.widen (k := 0 + rC cap L2.length) (n := 0 + rS cap L2.length) (by omega) (by omega) ?_
      refine n_top (y := nI sls.length) (by rw [List.length_map]) ?_
      refine n_icmp_ge (tgt := 38) hx hb (by omega) (by omega) dX1_putSeals_10 (by decide) (fun c10 => ?_) (fun c10 => ?_)
      · subst hQ
        have hie : i = sls.length := by omega
        have hfin : L2 = lt ++ slsB (sls.map Prod.snd) := by rw [hL2e, hie, List.take_length]
        rw [hfin] at h hS2
        have hcf : rC cap L2.length = rC cap (lt ++ slsB (sls.map Prod.snd)).length ∧ rS cap L2.length = rS cap (lt ++ slsB (sls.map Prod.snd)).length := by rw [hfin]; exact ⟨rfl, rfl⟩
        exact ret_v C hr hlocks h (b2, g2, E) hS2 rfl rfl (by omega) (by omega) dX1_putSeals_38
      · refine lv_aload_n hx hb dX1_putSeals_13 rfl (lv_at hl 0 rfl) ?_
        refine lv_iconst (v := nI 2) hx hb dX1_putSeals_14 (by decide) ?_
        refine lv_aload_n hx hb dX1_putSeals_15 rfl (lv_at hl 1 rfl) ?_
        refine o_get C h (RC := RX10) (T := TX10) (N := 2) (List.mem_append_right _ (List.mem_append_left _ hof)) rfl in_X10 0 (by decide) q411 rfl (v := .ref x.1) rfl dX1_putSeals_16 ?_
        refine lv_iload_n hx hb dX1_putSeals_19 rfl (lv_at hl 2 rfl) ?_
        obtain ⟨y, hy⟩ := at_lt (l := sls) (i := i) (by omega)
        have hym := List.mem_of_getElem? hy
        obtain ⟨t9, hSy⟩ := hS9.2.2.2 y hym
        obtain ⟨⟨hbby, hbly, hboy, hb0y⟩, bay, sny, r1y, r2y, r3y, w1y, w2y, w3y, hcey, hbay, hsny, hr1y, hr2y, hr3y⟩ := hSy
        have hst9 := slsB_step hy
        have hst8 : (slsB ((sls.take (i + 1)).map Prod.snd)).length = (slsB ((sls.take i).map Prod.snd)).length + (pktB 2 y.2).length := by rw [hst9, List.length_append]
        refine call_VR (As := [.int (nI i)]) (rest := [.int (nI 2), .ref r]) (n := 1) C h (cA_get l D dA B Z hZ _ e0 x _ i y.1 (hLI.sub (fun z hz => List.mem_append_right _ (hLI.1 z hz))) (at_map hy)) (lw_V q364 q365 q366 q133 q367) (by decide +kernel) (o_recv C h (RC := RJ2) (T := TJ2) (N := 3) (List.mem_append_right _ hcl9) rfl) (by decide) (by decide) rfl hl rfl (Nat.le_of_ble_eq_true rfl) dX1_putSeals_20 (by omega) (fun _ H locs _ h => ?_)
        refine W.widen (k := 0 + rC cap L2.length) (n := 0 + rS cap L2.length) (by omega) (by omega) ?_
        refine o_cast C h (RC := RX17) (T := TX17) (N := 19) (List.mem_append_right _ (List.mem_append_left _ hcey)) rfl q1297 dX1_putSeals_23 ?_
        refine o_get C h (RC := RX17) (T := TX17) (N := 19) (List.mem_append_right _ (List.mem_append_left _ hcey)) rfl in_X17 0 (by decide) q1306 rfl (v := .ref bay) rfl dX1_putSeals_26 ?_
        have hnlr1 : (L2 ++ pktB 2 y.2).length = L2.length + ((pktB 2 y.2).length) := by rw [List.length_append]
        have hcbr1 := gro_b (cap := cap) (m := L2.length) (by omega)
        have hcar1 := rC_add (cap := cap) (m := L2.length) (m' := (L2 ++ pktB 2 y.2).length) (by omega) (by omega)
        have hcmr1 := rC_mono (cap := cap) (m := (L2 ++ pktB 2 y.2).length) (m' := (lt ++ slsB (sls.map Prod.snd)).length) (by omega) (by omega)
        refine call_S (As := [.ref r, .int (nI 2), .ref bay]) (rest := []) (n := 3) C h (c1_packet l D dA B Z hZ (F ++ E) r b2 (gro cap L2.length) g2 L2 2 bay y.2 hS2 (by omega) (by omega) (by omega) (by omega) (List.mem_append_left _ hbay) (hbby) (by omega)) (lw_S q1770 q1771 q129 q1772) (by decide +kernel) (by decide) (by decide) rfl hl rfl (Nat.le_of_ble_eq_true rfl) dX1_putSeals_29 (by omega) (fun urr1 H locs hur1 h => ?_)
        obtain ⟨br1, gr1, Er1⟩ := urr1
        obtain ⟨Lr1, hLr1⟩ : ∃ z, z = L2 ++ pktB 2 y.2 := ⟨_, rfl⟩
        dsimp only at hur1 h
        rw [← hLr1] at h hur1 hnlr1
        have hger1 : gro (gro cap L2.length) Lr1.length = gro cap Lr1.length := gro_gro (by omega) (by omega)
        rw [hger1] at h hur1
        have hclr1 : rC cap (L2 ++ pktB 2 y.2).length = rC cap Lr1.length ∧ rS cap (L2 ++ pktB 2 y.2).length = rS cap Lr1.length := by rw [hLr1]; exact ⟨rfl, rfl⟩
        have h : Wd D B s ([(r, .inr (1, [.ref br1, .int (nI Lr1.length)])), (br1, bar dA (gro cap Lr1.length) gr1)] ++ ((F ++ E) ++ Er1)) H locs := h
        refine W.widen (k := 0 + rC cap Lr1.length) (n := 0 + rS cap Lr1.length) (by omega) (by omega) ?_
        refine lv_iinc (v := nI (i + 1)) (lv' := [(2, .int (nI (i + 1))), (0, .ref r), (1, .ref oa)]) hx hb dX1_putSeals_32 hl (k := 2) rfl (nI_add i 1) (by decide) rfl (fun ls hl => ?_)
        refine lv_goto (tgt := 2) hx hb dX1_putSeals_35 (by decide) ?_
        have h : Wd D B s ([(r, .inr (1, [.ref br1, .int (nI Lr1.length)])), (br1, bar dA (gro cap Lr1.length) gr1)] ++ (F ++ (E ++ Er1))) H locs := h.permL (perm_add (fun g f p0 p1 p2 => by (try simp only [p0, p1, p2]) <;> omega))
        exact ih (i + 1) br1 gr1 Lr1 (E ++ Er1) (by omega) hur1 (by rw [hLr1, hL2e, slsB_step hy, List.append_assoc]) (by omega) _ _ h _ (lv_sub hl [1, 2, 0] rfl)
  exact loop _ 0 b g lt [] (by omega) hSr0 ((List.append_nil _).symm) (Nat.lt_succ_self _) _ _ h _ (lv_sub hl [1, 2, 0] rfl)
set_option maxHeartbeats 400000 in
set_option maxRecDepth 100000 in
theorem c1_putSealsP (l : Launch) (D : va_G) (dA : Nat → ClassId) (B : Nat) (Z : State → Prop) (hZ : Stab B Z) (F : va_W) (r b cap : Nat) (g : Nat → Nat) (lt : List Nat) (oa a2 e0 : Nat) (x : LD) (sls : List SL) (hsb : SBis g cap lt) (hcap : 64 ≤ cap) (hll : lt.length < 100000) (hcm : cap < 400000) (hof : (oa, .inr (8, [.ref x.1, .ref a2])) ∈ F) (hA : ∀ z ∈ lW dA e0 x sls.length, z ∈ F) (hS9 : SlOk dA F x sls) (hsm : (slsB (sls.map Prod.snd)).length < 100000) :
    Ct (S := Nat × (Nat → Nat) × va_W) l D dA B Z yX1_putSeals cX1_putSeals 3 none 7 (rC cap (lt ++ slsB (sls.map Prod.snd)).length) (rS cap (lt ++ slsB (sls.map Prod.snd)).length) [.ref r, .ref oa] ([(r, .inr (1, [.ref b, .int (nI lt.length)])), (b, bar dA cap g)] ++ F) (fun u => SBis u.2.1 (gro cap (lt ++ slsB (sls.map Prod.snd)).length) (lt ++ slsB (sls.map Prod.snd))) (fun _ => none) (fun u => [(r, .inr (1, [.ref u.1, .int (nI ((lt ++ slsB (sls.map Prod.snd)).length))])), (u.1, bar dA (gro cap (lt ++ slsB (sls.map Prod.snd)).length) u.2.1)] ++ (F ++ u.2.2)) := by
  refine Ct.mk2 (by decide) (Nat.le_of_ble_eq_true rfl) hZ ?_
  intro p e R s m args below meth c ls Q C hr hlocks hin hQ hl h
  have C0 := C
  obtain ⟨hx, hb, hml, hown, hts, -⟩ := C0
  have hl : lv_has ls 3 [(0, .ref r), (1, .ref oa)] := hl
  have hg0r : gro cap lt.length = cap := gro_le hsb.1
  have hSr0 : SBis g (gro cap lt.length) lt := by rw [hg0r]; exact hsb
  have hz0r : rC cap lt.length = 0 ∧ rS cap lt.length = 0 := rC_0 hg0r
  have h : Wd D B s ([(r, .inr (1, [.ref b, .int (nI lt.length)])), (b, bar dA (gro cap lt.length) g)] ++ F) s.heap [] := by rw [hg0r]; exact h
  refine W.widen (k := 0 + rC cap lt.length) (n := 0 + rS cap lt.length) (by omega) (by omega) ?_
  have hFL : (lt ++ slsB (sls.map Prod.snd)).length = lt.length + (slsB (sls.map Prod.snd)).length := List.length_append ..
  have hn16 := hS9.2.2.1
  refine lv_iconst (v := nI 0) hx hb dX1_putSeals_0 (by decide) ?_
  refine lv_istore_n (lv' := [(2, .int (nI 0)), (0, .ref r), (1, .ref oa)]) hx hb dX1_putSeals_1 rfl hl (by decide) rfl (fun ls hl => ?_)
  have h : Wd D B s ([(r, .inr (1, [.ref b, .int (nI lt.length)])), (b, bar dA (gro cap lt.length) g)] ++ (F ++ [])) s.heap [] := by rw [List.append_nil]; exact h
  have loop : ∀ (nn : Nat) (i b2 : Nat) (g2 : Nat → Nat) (L2 : List Nat) (E : va_W), (i ≤ sls.length) → (SBis g2 (gro cap L2.length) L2) → (L2 = lt ++ slsB ((sls.take i).map Prod.snd)) → sls.length - i < nn → ∀ (H : Heap) (locs : List Loc), Wd D B s ([(r, .inr (1, [.ref b2, .int (nI L2.length)])), (b2, bar dA (gro cap L2.length) g2)] ++ (F ++ E)) H locs → ∀ (ls : Array Slot), lv_has ls 3 [(0, .ref r), (1, .ref oa), (2, .int (nI i))] → W p l e R s m args below meth c H locs (0 + rC cap L2.length) (0 + rS cap L2.length) Q (F0 m 2 ls []) := by
    intro nn
    induction nn with
    | zero => intro i b2  g2  L2  E  hi0 hS2 hL2e hme; exact absurd hme (Nat.not_lt_zero _)
    | succ nn ih =>
      intro i b2  g2  L2  E  hi0 hS2 hL2e hme H locs h ls hl
      have hsF : ∀ z ∈ F, z ∈ F ++ E := fun z hz => List.mem_append_left _ hz
      have hLI : LIn dA e0 (F ++ E) x (sls.map Prod.fst) := ⟨by rw [List.length_map]; exact fun z hz => hsF z (hA z hz), hS9.1⟩
      obtain ⟨ed9, hcl9⟩ := hLI.cell
      have hsm2 := slsB_mono sls i
      have hsm3 := slsB_mono sls (i + 1)
      have hLl : L2.length = lt.length + (slsB ((sls.take i).map Prod.snd)).length := by rw [hL2e, List.length_append]
      have hcm9 := rC_mono (cap := cap) (m := L2.length) (m' := (lt ++ slsB (sls.map Prod.snd)).length) (by omega) (by omega)
      refine lv_iload_n hx hb dX1_putSeals_2 rfl (lv_at hl 2 rfl) ?_
      refine lv_aload_n hx hb dX1_putSeals_3 rfl (lv_at hl 1 rfl) ?_
      refine o_get C h (RC := RX11) (T := TX11) (N := 2) (List.mem_append_right _ (List.mem_append_left _ hof)) rfl in_X11 0 (by decide) q411 rfl (v := .ref x.1) rfl dX1_putSeals_4 ?_
      refine call_VR (As := []) (rest := [.int (nI i)]) (n := 0) C h (cA_size l D dA B Z hZ _ e0 x _ (hLI.sub (fun z hz => List.mem_append_right _ (hLI.1 z hz)))) (lw_V q360 q361 q362 q133 q363) (by decide +kernel) (o_recv C h (RC := RJ2) (T := TJ2) (N := 3) (List.mem_append_right _ hcl9) rfl) (by decide) (by decide) rfl hl rfl (Nat.le_of_ble_eq_true rfl) dX1_putSeals_7 (by omega) (fun _ H locs _ h => ?_)
      refine W.widen (k := 0 + rC cap L2.length) (n := 0 + rS cap L2.length) (by omega) (by omega) ?_
      refine n_top (y := nI sls.length) (by rw [List.length_map]) ?_
      refine n_icmp_ge (tgt := 38) hx hb (by omega) (by omega) dX1_putSeals_10 (by decide) (fun c10 => ?_) (fun c10 => ?_)
      · subst hQ
        have hie : i = sls.length := by omega
        have hfin : L2 = lt ++ slsB (sls.map Prod.snd) := by rw [hL2e, hie, List.take_length]
        rw [hfin] at h hS2
        have hcf : rC cap L2.length = rC cap (lt ++ slsB (sls.map Prod.snd)).length ∧ rS cap L2.length = rS cap (lt ++ slsB (sls.map Prod.snd)).length := by rw [hfin]; exact ⟨rfl, rfl⟩
        exact ret_v C hr hlocks h (b2, g2, E) hS2 rfl rfl (by omega) (by omega) dX1_putSeals_38
      · refine lv_aload_n hx hb dX1_putSeals_13 rfl (lv_at hl 0 rfl) ?_
        refine lv_iconst (v := nI 2) hx hb dX1_putSeals_14 (by decide) ?_
        refine lv_aload_n hx hb dX1_putSeals_15 rfl (lv_at hl 1 rfl) ?_
        refine o_get C h (RC := RX11) (T := TX11) (N := 2) (List.mem_append_right _ (List.mem_append_left _ hof)) rfl in_X11 0 (by decide) q411 rfl (v := .ref x.1) rfl dX1_putSeals_16 ?_
        refine lv_iload_n hx hb dX1_putSeals_19 rfl (lv_at hl 2 rfl) ?_
        obtain ⟨y, hy⟩ := at_lt (l := sls) (i := i) (by omega)
        have hym := List.mem_of_getElem? hy
        obtain ⟨t9, hSy⟩ := hS9.2.2.2 y hym
        obtain ⟨⟨hbby, hbly, hboy, hb0y⟩, bay, sny, r1y, r2y, r3y, w1y, w2y, w3y, hcey, hbay, hsny, hr1y, hr2y, hr3y⟩ := hSy
        have hst9 := slsB_step hy
        have hst8 : (slsB ((sls.take (i + 1)).map Prod.snd)).length = (slsB ((sls.take i).map Prod.snd)).length + (pktB 2 y.2).length := by rw [hst9, List.length_append]
        refine call_VR (As := [.int (nI i)]) (rest := [.int (nI 2), .ref r]) (n := 1) C h (cA_get l D dA B Z hZ _ e0 x _ i y.1 (hLI.sub (fun z hz => List.mem_append_right _ (hLI.1 z hz))) (at_map hy)) (lw_V q364 q365 q366 q133 q367) (by decide +kernel) (o_recv C h (RC := RJ2) (T := TJ2) (N := 3) (List.mem_append_right _ hcl9) rfl) (by decide) (by decide) rfl hl rfl (Nat.le_of_ble_eq_true rfl) dX1_putSeals_20 (by omega) (fun _ H locs _ h => ?_)
        refine W.widen (k := 0 + rC cap L2.length) (n := 0 + rS cap L2.length) (by omega) (by omega) ?_
        refine o_cast C h (RC := RX17) (T := TX17) (N := 19) (List.mem_append_right _ (List.mem_append_left _ hcey)) rfl q1297 dX1_putSeals_23 ?_
        refine o_get C h (RC := RX17) (T := TX17) (N := 19) (List.mem_append_right _ (List.mem_append_left _ hcey)) rfl in_X17 0 (by decide) q1306 rfl (v := .ref bay) rfl dX1_putSeals_26 ?_
        have hnlr1 : (L2 ++ pktB 2 y.2).length = L2.length + ((pktB 2 y.2).length) := by rw [List.length_append]
        have hcbr1 := gro_b (cap := cap) (m := L2.length) (by omega)
        have hcar1 := rC_add (cap := cap) (m := L2.length) (m' := (L2 ++ pktB 2 y.2).length) (by omega) (by omega)
        have hcmr1 := rC_mono (cap := cap) (m := (L2 ++ pktB 2 y.2).length) (m' := (lt ++ slsB (sls.map Prod.snd)).length) (by omega) (by omega)
        refine call_S (As := [.ref r, .int (nI 2), .ref bay]) (rest := []) (n := 3) C h (c1_packet l D dA B Z hZ (F ++ E) r b2 (gro cap L2.length) g2 L2 2 bay y.2 hS2 (by omega) (by omega) (by omega) (by omega) (List.mem_append_left _ hbay) (hbby) (by omega)) (lw_S q1770 q1771 q129 q1772) (by decide +kernel) (by decide) (by decide) rfl hl rfl (Nat.le_of_ble_eq_true rfl) dX1_putSeals_29 (by omega) (fun urr1 H locs hur1 h => ?_)
        obtain ⟨br1, gr1, Er1⟩ := urr1
        obtain ⟨Lr1, hLr1⟩ : ∃ z, z = L2 ++ pktB 2 y.2 := ⟨_, rfl⟩
        dsimp only at hur1 h
        rw [← hLr1] at h hur1 hnlr1
        have hger1 : gro (gro cap L2.length) Lr1.length = gro cap Lr1.length := gro_gro (by omega) (by omega)
        rw [hger1] at h hur1
        have hclr1 : rC cap (L2 ++ pktB 2 y.2).length = rC cap Lr1.length ∧ rS cap (L2 ++ pktB 2 y.2).length = rS cap Lr1.length := by rw [hLr1]; exact ⟨rfl, rfl⟩
        have h : Wd D B s ([(r, .inr (1, [.ref br1, .int (nI Lr1.length)])), (br1, bar dA (gro cap Lr1.length) gr1)] ++ ((F ++ E) ++ Er1)) H locs := h
        refine W.widen (k := 0 + rC cap Lr1.length) (n := 0 + rS cap Lr1.length) (by omega) (by omega) ?_
        refine lv_iinc (v := nI (i + 1)) (lv' := [(2, .int (nI (i + 1))), (0, .ref r), (1, .ref oa)]) hx hb dX1_putSeals_32 hl (k := 2) rfl (nI_add i 1) (by decide) rfl (fun ls hl => ?_)
        refine lv_goto (tgt := 2) hx hb dX1_putSeals_35 (by decide) ?_
        have h : Wd D B s ([(r, .inr (1, [.ref br1, .int (nI Lr1.length)])), (br1, bar dA (gro cap Lr1.length) gr1)] ++ (F ++ (E ++ Er1))) H locs := h.permL (perm_add (fun g f p0 p1 p2 => by (try simp only [p0, p1, p2]) <;> omega))
        exact ih (i + 1) br1 gr1 Lr1 (E ++ Er1) (by omega) hur1 (by rw [hLr1, hL2e, slsB_step hy, List.append_assoc]) (by omega) _ _ h _ (lv_sub hl [1, 2, 0] rfl)
  exact loop _ 0 b g lt [] (by omega) hSr0 ((List.append_nil _).symm) (Nat.lt_succ_self _) _ _ h _ (lv_sub hl [1, 2, 0] rfl)
set_option maxHeartbeats 400000 in
set_option maxRecDepth 100000 in
theorem c1_putNumber (l : Launch) (D : va_G) (dA : Nat → ClassId) (B : Nat) (Z : State → Prop) (hZ : Stab B Z) (F : va_W) (r b cap : Nat) (g : Nat → Nat) (lt : List Nat) (a : Nat) (lb : List Nat) (hsb : SBis g cap lt) (hcap : 64 ≤ cap) (hll : lt.length < 100000) (hcm : cap < 400000) (hm : (a, bal dA lb) ∈ F) (hlb : byt lb) (hl8 : lb.length ≤ 4096) :
    Ct (S := Nat × (Nat → Nat) × va_W) l D dA B Z yX1_putNumber cX1_putNumber 4 none 5 (rC cap (lt ++ nbrB lb).length + 1) (rS cap (lt ++ nbrB lb).length + lb.length) [.ref r, .ref a] ([(r, .inr (1, [.ref b, .int (nI lt.length)])), (b, bar dA cap g)] ++ F) (fun u => SBis u.2.1 (gro cap (lt ++ nbrB lb).length) (lt ++ nbrB lb)) (fun _ => none) (fun u => [(r, .inr (1, [.ref u.1, .int (nI ((lt ++ nbrB lb).length))])), (u.1, bar dA (gro cap (lt ++ nbrB lb).length) u.2.1)] ++ (F ++ u.2.2)) := by
  refine Ct.mk2 (by decide) (Nat.le_of_ble_eq_true rfl) hZ ?_
  intro p e R s m args below meth c ls Q C hr hlocks hin hQ hl h
  have C0 := C
  obtain ⟨hx, hb, hml, hown, hts, -⟩ := C0
  have hl : lv_has ls 4 [(0, .ref r), (1, .ref a)] := hl
  have hg0r : gro cap lt.length = cap := gro_le hsb.1
  have hSr0 : SBis g (gro cap lt.length) lt := by rw [hg0r]; exact hsb
  have hz0r : rC cap lt.length = 0 ∧ rS cap lt.length = 0 := rC_0 hg0r
  have h : Wd D B s ([(r, .inr (1, [.ref b, .int (nI lt.length)])), (b, bar dA (gro cap lt.length) g)] ++ F) s.heap [] := by rw [hg0r]; exact h
  refine W.widen (k := 0 + rC cap lt.length) (n := 0 + rS cap lt.length) (by omega) (by omega) ?_
  have hzl := zL_len lb
  have hFL : (lt ++ nbrB lb).length = lt.length + (2 + (zL lb).length) := by unfold nbrB; rw [List.length_append, List.length_append, be_len]
  refine lv_iconst (v := nI 0) hx hb dX1_putNumber_0 (by decide) ?_
  refine lv_istore_n (lv' := [(2, .int (nI 0)), (0, .ref r), (1, .ref a)]) hx hb dX1_putNumber_1 rfl hl (by decide) rfl (fun ls hl => ?_)
  have loop : ∀ (nn : Nat) (i : Nat), (i ≤ lb.length) → (∀ j, j < i → gD lb j = 0) → lb.length - i < nn → ∀ (H : Heap) (locs : List Loc), Wd D B s ([(r, .inr (1, [.ref b, .int (nI lt.length)])), (b, bar dA (gro cap lt.length) g)] ++ F) H locs → ∀ (ls : Array Slot), lv_has ls 4 [(0, .ref r), (1, .ref a), (2, .int (nI i))] → W p l e R s m args below meth c H locs (0 + rC cap lt.length) (0 + rS cap lt.length) Q (F0 m 2 ls []) := by
    intro nn
    induction nn with
    | zero => intro i  hi0 hi1 hme; exact absurd hme (Nat.not_lt_zero _)
    | succ nn ih =>
      intro i  hi0 hi1 hme H locs h ls hl
      have hgi := byt_gD hlb i
      refine lv_iload_n hx hb dX1_putNumber_2 rfl (lv_at hl 2 rfl) ?_
      refine lv_aload_n hx hb dX1_putNumber_3 rfl (lv_at hl 1 rfl) ?_
      refine n_balen C h (List.mem_append_right _ hm) dX1_putNumber_4 ?_
      refine n_icmp_ge (tgt := 20) hx hb (by omega) (by omega) dX1_putNumber_5 (by decide) (fun c5 => ?_) (fun c5 => ?_)
      · have hz8 : i = lb.length ∨ gD lb i ≠ 0 := Or.inl (by omega)
        refine lv_aload_n hx hb dX1_putNumber_20 rfl (lv_at hl 1 rfl) ?_
        refine lv_iload_n hx hb dX1_putNumber_21 rfl (lv_at hl 2 rfl) ?_
        refine lv_aload_n hx hb dX1_putNumber_22 rfl (lv_at hl 1 rfl) ?_
        refine n_balen C h (List.mem_append_right _ hm) dX1_putNumber_23 ?_
        have hzd := (zL_drop hi0 hi1 hz8).symm
        have hsd := sl_drop lb i
        refine call_S (As := [.ref a, .int (nI i), .int (nI lb.length)]) (rest := []) (n := 3) C h (cJ_copyRange l D dA B Z hZ ([(r, .inr (1, [.ref b, .int (nI lt.length)])), (b, bar dA (gro cap lt.length) g)] ++ F) a lb.length i lb.length (gD lb) (List.mem_append_right _ (hm)) (by omega) (by omega) (by omega)) (lw_S q1768 q856 q143 q857) (by decide +kernel) (by decide) (by decide) rfl hl rfl (Nat.le_of_ble_eq_true rfl) dX1_putNumber_24 (by omega) (fun q9 H locs _ h => ?_)
        rw [hsd, ← hzd] at h
        have h : Wd D B s ([(r, .inr (1, [.ref b, .int (nI lt.length)])), (b, bar dA (gro cap lt.length) g)] ++ (F ++ [(q9, bal dA (zL lb))])) H locs := h.permL (perm_add (fun g f p0 p1 p2 => by (try simp only [p0, p1, p2]) <;> omega))
        have hzb := zL_byt hlb
        have hz0 : (zL lb).length = 0 ∨ gD (zL lb) 0 ≠ 0 := (Nat.eq_zero_or_pos _).imp id zL_top
        have hgz := byt_gD hzb 0
        have hle9 : lb.length - i ≤ lb.length := Nat.sub_le _ _
        refine W.widen (k := 1 + rC cap lt.length) (n := lb.length + rS cap lt.length) (by omega) (by omega) ?_
        refine lv_astore_n (lv' := [(3, .ref q9), (0, .ref r), (1, .ref a), (2, .int (nI i))]) hx hb dX1_putNumber_27 rfl hl (by decide) rfl (fun ls hl => ?_)
        have jn : ∀ (bn : Nat), (bn = bitN (zL lb)) → ∀ (H : Heap) (locs : List Loc), Wd D B s ([(r, .inr (1, [.ref b, .int (nI lt.length)])), (b, bar dA (gro cap lt.length) g)] ++ (F ++ [(q9, bal dA (zL lb))])) H locs → ∀ (ls : Array Slot), lv_has ls 4 [(3, .ref q9), (0, .ref r), (1, .ref a), (2, .int (nI i))] → W p l e R s m args below meth c H locs (1 + rC cap lt.length) (lb.length + rS cap lt.length) Q (F0 m 43 ls [.long (lN bn), .ref r]) := by
          intro bn  hbn H locs h ls hl
          refine lv_iconst (v := nI 2) hx hb dX1_putNumber_43 (by decide) ?_
          have hnlr1 : (lt ++ be 2 bn).length = lt.length + 2 := by rw [List.length_append, be_len]
          have hcbr1 := gro_b (cap := cap) (m := lt.length) (by omega)
          have hcar1 := rC_add (cap := cap) (m := lt.length) (m' := (lt ++ be 2 bn).length) (by omega) (by omega)
          have hcmr1 := rC_mono (cap := cap) (m := (lt ++ be 2 bn).length) (m' := (lt ++ nbrB lb).length) (by omega) (by omega)
          refine call_VR (As := [.long (lN bn), .int (nI 2)]) (rest := []) (n := 2) C h (c2_number l D dA B Z hZ (F ++ [(q9, bal dA (zL lb))]) r b (gro cap lt.length) g lt bn 2 hSr0 (by omega) (by rw [hbn]; have := bitN_le (l := zL lb) hgz; omega) (by decide) (by omega) (by omega)) (lw_V q1760 q1761 q1762 q130 q1763) (by decide +kernel) (o_recv C h (RC := RX2) (T := TX2) (N := 2) (List.mem_of_getElem? (i := 0) rfl) rfl) (by decide) (by decide) rfl hl rfl (Nat.le_of_ble_eq_true rfl) dX1_putNumber_44 (by omega) (fun urr1 H locs hur1 h => ?_)
          obtain ⟨br1, gr1, Er1⟩ := urr1
          obtain ⟨Lr1, hLr1⟩ : ∃ z, z = lt ++ be 2 bn := ⟨_, rfl⟩
          dsimp only at hur1 h
          rw [← hLr1] at h hur1 hnlr1
          have hger1 : gro (gro cap lt.length) Lr1.length = gro cap Lr1.length := gro_gro (by omega) (by omega)
          rw [hger1] at h hur1
          have hclr1 : rC cap (lt ++ be 2 bn).length = rC cap Lr1.length ∧ rS cap (lt ++ be 2 bn).length = rS cap Lr1.length := by rw [hLr1]; exact ⟨rfl, rfl⟩
          have h : Wd D B s ([(r, .inr (1, [.ref br1, .int (nI Lr1.length)])), (br1, bar dA (gro cap Lr1.length) gr1)] ++ ((F ++ [(q9, bal dA (zL lb))]) ++ Er1)) H locs := h
          refine W.widen (k := 1 + rC cap Lr1.length) (n := lb.length + rS cap Lr1.length) (by omega) (by omega) ?_
          refine lv_aload_n hx hb dX1_putNumber_47 rfl (lv_at hl 1 rfl) ?_
          refine lv_aload_n hx hb dX1_putNumber_48 rfl (lv_at hl 0 rfl) ?_
          refine lv_iconst (v := nI 0) hx hb dX1_putNumber_49 (by decide) ?_
          refine lv_aload_n hx hb dX1_putNumber_50 rfl (lv_at hl 0 rfl) ?_
          refine n_balen C h (List.mem_append_right _ (List.mem_append_left _ (List.mem_append_right _ List.mem_cons_self))) dX1_putNumber_51 ?_
          have hnlr2 : (Lr1 ++ sl (gD (zL lb)) 0 ((zL lb).length - 0)).length = Lr1.length + ((zL lb).length - 0) := by rw [List.length_append, sl_len]
          have hcbr2 := gro_b (cap := cap) (m := Lr1.length) (by omega)
          have hcar2 := rC_add (cap := cap) (m := Lr1.length) (m' := (Lr1 ++ sl (gD (zL lb)) 0 ((zL lb).length - 0)).length) (by omega) (by omega)
          have hcmr2 := rC_mono (cap := cap) (m := (Lr1 ++ sl (gD (zL lb)) 0 ((zL lb).length - 0)).length) (m' := (lt ++ nbrB lb).length) (by omega) (by omega)
          refine call_VR (As := [.ref q9, .int (nI 0), .int (nI ((zL lb).length))]) (rest := []) (n := 3) C h (c2_putA l D dA B Z hZ ((F ++ [(q9, bal dA (zL lb))]) ++ Er1) r br1 (gro cap Lr1.length) gr1 Lr1 q9 ((zL lb).length) 0 ((zL lb).length) (gD (zL lb)) hur1 (by omega) (List.mem_append_left _ (List.mem_append_right _ List.mem_cons_self)) (by omega) (by omega) (by omega) (by omega) (by omega) (fun j _ => byt_gD hzb j)) (lw_V q557 q558 q559 q130 q560) (by decide +kernel) (o_recv C h (RC := RX2) (T := TX2) (N := 2) (List.mem_of_getElem? (i := 0) rfl) rfl) (by decide) (by decide) rfl hl rfl (Nat.le_of_ble_eq_true rfl) dX1_putNumber_52 (by omega) (fun urr2 H locs hur2 h => ?_)
          obtain ⟨br2, gr2, Er2⟩ := urr2
          obtain ⟨Lr2, hLr2⟩ : ∃ z, z = Lr1 ++ sl (gD (zL lb)) 0 ((zL lb).length - 0) := ⟨_, rfl⟩
          dsimp only at hur2 h
          rw [← hLr2] at h hur2 hnlr2
          have hger2 : gro (gro cap Lr1.length) Lr2.length = gro cap Lr2.length := gro_gro (by omega) (by omega)
          rw [hger2] at h hur2
          have hclr2 : rC cap (Lr1 ++ sl (gD (zL lb)) 0 ((zL lb).length - 0)).length = rC cap Lr2.length ∧ rS cap (Lr1 ++ sl (gD (zL lb)) 0 ((zL lb).length - 0)).length = rS cap Lr2.length := by rw [hLr2]; exact ⟨rfl, rfl⟩
          have h : Wd D B s ([(r, .inr (1, [.ref br2, .int (nI Lr2.length)])), (br2, bar dA (gro cap Lr2.length) gr2)] ++ (((F ++ [(q9, bal dA (zL lb))]) ++ Er1) ++ Er2)) H locs := h
          refine W.widen (k := 1 + rC cap Lr2.length) (n := lb.length + rS cap Lr2.length) (by omega) (by omega) ?_
          subst hQ
          have hfin : Lr2 = lt ++ nbrB lb := by rw [hLr2, hLr1, Nat.sub_zero, sl_gD, hbn]; unfold nbrB; rw [List.append_assoc]
          have h : Wd D B s ([(r, .inr (1, [.ref br2, .int (nI Lr2.length)])), (br2, bar dA (gro cap Lr2.length) gr2)] ++ (F ++ ([(q9, bal dA (zL lb))] ++ (Er1 ++ Er2)))) H locs := h.permL (perm_add (fun g f p0 p1 p2 => by (try simp only [p0, p1, p2]) <;> omega))
          rw [hfin] at h hur2
          have hcf : rC cap Lr2.length = rC cap (lt ++ nbrB lb).length ∧ rS cap Lr2.length = rS cap (lt ++ nbrB lb).length := by rw [hfin]; exact ⟨rfl, rfl⟩
          exact ret_v C hr hlocks h (br2, gr2, [(q9, bal dA (zL lb))] ++ (Er1 ++ Er2)) hur2 rfl rfl (by omega) (by omega) dX1_putNumber_55
        refine lv_aload_n hx hb dX1_putNumber_28 rfl (lv_at hl 1 rfl) ?_
        refine lv_aload_n hx hb dX1_putNumber_29 rfl (lv_at hl 0 rfl) ?_
        refine n_balen C h (List.mem_append_right _ (List.mem_append_right _ List.mem_cons_self)) dX1_putNumber_30 ?_
        refine n_if_ne (tgt := 38) hx hb (by omega) dX1_putNumber_31 (by decide) (fun c31 => ?_) (fun c31 => ?_)
        · refine lv_aload_n hx hb dX1_putNumber_38 rfl (lv_at hl 0 rfl) ?_
          have hz1 : 0 < (zL lb).length := by omega
          have hzn : gD (zL lb) 0 ≠ 0 := hz0.resolve_left (by omega)
          have hbt := bitsI_bitN hz1 hzn
          have hbl : bitN (zL lb) ≤ 8 * (zL lb).length := bitN_le hgz
          refine call_S (As := [.ref q9]) (rest := [.ref r]) (n := 1) C h (c1_bitsOf l D dA B Z hZ _ q9 (zL lb).length (gD (zL lb)) (List.mem_append_right _ (List.mem_append_right _ List.mem_cons_self)) hz1 (by omega) hgz) (lw_S q1139 q1134 q129 q1135) (by decide +kernel) (by decide) (by decide) rfl hl rfl (Nat.le_of_ble_eq_true rfl) dX1_putNumber_39 (by omega) (fun _ H locs _ h => ?_)
          refine W.widen (k := 1 + rC cap lt.length) (n := lb.length + rS cap lt.length) (by omega) (by omega) ?_
          refine n_top (y := nI (bitN (zL lb))) hbt ?_
          refine lv_i2l (v := lN (bitN (zL lb))) hx hb dX1_putNumber_42 (nI_l (by omega)) ?_
          exact jn (bitN (zL lb)) rfl _ _ h _ (lv_sub hl [0, 1, 2, 3] rfl)
        · refine lv_lconst (v := lN 0) hx hb dX1_putNumber_34 (by decide) ?_
          refine lv_goto (tgt := 43) hx hb dX1_putNumber_35 (by decide) ?_
          exact jn 0 (by unfold bitN; rw [if_pos c31]) _ _ h _ (lv_sub hl [0, 1, 2, 3] rfl)
      · refine lv_aload_n hx hb dX1_putNumber_8 rfl (lv_at hl 1 rfl) ?_
        refine lv_iload_n hx hb dX1_putNumber_9 rfl (lv_at hl 2 rfl) ?_
        refine n_bald C h (v := (gD lb) i) (List.mem_append_right _ hm) (show i < lb.length by omega) (by omega) rfl dX1_putNumber_10 ?_
        refine lv_if_ne (tgt := 20) hx hb dX1_putNumber_11 (by decide) (fun c11 => ?_) (fun c11 => ?_)
        · have hz8 : i = lb.length ∨ gD lb i ≠ 0 := Or.inr (fun q => c11 (by rw [q]; rfl))
          refine lv_aload_n hx hb dX1_putNumber_20 rfl (lv_at hl 1 rfl) ?_
          refine lv_iload_n hx hb dX1_putNumber_21 rfl (lv_at hl 2 rfl) ?_
          refine lv_aload_n hx hb dX1_putNumber_22 rfl (lv_at hl 1 rfl) ?_
          refine n_balen C h (List.mem_append_right _ hm) dX1_putNumber_23 ?_
          have hzd := (zL_drop hi0 hi1 hz8).symm
          have hsd := sl_drop lb i
          refine call_S (As := [.ref a, .int (nI i), .int (nI lb.length)]) (rest := []) (n := 3) C h (cJ_copyRange l D dA B Z hZ ([(r, .inr (1, [.ref b, .int (nI lt.length)])), (b, bar dA (gro cap lt.length) g)] ++ F) a lb.length i lb.length (gD lb) (List.mem_append_right _ (hm)) (by omega) (by omega) (by omega)) (lw_S q1768 q856 q143 q857) (by decide +kernel) (by decide) (by decide) rfl hl rfl (Nat.le_of_ble_eq_true rfl) dX1_putNumber_24 (by omega) (fun q9 H locs _ h => ?_)
          rw [hsd, ← hzd] at h
          have h : Wd D B s ([(r, .inr (1, [.ref b, .int (nI lt.length)])), (b, bar dA (gro cap lt.length) g)] ++ (F ++ [(q9, bal dA (zL lb))])) H locs := h.permL (perm_add (fun g f p0 p1 p2 => by (try simp only [p0, p1, p2]) <;> omega))
          have hzb := zL_byt hlb
          have hz0 : (zL lb).length = 0 ∨ gD (zL lb) 0 ≠ 0 := (Nat.eq_zero_or_pos _).imp id zL_top
          have hgz := byt_gD hzb 0
          have hle9 : lb.length - i ≤ lb.length := Nat.sub_le _ _
          refine W.widen (k := 1 + rC cap lt.length) (n := lb.length + rS cap lt.length) (by omega) (by omega) ?_
          refine lv_astore_n (lv' := [(3, .ref q9), (0, .ref r), (1, .ref a), (2, .int (nI i))]) hx hb dX1_putNumber_27 rfl hl (by decide) rfl (fun ls hl => ?_)
          have jn : ∀ (bn : Nat), (bn = bitN (zL lb)) → ∀ (H : Heap) (locs : List Loc), Wd D B s ([(r, .inr (1, [.ref b, .int (nI lt.length)])), (b, bar dA (gro cap lt.length) g)] ++ (F ++ [(q9, bal dA (zL lb))])) H locs → ∀ (ls : Array Slot), lv_has ls 4 [(3, .ref q9), (0, .ref r), (1, .ref a), (2, .int (nI i))] → W p l e R s m args below meth c H locs (1 + rC cap lt.length) (lb.length + rS cap lt.length) Q (F0 m 43 ls [.long (lN bn), .ref r]) := by
            intro bn  hbn H locs h ls hl
            refine lv_iconst (v := nI 2) hx hb dX1_putNumber_43 (by decide) ?_
            have hnlr3 : (lt ++ be 2 bn).length = lt.length + 2 := by rw [List.length_append, be_len]
            have hcbr3 := gro_b (cap := cap) (m := lt.length) (by omega)
            have hcar3 := rC_add (cap := cap) (m := lt.length) (m' := (lt ++ be 2 bn).length) (by omega) (by omega)
            have hcmr3 := rC_mono (cap := cap) (m := (lt ++ be 2 bn).length) (m' := (lt ++ nbrB lb).length) (by omega) (by omega)
            refine call_VR (As := [.long (lN bn), .int (nI 2)]) (rest := []) (n := 2) C h (c2_number l D dA B Z hZ (F ++ [(q9, bal dA (zL lb))]) r b (gro cap lt.length) g lt bn 2 hSr0 (by omega) (by rw [hbn]; have := bitN_le (l := zL lb) hgz; omega) (by decide) (by omega) (by omega)) (lw_V q1760 q1761 q1762 q130 q1763) (by decide +kernel) (o_recv C h (RC := RX2) (T := TX2) (N := 2) (List.mem_of_getElem? (i := 0) rfl) rfl) (by decide) (by decide) rfl hl rfl (Nat.le_of_ble_eq_true rfl) dX1_putNumber_44 (by omega) (fun urr3 H locs hur3 h => ?_)
            obtain ⟨br3, gr3, Er3⟩ := urr3
            obtain ⟨Lr3, hLr3⟩ : ∃ z, z = lt ++ be 2 bn := ⟨_, rfl⟩
            dsimp only at hur3 h
            rw [← hLr3] at h hur3 hnlr3
            have hger3 : gro (gro cap lt.length) Lr3.length = gro cap Lr3.length := gro_gro (by omega) (by omega)
            rw [hger3] at h hur3
            have hclr3 : rC cap (lt ++ be 2 bn).length = rC cap Lr3.length ∧ rS cap (lt ++ be 2 bn).length = rS cap Lr3.length := by rw [hLr3]; exact ⟨rfl, rfl⟩
            have h : Wd D B s ([(r, .inr (1, [.ref br3, .int (nI Lr3.length)])), (br3, bar dA (gro cap Lr3.length) gr3)] ++ ((F ++ [(q9, bal dA (zL lb))]) ++ Er3)) H locs := h
            refine W.widen (k := 1 + rC cap Lr3.length) (n := lb.length + rS cap Lr3.length) (by omega) (by omega) ?_
            refine lv_aload_n hx hb dX1_putNumber_47 rfl (lv_at hl 1 rfl) ?_
            refine lv_aload_n hx hb dX1_putNumber_48 rfl (lv_at hl 0 rfl) ?_
            refine lv_iconst (v := nI 0) hx hb dX1_putNumber_49 (by decide) ?_
            refine lv_aload_n hx hb dX1_putNumber_50 rfl (lv_at hl 0 rfl) ?_
            refine n_balen C h (List.mem_append_right _ (List.mem_append_left _ (List.mem_append_right _ List.mem_cons_self))) dX1_putNumber_51 ?_
            have hnlr4 : (Lr3 ++ sl (gD (zL lb)) 0 ((zL lb).length - 0)).length = Lr3.length + ((zL lb).length - 0) := by rw [List.length_append, sl_len]
            have hcbr4 := gro_b (cap := cap) (m := Lr3.length) (by omega)
            have hcar4 := rC_add (cap := cap) (m := Lr3.length) (m' := (Lr3 ++ sl (gD (zL lb)) 0 ((zL lb).length - 0)).length) (by omega) (by omega)
            have hcmr4 := rC_mono (cap := cap) (m := (Lr3 ++ sl (gD (zL lb)) 0 ((zL lb).length - 0)).length) (m' := (lt ++ nbrB lb).length) (by omega) (by omega)
            refine call_VR (As := [.ref q9, .int (nI 0), .int (nI ((zL lb).length))]) (rest := []) (n := 3) C h (c2_putA l D dA B Z hZ ((F ++ [(q9, bal dA (zL lb))]) ++ Er3) r br3 (gro cap Lr3.length) gr3 Lr3 q9 ((zL lb).length) 0 ((zL lb).length) (gD (zL lb)) hur3 (by omega) (List.mem_append_left _ (List.mem_append_right _ List.mem_cons_self)) (by omega) (by omega) (by omega) (by omega) (by omega) (fun j _ => byt_gD hzb j)) (lw_V q557 q558 q559 q130 q560) (by decide +kernel) (o_recv C h (RC := RX2) (T := TX2) (N := 2) (List.mem_of_getElem? (i := 0) rfl) rfl) (by decide) (by decide) rfl hl rfl (Nat.le_of_ble_eq_true rfl) dX1_putNumber_52 (by omega) (fun urr4 H locs hur4 h => ?_)
            obtain ⟨br4, gr4, Er4⟩ := urr4
            obtain ⟨Lr4, hLr4⟩ : ∃ z, z = Lr3 ++ sl (gD (zL lb)) 0 ((zL lb).length - 0) := ⟨_, rfl⟩
            dsimp only at hur4 h
            rw [← hLr4] at h hur4 hnlr4
            have hger4 : gro (gro cap Lr3.length) Lr4.length = gro cap Lr4.length := gro_gro (by omega) (by omega)
            rw [hger4] at h hur4
            have hclr4 : rC cap (Lr3 ++ sl (gD (zL lb)) 0 ((zL lb).length - 0)).length = rC cap Lr4.length ∧ rS cap (Lr3 ++ sl (gD (zL lb)) 0 ((zL lb).length - 0)).length = rS cap Lr4.length := by rw [hLr4]; exact ⟨rfl, rfl⟩
            have h : Wd D B s ([(r, .inr (1, [.ref br4, .int (nI Lr4.length)])), (br4, bar dA (gro cap Lr4.length) gr4)] ++ (((F ++ [(q9, bal dA (zL lb))]) ++ Er3) ++ Er4)) H locs := h
            refine W.widen (k := 1 + rC cap Lr4.length) (n := lb.length + rS cap Lr4.length) (by omega) (by omega) ?_
            subst hQ
            have hfin : Lr4 = lt ++ nbrB lb := by rw [hLr4, hLr3, Nat.sub_zero, sl_gD, hbn]; unfold nbrB; rw [List.append_assoc]
            have h : Wd D B s ([(r, .inr (1, [.ref br4, .int (nI Lr4.length)])), (br4, bar dA (gro cap Lr4.length) gr4)] ++ (F ++ ([(q9, bal dA (zL lb))] ++ (Er3 ++ Er4)))) H locs := h.permL (perm_add (fun g f p0 p1 p2 => by (try simp only [p0, p1, p2]) <;> omega))
            rw [hfin] at h hur4
            have hcf : rC cap Lr4.length = rC cap (lt ++ nbrB lb).length ∧ rS cap Lr4.length = rS cap (lt ++ nbrB lb).length := by rw [hfin]; exact ⟨rfl, rfl⟩
            exact ret_v C hr hlocks h (br4, gr4, [(q9, bal dA (zL lb))] ++ (Er3 ++ Er4)) hur4 rfl rfl (by omega) (by omega) dX1_putNumber_55
          refine lv_aload_n hx hb dX1_putNumber_28 rfl (lv_at hl 1 rfl) ?_
          refine lv_aload_n hx hb dX1_putNumber_29 rfl (lv_at hl 0 rfl) ?_
          refine n_balen C h (List.mem_append_right _ (List.mem_append_right _ List.mem_cons_self)) dX1_putNumber_30 ?_
          refine n_if_ne (tgt := 38) hx hb (by omega) dX1_putNumber_31 (by decide) (fun c31 => ?_) (fun c31 => ?_)
          · refine lv_aload_n hx hb dX1_putNumber_38 rfl (lv_at hl 0 rfl) ?_
            have hz1 : 0 < (zL lb).length := by omega
            have hzn : gD (zL lb) 0 ≠ 0 := hz0.resolve_left (by omega)
            have hbt := bitsI_bitN hz1 hzn
            have hbl : bitN (zL lb) ≤ 8 * (zL lb).length := bitN_le hgz
            refine call_S (As := [.ref q9]) (rest := [.ref r]) (n := 1) C h (c1_bitsOf l D dA B Z hZ _ q9 (zL lb).length (gD (zL lb)) (List.mem_append_right _ (List.mem_append_right _ List.mem_cons_self)) hz1 (by omega) hgz) (lw_S q1139 q1134 q129 q1135) (by decide +kernel) (by decide) (by decide) rfl hl rfl (Nat.le_of_ble_eq_true rfl) dX1_putNumber_39 (by omega) (fun _ H locs _ h => ?_)
            refine W.widen (k := 1 + rC cap lt.length) (n := lb.length + rS cap lt.length) (by omega) (by omega) ?_
            refine n_top (y := nI (bitN (zL lb))) hbt ?_
            refine lv_i2l (v := lN (bitN (zL lb))) hx hb dX1_putNumber_42 (nI_l (by omega)) ?_
            exact jn (bitN (zL lb)) rfl _ _ h _ (lv_sub hl [0, 1, 2, 3] rfl)
          · refine lv_lconst (v := lN 0) hx hb dX1_putNumber_34 (by decide) ?_
            refine lv_goto (tgt := 43) hx hb dX1_putNumber_35 (by decide) ?_
            exact jn 0 (by unfold bitN; rw [if_pos c31]) _ _ h _ (lv_sub hl [0, 1, 2, 3] rfl)
        · have hz9 : gD lb i = 0 := sb_zero hgi c11
          refine lv_iinc (v := nI (i + 1)) (lv' := [(2, .int (nI (i + 1))), (0, .ref r), (1, .ref a)]) hx hb dX1_putNumber_14 hl (k := 2) rfl (nI_add i 1) (by decide) rfl (fun ls hl => ?_)
          refine lv_goto (tgt := 2) hx hb dX1_putNumber_17 (by decide) ?_
          exact ih (i + 1) (by omega) (fun j hj => by rcases Nat.lt_succ_iff_lt_or_eq.mp hj with q | q; exact hi1 j q; rw [q]; exact hz9) (by omega) _ _ h _ (lv_sub hl [1, 2, 0] rfl)
  exact loop _ 0 (by omega) (fun j hj => absurd hj (Nat.not_lt_zero _)) (Nat.lt_succ_self _) _ _ h _ (lv_sub hl [1, 2, 0] rfl)
