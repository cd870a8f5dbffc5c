set_option maxRecDepth 100000

theorem mem_sumL {α : Type} {f : α → Nat} {l : List α} {y : α} (h : y ∈ l) : f y ≤ sumL f l := by
  induction l with
  | nil => exact absurd h List.not_mem_nil
  | cons x l ih =>
    have e : sumL f (x :: l) = f x + sumL f l := by unfold sumL; rw [List.map_cons, List.sum_cons]
    rcases List.mem_cons.mp h with h | h
    · rw [e, h]; omega
    · have := ih h; omega
def usbC (msg kb pb : List Nat) (t : Nat) (o : Option SL) : Nat := match o with
  | none => 4
  | some b => if 0 < byS b.2 (kMade pb) t true then byS b.2 (kMade pb) t true else if bckC msg pb b.2 t = true then 0 else 6
def uspC (k : KY) (x : PTt) (t : Nat) : Nat := if 0 < uskC k t ∧ uskC k t < 5 then uskC k t else if t < kMade x.2.1.2.1 then 1 else if x.2.2.2.any (rvdC (ptM k.2.1.2.1 x.2.1.2.1) k.2.1.2.1 40 t) = true then 3 else usbC (ptM k.2.1.2.1 x.2.1.2.1) k.2.1.2.1 x.2.1.2.1 t (latC (ptM k.2.1.2.1 x.2.1.2.1) k.2.1.2.1 24 24 t x.2.2.2)
theorem uskC_le (k : KY) (t : Nat) : uskC k t ≤ 5 := by
  unfold uskC
  split
  · decide
  · split
    · decide
    · split
      · decide
      · next b _ =>
        unfold byS
        split
        · decide
        · split <;> split <;> decide

set_option maxHeartbeats 400000 in
set_option maxRecDepth 100000 in
theorem cQ_usableP (l : Launch) (D : va_G) (dA : Nat → ClassId) (B : Nat) (Z : State → Prop) (hZ : Stab B Z) (G : va_W) (A : Nat → Nat) (O : va_W) (sz dc rg f1 f2 : Nat) (q : QS) (cx : CX) (e0 : Nat) (k : KY) (x : PTt) (t : Nat) (hzq : ZQ B f1 f2 Z) (hQF : QF dA A sz dc rg G) (hqo : QOk q) (hK : KyT dA e0 cx G k) (hx9 : x ∈ k.2.2.2.2.2) (ht : t < 4294967296) :
    Ct (S := QS × va_W) l D dA B Z yX1_usable_2 cX1_usable_2 7 (some .int) 13 (6 * k.2.2.1.2.length + 4 * sumL (fun u : US => u.2.2.2.length) k.2.2.2.1.2 + 6 * x.2.2.2.length + sumL (fun y : SL => y.2.length) x.2.2.2 + 5) (768 * k.2.2.1.2.length + 512 * sumL (fun u : US => u.2.2.2.length) k.2.2.2.1.2 + 768 * x.2.2.2.length + 5 * sumL (fun y : SL => y.2.length) x.2.2.2 + 278) [.ref (A 24), .ref k.1, .ref x.1, .long (lN t)] (qW dA A O q ++ G) (fun u => QOk u.1 ∧ TR dA cx G u.2) (fun _ => some (.int (nI (uspC k x t)))) (fun u => qW dA A O u.1 ++ u.2) := by
  refine Ct.mk2 (by decide) (Nat.le_of_ble_eq_true rfl) hZ ?_
  intro p e R s m args below meth c ls Q C hr hlocks hin hQ hl h
  have C0 := C
  obtain ⟨hx, hb, hml, hown, hts, -⟩ := C0
  have hl : lv_has ls 7 [(0, .ref (A 24)), (1, .ref k.1), (2, .ref x.1), (3, .long (lN t))] := hl
  have hu5 := uskC_le k t
  refine lv_aload_n hx hb dX1_usable_2_0 rfl (lv_at hl 0 rfl) ?_
  refine lv_aload_n hx hb dX1_usable_2_1 rfl (lv_at hl 1 rfl) ?_
  refine lv_lload_n hx hb dX1_usable_2_2 rfl (lv_at hl 3 rfl) ?_
  refine call_VR (As := [.ref k.1, .long (lN t)]) (rest := []) (n := 2) C h (cQ_usableK l D dA B Z hZ G A O sz dc rg f1 f2 q cx e0 k t hzq hQF hqo hK ht) (lw_V q1626 q1628 qs27 q129 q1629) (by decide +kernel) (o_recv C h (RC := RX1) (T := TX1) (N := 14) (List.mem_append_right _ hQF.2.2) rfl) (by decide) (by decide) rfl hl rfl (Nat.le_of_ble_eq_true rfl) dX1_usable_2_3 (by omega) (fun u9 H locs hu9 h => ?_)
  obtain ⟨q1, G1⟩ := u9
  obtain ⟨hq1, hT1⟩ := hu9
  dsimp only at hq1 hT1 h
  have hK1 := hT1.ky hK
  have hN9 := (hK1.2.1.2.2.2.2.2 x hx9).1
  obtain ⟨⟨hkb, hkl, hko, hks⟩, nba, nan, nae, nap, nsa, hnm, _⟩ := hN9
  have hkm := kMade_lt hkb
  refine lv_istore (lv' := [(5, .int (nI (uskC k t))), (0, .ref (A 24)), (1, .ref k.1), (2, .ref x.1), (3, .long (lN t))]) hx hb dX1_usable_2_6 hl (by decide) rfl (fun ls hl => ?_)
  refine lv_iload hx hb dX1_usable_2_8 (lv_at hl 0 rfl) ?_
  refine lv_iconst (v := nI 1) hx hb dX1_usable_2_10 (by decide) ?_
  refine n_icmp_lt (tgt := 23) hx hb (by omega) (by omega) dX1_usable_2_11 (by decide) (fun c11 => ?_) (fun c11 => ?_)
  · refine lv_lload_n hx hb dX1_usable_2_23 rfl (lv_at hl 4 rfl) ?_
    refine lv_aload_n hx hb dX1_usable_2_24 rfl (lv_at hl 3 rfl) ?_
    refine o_get C h (RC := RX11) (T := TX11) (N := 2) (List.mem_append_right _ (KyIn.ptc (hT1.ky hK).1 hx9)) rfl in_X11 1 (by decide) q542 rfl (v := .ref x.2.1.1) rfl dX1_usable_2_25 ?_
    refine o_get C h (RC := RX16) (T := TX16) (N := 6) (List.mem_append_right _ hnm) rfl in_X16 1 (by decide) q1150 rfl (v := .long (lN (kMade x.2.1.2.1))) rfl dX1_usable_2_28 ?_
    refine n_lcmp_ge (tgt := 37) hx hb (by omega) (by omega) dX1_usable_2_31 dX1_usable_2_32 (by decide) (fun c31 => ?_) (fun c31 => ?_)
    · refine lv_aload_n hx hb dX1_usable_2_37 rfl (lv_at hl 1 rfl) ?_
      refine lv_aload_n hx hb dX1_usable_2_38 rfl (lv_at hl 2 rfl) ?_
      refine lv_aload_n hx hb dX1_usable_2_39 rfl (lv_at hl 3 rfl) ?_
      refine lv_bipush (v := nI 40) hx hb dX1_usable_2_40 (by decide) ?_
      refine lv_lload_n hx hb dX1_usable_2_42 rfl (lv_at hl 4 rfl) ?_
      refine call_VR (As := [.ref k.1, .ref x.1, .int (nI 40), .long (lN t)]) (rest := []) (n := 4) C h (cQ_isRevokedP l D dA B Z hZ G1 A O sz dc rg f1 f2 q1 cx k.1 k.2.2.1.1.1 k.2.2.2.1.1.1 k.2.2.2.2.1.1 k.2.1 x.1 x.2.1 e0 x.2.2.1 x.2.2.2 40 t hzq (hT1.qf hQF) hq1 (KyIn.kc (hT1.ky hK).1) (hT1.ky hK).2.1.1 (KyIn.ptc (hT1.ky hK).1 hx9) ((hT1.ky hK).2.1.2.2.2.2.2 x hx9).1 ((hT1.ky hK).2.1.pt (hT1.ky hK).1 hx9) ((hT1.ky hK).2.2.2.2 x hx9) ht (by decide)) (lw_V q1630 q1632 qs28 q129 q1633) (by decide +kernel) (o_recv C h (RC := RX1) (T := TX1) (N := 14) (List.mem_append_right _ ((hT1.qf hQF).2.2)) rfl) (by decide) (by decide) rfl hl rfl (Nat.le_of_ble_eq_true rfl) dX1_usable_2_43 (by omega) (fun u8 H locs hu8 h => ?_)
      obtain ⟨q2, G2⟩ := u8
      obtain ⟨hq2, hT2⟩ := hu8
      dsimp only at hq2 hT2 h
      have hT12 := hT1.trans hT2
      refine z_if_eq (tgt := 51) hx hb dX1_usable_2_46 (by decide) (fun c46 => ?_) (fun c46 => ?_)
      · refine lv_aload_n hx hb dX1_usable_2_51 rfl (lv_at hl 1 rfl) ?_
        refine lv_aload_n hx hb dX1_usable_2_52 rfl (lv_at hl 2 rfl) ?_
        refine lv_aload_n hx hb dX1_usable_2_53 rfl (lv_at hl 3 rfl) ?_
        refine lv_bipush (v := nI 24) hx hb dX1_usable_2_54 (by decide) ?_
        refine lv_bipush (v := nI 24) hx hb dX1_usable_2_56 (by decide) ?_
        refine lv_lload_n hx hb dX1_usable_2_58 rfl (lv_at hl 4 rfl) ?_
        refine call_VR (As := [.ref k.1, .ref x.1, .int (nI 24), .int (nI 24), .long (lN t)]) (rest := []) (n := 5) C h (cQ_latestP l D dA B Z hZ G2 A O sz dc rg f1 f2 q2 cx k.1 k.2.2.1.1.1 k.2.2.2.1.1.1 k.2.2.2.2.1.1 k.2.1 x.1 x.2.1 e0 x.2.2.1 x.2.2.2 24 24 t hzq (hT12.qf hQF) hq2 (KyIn.kc (hT12.ky hK).1) (hT12.ky hK).2.1.1 (KyIn.ptc (hT12.ky hK).1 hx9) ((hT12.ky hK).2.1.2.2.2.2.2 x hx9).1 ((hT12.ky hK).2.1.pt (hT12.ky hK).1 hx9) ((hT12.ky hK).2.2.2.2 x hx9) ht (by decide) (by decide)) (lw_V q1650 q1652 qs33 q129 q1653) (by decide +kernel) (o_recv C h (RC := RX1) (T := TX1) (N := 14) (List.mem_append_right _ ((hT12.qf hQF).2.2)) rfl) (by decide) (by decide) rfl hl rfl (Nat.le_of_ble_eq_true rfl) dX1_usable_2_59 (by omega) (fun u7 H locs hu7 h => ?_)
        obtain ⟨q3, G3⟩ := u7
        obtain ⟨hq3, hT3⟩ := hu7
        dsimp only at hq3 hT3 h
        have hT13 := hT12.trans hT3
        generalize hlo : latC (keyMsg k.2.1.2.1 ++ keyMsg x.2.1.2.1) k.2.1.2.1 24 24 t x.2.2.2 = lo
        have hN93 := ((hT13.ky hK).2.1.2.2.2.2.2 x hx9).1
        obtain ⟨⟨hkb3, hkl3, hko3, hks3⟩, nba3, nan3, nae3, nap3, nsa3, hnm3, _⟩ := hN93
        have hkm3 := kMade_lt hkb3
        refine q_astore (lv' := [(6, va_rf (lo.map Prod.fst)), (5, .int (nI (uskC k t))), (0, .ref (A 24)), (1, .ref k.1), (2, .ref x.1), (3, .long (lN t))]) hx hb dX1_usable_2_62 hl (by decide) rfl (fun ls hl => ?_)
        refine q_aload hx hb dX1_usable_2_64 (lv_at hl 0 rfl) ?_
        refine q_ifnonnull (tgt := 71) hx hb dX1_usable_2_66 (by decide) (fun a66 c66 => ?_) (fun c66 => ?_)
        · obtain ⟨b, hob, hb8⟩ : ∃ b, lo = some b ∧ b.1 = a66 := by cases lo with | none => cases c66 | some b => exact ⟨b, rfl, Option.some.inj c66⟩
          rw [c66, ← hb8] at hl
          have hl : lv_has ls 7 [(6, .ref b.1), (5, .int (nI (uskC k t))), (0, .ref (A 24)), (1, .ref k.1), (2, .ref x.1), (3, .long (lN t))] := hl
          obtain ⟨hbm, hbv⟩ := latC_ok (hlo.trans hob)
          have hbS := hT13.2 b (hK.2.2.2.2 x hx9 b hbm).1
          have hbq := mem_sumL (f := fun y : SL => y.2.length) hbm
          try dsimp only at hbq
          obtain ⟨tb, ⟨hbbb, hblb, hbob, hb0b⟩, bab, snb, r1b, r2b, r3b, w1b, w2b, w3b, hceb, hbab, hsnb, hr1b, hr2b, hr3b⟩ := hbS.b
          have hv9b : sVain b.2 = false := hbv
          have hmdb : (sNote b.2).1 = some (mdN b.2) := vain_md hv9b
          have hnbb := sNote_nb hbbb
          have hm9b := hnbb.1 _ hmdb
          have he9b : enN b.2 < 4294967296 := hnbb.2.1
          have hceb : (b.1, .inr (14, [.ref bab, .int (nI (sType b.2)), .int (nI (sHash b.2)), .int (nI (sEnd b.2)), .int (nI (sLeft b.2)), .ref snb, .long (lN (mdN b.2)), .long (lN (sNote b.2).2.1), .long (lN (sNote b.2).2.2.1), va_rf r1b, va_rf r2b, .int (oI (sNote b.2).2.2.2.2.2.2.1), .int (oI (sNote b.2).2.2.2.2.2.2.2.1), va_rf r3b, .int (bZ (sVain b.2)), .int tb, .int (bZ w1b), .int (bZ w2b), .int (bZ w3b)])) ∈ G3 := by
            have h9 := hceb
            rw [hmdb] at h9
            exact h9
          have hkeb : keN b.2 < 4294967296 := hnbb.2.2.1
          have hwhb : ∀ v, whatN b.2 = some v → v < 256 := hnbb.2.2.2.2.2.2.1
          refine lv_aload hx hb dX1_usable_2_71 (lv_at hl 0 rfl) ?_
          refine o_get C h (RC := RX17) (T := TX17) (N := 19) (List.mem_append_right _ hceb) rfl in_X17 8 (by decide) q1321 rfl (v := .long (lN (keN b.2))) rfl dX1_usable_2_73 ?_
          refine lv_lconst (v := lN 0) hx hb dX1_usable_2_76 (by decide) ?_
          refine n_lcmp_le (tgt := 101) hx hb (by omega) (by omega) dX1_usable_2_77 dX1_usable_2_78 (by decide) (fun c77 => ?_) (fun c77 => ?_)
          · refine lv_aload hx hb dX1_usable_2_101 (lv_at hl 0 rfl) ?_
            refine o_get C h (RC := RX17) (T := TX17) (N := 19) (List.mem_append_right _ hceb) rfl in_X17 11 (by decide) q1327 rfl (v := .int (oI (whatN b.2))) rfl dX1_usable_2_103 ?_
            refine lv_if_lt (tgt := 119) hx hb dX1_usable_2_106 (by decide) (fun c106 => ?_) (fun c106 => ?_)
            · refine lv_iconst (v := nI 5) hx hb dX1_usable_2_119 (by decide) ?_
              subst hQ
              have hfin : uspC k x t = 5 := by
                unfold uspC; rw [if_neg (show ¬ (0 < uskC k t ∧ uskC k t < 5) by omega), if_neg (show ¬ t < kMade x.2.1.2.1 by omega), if_neg (by show ¬ _ = true; rw [show x.2.2.2.any (rvdC (ptM k.2.1.2.1 x.2.1.2.1) k.2.1.2.1 40 t) = false from c46]; decide)]
                have hlo2 : latC (ptM k.2.1.2.1 x.2.1.2.1) k.2.1.2.1 24 24 t x.2.2.2 = lo := hlo
                rw [hlo2, hob]
                have hby : byS b.2 (kMade x.2.1.2.1) t true = 5 := by
                  first
                  | (rw [byS_n (show ¬ (0 < keN b.2 ∧ kMade x.2.1.2.1 + keN b.2 ≤ t) by omega) (w_lt hwhb c106)]; rfl)
                  | (obtain ⟨v9, hv9⟩ := w_ge c106; have hv8 := hwhb v9 hv9; rw [hv9] at c116; rw [byS_v (show ¬ (0 < keN b.2 ∧ kMade x.2.1.2.1 + keN b.2 ≤ t) by omega) hv9]; exact if_pos ((w_and v9 hv8).mp c116))
                show (if 0 < byS b.2 (kMade x.2.1.2.1) t true then byS b.2 (kMade x.2.1.2.1) t true else if bckC (ptM k.2.1.2.1 x.2.1.2.1) x.2.1.2.1 b.2 t = true then 0 else 6) = 5
                rw [hby]; rfl
              exact ret_i C hr hlocks h (q3, G3) (⟨hq3, hT13⟩) (by rw [hfin]) rfl (by omega) (by omega) dX1_usable_2_120
            · refine lv_aload hx hb dX1_usable_2_109 (lv_at hl 0 rfl) ?_
              refine o_get C h (RC := RX17) (T := TX17) (N := 19) (List.mem_append_right _ hceb) rfl in_X17 11 (by decide) q1327 rfl (v := .int (oI (whatN b.2))) rfl dX1_usable_2_111 ?_
              refine lv_iconst (v := nI 2) hx hb dX1_usable_2_114 (by decide) ?_
              refine lv_iand hx hb dX1_usable_2_115 ?_
              refine lv_if_ne (tgt := 121) hx hb dX1_usable_2_116 (by decide) (fun c116 => ?_) (fun c116 => ?_)
              · refine lv_aload_n hx hb dX1_usable_2_121 rfl (lv_at hl 2 rfl) ?_
                refine lv_aload_n hx hb dX1_usable_2_122 rfl (lv_at hl 3 rfl) ?_
                refine lv_aload_n hx hb dX1_usable_2_123 rfl (lv_at hl 4 rfl) ?_
                refine lv_aload hx hb dX1_usable_2_124 (lv_at hl 0 rfl) ?_
                refine lv_lload_n hx hb dX1_usable_2_126 rfl (lv_at hl 5 rfl) ?_
                refine call_VR (As := [.ref k.1, .ref x.1, .ref b.1, .long (lN t)]) (rest := []) (n := 4) C h (cQ_isBacked l D dA B Z hZ G3 A O sz dc rg f1 f2 q3 cx k.1 k.2.2.1.1.1 k.2.2.2.1.1.1 k.2.2.2.2.1.1 k.2.1 x.1 x.2.2.1.1 x.2.1 b t hzq (hT13.qf hQF) hq3 (KyIn.kc (hT13.ky hK).1) (hT13.ky hK).2.1.1 (KyIn.ptc (hT13.ky hK).1 hx9) ((hT13.ky hK).2.1.2.2.2.2.2 x hx9).1 hbS ht) (lw_V q1662 q1664 qs36 q129 q1665) (by decide +kernel) (o_recv C h (RC := RX1) (T := TX1) (N := 14) (List.mem_append_right _ ((hT13.qf hQF).2.2)) rfl) (by decide) (by decide) rfl hl rfl (Nat.le_of_ble_eq_true rfl) dX1_usable_2_127 (by omega) (fun u6 H locs hu6 h => ?_)
                obtain ⟨q4, G4⟩ := u6
                obtain ⟨hq4, hT4⟩ := hu6
                dsimp only at hq4 hT4 h
                have hT14 := hT13.trans hT4
                refine z_if_eq (tgt := 137) hx hb dX1_usable_2_130 (by decide) (fun c130 => ?_) (fun c130 => ?_)
                · refine lv_bipush (v := nI 6) hx hb dX1_usable_2_137 (by decide) ?_
                  subst hQ
                  have hfin : uspC k x t = 6 := by
                    unfold uspC; rw [if_neg (show ¬ (0 < uskC k t ∧ uskC k t < 5) by omega), if_neg (show ¬ t < kMade x.2.1.2.1 by omega), if_neg (by show ¬ _ = true; rw [show x.2.2.2.any (rvdC (ptM k.2.1.2.1 x.2.1.2.1) k.2.1.2.1 40 t) = false from c46]; decide)]
                    have hlo2 : latC (ptM k.2.1.2.1 x.2.1.2.1) k.2.1.2.1 24 24 t x.2.2.2 = lo := hlo
                    rw [hlo2, hob]
                    have hby : byS b.2 (kMade x.2.1.2.1) t true = 0 := by
                      obtain ⟨v9, hv9⟩ := w_ge c106; have hv8 := hwhb v9 hv9; rw [hv9] at c116; rw [byS_v (show ¬ (0 < keN b.2 ∧ kMade x.2.1.2.1 + keN b.2 ≤ t) by omega) hv9]; exact if_neg (fun q9 => c116 ((w_and v9 hv8).mpr q9))
                    show (if 0 < byS b.2 (kMade x.2.1.2.1) t true then byS b.2 (kMade x.2.1.2.1) t true else if bckC (ptM k.2.1.2.1 x.2.1.2.1) x.2.1.2.1 b.2 t = true then 0 else 6) = 6
                    rw [hby, if_neg (by decide)]
                    exact if_neg (fun q9 => by rw [show bckC (ptM k.2.1.2.1 x.2.1.2.1) x.2.1.2.1 b.2 t = false from c130] at q9; cases q9)
                  exact ret_i C hr hlocks h (q4, G4) (⟨hq4, hT14⟩) (by rw [hfin]) rfl (by omega) (by omega) dX1_usable_2_139
                · refine lv_iconst (v := nI 0) hx hb dX1_usable_2_133 (by decide) ?_
                  refine lv_goto (tgt := 139) hx hb dX1_usable_2_134 (by decide) ?_
                  subst hQ
                  have hfin : uspC k x t = 0 := by
                    unfold uspC; rw [if_neg (show ¬ (0 < uskC k t ∧ uskC k t < 5) by omega), if_neg (show ¬ t < kMade x.2.1.2.1 by omega), if_neg (by show ¬ _ = true; rw [show x.2.2.2.any (rvdC (ptM k.2.1.2.1 x.2.1.2.1) k.2.1.2.1 40 t) = false from c46]; decide)]
                    have hlo2 : latC (ptM k.2.1.2.1 x.2.1.2.1) k.2.1.2.1 24 24 t x.2.2.2 = lo := hlo
                    rw [hlo2, hob]
                    have hby : byS b.2 (kMade x.2.1.2.1) t true = 0 := by
                      obtain ⟨v9, hv9⟩ := w_ge c106; have hv8 := hwhb v9 hv9; rw [hv9] at c116; rw [byS_v (show ¬ (0 < keN b.2 ∧ kMade x.2.1.2.1 + keN b.2 ≤ t) by omega) hv9]; exact if_neg (fun q9 => c116 ((w_and v9 hv8).mpr q9))
                    show (if 0 < byS b.2 (kMade x.2.1.2.1) t true then byS b.2 (kMade x.2.1.2.1) t true else if bckC (ptM k.2.1.2.1 x.2.1.2.1) x.2.1.2.1 b.2 t = true then 0 else 6) = 0
                    rw [hby, if_neg (by decide)]
                    exact if_pos c130
                  exact ret_i C hr hlocks h (q4, G4) (⟨hq4, hT14⟩) (by rw [hfin]) rfl (by omega) (by omega) dX1_usable_2_139
              · refine lv_iconst (v := nI 5) hx hb dX1_usable_2_119 (by decide) ?_
                subst hQ
                have hfin : uspC k x t = 5 := by
                  unfold uspC; rw [if_neg (show ¬ (0 < uskC k t ∧ uskC k t < 5) by omega), if_neg (show ¬ t < kMade x.2.1.2.1 by omega), if_neg (by show ¬ _ = true; rw [show x.2.2.2.any (rvdC (ptM k.2.1.2.1 x.2.1.2.1) k.2.1.2.1 40 t) = false from c46]; decide)]
                  have hlo2 : latC (ptM k.2.1.2.1 x.2.1.2.1) k.2.1.2.1 24 24 t x.2.2.2 = lo := hlo
                  rw [hlo2, hob]
                  have hby : byS b.2 (kMade x.2.1.2.1) t true = 5 := by
                    first
                    | (rw [byS_n (show ¬ (0 < keN b.2 ∧ kMade x.2.1.2.1 + keN b.2 ≤ t) by omega) (w_lt hwhb c106)]; rfl)
                    | (obtain ⟨v9, hv9⟩ := w_ge c106; have hv8 := hwhb v9 hv9; rw [hv9] at c116; rw [byS_v (show ¬ (0 < keN b.2 ∧ kMade x.2.1.2.1 + keN b.2 ≤ t) by omega) hv9]; exact if_pos ((w_and v9 hv8).mp c116))
                  show (if 0 < byS b.2 (kMade x.2.1.2.1) t true then byS b.2 (kMade x.2.1.2.1) t true else if bckC (ptM k.2.1.2.1 x.2.1.2.1) x.2.1.2.1 b.2 t = true then 0 else 6) = 5
                  rw [hby]; rfl
                exact ret_i C hr hlocks h (q3, G3) (⟨hq3, hT13⟩) (by rw [hfin]) rfl (by omega) (by omega) dX1_usable_2_120
          · refine lv_aload_n hx hb dX1_usable_2_81 rfl (lv_at hl 4 rfl) ?_
            refine o_get C h (RC := RX11) (T := TX11) (N := 2) (List.mem_append_right _ (KyIn.ptc (hT13.ky hK).1 hx9)) rfl in_X11 1 (by decide) q542 rfl (v := .ref x.2.1.1) rfl dX1_usable_2_82 ?_
            refine o_get C h (RC := RX16) (T := TX16) (N := 6) (List.mem_append_right _ hnm3) rfl in_X16 1 (by decide) q1150 rfl (v := .long (lN (kMade x.2.1.2.1))) rfl dX1_usable_2_85 ?_
            refine lv_aload hx hb dX1_usable_2_88 (lv_at hl 0 rfl) ?_
            refine o_get C h (RC := RX17) (T := TX17) (N := 19) (List.mem_append_right _ hceb) rfl in_X17 8 (by decide) q1321 rfl (v := .long (lN (keN b.2))) rfl dX1_usable_2_90 ?_
            refine lv_ladd hx hb dX1_usable_2_93 (n_topl (y := lN (kMade x.2.1.2.1 + keN b.2)) (lN_add (kMade x.2.1.2.1) (keN b.2)) ?_)
            refine lv_lload_n hx hb dX1_usable_2_94 rfl (lv_at hl 5 rfl) ?_
            refine n_lcmp_gt (tgt := 101) hx hb (by omega) (by omega) dX1_usable_2_95 dX1_usable_2_96 (by decide) (fun c95 => ?_) (fun c95 => ?_)
            · refine lv_aload hx hb dX1_usable_2_101 (lv_at hl 0 rfl) ?_
              refine o_get C h (RC := RX17) (T := TX17) (N := 19) (List.mem_append_right _ hceb) rfl in_X17 11 (by decide) q1327 rfl (v := .int (oI (whatN b.2))) rfl dX1_usable_2_103 ?_
              refine lv_if_lt (tgt := 119) hx hb dX1_usable_2_106 (by decide) (fun c106 => ?_) (fun c106 => ?_)
              · refine lv_iconst (v := nI 5) hx hb dX1_usable_2_119 (by decide) ?_
                subst hQ
                have hfin : uspC k x t = 5 := by
                  unfold uspC; rw [if_neg (show ¬ (0 < uskC k t ∧ uskC k t < 5) by omega), if_neg (show ¬ t < kMade x.2.1.2.1 by omega), if_neg (by show ¬ _ = true; rw [show x.2.2.2.any (rvdC (ptM k.2.1.2.1 x.2.1.2.1) k.2.1.2.1 40 t) = false from c46]; decide)]
                  have hlo2 : latC (ptM k.2.1.2.1 x.2.1.2.1) k.2.1.2.1 24 24 t x.2.2.2 = lo := hlo
                  rw [hlo2, hob]
                  have hby : byS b.2 (kMade x.2.1.2.1) t true = 5 := by
                    first
                    | (rw [byS_n (show ¬ (0 < keN b.2 ∧ kMade x.2.1.2.1 + keN b.2 ≤ t) by omega) (w_lt hwhb c106)]; rfl)
                    | (obtain ⟨v9, hv9⟩ := w_ge c106; have hv8 := hwhb v9 hv9; rw [hv9] at c116; rw [byS_v (show ¬ (0 < keN b.2 ∧ kMade x.2.1.2.1 + keN b.2 ≤ t) by omega) hv9]; exact if_pos ((w_and v9 hv8).mp c116))
                  show (if 0 < byS b.2 (kMade x.2.1.2.1) t true then byS b.2 (kMade x.2.1.2.1) t true else if bckC (ptM k.2.1.2.1 x.2.1.2.1) x.2.1.2.1 b.2 t = true then 0 else 6) = 5
                  rw [hby]; rfl
                exact ret_i C hr hlocks h (q3, G3) (⟨hq3, hT13⟩) (by rw [hfin]) rfl (by omega) (by omega) dX1_usable_2_120
              · refine lv_aload hx hb dX1_usable_2_109 (lv_at hl 0 rfl) ?_
                refine o_get C h (RC := RX17) (T := TX17) (N := 19) (List.mem_append_right _ hceb) rfl in_X17 11 (by decide) q1327 rfl (v := .int (oI (whatN b.2))) rfl dX1_usable_2_111 ?_
                refine lv_iconst (v := nI 2) hx hb dX1_usable_2_114 (by decide) ?_
                refine lv_iand hx hb dX1_usable_2_115 ?_
                refine lv_if_ne (tgt := 121) hx hb dX1_usable_2_116 (by decide) (fun c116 => ?_) (fun c116 => ?_)
                · refine lv_aload_n hx hb dX1_usable_2_121 rfl (lv_at hl 2 rfl) ?_
                  refine lv_aload_n hx hb dX1_usable_2_122 rfl (lv_at hl 3 rfl) ?_
                  refine lv_aload_n hx hb dX1_usable_2_123 rfl (lv_at hl 4 rfl) ?_
                  refine lv_aload hx hb dX1_usable_2_124 (lv_at hl 0 rfl) ?_
                  refine lv_lload_n hx hb dX1_usable_2_126 rfl (lv_at hl 5 rfl) ?_
                  refine call_VR (As := [.ref k.1, .ref x.1, .ref b.1, .long (lN t)]) (rest := []) (n := 4) C h (cQ_isBacked l D dA B Z hZ G3 A O sz dc rg f1 f2 q3 cx k.1 k.2.2.1.1.1 k.2.2.2.1.1.1 k.2.2.2.2.1.1 k.2.1 x.1 x.2.2.1.1 x.2.1 b t hzq (hT13.qf hQF) hq3 (KyIn.kc (hT13.ky hK).1) (hT13.ky hK).2.1.1 (KyIn.ptc (hT13.ky hK).1 hx9) ((hT13.ky hK).2.1.2.2.2.2.2 x hx9).1 hbS ht) (lw_V q1662 q1664 qs36 q129 q1665) (by decide +kernel) (o_recv C h (RC := RX1) (T := TX1) (N := 14) (List.mem_append_right _ ((hT13.qf hQF).2.2)) rfl) (by decide) (by decide) rfl hl rfl (Nat.le_of_ble_eq_true rfl) dX1_usable_2_127 (by omega) (fun u6 H locs hu6 h => ?_)
                  obtain ⟨q4, G4⟩ := u6
                  obtain ⟨hq4, hT4⟩ := hu6
                  dsimp only at hq4 hT4 h
                  have hT14 := hT13.trans hT4
                  refine z_if_eq (tgt := 137) hx hb dX1_usable_2_130 (by decide) (fun c130 => ?_) (fun c130 => ?_)
                  · refine lv_bipush (v := nI 6) hx hb dX1_usable_2_137 (by decide) ?_
                    subst hQ
                    have hfin : uspC k x t = 6 := by
                      unfold uspC; rw [if_neg (show ¬ (0 < uskC k t ∧ uskC k t < 5) by omega), if_neg (show ¬ t < kMade x.2.1.2.1 by omega), if_neg (by show ¬ _ = true; rw [show x.2.2.2.any (rvdC (ptM k.2.1.2.1 x.2.1.2.1) k.2.1.2.1 40 t) = false from c46]; decide)]
                      have hlo2 : latC (ptM k.2.1.2.1 x.2.1.2.1) k.2.1.2.1 24 24 t x.2.2.2 = lo := hlo
                      rw [hlo2, hob]
                      have hby : byS b.2 (kMade x.2.1.2.1) t true = 0 := by
                        obtain ⟨v9, hv9⟩ := w_ge c106; have hv8 := hwhb v9 hv9; rw [hv9] at c116; rw [byS_v (show ¬ (0 < keN b.2 ∧ kMade x.2.1.2.1 + keN b.2 ≤ t) by omega) hv9]; exact if_neg (fun q9 => c116 ((w_and v9 hv8).mpr q9))
                      show (if 0 < byS b.2 (kMade x.2.1.2.1) t true then byS b.2 (kMade x.2.1.2.1) t true else if bckC (ptM k.2.1.2.1 x.2.1.2.1) x.2.1.2.1 b.2 t = true then 0 else 6) = 6
                      rw [hby, if_neg (by decide)]
                      exact if_neg (fun q9 => by rw [show bckC (ptM k.2.1.2.1 x.2.1.2.1) x.2.1.2.1 b.2 t = false from c130] at q9; cases q9)
                    exact ret_i C hr hlocks h (q4, G4) (⟨hq4, hT14⟩) (by rw [hfin]) rfl (by omega) (by omega) dX1_usable_2_139
                  · refine lv_iconst (v := nI 0) hx hb dX1_usable_2_133 (by decide) ?_
                    refine lv_goto (tgt := 139) hx hb dX1_usable_2_134 (by decide) ?_
                    subst hQ
                    have hfin : uspC k x t = 0 := by
                      unfold uspC; rw [if_neg (show ¬ (0 < uskC k t ∧ uskC k t < 5) by omega), if_neg (show ¬ t < kMade x.2.1.2.1 by omega), if_neg (by show ¬ _ = true; rw [show x.2.2.2.any (rvdC (ptM k.2.1.2.1 x.2.1.2.1) k.2.1.2.1 40 t) = false from c46]; decide)]
                      have hlo2 : latC (ptM k.2.1.2.1 x.2.1.2.1) k.2.1.2.1 24 24 t x.2.2.2 = lo := hlo
                      rw [hlo2, hob]
                      have hby : byS b.2 (kMade x.2.1.2.1) t true = 0 := by
                        obtain ⟨v9, hv9⟩ := w_ge c106; have hv8 := hwhb v9 hv9; rw [hv9] at c116; rw [byS_v (show ¬ (0 < keN b.2 ∧ kMade x.2.1.2.1 + keN b.2 ≤ t) by omega) hv9]; exact if_neg (fun q9 => c116 ((w_and v9 hv8).mpr q9))
                      show (if 0 < byS b.2 (kMade x.2.1.2.1) t true then byS b.2 (kMade x.2.1.2.1) t true else if bckC (ptM k.2.1.2.1 x.2.1.2.1) x.2.1.2.1 b.2 t = true then 0 else 6) = 0
                      rw [hby, if_neg (by decide)]
                      exact if_pos c130
                    exact ret_i C hr hlocks h (q4, G4) (⟨hq4, hT14⟩) (by rw [hfin]) rfl (by omega) (by omega) dX1_usable_2_139
                · refine lv_iconst (v := nI 5) hx hb dX1_usable_2_119 (by decide) ?_
                  subst hQ
                  have hfin : uspC k x t = 5 := by
                    unfold uspC; rw [if_neg (show ¬ (0 < uskC k t ∧ uskC k t < 5) by omega), if_neg (show ¬ t < kMade x.2.1.2.1 by omega), if_neg (by show ¬ _ = true; rw [show x.2.2.2.any (rvdC (ptM k.2.1.2.1 x.2.1.2.1) k.2.1.2.1 40 t) = false from c46]; decide)]
                    have hlo2 : latC (ptM k.2.1.2.1 x.2.1.2.1) k.2.1.2.1 24 24 t x.2.2.2 = lo := hlo
                    rw [hlo2, hob]
                    have hby : byS b.2 (kMade x.2.1.2.1) t true = 5 := by
                      first
                      | (rw [byS_n (show ¬ (0 < keN b.2 ∧ kMade x.2.1.2.1 + keN b.2 ≤ t) by omega) (w_lt hwhb c106)]; rfl)
                      | (obtain ⟨v9, hv9⟩ := w_ge c106; have hv8 := hwhb v9 hv9; rw [hv9] at c116; rw [byS_v (show ¬ (0 < keN b.2 ∧ kMade x.2.1.2.1 + keN b.2 ≤ t) by omega) hv9]; exact if_pos ((w_and v9 hv8).mp c116))
                    show (if 0 < byS b.2 (kMade x.2.1.2.1) t true then byS b.2 (kMade x.2.1.2.1) t true else if bckC (ptM k.2.1.2.1 x.2.1.2.1) x.2.1.2.1 b.2 t = true then 0 else 6) = 5
                    rw [hby]; rfl
                  exact ret_i C hr hlocks h (q3, G3) (⟨hq3, hT13⟩) (by rw [hfin]) rfl (by omega) (by omega) dX1_usable_2_120
            · refine lv_iconst (v := nI 2) hx hb dX1_usable_2_99 (by decide) ?_
              subst hQ
              have hfin : uspC k x t = 2 := by
                unfold uspC; rw [if_neg (show ¬ (0 < uskC k t ∧ uskC k t < 5) by omega), if_neg (show ¬ t < kMade x.2.1.2.1 by omega), if_neg (by show ¬ _ = true; rw [show x.2.2.2.any (rvdC (ptM k.2.1.2.1 x.2.1.2.1) k.2.1.2.1 40 t) = false from c46]; decide)]
                have hlo2 : latC (ptM k.2.1.2.1 x.2.1.2.1) k.2.1.2.1 24 24 t x.2.2.2 = lo := hlo
                rw [hlo2, hob]
                have hby : byS b.2 (kMade x.2.1.2.1) t true = 2 := byS_e (by omega)
                show (if 0 < byS b.2 (kMade x.2.1.2.1) t true then byS b.2 (kMade x.2.1.2.1) t true else if bckC (ptM k.2.1.2.1 x.2.1.2.1) x.2.1.2.1 b.2 t = true then 0 else 6) = 2
                rw [hby]; rfl
              exact ret_i C hr hlocks h (q3, G3) (⟨hq3, hT13⟩) (by rw [hfin]) rfl (by omega) (by omega) dX1_usable_2_100
        · have hob : lo = none := by cases lo with | none => rfl | some b => cases c66
          refine lv_iconst (v := nI 4) hx hb dX1_usable_2_69 (by decide) ?_
          subst hQ
          have hfin : uspC k x t = 4 := by
            unfold uspC; rw [if_neg (show ¬ (0 < uskC k t ∧ uskC k t < 5) by omega), if_neg (show ¬ t < kMade x.2.1.2.1 by omega), if_neg (by show ¬ _ = true; rw [show x.2.2.2.any (rvdC (ptM k.2.1.2.1 x.2.1.2.1) k.2.1.2.1 40 t) = false from c46]; decide)]
            have hlo2 : latC (ptM k.2.1.2.1 x.2.1.2.1) k.2.1.2.1 24 24 t x.2.2.2 = lo := hlo
            rw [hlo2, hob]
            rfl
          exact ret_i C hr hlocks h (q3, G3) (⟨hq3, hT13⟩) (by rw [hfin]) rfl (by omega) (by omega) dX1_usable_2_70
      · refine lv_iconst (v := nI 3) hx hb dX1_usable_2_49 (by decide) ?_
        subst hQ
        have hfin : uspC k x t = 3 := by unfold uspC; rw [if_neg (show ¬ (0 < uskC k t ∧ uskC k t < 5) by omega), if_neg (show ¬ t < kMade x.2.1.2.1 by omega)]; exact if_pos c46
        exact ret_i C hr hlocks h (q2, G2) (⟨hq2, hT12⟩) (by rw [hfin]) rfl (by omega) (by omega) dX1_usable_2_50
    · refine lv_iconst (v := nI 1) hx hb dX1_usable_2_35 (by decide) ?_
      subst hQ
      have hfin : uspC k x t = 1 := by unfold uspC; rw [if_neg (show ¬ (0 < uskC k t ∧ uskC k t < 5) by omega), if_pos (show t < kMade x.2.1.2.1 by omega)]
      exact ret_i C hr hlocks h (q1, G1) (⟨hq1, hT1⟩) (by rw [hfin]) rfl (by omega) (by omega) dX1_usable_2_36
  · refine lv_iload hx hb dX1_usable_2_14 (lv_at hl 0 rfl) ?_
    refine lv_iconst (v := nI 4) hx hb dX1_usable_2_16 (by decide) ?_
    refine n_icmp_gt (tgt := 23) hx hb (by omega) (by omega) dX1_usable_2_17 (by decide) (fun c17 => ?_) (fun c17 => ?_)
    · refine lv_lload_n hx hb dX1_usable_2_23 rfl (lv_at hl 4 rfl) ?_
      refine lv_aload_n hx hb dX1_usable_2_24 rfl (lv_at hl 3 rfl) ?_
      refine o_get C h (RC := RX11) (T := TX11) (N := 2) (List.mem_append_right _ (KyIn.ptc (hT1.ky hK).1 hx9)) rfl in_X11 1 (by decide) q542 rfl (v := .ref x.2.1.1) rfl dX1_usable_2_25 ?_
      refine o_get C h (RC := RX16) (T := TX16) (N := 6) (List.mem_append_right _ hnm) rfl in_X16 1 (by decide) q1150 rfl (v := .long (lN (kMade x.2.1.2.1))) rfl dX1_usable_2_28 ?_
      refine n_lcmp_ge (tgt := 37) hx hb (by omega) (by omega) dX1_usable_2_31 dX1_usable_2_32 (by decide) (fun c31 => ?_) (fun c31 => ?_)
      · refine lv_aload_n hx hb dX1_usable_2_37 rfl (lv_at hl 1 rfl) ?_
        refine lv_aload_n hx hb dX1_usable_2_38 rfl (lv_at hl 2 rfl) ?_
        refine lv_aload_n hx hb dX1_usable_2_39 rfl (lv_at hl 3 rfl) ?_
        refine lv_bipush (v := nI 40) hx hb dX1_usable_2_40 (by decide) ?_
        refine lv_lload_n hx hb dX1_usable_2_42 rfl (lv_at hl 4 rfl) ?_
        refine call_VR (As := [.ref k.1, .ref x.1, .int (nI 40), .long (lN t)]) (rest := []) (n := 4) C h (cQ_isRevokedP l D dA B Z hZ G1 A O sz dc rg f1 f2 q1 cx k.1 k.2.2.1.1.1 k.2.2.2.1.1.1 k.2.2.2.2.1.1 k.2.1 x.1 x.2.1 e0 x.2.2.1 x.2.2.2 40 t hzq (hT1.qf hQF) hq1 (KyIn.kc (hT1.ky hK).1) (hT1.ky hK).2.1.1 (KyIn.ptc (hT1.ky hK).1 hx9) ((hT1.ky hK).2.1.2.2.2.2.2 x hx9).1 ((hT1.ky hK).2.1.pt (hT1.ky hK).1 hx9) ((hT1.ky hK).2.2.2.2 x hx9) ht (by decide)) (lw_V q1630 q1632 qs28 q129 q1633) (by decide +kernel) (o_recv C h (RC := RX1) (T := TX1) (N := 14) (List.mem_append_right _ ((hT1.qf hQF).2.2)) rfl) (by decide) (by decide) rfl hl rfl (Nat.le_of_ble_eq_true rfl) dX1_usable_2_43 (by omega) (fun u8 H locs hu8 h => ?_)
        obtain ⟨q2, G2⟩ := u8
        obtain ⟨hq2, hT2⟩ := hu8
        dsimp only at hq2 hT2 h
        have hT12 := hT1.trans hT2
        refine z_if_eq (tgt := 51) hx hb dX1_usable_2_46 (by decide) (fun c46 => ?_) (fun c46 => ?_)
        · refine lv_aload_n hx hb dX1_usable_2_51 rfl (lv_at hl 1 rfl) ?_
          refine lv_aload_n hx hb dX1_usable_2_52 rfl (lv_at hl 2 rfl) ?_
          refine lv_aload_n hx hb dX1_usable_2_53 rfl (lv_at hl 3 rfl) ?_
          refine lv_bipush (v := nI 24) hx hb dX1_usable_2_54 (by decide) ?_
          refine lv_bipush (v := nI 24) hx hb dX1_usable_2_56 (by decide) ?_
          refine lv_lload_n hx hb dX1_usable_2_58 rfl (lv_at hl 4 rfl) ?_
          refine call_VR (As := [.ref k.1, .ref x.1, .int (nI 24), .int (nI 24), .long (lN t)]) (rest := []) (n := 5) C h (cQ_latestP l D dA B Z hZ G2 A O sz dc rg f1 f2 q2 cx k.1 k.2.2.1.1.1 k.2.2.2.1.1.1 k.2.2.2.2.1.1 k.2.1 x.1 x.2.1 e0 x.2.2.1 x.2.2.2 24 24 t hzq (hT12.qf hQF) hq2 (KyIn.kc (hT12.ky hK).1) (hT12.ky hK).2.1.1 (KyIn.ptc (hT12.ky hK).1 hx9) ((hT12.ky hK).2.1.2.2.2.2.2 x hx9).1 ((hT12.ky hK).2.1.pt (hT12.ky hK).1 hx9) ((hT12.ky hK).2.2.2.2 x hx9) ht (by decide) (by decide)) (lw_V q1650 q1652 qs33 q129 q1653) (by decide +kernel) (o_recv C h (RC := RX1) (T := TX1) (N := 14) (List.mem_append_right _ ((hT12.qf hQF).2.2)) rfl) (by decide) (by decide) rfl hl rfl (Nat.le_of_ble_eq_true rfl) dX1_usable_2_59 (by omega) (fun u7 H locs hu7 h => ?_)
          obtain ⟨q3, G3⟩ := u7
          obtain ⟨hq3, hT3⟩ := hu7
          dsimp only at hq3 hT3 h
          have hT13 := hT12.trans hT3
          generalize hlo : latC (keyMsg k.2.1.2.1 ++ keyMsg x.2.1.2.1) k.2.1.2.1 24 24 t x.2.2.2 = lo
          have hN93 := ((hT13.ky hK).2.1.2.2.2.2.2 x hx9).1
          obtain ⟨⟨hkb3, hkl3, hko3, hks3⟩, nba3, nan3, nae3, nap3, nsa3, hnm3, _⟩ := hN93
          have hkm3 := kMade_lt hkb3
          refine q_astore (lv' := [(6, va_rf (lo.map Prod.fst)), (5, .int (nI (uskC k t))), (0, .ref (A 24)), (1, .ref k.1), (2, .ref x.1), (3, .long (lN t))]) hx hb dX1_usable_2_62 hl (by decide) rfl (fun ls hl => ?_)
          refine q_aload hx hb dX1_usable_2_64 (lv_at hl 0 rfl) ?_
          refine q_ifnonnull (tgt := 71) hx hb dX1_usable_2_66 (by decide) (fun a66 c66 => ?_) (fun c66 => ?_)
          · obtain ⟨b, hob, hb8⟩ : ∃ b, lo = some b ∧ b.1 = a66 := by cases lo with | none => cases c66 | some b => exact ⟨b, rfl, Option.some.inj c66⟩
            rw [c66, ← hb8] at hl
            have hl : lv_has ls 7 [(6, .ref b.1), (5, .int (nI (uskC k t))), (0, .ref (A 24)), (1, .ref k.1), (2, .ref x.1), (3, .long (lN t))] := hl
            obtain ⟨hbm, hbv⟩ := latC_ok (hlo.trans hob)
            have hbS := hT13.2 b (hK.2.2.2.2 x hx9 b hbm).1
            have hbq := mem_sumL (f := fun y : SL => y.2.length) hbm
            try dsimp only at hbq
            obtain ⟨tb, ⟨hbbb, hblb, hbob, hb0b⟩, bab, snb, r1b, r2b, r3b, w1b, w2b, w3b, hceb, hbab, hsnb, hr1b, hr2b, hr3b⟩ := hbS.b
            have hv9b : sVain b.2 = false := hbv
            have hmdb : (sNote b.2).1 = some (mdN b.2) := vain_md hv9b
            have hnbb := sNote_nb hbbb
            have hm9b := hnbb.1 _ hmdb
            have he9b : enN b.2 < 4294967296 := hnbb.2.1
            have hceb : (b.1, .inr (14, [.ref bab, .int (nI (sType b.2)), .int (nI (sHash b.2)), .int (nI (sEnd b.2)), .int (nI (sLeft b.2)), .ref snb, .long (lN (mdN b.2)), .long (lN (sNote b.2).2.1), .long (lN (sNote b.2).2.2.1), va_rf r1b, va_rf r2b, .int (oI (sNote b.2).2.2.2.2.2.2.1), .int (oI (sNote b.2).2.2.2.2.2.2.2.1), va_rf r3b, .int (bZ (sVain b.2)), .int tb, .int (bZ w1b), .int (bZ w2b), .int (bZ w3b)])) ∈ G3 := by
              have h9 := hceb
              rw [hmdb] at h9
              exact h9
            have hkeb : keN b.2 < 4294967296 := hnbb.2.2.1
            have hwhb : ∀ v, whatN b.2 = some v → v < 256 := hnbb.2.2.2.2.2.2.1
            refine lv_aload hx hb dX1_usable_2_71 (lv_at hl 0 rfl) ?_
            refine o_get C h (RC := RX17) (T := TX17) (N := 19) (List.mem_append_right _ hceb) rfl in_X17 8 (by decide) q1321 rfl (v := .long (lN (keN b.2))) rfl dX1_usable_2_73 ?_
            refine lv_lconst (v := lN 0) hx hb dX1_usable_2_76 (by decide) ?_
            refine n_lcmp_le (tgt := 101) hx hb (by omega) (by omega) dX1_usable_2_77 dX1_usable_2_78 (by decide) (fun c77 => ?_) (fun c77 => ?_)
            · refine lv_aload hx hb dX1_usable_2_101 (lv_at hl 0 rfl) ?_
              refine o_get C h (RC := RX17) (T := TX17) (N := 19) (List.mem_append_right _ hceb) rfl in_X17 11 (by decide) q1327 rfl (v := .int (oI (whatN b.2))) rfl dX1_usable_2_103 ?_
              refine lv_if_lt (tgt := 119) hx hb dX1_usable_2_106 (by decide) (fun c106 => ?_) (fun c106 => ?_)
              · refine lv_iconst (v := nI 5) hx hb dX1_usable_2_119 (by decide) ?_
                subst hQ
                have hfin : uspC k x t = 5 := by
                  unfold uspC; rw [if_neg (show ¬ (0 < uskC k t ∧ uskC k t < 5) by omega), if_neg (show ¬ t < kMade x.2.1.2.1 by omega), if_neg (by show ¬ _ = true; rw [show x.2.2.2.any (rvdC (ptM k.2.1.2.1 x.2.1.2.1) k.2.1.2.1 40 t) = false from c46]; decide)]
                  have hlo2 : latC (ptM k.2.1.2.1 x.2.1.2.1) k.2.1.2.1 24 24 t x.2.2.2 = lo := hlo
                  rw [hlo2, hob]
                  have hby : byS b.2 (kMade x.2.1.2.1) t true = 5 := by
                    first
                    | (rw [byS_n (show ¬ (0 < keN b.2 ∧ kMade x.2.1.2.1 + keN b.2 ≤ t) by omega) (w_lt hwhb c106)]; rfl)
                    | (obtain ⟨v9, hv9⟩ := w_ge c106; have hv8 := hwhb v9 hv9; rw [hv9] at c116; rw [byS_v (show ¬ (0 < keN b.2 ∧ kMade x.2.1.2.1 + keN b.2 ≤ t) by omega) hv9]; exact if_pos ((w_and v9 hv8).mp c116))
                  show (if 0 < byS b.2 (kMade x.2.1.2.1) t true then byS b.2 (kMade x.2.1.2.1) t true else if bckC (ptM k.2.1.2.1 x.2.1.2.1) x.2.1.2.1 b.2 t = true then 0 else 6) = 5
                  rw [hby]; rfl
                exact ret_i C hr hlocks h (q3, G3) (⟨hq3, hT13⟩) (by rw [hfin]) rfl (by omega) (by omega) dX1_usable_2_120
              · refine lv_aload hx hb dX1_usable_2_109 (lv_at hl 0 rfl) ?_
                refine o_get C h (RC := RX17) (T := TX17) (N := 19) (List.mem_append_right _ hceb) rfl in_X17 11 (by decide) q1327 rfl (v := .int (oI (whatN b.2))) rfl dX1_usable_2_111 ?_
                refine lv_iconst (v := nI 2) hx hb dX1_usable_2_114 (by decide) ?_
                refine lv_iand hx hb dX1_usable_2_115 ?_
                refine lv_if_ne (tgt := 121) hx hb dX1_usable_2_116 (by decide) (fun c116 => ?_) (fun c116 => ?_)
                · refine lv_aload_n hx hb dX1_usable_2_121 rfl (lv_at hl 2 rfl) ?_
                  refine lv_aload_n hx hb dX1_usable_2_122 rfl (lv_at hl 3 rfl) ?_
                  refine lv_aload_n hx hb dX1_usable_2_123 rfl (lv_at hl 4 rfl) ?_
                  refine lv_aload hx hb dX1_usable_2_124 (lv_at hl 0 rfl) ?_
                  refine lv_lload_n hx hb dX1_usable_2_126 rfl (lv_at hl 5 rfl) ?_
                  refine call_VR (As := [.ref k.1, .ref x.1, .ref b.1, .long (lN t)]) (rest := []) (n := 4) C h (cQ_isBacked l D dA B Z hZ G3 A O sz dc rg f1 f2 q3 cx k.1 k.2.2.1.1.1 k.2.2.2.1.1.1 k.2.2.2.2.1.1 k.2.1 x.1 x.2.2.1.1 x.2.1 b t hzq (hT13.qf hQF) hq3 (KyIn.kc (hT13.ky hK).1) (hT13.ky hK).2.1.1 (KyIn.ptc (hT13.ky hK).1 hx9) ((hT13.ky hK).2.1.2.2.2.2.2 x hx9).1 hbS ht) (lw_V q1662 q1664 qs36 q129 q1665) (by decide +kernel) (o_recv C h (RC := RX1) (T := TX1) (N := 14) (List.mem_append_right _ ((hT13.qf hQF).2.2)) rfl) (by decide) (by decide) rfl hl rfl (Nat.le_of_ble_eq_true rfl) dX1_usable_2_127 (by omega) (fun u6 H locs hu6 h => ?_)
                  obtain ⟨q4, G4⟩ := u6
                  obtain ⟨hq4, hT4⟩ := hu6
                  dsimp only at hq4 hT4 h
                  have hT14 := hT13.trans hT4
                  refine z_if_eq (tgt := 137) hx hb dX1_usable_2_130 (by decide) (fun c130 => ?_) (fun c130 => ?_)
                  · refine lv_bipush (v := nI 6) hx hb dX1_usable_2_137 (by decide) ?_
                    subst hQ
                    have hfin : uspC k x t = 6 := by
                      unfold uspC; rw [if_neg (show ¬ (0 < uskC k t ∧ uskC k t < 5) by omega), if_neg (show ¬ t < kMade x.2.1.2.1 by omega), if_neg (by show ¬ _ = true; rw [show x.2.2.2.any (rvdC (ptM k.2.1.2.1 x.2.1.2.1) k.2.1.2.1 40 t) = false from c46]; decide)]
                      have hlo2 : latC (ptM k.2.1.2.1 x.2.1.2.1) k.2.1.2.1 24 24 t x.2.2.2 = lo := hlo
                      rw [hlo2, hob]
                      have hby : byS b.2 (kMade x.2.1.2.1) t true = 0 := by
                        obtain ⟨v9, hv9⟩ := w_ge c106; have hv8 := hwhb v9 hv9; rw [hv9] at c116; rw [byS_v (show ¬ (0 < keN b.2 ∧ kMade x.2.1.2.1 + keN b.2 ≤ t) by omega) hv9]; exact if_neg (fun q9 => c116 ((w_and v9 hv8).mpr q9))
                      show (if 0 < byS b.2 (kMade x.2.1.2.1) t true then byS b.2 (kMade x.2.1.2.1) t true else if bckC (ptM k.2.1.2.1 x.2.1.2.1) x.2.1.2.1 b.2 t = true then 0 else 6) = 6
                      rw [hby, if_neg (by decide)]
                      exact if_neg (fun q9 => by rw [show bckC (ptM k.2.1.2.1 x.2.1.2.1) x.2.1.2.1 b.2 t = false from c130] at q9; cases q9)
                    exact ret_i C hr hlocks h (q4, G4) (⟨hq4, hT14⟩) (by rw [hfin]) rfl (by omega) (by omega) dX1_usable_2_139
                  · refine lv_iconst (v := nI 0) hx hb dX1_usable_2_133 (by decide) ?_
                    refine lv_goto (tgt := 139) hx hb dX1_usable_2_134 (by decide) ?_
                    subst hQ
                    have hfin : uspC k x t = 0 := by
                      unfold uspC; rw [if_neg (show ¬ (0 < uskC k t ∧ uskC k t < 5) by omega), if_neg (show ¬ t < kMade x.2.1.2.1 by omega), if_neg (by show ¬ _ = true; rw [show x.2.2.2.any (rvdC (ptM k.2.1.2.1 x.2.1.2.1) k.2.1.2.1 40 t) = false from c46]; decide)]
                      have hlo2 : latC (ptM k.2.1.2.1 x.2.1.2.1) k.2.1.2.1 24 24 t x.2.2.2 = lo := hlo
                      rw [hlo2, hob]
                      have hby : byS b.2 (kMade x.2.1.2.1) t true = 0 := by
                        obtain ⟨v9, hv9⟩ := w_ge c106; have hv8 := hwhb v9 hv9; rw [hv9] at c116; rw [byS_v (show ¬ (0 < keN b.2 ∧ kMade x.2.1.2.1 + keN b.2 ≤ t) by omega) hv9]; exact if_neg (fun q9 => c116 ((w_and v9 hv8).mpr q9))
                      show (if 0 < byS b.2 (kMade x.2.1.2.1) t true then byS b.2 (kMade x.2.1.2.1) t true else if bckC (ptM k.2.1.2.1 x.2.1.2.1) x.2.1.2.1 b.2 t = true then 0 else 6) = 0
                      rw [hby, if_neg (by decide)]
                      exact if_pos c130
                    exact ret_i C hr hlocks h (q4, G4) (⟨hq4, hT14⟩) (by rw [hfin]) rfl (by omega) (by omega) dX1_usable_2_139
                · refine lv_iconst (v := nI 5) hx hb dX1_usable_2_119 (by decide) ?_
                  subst hQ
                  have hfin : uspC k x t = 5 := by
                    unfold uspC; rw [if_neg (show ¬ (0 < uskC k t ∧ uskC k t < 5) by omega), if_neg (show ¬ t < kMade x.2.1.2.1 by omega), if_neg (by show ¬ _ = true; rw [show x.2.2.2.any (rvdC (ptM k.2.1.2.1 x.2.1.2.1) k.2.1.2.1 40 t) = false from c46]; decide)]
                    have hlo2 : latC (ptM k.2.1.2.1 x.2.1.2.1) k.2.1.2.1 24 24 t x.2.2.2 = lo := hlo
                    rw [hlo2, hob]
                    have hby : byS b.2 (kMade x.2.1.2.1) t true = 5 := by
                      first
                      | (rw [byS_n (show ¬ (0 < keN b.2 ∧ kMade x.2.1.2.1 + keN b.2 ≤ t) by omega) (w_lt hwhb c106)]; rfl)
                      | (obtain ⟨v9, hv9⟩ := w_ge c106; have hv8 := hwhb v9 hv9; rw [hv9] at c116; rw [byS_v (show ¬ (0 < keN b.2 ∧ kMade x.2.1.2.1 + keN b.2 ≤ t) by omega) hv9]; exact if_pos ((w_and v9 hv8).mp c116))
                    show (if 0 < byS b.2 (kMade x.2.1.2.1) t true then byS b.2 (kMade x.2.1.2.1) t true else if bckC (ptM k.2.1.2.1 x.2.1.2.1) x.2.1.2.1 b.2 t = true then 0 else 6) = 5
                    rw [hby]; rfl
                  exact ret_i C hr hlocks h (q3, G3) (⟨hq3, hT13⟩) (by rw [hfin]) rfl (by omega) (by omega) dX1_usable_2_120
            · refine lv_aload_n hx hb dX1_usable_2_81 rfl (lv_at hl 4 rfl) ?_
              refine o_get C h (RC := RX11) (T := TX11) (N := 2) (List.mem_append_right _ (KyIn.ptc (hT13.ky hK).1 hx9)) rfl in_X11 1 (by decide) q542 rfl (v := .ref x.2.1.1) rfl dX1_usable_2_82 ?_
              refine o_get C h (RC := RX16) (T := TX16) (N := 6) (List.mem_append_right _ hnm3) rfl in_X16 1 (by decide) q1150 rfl (v := .long (lN (kMade x.2.1.2.1))) rfl dX1_usable_2_85 ?_
              refine lv_aload hx hb dX1_usable_2_88 (lv_at hl 0 rfl) ?_
              refine o_get C h (RC := RX17) (T := TX17) (N := 19) (List.mem_append_right _ hceb) rfl in_X17 8 (by decide) q1321 rfl (v := .long (lN (keN b.2))) rfl dX1_usable_2_90 ?_
              refine lv_ladd hx hb dX1_usable_2_93 (n_topl (y := lN (kMade x.2.1.2.1 + keN b.2)) (lN_add (kMade x.2.1.2.1) (keN b.2)) ?_)
              refine lv_lload_n hx hb dX1_usable_2_94 rfl (lv_at hl 5 rfl) ?_
              refine n_lcmp_gt (tgt := 101) hx hb (by omega) (by omega) dX1_usable_2_95 dX1_usable_2_96 (by decide) (fun c95 => ?_) (fun c95 => ?_)
              · refine lv_aload hx hb dX1_usable_2_101 (lv_at hl 0 rfl) ?_
                refine o_get C h (RC := RX17) (T := TX17) (N := 19) (List.mem_append_right _ hceb) rfl in_X17 11 (by decide) q1327 rfl (v := .int (oI (whatN b.2))) rfl dX1_usable_2_103 ?_
                refine lv_if_lt (tgt := 119) hx hb dX1_usable_2_106 (by decide) (fun c106 => ?_) (fun c106 => ?_)
                · refine lv_iconst (v := nI 5) hx hb dX1_usable_2_119 (by decide) ?_
                  subst hQ
                  have hfin : uspC k x t = 5 := by
                    unfold uspC; rw [if_neg (show ¬ (0 < uskC k t ∧ uskC k t < 5) by omega), if_neg (show ¬ t < kMade x.2.1.2.1 by omega), if_neg (by show ¬ _ = true; rw [show x.2.2.2.any (rvdC (ptM k.2.1.2.1 x.2.1.2.1) k.2.1.2.1 40 t) = false from c46]; decide)]
                    have hlo2 : latC (ptM k.2.1.2.1 x.2.1.2.1) k.2.1.2.1 24 24 t x.2.2.2 = lo := hlo
                    rw [hlo2, hob]
                    have hby : byS b.2 (kMade x.2.1.2.1) t true = 5 := by
                      first
                      | (rw [byS_n (show ¬ (0 < keN b.2 ∧ kMade x.2.1.2.1 + keN b.2 ≤ t) by omega) (w_lt hwhb c106)]; rfl)
                      | (obtain ⟨v9, hv9⟩ := w_ge c106; have hv8 := hwhb v9 hv9; rw [hv9] at c116; rw [byS_v (show ¬ (0 < keN b.2 ∧ kMade x.2.1.2.1 + keN b.2 ≤ t) by omega) hv9]; exact if_pos ((w_and v9 hv8).mp c116))
                    show (if 0 < byS b.2 (kMade x.2.1.2.1) t true then byS b.2 (kMade x.2.1.2.1) t true else if bckC (ptM k.2.1.2.1 x.2.1.2.1) x.2.1.2.1 b.2 t = true then 0 else 6) = 5
                    rw [hby]; rfl
                  exact ret_i C hr hlocks h (q3, G3) (⟨hq3, hT13⟩) (by rw [hfin]) rfl (by omega) (by omega) dX1_usable_2_120
                · refine lv_aload hx hb dX1_usable_2_109 (lv_at hl 0 rfl) ?_
                  refine o_get C h (RC := RX17) (T := TX17) (N := 19) (List.mem_append_right _ hceb) rfl in_X17 11 (by decide) q1327 rfl (v := .int (oI (whatN b.2))) rfl dX1_usable_2_111 ?_
                  refine lv_iconst (v := nI 2) hx hb dX1_usable_2_114 (by decide) ?_
                  refine lv_iand hx hb dX1_usable_2_115 ?_
                  refine lv_if_ne (tgt := 121) hx hb dX1_usable_2_116 (by decide) (fun c116 => ?_) (fun c116 => ?_)
                  · refine lv_aload_n hx hb dX1_usable_2_121 rfl (lv_at hl 2 rfl) ?_
                    refine lv_aload_n hx hb dX1_usable_2_122 rfl (lv_at hl 3 rfl) ?_
                    refine lv_aload_n hx hb dX1_usable_2_123 rfl (lv_at hl 4 rfl) ?_
                    refine lv_aload hx hb dX1_usable_2_124 (lv_at hl 0 rfl) ?_
                    refine lv_lload_n hx hb dX1_usable_2_126 rfl (lv_at hl 5 rfl) ?_
                    refine call_VR (As := [.ref k.1, .ref x.1, .ref b.1, .long (lN t)]) (rest := []) (n := 4) C h (cQ_isBacked l D dA B Z hZ G3 A O sz dc rg f1 f2 q3 cx k.1 k.2.2.1.1.1 k.2.2.2.1.1.1 k.2.2.2.2.1.1 k.2.1 x.1 x.2.2.1.1 x.2.1 b t hzq (hT13.qf hQF) hq3 (KyIn.kc (hT13.ky hK).1) (hT13.ky hK).2.1.1 (KyIn.ptc (hT13.ky hK).1 hx9) ((hT13.ky hK).2.1.2.2.2.2.2 x hx9).1 hbS ht) (lw_V q1662 q1664 qs36 q129 q1665) (by decide +kernel) (o_recv C h (RC := RX1) (T := TX1) (N := 14) (List.mem_append_right _ ((hT13.qf hQF).2.2)) rfl) (by decide) (by decide) rfl hl rfl (Nat.le_of_ble_eq_true rfl) dX1_usable_2_127 (by omega) (fun u6 H locs hu6 h => ?_)
                    obtain ⟨q4, G4⟩ := u6
                    obtain ⟨hq4, hT4⟩ := hu6
                    dsimp only at hq4 hT4 h
                    have hT14 := hT13.trans hT4
                    refine z_if_eq (tgt := 137) hx hb dX1_usable_2_130 (by decide) (fun c130 => ?_) (fun c130 => ?_)
                    · refine lv_bipush (v := nI 6) hx hb dX1_usable_2_137 (by decide) ?_
                      subst hQ
                      have hfin : uspC k x t = 6 := by
                        unfold uspC; rw [if_neg (show ¬ (0 < uskC k t ∧ uskC k t < 5) by omega), if_neg (show ¬ t < kMade x.2.1.2.1 by omega), if_neg (by show ¬ _ = true; rw [show x.2.2.2.any (rvdC (ptM k.2.1.2.1 x.2.1.2.1) k.2.1.2.1 40 t) = false from c46]; decide)]
                        have hlo2 : latC (ptM k.2.1.2.1 x.2.1.2.1) k.2.1.2.1 24 24 t x.2.2.2 = lo := hlo
                        rw [hlo2, hob]
                        have hby : byS b.2 (kMade x.2.1.2.1) t true = 0 := by
                          obtain ⟨v9, hv9⟩ := w_ge c106; have hv8 := hwhb v9 hv9; rw [hv9] at c116; rw [byS_v (show ¬ (0 < keN b.2 ∧ kMade x.2.1.2.1 + keN b.2 ≤ t) by omega) hv9]; exact if_neg (fun q9 => c116 ((w_and v9 hv8).mpr q9))
                        show (if 0 < byS b.2 (kMade x.2.1.2.1) t true then byS b.2 (kMade x.2.1.2.1) t true else if bckC (ptM k.2.1.2.1 x.2.1.2.1) x.2.1.2.1 b.2 t = true then 0 else 6) = 6
                        rw [hby, if_neg (by decide)]
                        exact if_neg (fun q9 => by rw [show bckC (ptM k.2.1.2.1 x.2.1.2.1) x.2.1.2.1 b.2 t = false from c130] at q9; cases q9)
                      exact ret_i C hr hlocks h (q4, G4) (⟨hq4, hT14⟩) (by rw [hfin]) rfl (by omega) (by omega) dX1_usable_2_139
                    · refine lv_iconst (v := nI 0) hx hb dX1_usable_2_133 (by decide) ?_
                      refine lv_goto (tgt := 139) hx hb dX1_usable_2_134 (by decide) ?_
                      subst hQ
                      have hfin : uspC k x t = 0 := by
                        unfold uspC; rw [if_neg (show ¬ (0 < uskC k t ∧ uskC k t < 5) by omega), if_neg (show ¬ t < kMade x.2.1.2.1 by omega), if_neg (by show ¬ _ = true; rw [show x.2.2.2.any (rvdC (ptM k.2.1.2.1 x.2.1.2.1) k.2.1.2.1 40 t) = false from c46]; decide)]
                        have hlo2 : latC (ptM k.2.1.2.1 x.2.1.2.1) k.2.1.2.1 24 24 t x.2.2.2 = lo := hlo
                        rw [hlo2, hob]
                        have hby : byS b.2 (kMade x.2.1.2.1) t true = 0 := by
                          obtain ⟨v9, hv9⟩ := w_ge c106; have hv8 := hwhb v9 hv9; rw [hv9] at c116; rw [byS_v (show ¬ (0 < keN b.2 ∧ kMade x.2.1.2.1 + keN b.2 ≤ t) by omega) hv9]; exact if_neg (fun q9 => c116 ((w_and v9 hv8).mpr q9))
                        show (if 0 < byS b.2 (kMade x.2.1.2.1) t true then byS b.2 (kMade x.2.1.2.1) t true else if bckC (ptM k.2.1.2.1 x.2.1.2.1) x.2.1.2.1 b.2 t = true then 0 else 6) = 0
                        rw [hby, if_neg (by decide)]
                        exact if_pos c130
                      exact ret_i C hr hlocks h (q4, G4) (⟨hq4, hT14⟩) (by rw [hfin]) rfl (by omega) (by omega) dX1_usable_2_139
                  · refine lv_iconst (v := nI 5) hx hb dX1_usable_2_119 (by decide) ?_
                    subst hQ
                    have hfin : uspC k x t = 5 := by
                      unfold uspC; rw [if_neg (show ¬ (0 < uskC k t ∧ uskC k t < 5) by omega), if_neg (show ¬ t < kMade x.2.1.2.1 by omega), if_neg (by show ¬ _ = true; rw [show x.2.2.2.any (rvdC (ptM k.2.1.2.1 x.2.1.2.1) k.2.1.2.1 40 t) = false from c46]; decide)]
                      have hlo2 : latC (ptM k.2.1.2.1 x.2.1.2.1) k.2.1.2.1 24 24 t x.2.2.2 = lo := hlo
                      rw [hlo2, hob]
                      have hby : byS b.2 (kMade x.2.1.2.1) t true = 5 := by
                        first
                        | (rw [byS_n (show ¬ (0 < keN b.2 ∧ kMade x.2.1.2.1 + keN b.2 ≤ t) by omega) (w_lt hwhb c106)]; rfl)
                        | (obtain ⟨v9, hv9⟩ := w_ge c106; have hv8 := hwhb v9 hv9; rw [hv9] at c116; rw [byS_v (show ¬ (0 < keN b.2 ∧ kMade x.2.1.2.1 + keN b.2 ≤ t) by omega) hv9]; exact if_pos ((w_and v9 hv8).mp c116))
                      show (if 0 < byS b.2 (kMade x.2.1.2.1) t true then byS b.2 (kMade x.2.1.2.1) t true else if bckC (ptM k.2.1.2.1 x.2.1.2.1) x.2.1.2.1 b.2 t = true then 0 else 6) = 5
                      rw [hby]; rfl
                    exact ret_i C hr hlocks h (q3, G3) (⟨hq3, hT13⟩) (by rw [hfin]) rfl (by omega) (by omega) dX1_usable_2_120
              · refine lv_iconst (v := nI 2) hx hb dX1_usable_2_99 (by decide) ?_
                subst hQ
                have hfin : uspC k x t = 2 := by
                  unfold uspC; rw [if_neg (show ¬ (0 < uskC k t ∧ uskC k t < 5) by omega), if_neg (show ¬ t < kMade x.2.1.2.1 by omega), if_neg (by show ¬ _ = true; rw [show x.2.2.2.any (rvdC (ptM k.2.1.2.1 x.2.1.2.1) k.2.1.2.1 40 t) = false from c46]; decide)]
                  have hlo2 : latC (ptM k.2.1.2.1 x.2.1.2.1) k.2.1.2.1 24 24 t x.2.2.2 = lo := hlo
                  rw [hlo2, hob]
                  have hby : byS b.2 (kMade x.2.1.2.1) t true = 2 := byS_e (by omega)
                  show (if 0 < byS b.2 (kMade x.2.1.2.1) t true then byS b.2 (kMade x.2.1.2.1) t true else if bckC (ptM k.2.1.2.1 x.2.1.2.1) x.2.1.2.1 b.2 t = true then 0 else 6) = 2
                  rw [hby]; rfl
                exact ret_i C hr hlocks h (q3, G3) (⟨hq3, hT13⟩) (by rw [hfin]) rfl (by omega) (by omega) dX1_usable_2_100
          · have hob : lo = none := by cases lo with | none => rfl | some b => cases c66
            refine lv_iconst (v := nI 4) hx hb dX1_usable_2_69 (by decide) ?_
            subst hQ
            have hfin : uspC k x t = 4 := by
              unfold uspC; rw [if_neg (show ¬ (0 < uskC k t ∧ uskC k t < 5) by omega), if_neg (show ¬ t < kMade x.2.1.2.1 by omega), if_neg (by show ¬ _ = true; rw [show x.2.2.2.any (rvdC (ptM k.2.1.2.1 x.2.1.2.1) k.2.1.2.1 40 t) = false from c46]; decide)]
              have hlo2 : latC (ptM k.2.1.2.1 x.2.1.2.1) k.2.1.2.1 24 24 t x.2.2.2 = lo := hlo
              rw [hlo2, hob]
              rfl
            exact ret_i C hr hlocks h (q3, G3) (⟨hq3, hT13⟩) (by rw [hfin]) rfl (by omega) (by omega) dX1_usable_2_70
        · refine lv_iconst (v := nI 3) hx hb dX1_usable_2_49 (by decide) ?_
          subst hQ
          have hfin : uspC k x t = 3 := by unfold uspC; rw [if_neg (show ¬ (0 < uskC k t ∧ uskC k t < 5) by omega), if_neg (show ¬ t < kMade x.2.1.2.1 by omega)]; exact if_pos c46
          exact ret_i C hr hlocks h (q2, G2) (⟨hq2, hT12⟩) (by rw [hfin]) rfl (by omega) (by omega) dX1_usable_2_50
      · refine lv_iconst (v := nI 1) hx hb dX1_usable_2_35 (by decide) ?_
        subst hQ
        have hfin : uspC k x t = 1 := by unfold uspC; rw [if_neg (show ¬ (0 < uskC k t ∧ uskC k t < 5) by omega), if_pos (show t < kMade x.2.1.2.1 by omega)]
        exact ret_i C hr hlocks h (q1, G1) (⟨hq1, hT1⟩) (by rw [hfin]) rfl (by omega) (by omega) dX1_usable_2_36
    · refine lv_iload hx hb dX1_usable_2_20 (lv_at hl 0 rfl) ?_
      subst hQ
      exact ret_i C hr hlocks h (q1, G1) (⟨hq1, hT1⟩) (by rw [show uspC k x t = uskC k t from by unfold uspC; rw [if_pos (show 0 < uskC k t ∧ uskC k t < 5 by omega)]]) rfl (by omega) (by omega) dX1_usable_2_22
