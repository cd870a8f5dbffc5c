set_option maxRecDepth 100000

theorem sumL_le {α : Type} {f : α → Nat} {l : List α} {i : Nat} : sumL f (l.take i) ≤ sumL f l := by
  have e : sumL f l = sumL f (l.take i) + sumL f (l.drop i) := by
    unfold sumL
    rw [← List.sum_append, ← List.map_append, List.take_append_drop]
  omega

set_option maxHeartbeats 400000 in
set_option maxRecDepth 100000 in
theorem cQ_bond (l : Launch) (D : va_G) (dA : Nat → ClassId) (B : Nat) (Z : State → Prop) (hZ : Stab B Z) (G : va_W) (A : Nat → Nat) (O : va_W) (sz dc rg f1 f2 : Nat) (q : QS) (cx : CX) (e0 : Nat) (k : KY) (t : Nat) (hzq : ZQ B f1 f2 Z) (hQF : QF dA A sz dc rg G) (hqo : QOk q) (hK : KyT dA e0 cx G k) (ht : t < 4294967296) :
    Ct (S := QS × va_W) l D dA B Z yX1_bond cX1_bond 8 (some ((.object "SignetRing$Seal"))) 11 (2 * k.2.2.1.2.length + 4 * sumL (fun u : US => u.2.2.2.length) k.2.2.2.1.2) (256 * k.2.2.1.2.length + 512 * sumL (fun u : US => u.2.2.2.length) k.2.2.2.1.2) [.ref (A 24), .ref k.1, .long (lN t)] (qW dA A O q ++ G) (fun u => QOk u.1 ∧ TR dA cx G u.2) (fun _ => some (va_rf ((bndC k t).map Prod.fst))) (fun u => qW dA A O u.1 ++ u.2) := by
  refine Ct.mk2 (by decide) (Nat.le_of_ble_eq_true rfl) hZ ?_
  intro p e R s m args below meth c ls Q C hr hlocks hin hQ hl h
  have C0 := C
  obtain ⟨hx, hb, hml, hown, hts, -⟩ := C0
  have hl : lv_has ls 8 [(0, .ref (A 24)), (1, .ref k.1), (2, .long (lN t))] := hl
  refine lv_aload_n hx hb dX1_bond_0 rfl (lv_at hl 0 rfl) ?_
  refine lv_aload_n hx hb dX1_bond_1 rfl (lv_at hl 1 rfl) ?_
  refine lv_aload_n hx hb dX1_bond_2 rfl (lv_at hl 1 rfl) ?_
  refine lv_bipush (v := nI 31) hx hb dX1_bond_3 (by decide) ?_
  refine lv_bipush (v := nI 31) hx hb dX1_bond_5 (by decide) ?_
  refine lv_lload_n hx hb dX1_bond_7 rfl (lv_at hl 2 rfl) ?_
  refine call_VR (As := [.ref k.1, .ref k.1, .int (nI 31), .int (nI 31), .long (lN t)]) (rest := []) (n := 5) C h (cQ_latestK l D dA B Z hZ G A O sz dc rg f1 f2 q cx k.1 k.2.2.2.1.1.1 k.2.2.2.2.1.1 k.2.1 e0 k.2.2.1.1 k.2.2.1.2 31 31 t hzq hQF hqo (KyIn.kc hK.1) hK.2.1.1 (hK.2.1.sl hK.1) hK.2.2.1 ht (by decide) (by decide)) (lw_V q1650 q1652 qs33 q129 q1653) (by decide +kernel) (o_recv C h (RC := RX1) (T := TX1) (N := 14) (List.mem_append_right _ hQF.2.2) rfl) (by decide) (by decide) rfl hl rfl (Nat.le_of_ble_eq_true rfl) dX1_bond_8 (by omega) (fun u9 H locs hu9 h => ?_)
  obtain ⟨q0, G0⟩ := u9
  obtain ⟨hq0, hT0⟩ := hu9
  dsimp only at hq0 hT0 h
  obtain ⟨o0, ho0⟩ : ∃ z, z = latC (keyMsg k.2.1.2.1) k.2.1.2.1 31 31 t k.2.2.1.2 := ⟨_, rfl⟩
  rw [← ho0]
  refine q_astore (lv' := [(4, va_rf (o0.map Prod.fst)), (0, .ref (A 24)), (1, .ref k.1), (2, .long (lN t))]) hx hb dX1_bond_11 hl (by decide) rfl (fun ls hl => ?_)
  refine lv_iconst (v := nI 0) hx hb dX1_bond_13 (by decide) ?_
  refine lv_istore (lv' := [(5, .int (nI 0)), (4, va_rf (o0.map Prod.fst)), (0, .ref (A 24)), (1, .ref k.1), (2, .long (lN t))]) hx hb dX1_bond_14 hl (by decide) (by generalize (o0.map Prod.fst) = z9; cases z9 <;> rfl) (fun ls hl => ?_)
  have loop : ∀ (nn : Nat) (i : Nat) (o : Option SL) (q1 : QS) (G1 : va_W) (cc cs : Nat), (i ≤ k.2.2.2.1.2.length) → ((k.2.2.2.1.2.take i).foldl (bndF k.2.1.2.1 t) o0 = o) → (∀ b, o = some b → SealT dA cx G b ∧ sVain b.2 = false) → (QOk q1) → (TR dA cx G G1) → (cc ≤ 2 * k.2.2.1.2.length + 4 * sumL (fun u : US => u.2.2.2.length) (k.2.2.2.1.2.take i)) → (cs ≤ 256 * k.2.2.1.2.length + 512 * sumL (fun u : US => u.2.2.2.length) (k.2.2.2.1.2.take i)) → k.2.2.2.1.2.length - i < nn → ∀ (H : Heap) (locs : List Loc), Wd D B s ((qW dA A O q1 ++ G1)) H locs → ∀ (ls : Array Slot), lv_has ls 8 [(0, .ref (A 24)), (1, .ref k.1), (2, .long (lN t)), (4, va_rf (o.map Prod.fst)), (5, .int (nI i))] → W p l e R s m args below meth c H locs cc cs Q (F0 m 16 ls []) := by
    intro nn
    induction nn with
    | zero => intro i  o  q1  G1  cc cs  hi0 hi1 hi2 hq1 hT1 hcc hcs hme; exact absurd hme (Nat.not_lt_zero _)
    | succ nn ih =>
      intro i  o  q1  G1  cc cs  hi0 hi1 hi2 hq1 hT1 hcc hcs hme H locs h ls hl
      have hK1 := hT1.ky hK
      have hul : LIn dA e0 (qW dA A O q1 ++ G1) k.2.2.2.1.1 (k.2.2.2.1.2.map Prod.fst) := (hK1.2.1.ul hK1.1).sub (fun z hz => List.mem_append_right _ ((hK1.2.1.ul hK1.1).1 z hz))
      obtain ⟨ed1, hcl1⟩ := hul.cell
      have hln1 := hul.len
      rw [List.length_map] at hln1
      have hsm9 : sumL (fun u : US => u.2.2.2.length) (k.2.2.2.1.2.take i) ≤ sumL (fun u : US => u.2.2.2.length) k.2.2.2.1.2 := sumL_le
      refine lv_iload hx hb dX1_bond_16 (lv_at hl 4 rfl) ?_
      refine lv_aload_n hx hb dX1_bond_18 rfl (lv_at hl 1 rfl) ?_
      refine o_get C h (RC := RX9) (T := TX9) (N := 4) (List.mem_append_right _ (KyIn.kc (hT1.ky hK).1)) rfl in_X9 2 (by decide) q399 rfl (v := .ref k.2.2.2.1.1.1) rfl dX1_bond_19 ?_
      refine call_VR (As := []) (rest := [.int (nI i)]) (n := 0) C h (cA_size l D dA B Z hZ _ e0 k.2.2.2.1.1 _ hul) (lw_V q360 q361 q362 q133 q363) (by decide +kernel) (o_recv C h (RC := RJ2) (T := TJ2) (N := 3) (hcl1) rfl) (by decide) (by decide) rfl hl rfl (Nat.le_of_ble_eq_true rfl) dX1_bond_22 (by omega) (fun _ H locs _ h => ?_)
      refine n_top (y := nI k.2.2.2.1.2.length) (by rw [List.length_map]) ?_
      refine n_icmp_ge (tgt := 103) hx hb (by omega) (by omega) dX1_bond_25 (by decide) (fun c25 => ?_) (fun c25 => ?_)
      · refine q_aload hx hb dX1_bond_103 (lv_at hl 3 rfl) ?_
        subst hQ
        rw [List.take_of_length_le (show k.2.2.2.1.2.length ≤ i by omega)] at hi1
        have hsm2 : sumL (fun u : US => u.2.2.2.length) (k.2.2.2.1.2.take i) ≤ sumL (fun u : US => u.2.2.2.length) k.2.2.2.1.2 := sumL_le
        exact ret_a C hr (Or.inl ⟨_, rfl⟩) hlocks h (q1, G1) (⟨hq1, hT1⟩) (va_rf_or _) (by unfold bndC; rw [← ho0, hi1]) rfl (by omega) (by omega) dX1_bond_105
      · refine lv_aload_n hx hb dX1_bond_28 rfl (lv_at hl 1 rfl) ?_
        refine o_get C h (RC := RX9) (T := TX9) (N := 4) (List.mem_append_right _ (KyIn.kc (hT1.ky hK).1)) rfl in_X9 2 (by decide) q399 rfl (v := .ref k.2.2.2.1.1.1) rfl dX1_bond_29 ?_
        refine lv_iload hx hb dX1_bond_32 (lv_at hl 4 rfl) ?_
        obtain ⟨u, hy⟩ := at_lt (l := k.2.2.2.1.2) (i := i) (by omega)
        have hym := List.mem_of_getElem? hy
        obtain ⟨hyU, _⟩ := hK1.2.1.2.2.2.2.1 u hym
        have hyU0 := hyU
        obtain ⟨_, uba, hcu, _⟩ := hyU0
        have hyA := hK1.2.1.us hK1.1 hym
        have hyT := hK1.2.2.2.1 u hym
        have hsm0 := sumL_step (f := fun u : US => u.2.2.2.length) hy
        have hsm2 : sumL (fun u : US => u.2.2.2.length) (k.2.2.2.1.2.take (i + 1)) ≤ sumL (fun u : US => u.2.2.2.length) k.2.2.2.1.2 := sumL_le
        try dsimp only at hsm0
        refine call_VR (As := [.int (nI i)]) (rest := []) (n := 1) C h (cA_get l D dA B Z hZ _ e0 k.2.2.2.1.1 _ i u.1 hul (at_map hy)) (lw_V q364 q365 q366 q133 q367) (by decide +kernel) (o_recv C h (RC := RJ2) (T := TJ2) (N := 3) (hcl1) rfl) (by decide) (by decide) rfl hl rfl (Nat.le_of_ble_eq_true rfl) dX1_bond_34 (by omega) (fun _ H locs _ h => ?_)
        refine o_cast C h (RC := RX10) (T := TX10) (N := 2) (List.mem_append_right _ hcu) rfl q1289 dX1_bond_37 ?_
        refine lv_astore (lv' := [(6, .ref u.1), (0, .ref (A 24)), (1, .ref k.1), (2, .long (lN t)), (4, va_rf (o.map Prod.fst)), (5, .int (nI i))]) hx hb dX1_bond_40 hl (by decide) rfl (fun ls hl => ?_)
        refine lv_aload_n hx hb dX1_bond_42 rfl (lv_at hl 1 rfl) ?_
        refine lv_aload_n hx hb dX1_bond_43 rfl (lv_at hl 2 rfl) ?_
        refine lv_aload hx hb dX1_bond_44 (lv_at hl 0 rfl) ?_
        refine lv_bipush (v := nI 16) hx hb dX1_bond_46 (by decide) ?_
        refine lv_bipush (v := nI 19) hx hb dX1_bond_48 (by decide) ?_
        refine lv_lload_n hx hb dX1_bond_50 rfl (lv_at hl 3 rfl) ?_
        refine call_VR (As := [.ref k.1, .ref u.1, .int (nI 16), .int (nI 19), .long (lN t)]) (rest := []) (n := 5) C h (cQ_latestU l D dA B Z hZ G1 A O sz dc rg f1 f2 q1 cx k.1 k.2.2.1.1.1 k.2.2.2.1.1.1 k.2.2.2.2.1.1 k.2.1 u.1 u.2.1 e0 u.2.2.1 u.2.2.2 16 19 t hzq (hT1.qf hQF) hq1 (KyIn.kc hK1.1) hK1.2.1.1 hyU hyA hyT ht (by decide) (by decide)) (lw_V q1650 q1652 qs33 q129 q1653) (by decide +kernel) (o_recv C h (RC := RX1) (T := TX1) (N := 14) (List.mem_append_right _ (hT1.qf hQF).2.2) rfl) (by decide) (by decide) rfl hl rfl (Nat.le_of_ble_eq_true rfl) dX1_bond_51 (by omega) (fun u9 H locs hu9 h => ?_)
        obtain ⟨q2, G2⟩ := u9
        obtain ⟨hq2, hT2⟩ := hu9
        dsimp only at hq2 hT2 h
        have hT12 := hT1.trans hT2
        generalize hso : latC (keyMsg k.2.1.2.1 ++ ([180] ++ be 4 u.2.1.length ++ u.2.1)) k.2.1.2.1 16 19 t u.2.2.2 = so
        refine q_astore (lv' := [(7, va_rf (so.map Prod.fst)), (6, .ref u.1), (0, .ref (A 24)), (1, .ref k.1), (2, .long (lN t)), (4, va_rf (o.map Prod.fst)), (5, .int (nI i))]) hx hb dX1_bond_54 hl (by decide) rfl (fun ls hl => ?_)
        refine q_aload hx hb dX1_bond_56 (lv_at hl 0 rfl) ?_
        refine q_ifnull (tgt := 97) hx hb dX1_bond_58 (by decide) (fun c58 => ?_) (fun a58 c58 => ?_)
        · have hson : latC (usM k.2.1.2.1 u.2.1) k.2.1.2.1 16 19 t u.2.2.2 = none := by
            refine hso.trans ?_
            cases so with | none => rfl | some b => cases c58
          refine lv_iinc (v := nI (i + 1)) (lv' := [(5, .int (nI (i + 1))), (7, va_rf (so.map Prod.fst)), (6, .ref u.1), (0, .ref (A 24)), (1, .ref k.1), (2, .long (lN t)), (4, va_rf (o.map Prod.fst))]) hx hb dX1_bond_97 hl (k := 6) rfl (nI_add i 1) (by decide) (by generalize (o.map Prod.fst) = z9; cases z9 <;> rfl) (fun ls hl => ?_)
          refine lv_goto (tgt := 16) hx hb dX1_bond_100 (by decide) ?_
          have hstep : bndF k.2.1.2.1 t o u = o := bndF_n hson
          have hsm := sumL_step (f := fun u : US => u.2.2.2.length) hy
          exact ih (i + 1) o q2 G2 _ _ (by omega) (by rw [fold_step hy, hi1, hstep]) hi2 hq2 hT12 (by omega) (by omega) (by omega) _ _ h _ (lv_sub hl [3, 4, 5, 6, 0] rfl)
        · obtain ⟨sv, hsvo, hs8⟩ : ∃ b, so = some b ∧ b.1 = a58 := by cases so with | none => cases c58 | some b => exact ⟨b, rfl, Option.some.inj c58⟩
          have hsos : latC (usM k.2.1.2.1 u.2.1) k.2.1.2.1 16 19 t u.2.2.2 = some sv := hso.trans hsvo
          obtain ⟨hsm1, hsv⟩ := latC_ok hsos
          rw [c58, ← hs8] at hl
          have hl : lv_has ls 8 [(7, .ref sv.1), (6, .ref u.1), (0, .ref (A 24)), (1, .ref k.1), (2, .long (lN t)), (4, va_rf (o.map Prod.fst)), (5, .int (nI i))] := hl
          have hsS := hT12.2 sv (hK.2.2.2.1 u hym sv hsm1).1
          obtain ⟨tv, ⟨hbbv, hblv, hbov, hb0v⟩, bav, snv, r1v, r2v, r3v, w1v, w2v, w3v, hcev, hbav, hsnv, hr1v, hr2v, hr3v⟩ := hsS.b
          have hv9v : sVain sv.2 = false := hsv
          have hmdv : (sNote sv.2).1 = some (mdN sv.2) := vain_md hv9v
          have hnbv := sNote_nb hbbv
          have hm9v := hnbv.1 _ hmdv
          have he9v : enN sv.2 < 4294967296 := hnbv.2.1
          have hcev : (sv.1, .inr (14, [.ref bav, .int (nI (sType sv.2)), .int (nI (sHash sv.2)), .int (nI (sEnd sv.2)), .int (nI (sLeft sv.2)), .ref snv, .long (lN (mdN sv.2)), .long (lN (sNote sv.2).2.1), .long (lN (sNote sv.2).2.2.1), va_rf r1v, va_rf r2v, .int (oI (sNote sv.2).2.2.2.2.2.2.1), .int (oI (sNote sv.2).2.2.2.2.2.2.2.1), va_rf r3v, .int (bZ (sVain sv.2)), .int tv, .int (bZ w1v), .int (bZ w2v), .int (bZ w3v)])) ∈ G2 := by
            have h9 := hcev
            rw [hmdv] at h9
            exact h9
          refine q_aload hx hb dX1_bond_61 (lv_at hl 5 rfl) ?_
          refine q_ifnull (tgt := 80) hx hb dX1_bond_63 (by decide) (fun c63 => ?_) (fun a63 c63 => ?_)
          · have hob : o = none := by cases o with | none => rfl | some b => cases c63
            rw [c63] at hl
            have hl : lv_has ls 8 [(7, .ref sv.1), (6, .ref u.1), (0, .ref (A 24)), (1, .ref k.1), (2, .long (lN t)), (4, va_rf ((none : Option SL).map Prod.fst)), (5, .int (nI i))] := hl
            refine lv_aload_n hx hb dX1_bond_80 rfl (lv_at hl 2 rfl) ?_
            refine lv_aload_n hx hb dX1_bond_81 rfl (lv_at hl 3 rfl) ?_
            refine lv_aload hx hb dX1_bond_82 (lv_at hl 1 rfl) ?_
            refine lv_aload hx hb dX1_bond_84 (lv_at hl 0 rfl) ?_
            refine lv_lload_n hx hb dX1_bond_86 rfl (lv_at hl 4 rfl) ?_
            have hK2 := hT12.ky hK
            obtain ⟨hyU2, _⟩ := hK2.2.1.2.2.2.2.1 u hym
            refine call_VR (As := [.ref k.1, .ref u.1, .ref sv.1, .long (lN t)]) (rest := []) (n := 4) C h (cQ_isDropped l D dA B Z hZ G2 A O sz dc rg f1 f2 q2 cx k.1 k.2.2.1.1.1 k.2.2.2.1.1.1 k.2.2.2.2.1.1 k.2.1 u.1 u.2.1 e0 u.2.2.1 u.2.2.2 sv t hzq (hT12.qf hQF) hq2 (KyIn.kc hK2.1) hK2.2.1.1 hyU2 (hK2.2.1.us hK2.1 hym) (hK2.2.2.2.1 u hym) ht hsm1 hsv) (lw_V q1654 q1656 qs34 q129 q1657) (by decide +kernel) (o_recv C h (RC := RX1) (T := TX1) (N := 14) (List.mem_append_right _ (hT12.qf hQF).2.2) rfl) (by decide) (by decide) rfl hl rfl (Nat.le_of_ble_eq_true rfl) dX1_bond_87 (by omega) (fun u8 H locs hu8 h => ?_)
            obtain ⟨q3, G3⟩ := u8
            obtain ⟨hq3, hT3⟩ := hu8
            dsimp only at hq3 hT3 h
            have hT13 := hT12.trans hT3
            refine z_if_ne (tgt := 97) hx hb dX1_bond_90 (by decide) (fun c90 => ?_) (fun c90 => ?_)
            · refine lv_iinc (v := nI (i + 1)) (lv' := [(5, .int (nI (i + 1))), (7, .ref sv.1), (6, .ref u.1), (0, .ref (A 24)), (1, .ref k.1), (2, .long (lN t)), (4, va_rf ((none : Option SL).map Prod.fst))]) hx hb dX1_bond_97 hl (k := 6) rfl (nI_add i 1) (by decide) (by generalize ((none : Option SL).map Prod.fst) = z9; cases z9 <;> rfl) (fun ls hl => ?_)
              refine lv_goto (tgt := 16) hx hb dX1_bond_100 (by decide) ?_
              rw [hob] at hi1
              have hstep : bndF k.2.1.2.1 t none u = none := by
                rw [bndF_s hsos]; exact if_neg (fun z9 => by
                  obtain ⟨z1, z2⟩ := z9
                  first | exact absurd (c90.symm.trans z2) (by decide) | (rcases z1 with z1 | z1; cases z1; have z5 : mdN b.2 < mdN sv.2 := z1; omega))
              have hsm := sumL_step (f := fun u : US => u.2.2.2.length) hy
              exact ih (i + 1) none q3 G3 _ _ (by omega) (by rw [fold_step hy, hi1, hstep]) (fun b9 h9 => by cases h9) hq3 hT13 (by omega) (by omega) (by omega) _ _ h _ (lv_sub hl [3, 4, 5, 6, 0] rfl)
            · refine lv_aload hx hb dX1_bond_93 (lv_at hl 0 rfl) ?_
              refine lv_astore (lv' := [(4, .ref sv.1), (7, .ref sv.1), (6, .ref u.1), (0, .ref (A 24)), (1, .ref k.1), (2, .long (lN t)), (5, .int (nI i))]) hx hb dX1_bond_95 hl (by decide) rfl (fun ls hl => ?_)
              refine lv_iinc (v := nI (i + 1)) (lv' := [(5, .int (nI (i + 1))), (4, .ref sv.1), (7, .ref sv.1), (6, .ref u.1), (0, .ref (A 24)), (1, .ref k.1), (2, .long (lN t))]) hx hb dX1_bond_97 hl (k := 6) rfl (nI_add i 1) (by decide) rfl (fun ls hl => ?_)
              refine lv_goto (tgt := 16) hx hb dX1_bond_100 (by decide) ?_
              rw [hob] at hi1
              have hstep : bndF k.2.1.2.1 t none u = (some sv) := by
                rw [bndF_s hsos]; exact if_pos ⟨Or.inl rfl, c90⟩
              have hsm := sumL_step (f := fun u : US => u.2.2.2.length) hy
              exact ih (i + 1) (some sv) q3 G3 _ _ (by omega) (by rw [fold_step hy, hi1, hstep]) (fun b9 h9 => by rw [← Option.some.inj h9]; exact ⟨(hK.2.2.2.1 u hym sv hsm1).1, hsv⟩) hq3 hT13 (by omega) (by omega) (by omega) _ _ h _ (lv_sub hl [4, 5, 6, 1, 0] rfl)
          · obtain ⟨b, hob, hb8⟩ : ∃ b, o = some b ∧ b.1 = a63 := by cases o with | none => cases c63 | some b => exact ⟨b, rfl, Option.some.inj c63⟩
            rw [c63, ← hb8] at hl
            have hl : lv_has ls 8 [(7, .ref sv.1), (6, .ref u.1), (0, .ref (A 24)), (1, .ref k.1), (2, .long (lN t)), (4, .ref b.1), (5, .int (nI i))] := hl
            obtain ⟨hbT, hbv⟩ := hi2 b hob
            have hbS := hT12.2 b hbT
            obtain ⟨tb, ⟨hbbb, hblb, hbob, hb0b⟩, bab, snb, r1b, r2b, r3b, w1b, w2b, w3b, hceb, hbab, hsnb, hr1b, hr2b, hr3b⟩ := hbS.b
            have hv9b : sVain b.2 = false := hbv
            have hmdb : (sNote b.2).1 = some (mdN b.2) := vain_md hv9b
            have hnbb := sNote_nb hbbb
            have hm9b := hnbb.1 _ hmdb
            have he9b : enN b.2 < 4294967296 := hnbb.2.1
            have hceb : (b.1, .inr (14, [.ref bab, .int (nI (sType b.2)), .int (nI (sHash b.2)), .int (nI (sEnd b.2)), .int (nI (sLeft b.2)), .ref snb, .long (lN (mdN b.2)), .long (lN (sNote b.2).2.1), .long (lN (sNote b.2).2.2.1), va_rf r1b, va_rf r2b, .int (oI (sNote b.2).2.2.2.2.2.2.1), .int (oI (sNote b.2).2.2.2.2.2.2.2.1), va_rf r3b, .int (bZ (sVain b.2)), .int tb, .int (bZ w1b), .int (bZ w2b), .int (bZ w3b)])) ∈ G2 := by
              have h9 := hceb
              rw [hmdb] at h9
              exact h9
            refine lv_aload hx hb dX1_bond_66 (lv_at hl 0 rfl) ?_
            refine o_get C h (RC := RX17) (T := TX17) (N := 19) (List.mem_append_right _ hcev) rfl in_X17 6 (by decide) q1318 rfl (v := .long (lN (mdN sv.2))) rfl dX1_bond_68 ?_
            refine lv_aload hx hb dX1_bond_71 (lv_at hl 5 rfl) ?_
            refine o_get C h (RC := RX17) (T := TX17) (N := 19) (List.mem_append_right _ hceb) rfl in_X17 6 (by decide) q1318 rfl (v := .long (lN (mdN b.2))) rfl dX1_bond_73 ?_
            refine n_lcmp_le (tgt := 97) hx hb (by omega) (by omega) dX1_bond_76 dX1_bond_77 (by decide) (fun c76 => ?_) (fun c76 => ?_)
            · refine lv_iinc (v := nI (i + 1)) (lv' := [(5, .int (nI (i + 1))), (7, .ref sv.1), (6, .ref u.1), (0, .ref (A 24)), (1, .ref k.1), (2, .long (lN t)), (4, .ref b.1)]) hx hb dX1_bond_97 hl (k := 6) rfl (nI_add i 1) (by decide) rfl (fun ls hl => ?_)
              refine lv_goto (tgt := 16) hx hb dX1_bond_100 (by decide) ?_
              rw [hob] at hi1
              have hstep : bndF k.2.1.2.1 t (some b) u = (some b) := by
                rw [bndF_s hsos]; exact if_neg (fun z9 => by
                  obtain ⟨z1, z2⟩ := z9
                  first | exact absurd (c90.symm.trans z2) (by decide) | (rcases z1 with z1 | z1; cases z1; have z5 : mdN b.2 < mdN sv.2 := z1; omega))
              have hsm := sumL_step (f := fun u : US => u.2.2.2.length) hy
              exact ih (i + 1) (some b) q2 G2 _ _ (by omega) (by rw [fold_step hy, hi1, hstep]) (fun b9 h9 => hi2 b9 (by rw [hob]; exact h9)) hq2 hT12 (by omega) (by omega) (by omega) _ _ h _ (lv_sub hl [3, 4, 5, 6, 0] rfl)
            · refine lv_aload_n hx hb dX1_bond_80 rfl (lv_at hl 2 rfl) ?_
              refine lv_aload_n hx hb dX1_bond_81 rfl (lv_at hl 3 rfl) ?_
              refine lv_aload hx hb dX1_bond_82 (lv_at hl 1 rfl) ?_
              refine lv_aload hx hb dX1_bond_84 (lv_at hl 0 rfl) ?_
              refine lv_lload_n hx hb dX1_bond_86 rfl (lv_at hl 4 rfl) ?_
              have hK2 := hT12.ky hK
              obtain ⟨hyU2, _⟩ := hK2.2.1.2.2.2.2.1 u hym
              refine call_VR (As := [.ref k.1, .ref u.1, .ref sv.1, .long (lN t)]) (rest := []) (n := 4) C h (cQ_isDropped l D dA B Z hZ G2 A O sz dc rg f1 f2 q2 cx k.1 k.2.2.1.1.1 k.2.2.2.1.1.1 k.2.2.2.2.1.1 k.2.1 u.1 u.2.1 e0 u.2.2.1 u.2.2.2 sv t hzq (hT12.qf hQF) hq2 (KyIn.kc hK2.1) hK2.2.1.1 hyU2 (hK2.2.1.us hK2.1 hym) (hK2.2.2.2.1 u hym) ht hsm1 hsv) (lw_V q1654 q1656 qs34 q129 q1657) (by decide +kernel) (o_recv C h (RC := RX1) (T := TX1) (N := 14) (List.mem_append_right _ (hT12.qf hQF).2.2) rfl) (by decide) (by decide) rfl hl rfl (Nat.le_of_ble_eq_true rfl) dX1_bond_87 (by omega) (fun u8 H locs hu8 h => ?_)
              obtain ⟨q3, G3⟩ := u8
              obtain ⟨hq3, hT3⟩ := hu8
              dsimp only at hq3 hT3 h
              have hT13 := hT12.trans hT3
              refine z_if_ne (tgt := 97) hx hb dX1_bond_90 (by decide) (fun c90 => ?_) (fun c90 => ?_)
              · refine lv_iinc (v := nI (i + 1)) (lv' := [(5, .int (nI (i + 1))), (7, .ref sv.1), (6, .ref u.1), (0, .ref (A 24)), (1, .ref k.1), (2, .long (lN t)), (4, .ref b.1)]) hx hb dX1_bond_97 hl (k := 6) rfl (nI_add i 1) (by decide) rfl (fun ls hl => ?_)
                refine lv_goto (tgt := 16) hx hb dX1_bond_100 (by decide) ?_
                rw [hob] at hi1
                have hstep : bndF k.2.1.2.1 t (some b) u = (some b) := by
                  rw [bndF_s hsos]; exact if_neg (fun z9 => by
                    obtain ⟨z1, z2⟩ := z9
                    first | exact absurd (c90.symm.trans z2) (by decide) | (rcases z1 with z1 | z1; cases z1; have z5 : mdN b.2 < mdN sv.2 := z1; omega))
                have hsm := sumL_step (f := fun u : US => u.2.2.2.length) hy
                exact ih (i + 1) (some b) q3 G3 _ _ (by omega) (by rw [fold_step hy, hi1, hstep]) (fun b9 h9 => hi2 b9 (by rw [hob]; exact h9)) hq3 hT13 (by omega) (by omega) (by omega) _ _ h _ (lv_sub hl [3, 4, 5, 6, 0] rfl)
              · refine lv_aload hx hb dX1_bond_93 (lv_at hl 0 rfl) ?_
                refine lv_astore (lv' := [(4, .ref sv.1), (7, .ref sv.1), (6, .ref u.1), (0, .ref (A 24)), (1, .ref k.1), (2, .long (lN t)), (5, .int (nI i))]) hx hb dX1_bond_95 hl (by decide) rfl (fun ls hl => ?_)
                refine lv_iinc (v := nI (i + 1)) (lv' := [(5, .int (nI (i + 1))), (4, .ref sv.1), (7, .ref sv.1), (6, .ref u.1), (0, .ref (A 24)), (1, .ref k.1), (2, .long (lN t))]) hx hb dX1_bond_97 hl (k := 6) rfl (nI_add i 1) (by decide) rfl (fun ls hl => ?_)
                refine lv_goto (tgt := 16) hx hb dX1_bond_100 (by decide) ?_
                rw [hob] at hi1
                have hstep : bndF k.2.1.2.1 t (some b) u = (some sv) := by
                  rw [bndF_s hsos]; exact if_pos ⟨Or.inr (by show mdN b.2 < mdN sv.2; omega), c90⟩
                have hsm := sumL_step (f := fun u : US => u.2.2.2.length) hy
                exact ih (i + 1) (some sv) q3 G3 _ _ (by omega) (by rw [fold_step hy, hi1, hstep]) (fun b9 h9 => by rw [← Option.some.inj h9]; exact ⟨(hK.2.2.2.1 u hym sv hsm1).1, hsv⟩) hq3 hT13 (by omega) (by omega) (by omega) _ _ h _ (lv_sub hl [4, 5, 6, 1, 0] rfl)
  exact loop _ 0 o0 q0 G0 _ _ (by omega) rfl (fun b hb => by rw [ho0] at hb; exact ⟨(hK.2.2.1 b (latC_ok hb).1).1, (latC_ok hb).2⟩) hq0 hT0 (by omega) (by omega) (Nat.lt_succ_self _) _ _ h _ (lv_sub hl [2, 3, 4, 1, 0] rfl)
