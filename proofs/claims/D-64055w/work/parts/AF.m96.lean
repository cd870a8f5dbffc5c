set_option maxRecDepth 100000

theorem bndC_ok {dA : Nat → ClassId} {e0 : Nat} {cx : CX} {G : va_W} {k : KY} {t : Nat} (hK : KyT dA e0 cx G k) {b : SL} (h : bndC k t = some b) : SealT dA cx G b ∧ sVain b.2 = false := by
  have key : ∀ (l2 : List US) (o : Option SL), (∀ b, o = some b → SealT dA cx G b ∧ sVain b.2 = false) → (∀ y ∈ l2, y ∈ k.2.2.2.1.2) → ∀ b, l2.foldl (bndF k.2.1.2.1 t) o = some b → SealT dA cx G b ∧ sVain b.2 = false := by
    intro l2
    induction l2 with
    | nil => intro o ho _ b hb; exact ho b hb
    | cons y l2 ih =>
      intro o ho hl b hb
      refine ih (bndF k.2.1.2.1 t o y) ?_ (fun z hz => hl z (List.mem_cons_of_mem _ hz)) b hb
      intro b9 h9
      cases q : latC (usM k.2.1.2.1 y.2.1) k.2.1.2.1 16 19 t y.2.2.2 with
      | none => rw [bndF_n q] at h9; exact ho b9 h9
      | some s =>
        rw [bndF_s q] at h9
        split at h9
        · rw [← Option.some.inj h9]
          exact ⟨(hK.2.2.2.1 y (hl y List.mem_cons_self) s (latC_ok q).1).1, (latC_ok q).2⟩
        · exact ho b9 h9
  exact key _ _ (fun b hb => ⟨(hK.2.2.1 b (latC_ok hb).1).1, (latC_ok hb).2⟩) (fun y hy => hy) b h
def uskC (k : KY) (t : Nat) : Nat := if t < kMade k.2.1.2.1 then 1 else if k.2.2.1.2.any (rvdC (keyMsg k.2.1.2.1) k.2.1.2.1 32 t) = true then 3 else match bndC k t with
  | none => 4
  | some b => byS b.2 (kMade k.2.1.2.1) t false
theorem w_lt {o : Option Nat} (hb : ∀ v, o = some v → v < 256) (h : oI o < nI 0) : o = none := by
  cases o with
  | none => rfl
  | some v =>
    have hv := hb v rfl
    have h : nI v < nI 0 := h
    rw [Int32.lt_iff_toInt_lt, nI_toInt (by omega), nI_toInt (by omega)] at h
    omega
theorem w_ge {o : Option Nat} (h : ¬ oI o < nI 0) : ∃ v, o = some v := by
  cases o with
  | none => exact absurd (show (-1 : Int32) < nI 0 by decide) h
  | some v => exact ⟨v, rfl⟩
theorem w_and : ∀ v, v < 256 → (nI v &&& nI 2 = nI 0 ↔ v / 2 % 2 = 0) := by decide +kernel
theorem byS_e {b : List Nat} {mk t : Nat} {mu : Bool} (h : 0 < keN b ∧ mk + keN b ≤ t) : byS b mk t mu = 2 := by unfold byS; rw [if_pos h]
theorem byS_n {b : List Nat} {mk t : Nat} {mu : Bool} (h : ¬ (0 < keN b ∧ mk + keN b ≤ t)) (hw : whatN b = none) : byS b mk t mu = if mu = true then 5 else 0 := by unfold byS; rw [if_neg h, hw]
theorem byS_v {b : List Nat} {mk t v : Nat} {mu : Bool} (h : ¬ (0 < keN b ∧ mk + keN b ≤ t)) (hw : whatN b = some v) : byS b mk t mu = if v / 2 % 2 = 0 then 5 else 0 := by unfold byS; rw [if_neg h, hw]

set_option maxHeartbeats 400000 in
set_option maxRecDepth 100000 in
theorem cQ_usableK (l : Launch) (D : va_G) (dA : Nat → ClassId) (B : Nat) (Z : State → Prop) (hZ : Stab B Z) (G : va_W) (A : Nat → Nat) (O : va_W) (sz dc rg f1 f2 : Nat) (q : QS) (cx : CX) (e0 : Nat) (k : KY) (t : Nat) (hzq : ZQ B f1 f2 Z) (hQF : QF dA A sz dc rg G) (hqo : QOk q) (hK : KyT dA e0 cx G k) (ht : t < 4294967296) :
    Ct (S := QS × va_W) l D dA B Z yX1_usable cX1_usable 5 (some .int) 12 (6 * k.2.2.1.2.length + 4 * sumL (fun u : US => u.2.2.2.length) k.2.2.2.1.2) (768 * k.2.2.1.2.length + 512 * sumL (fun u : US => u.2.2.2.length) k.2.2.2.1.2) [.ref (A 24), .ref k.1, .long (lN t)] (qW dA A O q ++ G) (fun u => QOk u.1 ∧ TR dA cx G u.2) (fun _ => some (.int (nI (uskC k t)))) (fun u => qW dA A O u.1 ++ u.2) := by
  refine Ct.mk2 (by decide) (Nat.le_of_ble_eq_true rfl) hZ ?_
  intro p e R s m args below meth c ls Q C hr hlocks hin hQ hl h
  have C0 := C
  obtain ⟨hx, hb, hml, hown, hts, -⟩ := C0
  have hl : lv_has ls 5 [(0, .ref (A 24)), (1, .ref k.1), (2, .long (lN t))] := hl
  have hN9 := hK.2.1.1
  obtain ⟨⟨hkb, hkl, hko, hks⟩, nba, nan, nae, nap, nsa, hnm, _⟩ := hN9
  have hkm := kMade_lt hkb
  refine lv_lload_n hx hb dX1_usable_0 rfl (lv_at hl 2 rfl) ?_
  refine lv_aload_n hx hb dX1_usable_1 rfl (lv_at hl 1 rfl) ?_
  refine o_get C h (RC := RX9) (T := TX9) (N := 4) (List.mem_append_right _ (KyIn.kc hK.1)) rfl in_X9 1 (by decide) q397 rfl (v := .ref k.2.1.1) rfl dX1_usable_2 ?_
  refine o_get C h (RC := RX16) (T := TX16) (N := 6) (List.mem_append_right _ hnm) rfl in_X16 1 (by decide) q1150 rfl (v := .long (lN (kMade k.2.1.2.1))) rfl dX1_usable_5 ?_
  refine n_lcmp_ge (tgt := 14) hx hb (by omega) (by omega) dX1_usable_8 dX1_usable_9 (by decide) (fun c8 => ?_) (fun c8 => ?_)
  · refine lv_aload_n hx hb dX1_usable_14 rfl (lv_at hl 0 rfl) ?_
    refine lv_aload_n hx hb dX1_usable_15 rfl (lv_at hl 1 rfl) ?_
    refine lv_aload_n hx hb dX1_usable_16 rfl (lv_at hl 1 rfl) ?_
    refine lv_bipush (v := nI 32) hx hb dX1_usable_17 (by decide) ?_
    refine lv_lload_n hx hb dX1_usable_19 rfl (lv_at hl 2 rfl) ?_
    refine call_VR (As := [.ref k.1, .ref k.1, .int (nI 32), .long (lN t)]) (rest := []) (n := 4) C h (cQ_isRevokedK l D dA B Z hZ G A O sz dc rg f1 f2 q cx k.1 k.2.2.2.1.1.1 k.2.2.2.2.1.1 k.2.1 e0 k.2.2.1.1 k.2.2.1.2 32 t hzq hQF hqo (KyIn.kc hK.1) hK.2.1.1 (hK.2.1.sl hK.1) hK.2.2.1 ht (by decide)) (lw_V q1630 q1632 qs28 q129 q1633) (by decide +kernel) (o_recv C h (RC := RX1) (T := TX1) (N := 14) (List.mem_append_right _ hQF.2.2) rfl) (by decide) (by decide) rfl hl rfl (Nat.le_of_ble_eq_true rfl) dX1_usable_20 (by omega) (fun u9 H locs hu9 h => ?_)
    obtain ⟨q1, G1⟩ := u9
    obtain ⟨hq1, hT1⟩ := hu9
    dsimp only at hq1 hT1 h
    have hK1 := hT1.ky hK
    refine z_if_eq (tgt := 28) hx hb dX1_usable_23 (by decide) (fun c23 => ?_) (fun c23 => ?_)
    · refine lv_aload_n hx hb dX1_usable_28 rfl (lv_at hl 0 rfl) ?_
      refine lv_aload_n hx hb dX1_usable_29 rfl (lv_at hl 1 rfl) ?_
      refine lv_lload_n hx hb dX1_usable_30 rfl (lv_at hl 2 rfl) ?_
      refine call_VR (As := [.ref k.1, .long (lN t)]) (rest := []) (n := 2) C h (cQ_bond l D dA B Z hZ G1 A O sz dc rg f1 f2 q1 cx e0 k t hzq (hT1.qf hQF) hq1 hK1 ht) (lw_V q1646 q1648 qs32 q129 q1649) (by decide +kernel) (o_recv C h (RC := RX1) (T := TX1) (N := 14) (List.mem_append_right _ ((hT1.qf hQF).2.2)) rfl) (by decide) (by decide) rfl hl rfl (Nat.le_of_ble_eq_true rfl) dX1_usable_31 (by omega) (fun u8 H locs hu8 h => ?_)
      obtain ⟨q2, G2⟩ := u8
      obtain ⟨hq2, hT2⟩ := hu8
      dsimp only at hq2 hT2 h
      have hT12 := hT1.trans hT2
      generalize hbo : bndC k t = bo
      have hN92 := (hT12.ky hK).2.1.1
      obtain ⟨⟨hkb2, hkl2, hko2, hks2⟩, nba2, nan2, nae2, nap2, nsa2, hnm2, _⟩ := hN92
      have hkm2 := kMade_lt hkb2
      refine q_astore (lv' := [(4, va_rf (bo.map Prod.fst)), (0, .ref (A 24)), (1, .ref k.1), (2, .long (lN t))]) hx hb dX1_usable_34 hl (by decide) rfl (fun ls hl => ?_)
      refine q_aload hx hb dX1_usable_36 (lv_at hl 0 rfl) ?_
      refine q_ifnonnull (tgt := 43) hx hb dX1_usable_38 (by decide) (fun a38 c38 => ?_) (fun c38 => ?_)
      · obtain ⟨b, hob, hb8⟩ : ∃ b, bo = some b ∧ b.1 = a38 := by cases bo with | none => cases c38 | some b => exact ⟨b, rfl, Option.some.inj c38⟩
        rw [c38, ← hb8] at hl
        have hl : lv_has ls 5 [(4, .ref b.1), (0, .ref (A 24)), (1, .ref k.1), (2, .long (lN t))] := hl
        obtain ⟨hbT, hbv⟩ := bndC_ok hK (hbo.trans hob)
        have hbS := hT12.2 b hbT
        obtain ⟨tb, ⟨hbbb, hblb, hbob, hb0b⟩, bab, snb, r1b, r2b, r3b, w1b, w2b, w3b, hceb, hbab, hsnb, hr1b, hr2b, hr3b⟩ := hbS.b
        have hv9b : sVain b.2 = false := hbv
        have hmdb : (sNote b.2).1 = some (mdN b.2) := vain_md hv9b
        have hnbb := sNote_nb hbbb
        have hm9b := hnbb.1 _ hmdb
        have he9b : enN b.2 < 4294967296 := hnbb.2.1
        have hceb : (b.1, .inr (14, [.ref bab, .int (nI (sType b.2)), .int (nI (sHash b.2)), .int (nI (sEnd b.2)), .int (nI (sLeft b.2)), .ref snb, .long (lN (mdN b.2)), .long (lN (sNote b.2).2.1), .long (lN (sNote b.2).2.2.1), va_rf r1b, va_rf r2b, .int (oI (sNote b.2).2.2.2.2.2.2.1), .int (oI (sNote b.2).2.2.2.2.2.2.2.1), va_rf r3b, .int (bZ (sVain b.2)), .int tb, .int (bZ w1b), .int (bZ w2b), .int (bZ w3b)])) ∈ G2 := by
          have h9 := hceb
          rw [hmdb] at h9
          exact h9
        have hkeb : keN b.2 < 4294967296 := hnbb.2.2.1
        have hwhb : ∀ v, whatN b.2 = some v → v < 256 := hnbb.2.2.2.2.2.2.1
        refine lv_aload hx hb dX1_usable_43 (lv_at hl 0 rfl) ?_
        refine o_get C h (RC := RX17) (T := TX17) (N := 19) (List.mem_append_right _ hceb) rfl in_X17 8 (by decide) q1321 rfl (v := .long (lN (keN b.2))) rfl dX1_usable_45 ?_
        refine lv_lconst (v := lN 0) hx hb dX1_usable_48 (by decide) ?_
        refine n_lcmp_le (tgt := 73) hx hb (by omega) (by omega) dX1_usable_49 dX1_usable_50 (by decide) (fun c49 => ?_) (fun c49 => ?_)
        · refine lv_aload hx hb dX1_usable_73 (lv_at hl 0 rfl) ?_
          refine o_get C h (RC := RX17) (T := TX17) (N := 19) (List.mem_append_right _ hceb) rfl in_X17 11 (by decide) q1327 rfl (v := .int (oI (whatN b.2))) rfl dX1_usable_75 ?_
          refine lv_if_lt (tgt := 95) hx hb dX1_usable_78 (by decide) (fun c78 => ?_) (fun c78 => ?_)
          · refine lv_iconst (v := nI 0) hx hb dX1_usable_95 (by decide) ?_
            subst hQ
            have hfin : uskC k t = 0 := by
              unfold uskC; rw [if_neg (show ¬ t < kMade k.2.1.2.1 by omega), if_neg (by rw [c23]; decide), hbo, hob]
              show byS b.2 (kMade k.2.1.2.1) t false = 0
              first
              | (rw [byS_n (show ¬ (0 < keN b.2 ∧ kMade k.2.1.2.1 + keN b.2 ≤ t) by omega) (w_lt hwhb c78)]; rfl)
              | (obtain ⟨v9, hv9⟩ := w_ge c78; have hv8 := hwhb v9 hv9; rw [hv9] at c88; have c88 := c88; rw [byS_v (show ¬ (0 < keN b.2 ∧ kMade k.2.1.2.1 + keN b.2 ≤ t) by omega) hv9]; first | exact if_pos ((w_and v9 hv8).mp c88) | exact if_neg (fun q9 => c88 ((w_and v9 hv8).mpr q9)))
            exact ret_i C hr hlocks h (q2, G2) (⟨hq2, hT12⟩) (by rw [hfin]) rfl (by omega) (by omega) dX1_usable_96
          · refine lv_aload hx hb dX1_usable_81 (lv_at hl 0 rfl) ?_
            refine o_get C h (RC := RX17) (T := TX17) (N := 19) (List.mem_append_right _ hceb) rfl in_X17 11 (by decide) q1327 rfl (v := .int (oI (whatN b.2))) rfl dX1_usable_83 ?_
            refine lv_iconst (v := nI 2) hx hb dX1_usable_86 (by decide) ?_
            refine lv_iand hx hb dX1_usable_87 ?_
            refine lv_if_ne (tgt := 95) hx hb dX1_usable_88 (by decide) (fun c88 => ?_) (fun c88 => ?_)
            · refine lv_iconst (v := nI 0) hx hb dX1_usable_95 (by decide) ?_
              subst hQ
              have hfin : uskC k t = 0 := by
                unfold uskC; rw [if_neg (show ¬ t < kMade k.2.1.2.1 by omega), if_neg (by rw [c23]; decide), hbo, hob]
                show byS b.2 (kMade k.2.1.2.1) t false = 0
                first
                | (rw [byS_n (show ¬ (0 < keN b.2 ∧ kMade k.2.1.2.1 + keN b.2 ≤ t) by omega) (w_lt hwhb c78)]; rfl)
                | (obtain ⟨v9, hv9⟩ := w_ge c78; have hv8 := hwhb v9 hv9; rw [hv9] at c88; have c88 := c88; rw [byS_v (show ¬ (0 < keN b.2 ∧ kMade k.2.1.2.1 + keN b.2 ≤ t) by omega) hv9]; first | exact if_pos ((w_and v9 hv8).mp c88) | exact if_neg (fun q9 => c88 ((w_and v9 hv8).mpr q9)))
              exact ret_i C hr hlocks h (q2, G2) (⟨hq2, hT12⟩) (by rw [hfin]) rfl (by omega) (by omega) dX1_usable_96
            · refine lv_iconst (v := nI 5) hx hb dX1_usable_91 (by decide) ?_
              refine lv_goto (tgt := 96) hx hb dX1_usable_92 (by decide) ?_
              subst hQ
              have hfin : uskC k t = 5 := by
                unfold uskC; rw [if_neg (show ¬ t < kMade k.2.1.2.1 by omega), if_neg (by rw [c23]; decide), hbo, hob]
                show byS b.2 (kMade k.2.1.2.1) t false = 5
                first
                | (rw [byS_n (show ¬ (0 < keN b.2 ∧ kMade k.2.1.2.1 + keN b.2 ≤ t) by omega) (w_lt hwhb c78)]; rfl)
                | (obtain ⟨v9, hv9⟩ := w_ge c78; have hv8 := hwhb v9 hv9; rw [hv9] at c88; have c88 := c88; rw [byS_v (show ¬ (0 < keN b.2 ∧ kMade k.2.1.2.1 + keN b.2 ≤ t) by omega) hv9]; first | exact if_pos ((w_and v9 hv8).mp c88) | exact if_neg (fun q9 => c88 ((w_and v9 hv8).mpr q9)))
              exact ret_i C hr hlocks h (q2, G2) (⟨hq2, hT12⟩) (by rw [hfin]) rfl (by omega) (by omega) dX1_usable_96
        · refine lv_aload_n hx hb dX1_usable_53 rfl (lv_at hl 2 rfl) ?_
          refine o_get C h (RC := RX9) (T := TX9) (N := 4) (List.mem_append_right _ (KyIn.kc (hT12.ky hK).1)) rfl in_X9 1 (by decide) q397 rfl (v := .ref k.2.1.1) rfl dX1_usable_54 ?_
          refine o_get C h (RC := RX16) (T := TX16) (N := 6) (List.mem_append_right _ hnm2) rfl in_X16 1 (by decide) q1150 rfl (v := .long (lN (kMade k.2.1.2.1))) rfl dX1_usable_57 ?_
          refine lv_aload hx hb dX1_usable_60 (lv_at hl 0 rfl) ?_
          refine o_get C h (RC := RX17) (T := TX17) (N := 19) (List.mem_append_right _ hceb) rfl in_X17 8 (by decide) q1321 rfl (v := .long (lN (keN b.2))) rfl dX1_usable_62 ?_
          refine lv_ladd hx hb dX1_usable_65 (n_topl (y := lN (kMade k.2.1.2.1 + keN b.2)) (lN_add (kMade k.2.1.2.1) (keN b.2)) ?_)
          refine lv_lload_n hx hb dX1_usable_66 rfl (lv_at hl 3 rfl) ?_
          refine n_lcmp_gt (tgt := 73) hx hb (by omega) (by omega) dX1_usable_67 dX1_usable_68 (by decide) (fun c67 => ?_) (fun c67 => ?_)
          · refine lv_aload hx hb dX1_usable_73 (lv_at hl 0 rfl) ?_
            refine o_get C h (RC := RX17) (T := TX17) (N := 19) (List.mem_append_right _ hceb) rfl in_X17 11 (by decide) q1327 rfl (v := .int (oI (whatN b.2))) rfl dX1_usable_75 ?_
            refine lv_if_lt (tgt := 95) hx hb dX1_usable_78 (by decide) (fun c78 => ?_) (fun c78 => ?_)
            · refine lv_iconst (v := nI 0) hx hb dX1_usable_95 (by decide) ?_
              subst hQ
              have hfin : uskC k t = 0 := by
                unfold uskC; rw [if_neg (show ¬ t < kMade k.2.1.2.1 by omega), if_neg (by rw [c23]; decide), hbo, hob]
                show byS b.2 (kMade k.2.1.2.1) t false = 0
                first
                | (rw [byS_n (show ¬ (0 < keN b.2 ∧ kMade k.2.1.2.1 + keN b.2 ≤ t) by omega) (w_lt hwhb c78)]; rfl)
                | (obtain ⟨v9, hv9⟩ := w_ge c78; have hv8 := hwhb v9 hv9; rw [hv9] at c88; have c88 := c88; rw [byS_v (show ¬ (0 < keN b.2 ∧ kMade k.2.1.2.1 + keN b.2 ≤ t) by omega) hv9]; first | exact if_pos ((w_and v9 hv8).mp c88) | exact if_neg (fun q9 => c88 ((w_and v9 hv8).mpr q9)))
              exact ret_i C hr hlocks h (q2, G2) (⟨hq2, hT12⟩) (by rw [hfin]) rfl (by omega) (by omega) dX1_usable_96
            · refine lv_aload hx hb dX1_usable_81 (lv_at hl 0 rfl) ?_
              refine o_get C h (RC := RX17) (T := TX17) (N := 19) (List.mem_append_right _ hceb) rfl in_X17 11 (by decide) q1327 rfl (v := .int (oI (whatN b.2))) rfl dX1_usable_83 ?_
              refine lv_iconst (v := nI 2) hx hb dX1_usable_86 (by decide) ?_
              refine lv_iand hx hb dX1_usable_87 ?_
              refine lv_if_ne (tgt := 95) hx hb dX1_usable_88 (by decide) (fun c88 => ?_) (fun c88 => ?_)
              · refine lv_iconst (v := nI 0) hx hb dX1_usable_95 (by decide) ?_
                subst hQ
                have hfin : uskC k t = 0 := by
                  unfold uskC; rw [if_neg (show ¬ t < kMade k.2.1.2.1 by omega), if_neg (by rw [c23]; decide), hbo, hob]
                  show byS b.2 (kMade k.2.1.2.1) t false = 0
                  first
                  | (rw [byS_n (show ¬ (0 < keN b.2 ∧ kMade k.2.1.2.1 + keN b.2 ≤ t) by omega) (w_lt hwhb c78)]; rfl)
                  | (obtain ⟨v9, hv9⟩ := w_ge c78; have hv8 := hwhb v9 hv9; rw [hv9] at c88; have c88 := c88; rw [byS_v (show ¬ (0 < keN b.2 ∧ kMade k.2.1.2.1 + keN b.2 ≤ t) by omega) hv9]; first | exact if_pos ((w_and v9 hv8).mp c88) | exact if_neg (fun q9 => c88 ((w_and v9 hv8).mpr q9)))
                exact ret_i C hr hlocks h (q2, G2) (⟨hq2, hT12⟩) (by rw [hfin]) rfl (by omega) (by omega) dX1_usable_96
              · refine lv_iconst (v := nI 5) hx hb dX1_usable_91 (by decide) ?_
                refine lv_goto (tgt := 96) hx hb dX1_usable_92 (by decide) ?_
                subst hQ
                have hfin : uskC k t = 5 := by
                  unfold uskC; rw [if_neg (show ¬ t < kMade k.2.1.2.1 by omega), if_neg (by rw [c23]; decide), hbo, hob]
                  show byS b.2 (kMade k.2.1.2.1) t false = 5
                  first
                  | (rw [byS_n (show ¬ (0 < keN b.2 ∧ kMade k.2.1.2.1 + keN b.2 ≤ t) by omega) (w_lt hwhb c78)]; rfl)
                  | (obtain ⟨v9, hv9⟩ := w_ge c78; have hv8 := hwhb v9 hv9; rw [hv9] at c88; have c88 := c88; rw [byS_v (show ¬ (0 < keN b.2 ∧ kMade k.2.1.2.1 + keN b.2 ≤ t) by omega) hv9]; first | exact if_pos ((w_and v9 hv8).mp c88) | exact if_neg (fun q9 => c88 ((w_and v9 hv8).mpr q9)))
                exact ret_i C hr hlocks h (q2, G2) (⟨hq2, hT12⟩) (by rw [hfin]) rfl (by omega) (by omega) dX1_usable_96
          · refine lv_iconst (v := nI 2) hx hb dX1_usable_71 (by decide) ?_
            subst hQ
            have hfin : uskC k t = 2 := by unfold uskC; rw [if_neg (show ¬ t < kMade k.2.1.2.1 by omega), if_neg (by rw [c23]; decide), hbo, hob]; exact byS_e (by omega)
            exact ret_i C hr hlocks h (q2, G2) (⟨hq2, hT12⟩) (by rw [hfin]) rfl (by omega) (by omega) dX1_usable_72
      · have hob : bo = none := by cases bo with | none => rfl | some b => cases c38
        refine lv_iconst (v := nI 4) hx hb dX1_usable_41 (by decide) ?_
        subst hQ
        have hfin : uskC k t = 4 := by unfold uskC; rw [if_neg (show ¬ t < kMade k.2.1.2.1 by omega), if_neg (by rw [c23]; decide), hbo, hob]
        exact ret_i C hr hlocks h (q2, G2) (⟨hq2, hT12⟩) (by rw [hfin]) rfl (by omega) (by omega) dX1_usable_42
    · refine lv_iconst (v := nI 3) hx hb dX1_usable_26 (by decide) ?_
      subst hQ
      have hfin : uskC k t = 3 := by unfold uskC; rw [if_neg (show ¬ t < kMade k.2.1.2.1 by omega), if_pos c23]
      exact ret_i C hr hlocks h (q1, G1) (⟨hq1, hT1⟩) (by rw [hfin]) rfl (by omega) (by omega) dX1_usable_27
  · refine lv_iconst (v := nI 1) hx hb dX1_usable_12 (by decide) ?_
    subst hQ
    have hfin : uskC k t = 1 := by unfold uskC; rw [if_pos (show t < kMade k.2.1.2.1 by omega)]
    exact ret_i C hr hlocks h (q, G) (⟨hqo, TR.rf⟩) (by rw [hfin]) rfl (by omega) (by omega) dX1_usable_13
