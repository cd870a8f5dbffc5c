set_option maxRecDepth 100000

theorem neg_lt32 {a b k : Nat} (h : a < b) (hb : b < 1000000) (hk : k < 1000000) : ¬ nI k ≤ nI a - nI b := by
  have e1 : (nI a - nI b).toInt = (a : Int) - b := by
    rw [Int32.toInt_sub, nI_toInt (by omega), nI_toInt (by omega)]
    exact Int.bmod_eq_of_le (by omega) (by omega)
  rw [Int32.le_iff_toInt_le, e1, nI_toInt (by omega)]
  omega


theorem mem9 {dA : Nat → ClassId} {q p9 ci : Nat} {fs : List Value} {A B2 E2 : va_W} {b : List Nat} (h : (q, bal dA b) ∈ ([(p9, .inr (ci, fs))] ++ (A ++ B2)) ++ E2) : (q, bal dA b) ∈ A ++ (B2 ++ E2) := by
  rcases List.mem_append.mp h with h | h
  · rcases List.mem_append.mp h with h | h
    · have h := List.mem_singleton.mp h
      have h2 := congrArg Prod.snd h
      cases h2
    · rcases List.mem_append.mp h with h | h
      · exact List.mem_append_left _ h
      · exact List.mem_append_right _ (List.mem_append_left _ h)
  · exact List.mem_append_right _ (List.mem_append_right _ h)
theorem mem8 {x y : Nat × va_E} {A E E1 : va_W} (h : x ∈ A ++ E) : x ∈ [y] ++ (A ++ (E ++ E1)) := by
  rcases List.mem_append.mp h with h | h
  · exact List.mem_append_right _ (List.mem_append_left _ h)
  · exact List.mem_append_right _ (List.mem_append_right _ (List.mem_append_left _ h))

set_option maxHeartbeats 400000 in
set_option maxRecDepth 100000 in
theorem c17_readNotes (l : Launch) (D : va_G) (dA : Nat → ClassId) (B : Nat) (Z : State → Prop) (hZ : Stab B Z) (F P : va_W) (se ba p9 : Nat) (ty ha sE le : Int32) (s9 : Option Nat) (tr : Int32) (lb : List Nat) (x0 : NS × OU) (q1 q2 q3 : Option Nat) (sd : Bool) (hba : (ba, bal dA lb) ∈ F) (hob : byt lb) (hol : lb.length ≤ 5000) (hR0 : RNb dA P x0.1 q1 q2 q3) (hu0 : x0.2.1 ≤ lb.length) :
    Ct (S := NS × OU × Option Nat × Option Nat × Option Nat × va_W) l D dA B Z yX17_readNotes cX17_readNotes 8 (some .boolean) 6 (((notesR lb sd x0).1.2.1 - x0.2.1) / 2) (2 * (lb.length - x0.2.1)) [.ref se, .ref p9, .int (bZ sd)] ([(p9, .inr (12, [.ref ba, .int (nI x0.2.1), .int (bZ x0.2.2)])), (se, .inr (14, [.ref ba, .int ty, .int ha, .int sE, .int le, va_rf s9, .long (oL x0.1.1), .long (lN x0.1.2.1), .long (lN x0.1.2.2.1), va_rf q1, va_rf q2, .int (oI x0.1.2.2.2.2.2.2.1), .int (oI x0.1.2.2.2.2.2.2.2.1), va_rf q3, .int (bZ x0.1.2.2.2.2.2.2.2.2.1), .int tr, .int (bZ (x0.1.2.2.2.2.2.2.2.2.2 0)), .int (bZ (x0.1.2.2.2.2.2.2.2.2.2 1)), .int (bZ (x0.1.2.2.2.2.2.2.2.2.2 2))]))] ++ F) (fun u => (notesR lb sd x0).2 = true → u.1 = (notesR lb sd x0).1.1 ∧ u.2.1 = (notesR lb sd x0).1.2 ∧ RNb dA (P ++ u.2.2.2.2.2) u.1 u.2.2.1 u.2.2.2.1 u.2.2.2.2.1) (fun _ => some (.int (bZ (notesR lb sd x0).2))) (fun u => [(p9, .inr (12, [.ref ba, .int (nI u.2.1.1), .int (bZ u.2.1.2)])), (se, .inr (14, [.ref ba, .int ty, .int ha, .int sE, .int le, va_rf s9, .long (oL u.1.1), .long (lN u.1.2.1), .long (lN u.1.2.2.1), va_rf u.2.2.1, va_rf u.2.2.2.1, .int (oI u.1.2.2.2.2.2.2.1), .int (oI u.1.2.2.2.2.2.2.2.1), va_rf u.2.2.2.2.1, .int (bZ u.1.2.2.2.2.2.2.2.2.1), .int tr, .int (bZ (u.1.2.2.2.2.2.2.2.2.2 0)), .int (bZ (u.1.2.2.2.2.2.2.2.2.2 1)), .int (bZ (u.1.2.2.2.2.2.2.2.2.2 2))]))] ++ (F ++ u.2.2.2.2.2)) := by
  refine Ct.mk2 (by decide) (Nat.le_of_ble_eq_true rfl) hZ ?_
  intro p e R s m args below meth c ls Q C hr hlocks hin hQ hl h
  have C0 := C
  obtain ⟨hx, hb, hml, hown, hts, -⟩ := C0
  have hl : lv_has ls 8 [(0, .ref se), (1, .ref p9), (2, .int (bZ sd))] := hl
  refine lv_aload_n hx hb dX17_readNotes_0 rfl (lv_at hl 1 rfl) ?_
  refine lv_iconst (v := nI 2) hx hb dX17_readNotes_1 (by decide) ?_
  refine call_VR (As := [.int (nI 2)]) (rest := []) (n := 1) C h (c15_takeN l D dA B Z hZ ([(se, .inr (14, [.ref ba, .int ty, .int ha, .int sE, .int le, va_rf s9, .long (oL x0.1.1), .long (lN x0.1.2.1), .long (lN x0.1.2.2.1), va_rf q1, va_rf q2, .int (oI x0.1.2.2.2.2.2.2.1), .int (oI x0.1.2.2.2.2.2.2.2.1), va_rf q3, .int (bZ x0.1.2.2.2.2.2.2.2.2.1), .int tr, .int (bZ (x0.1.2.2.2.2.2.2.2.2.2 0)), .int (bZ (x0.1.2.2.2.2.2.2.2.2.2 1)), .int (bZ (x0.1.2.2.2.2.2.2.2.2.2 2))]))] ++ F) p9 ba lb x0.2 2 (List.mem_append_right _ (hba)) hob (by omega) (hu0) (by decide)) (lw_V q1388 q1119 q1120 q163 q1121) (by decide +kernel) (o_recv C h (RC := RX15) (T := TX15) (N := 3) (List.mem_of_getElem? (i := 0) rfl) rfl) (by decide) (by decide) rfl hl rfl (Nat.le_of_ble_eq_true rfl) dX17_readNotes_2 (by omega) (fun _ H locs _ h => ?_)
  have h : Wd D B s ([(p9, .inr (12, [.ref ba, .int (nI ((someS lb 2 0 x0.2).2.1)), .int (bZ ((someS lb 2 0 x0.2).2.2))])), (se, .inr (14, [.ref ba, .int ty, .int ha, .int sE, .int le, va_rf s9, .long (oL x0.1.1), .long (lN x0.1.2.1), .long (lN x0.1.2.2.1), va_rf q1, va_rf q2, .int (oI x0.1.2.2.2.2.2.2.1), .int (oI x0.1.2.2.2.2.2.2.2.1), va_rf q3, .int (bZ x0.1.2.2.2.2.2.2.2.2.1), .int tr, .int (bZ (x0.1.2.2.2.2.2.2.2.2.2 0)), .int (bZ (x0.1.2.2.2.2.2.2.2.2.2 1)), .int (bZ (x0.1.2.2.2.2.2.2.2.2.2 2))]))] ++ F) H locs := h
  have hs := someS_ok hob 2 0 0 x0.2 hu0 (by decide)
  obtain ⟨bi, v, hbv⟩ : ∃ bi v, someS lb 2 0 x0.2 = (bi, v) := ⟨_, _, rfl⟩
  rw [hbv] at hs h ⊢
  obtain ⟨hs1, hs2, hs3⟩ := hs
  have hs1 : bi < 65536 := hs1
  have hs2 : v.1 ≤ lb.length := hs2
  have hs3 : x0.2.1 ≤ v.1 := hs3
  show W p l e R s m args below meth c H locs (0 + 0) (0 + 0) Q (F0 m 5 ls [.long (lN bi)])
  have h : Wd D B s ([(p9, .inr (12, [.ref ba, .int (nI v.1), .int (bZ v.2)])), (se, .inr (14, [.ref ba, .int ty, .int ha, .int sE, .int le, va_rf s9, .long (oL x0.1.1), .long (lN x0.1.2.1), .long (lN x0.1.2.2.1), va_rf q1, va_rf q2, .int (oI x0.1.2.2.2.2.2.2.1), .int (oI x0.1.2.2.2.2.2.2.2.1), va_rf q3, .int (bZ x0.1.2.2.2.2.2.2.2.2.1), .int tr, .int (bZ (x0.1.2.2.2.2.2.2.2.2.2 0)), .int (bZ (x0.1.2.2.2.2.2.2.2.2.2 1)), .int (bZ (x0.1.2.2.2.2.2.2.2.2.2 2))]))] ++ F) H locs := h
  refine lv_l2i (v := nI bi) hx hb dX17_readNotes_5 (lN_i _) ?_
  refine lv_aload_n hx hb dX17_readNotes_6 rfl (lv_at hl 1 rfl) ?_
  refine o_get C h (RC := RX15) (T := TX15) (N := 3) (List.mem_of_getElem? (i := 0) rfl) rfl in_X15 1 (by decide) q1102 rfl (v := .int (nI v.1)) rfl dX17_readNotes_7 ?_
  refine lv_iadd hx hb dX17_readNotes_10 ?_
  refine n_top (y := nI (v.1 + bi)) ((nI_add _ _).trans (congrArg nI (Nat.add_comm _ _))) ?_
  refine lv_istore_n (lv' := [(3, .int (nI (v.1 + bi))), (0, .ref se), (1, .ref p9), (2, .int (bZ sd))]) hx hb dX17_readNotes_11 rfl hl (by decide) rfl (fun ls hl => ?_)
  refine lv_aload_n hx hb dX17_readNotes_12 rfl (lv_at hl 2 rfl) ?_
  refine o_get C h (RC := RX15) (T := TX15) (N := 3) (List.mem_of_getElem? (i := 0) rfl) rfl in_X15 2 (by decide) q1105 rfl (v := .int (bZ v.2)) rfl dX17_readNotes_13 ?_
  refine z_if_eq (tgt := 28) hx hb dX17_readNotes_16 (by decide) (fun c16 => ?_) (fun c16 => ?_)
  · refine lv_iconst (v := nI 0) hx hb dX17_readNotes_28 (by decide) ?_
    subst hQ
    have hfin : notesR lb sd x0 = ((x0.1, v), false) := by unfold notesR; rw [hbv]; exact if_pos (by first | exact Or.inl c16 | (right; show lb.length < v.1 + bi; omega))
    have h : Wd D B s ([(p9, .inr (12, [.ref ba, .int (nI v.1), .int (bZ v.2)])), (se, .inr (14, [.ref ba, .int ty, .int ha, .int sE, .int le, va_rf s9, .long (oL x0.1.1), .long (lN x0.1.2.1), .long (lN x0.1.2.2.1), va_rf q1, va_rf q2, .int (oI x0.1.2.2.2.2.2.2.1), .int (oI x0.1.2.2.2.2.2.2.2.1), va_rf q3, .int (bZ x0.1.2.2.2.2.2.2.2.2.1), .int tr, .int (bZ (x0.1.2.2.2.2.2.2.2.2.2 0)), .int (bZ (x0.1.2.2.2.2.2.2.2.2.2 1)), .int (bZ (x0.1.2.2.2.2.2.2.2.2.2 2))]))] ++ (F ++ [])) H locs := by rw [List.append_nil]; exact h
    refine n_top (y := bZ false) rfl ?_
    exact ret_z C hr hlocks h (x0.1, v, q1, q2, q3, []) (fun q => by rw [hfin] at q; cases q) (by rw [hfin]) rfl (by omega) (by omega) dX17_readNotes_29
  · refine lv_iload_n hx hb dX17_readNotes_19 rfl (lv_at hl 0 rfl) ?_
    refine lv_aload_n hx hb dX17_readNotes_20 rfl (lv_at hl 1 rfl) ?_
    refine o_get C h (RC := RX17) (T := TX17) (N := 19) (List.mem_of_getElem? (i := 1) rfl) rfl in_X17 0 (by decide) q1304 rfl (v := .ref ba) rfl dX17_readNotes_21 ?_
    refine n_balen C h (List.mem_append_right _ hba) dX17_readNotes_24 ?_
    refine n_icmp_le (tgt := 30) hx hb (by omega) (by omega) dX17_readNotes_25 (by decide) (fun c25 => ?_) (fun c25 => ?_)
    · have hvr : v.2 = true := c16
      have hve : v.1 + bi ≤ lb.length := c25
      have h : Wd D B s ([(p9, .inr (12, [.ref ba, .int (nI v.1), .int (bZ v.2)])), (se, .inr (14, [.ref ba, .int ty, .int ha, .int sE, .int le, va_rf s9, .long (oL x0.1.1), .long (lN x0.1.2.1), .long (lN x0.1.2.2.1), va_rf q1, va_rf q2, .int (oI x0.1.2.2.2.2.2.2.1), .int (oI x0.1.2.2.2.2.2.2.2.1), va_rf q3, .int (bZ x0.1.2.2.2.2.2.2.2.2.1), .int tr, .int (bZ (x0.1.2.2.2.2.2.2.2.2.2 0)), .int (bZ (x0.1.2.2.2.2.2.2.2.2.2 1)), .int (bZ (x0.1.2.2.2.2.2.2.2.2.2 2))]))] ++ (F ++ [])) H locs := by rw [List.append_nil]; exact h
      have hNR : notesR lb sd x0 = notesS lb sd (v.1 + bi) (lb.length + 1) (x0.1, v) := by
        unfold notesR; rw [hbv]; exact if_neg (by show ¬ (v.2 = false ∨ lb.length < v.1 + bi); intro q; rcases q with q | q; exact absurd (q.symm.trans hvr) (by decide); omega)
      have loop : ∀ (nn : Nat) (f cc cs : Nat) (x : NS × OU) (r1 r2 r3 : Option Nat) (E : va_W), (notesS lb sd (v.1 + bi) (lb.length + 1) (x0.1, v) = notesS lb sd (v.1 + bi) f x) → (v.1 + bi - x.2.1 < f) → (x.2.1 ≤ v.1 + bi) → (RNb dA (P ++ E) x.1 r1 r2 r3) → (2 * cc + (lb.length - x.2.1) ≤ lb.length - x0.2.1) → (cs + 2 * (lb.length - x.2.1) ≤ 2 * (lb.length - x0.2.1)) → f < nn → ∀ (H : Heap) (locs : List Loc), Wd D B s ([(p9, .inr (12, [.ref ba, .int (nI x.2.1), .int (bZ x.2.2)])), (se, .inr (14, [.ref ba, .int ty, .int ha, .int sE, .int le, va_rf s9, .long (oL x.1.1), .long (lN x.1.2.1), .long (lN x.1.2.2.1), va_rf r1, va_rf r2, .int (oI x.1.2.2.2.2.2.2.1), .int (oI x.1.2.2.2.2.2.2.2.1), va_rf r3, .int (bZ x.1.2.2.2.2.2.2.2.2.1), .int tr, .int (bZ (x.1.2.2.2.2.2.2.2.2.2 0)), .int (bZ (x.1.2.2.2.2.2.2.2.2.2 1)), .int (bZ (x.1.2.2.2.2.2.2.2.2.2 2))]))] ++ (F ++ E)) H locs → ∀ (ls : Array Slot), lv_has ls 8 [(0, .ref se), (1, .ref p9), (2, .int (bZ sd)), (3, .int (nI (v.1 + bi)))] → W p l e R s m args below meth c H locs cc cs Q (F0 m 30 ls []) := by
        intro nn
        induction nn with
        | zero => intro f cc cs  x  r1 r2 r3  E  hT hf hxe hRx hcc hcs hme; exact absurd hme (Nat.not_lt_zero _)
        | succ nn ih =>
          intro f cc cs  x  r1 r2 r3  E  hT hf hxe hRx hcc hcs hme H locs h ls hl
          have hxl : x.2.1 ≤ lb.length := by omega
          have hmo := manyS_ok hob x.2 hxl
          have hge0 : x.2.1 ≤ (notesR lb sd x0).1.2.1 := by rw [hNR, hT]; exact notesS_mono _ _ _ _ _
          refine lv_aload_n hx hb dX17_readNotes_30 rfl (lv_at hl 1 rfl) ?_
          refine o_get C h (RC := RX15) (T := TX15) (N := 3) (List.mem_of_getElem? (i := 0) rfl) rfl in_X15 1 (by decide) q1102 rfl (v := .int (nI x.2.1)) rfl dX17_readNotes_31 ?_
          refine lv_iload_n hx hb dX17_readNotes_34 rfl (lv_at hl 3 rfl) ?_
          refine n_icmp_ge (tgt := 179) hx hb (by omega) (by omega) dX17_readNotes_35 (by decide) (fun c35 => ?_) (fun c35 => ?_)
          · refine lv_aload_n hx hb dX17_readNotes_179 rfl (lv_at hl 1 rfl) ?_
            refine o_get C h (RC := RX15) (T := TX15) (N := 3) (List.mem_of_getElem? (i := 0) rfl) rfl in_X15 2 (by decide) q1105 rfl (v := .int (bZ x.2.2)) rfl dX17_readNotes_180 ?_
            refine z_if_eq (tgt := 198) hx hb dX17_readNotes_183 (by decide) (fun c183 => ?_) (fun c183 => ?_)
            · refine lv_iconst (v := nI 0) hx hb dX17_readNotes_198 (by decide) ?_
              subst hQ
              have hfin : notesR lb sd x0 = (x, x.2.2) := by
                rw [hNR, hT]
                cases f with
                | zero => rfl
                | succ f => rw [notesS, if_pos c35]
              refine n_top (y := bZ false) rfl ?_
              exact ret_z C hr hlocks h (x.1, x.2, r1, r2, r3, E) (fun q => by rw [hfin]; exact ⟨rfl, rfl, hRx⟩) (by rw [hfin]; first | (rw [c183]; done) | (exfalso; omega)) rfl (by omega) (by omega) dX17_readNotes_199
            · refine lv_aload_n hx hb dX17_readNotes_186 rfl (lv_at hl 1 rfl) ?_
              refine o_get C h (RC := RX15) (T := TX15) (N := 3) (List.mem_of_getElem? (i := 0) rfl) rfl in_X15 1 (by decide) q1102 rfl (v := .int (nI x.2.1)) rfl dX17_readNotes_187 ?_
              refine lv_iload_n hx hb dX17_readNotes_190 rfl (lv_at hl 3 rfl) ?_
              refine n_icmp_ne (tgt := 198) hx hb (by omega) (by omega) dX17_readNotes_191 (by decide) (fun c191 => by exfalso; omega) (fun c191 => ?_)
              refine lv_iconst (v := nI 1) hx hb dX17_readNotes_194 (by decide) ?_
              refine lv_goto (tgt := 199) hx hb dX17_readNotes_195 (by decide) ?_
              subst hQ
              have hfin : notesR lb sd x0 = (x, x.2.2) := by
                rw [hNR, hT]
                cases f with
                | zero => rfl
                | succ f => rw [notesS, if_pos c35]
              refine n_top (y := bZ true) rfl ?_
              exact ret_z C hr hlocks h (x.1, x.2, r1, r2, r3, E) (fun q => by rw [hfin]; exact ⟨rfl, rfl, hRx⟩) (by rw [hfin, c183]) rfl (by omega) (by omega) dX17_readNotes_199
          · obtain ⟨f, rfl⟩ : ∃ k, f = k + 1 := ⟨f - 1, by omega⟩
            have hms := manyS_st hob x.2 (by omega)
            have h1b := oneS_lt hob x.2
            have h1l := oneS_le hxl
            have h2b := oneS_lt hob (oneS lb x.2).2
            have h4b := someS_ok hob 4 0 0 (oneS lb x.2).2 h1l.1 (by decide)
            have h4c : (someS lb 4 0 (oneS lb x.2).2).1 < 4294967296 := h4b.1
            refine lv_aload_n hx hb dX17_readNotes_38 rfl (lv_at hl 1 rfl) ?_
            refine call_VR (As := []) (rest := []) (n := 0) C h (c15_take l D dA B Z hZ ([(se, .inr (14, [.ref ba, .int ty, .int ha, .int sE, .int le, va_rf s9, .long (oL x.1.1), .long (lN x.1.2.1), .long (lN x.1.2.2.1), va_rf r1, va_rf r2, .int (oI x.1.2.2.2.2.2.2.1), .int (oI x.1.2.2.2.2.2.2.2.1), va_rf r3, .int (bZ x.1.2.2.2.2.2.2.2.2.1), .int tr, .int (bZ (x.1.2.2.2.2.2.2.2.2.2 0)), .int (bZ (x.1.2.2.2.2.2.2.2.2.2 1)), .int (bZ (x.1.2.2.2.2.2.2.2.2.2 2))]))] ++ (F ++ E)) p9 ba lb x.2 (List.mem_append_right _ (List.mem_append_left _ hba)) hob (by omega) (hxl)) (lw_V q1383 q1115 q1116 q163 q1117) (by decide +kernel) (o_recv C h (RC := RX15) (T := TX15) (N := 3) (List.mem_of_getElem? (i := 0) rfl) rfl) (by decide) (by decide) rfl hl rfl (Nat.le_of_ble_eq_true rfl) dX17_readNotes_39 (by omega) (fun _ H locs _ h => ?_)
            have h : Wd D B s ([(p9, .inr (12, [.ref ba, .int (nI ((oneS lb x.2).2.1)), .int (bZ ((oneS lb x.2).2.2))])), (se, .inr (14, [.ref ba, .int ty, .int ha, .int sE, .int le, va_rf s9, .long (oL x.1.1), .long (lN x.1.2.1), .long (lN x.1.2.2.1), va_rf r1, va_rf r2, .int (oI x.1.2.2.2.2.2.2.1), .int (oI x.1.2.2.2.2.2.2.2.1), va_rf r3, .int (bZ x.1.2.2.2.2.2.2.2.2.1), .int tr, .int (bZ (x.1.2.2.2.2.2.2.2.2.2 0)), .int (bZ (x.1.2.2.2.2.2.2.2.2.2 1)), .int (bZ (x.1.2.2.2.2.2.2.2.2.2 2))]))] ++ (F ++ E)) H locs := h
            refine lv_istore (lv' := [(4, .int (nI ((oneS lb x.2).1))), (0, .ref se), (1, .ref p9), (2, .int (bZ sd)), (3, .int (nI (v.1 + bi)))]) hx hb dX17_readNotes_42 hl (by decide) rfl (fun ls hl => ?_)
            have jm : ∀ (mm m0 : Nat) (um : OU), (manyS lb x.2 = (m0, um)) → (mm = min 100000 m0) → ∀ (H : Heap) (locs : List Loc), Wd D B s ([(p9, .inr (12, [.ref ba, .int (nI um.1), .int (bZ um.2)])), (se, .inr (14, [.ref ba, .int ty, .int ha, .int sE, .int le, va_rf s9, .long (oL x.1.1), .long (lN x.1.2.1), .long (lN x.1.2.2.1), va_rf r1, va_rf r2, .int (oI x.1.2.2.2.2.2.2.1), .int (oI x.1.2.2.2.2.2.2.2.1), va_rf r3, .int (bZ x.1.2.2.2.2.2.2.2.2.1), .int tr, .int (bZ (x.1.2.2.2.2.2.2.2.2.2 0)), .int (bZ (x.1.2.2.2.2.2.2.2.2.2 1)), .int (bZ (x.1.2.2.2.2.2.2.2.2.2 2))]))] ++ (F ++ E)) H locs → ∀ (ls : Array Slot), lv_has ls 8 [(0, .ref se), (1, .ref p9), (2, .int (bZ sd)), (3, .int (nI (v.1 + bi)))] → W p l e R s m args below meth c H locs (cc + 0) (cs + 0) Q (F0 m 111 ls [.int (nI mm)]) := by
              intro mm m0  um  hmm hmin H locs h ls hl
              rw [hmm] at hmo hms
              obtain ⟨hm1, hm2, hm3⟩ := hmo
              have hm1 : m0 < 4294967296 := hm1
              have hm2 : um.1 ≤ lb.length := hm2
              have hms : x.2.1 < um.1 := hms
              refine lv_istore (lv' := [(5, .int (nI mm)), (0, .ref se), (1, .ref p9), (2, .int (bZ sd)), (3, .int (nI (v.1 + bi)))]) hx hb dX17_readNotes_111 hl (by decide) rfl (fun ls hl => ?_)
              refine lv_iload hx hb dX17_readNotes_113 (lv_at hl 0 rfl) ?_
              refine n_if_eq (tgt := 129) hx hb (by omega) dX17_readNotes_115 (by decide) (fun c115 => ?_) (fun c115 => ?_)
              · refine lv_iconst (v := nI 0) hx hb dX17_readNotes_129 (by decide) ?_
                subst hQ
                have hfin : notesR lb sd x0 = ((x.1, um), false) := by rw [hNR, hT, notesS, if_neg (by omega), hmm, if_pos (by show m0 = 0 ∨ v.1 + bi - um.1 < m0; omega)]
                refine n_top (y := bZ false) rfl ?_
                exact ret_z C hr hlocks h (x.1, um, r1, r2, r3, E) (fun q => by rw [hfin] at q; cases q) (by rw [hfin]) rfl (by omega) (by omega) dX17_readNotes_130
              · refine lv_iload hx hb dX17_readNotes_118 (lv_at hl 0 rfl) ?_
                refine lv_iload_n hx hb dX17_readNotes_120 rfl (lv_at hl 4 rfl) ?_
                refine lv_aload_n hx hb dX17_readNotes_121 rfl (lv_at hl 2 rfl) ?_
                refine o_get C h (RC := RX15) (T := TX15) (N := 3) (List.mem_of_getElem? (i := 0) rfl) rfl in_X15 1 (by decide) q1102 rfl (v := .int (nI um.1)) rfl dX17_readNotes_122 ?_
                by_cases hle : um.1 ≤ v.1 + bi
                · refine lv_isub hx hb dX17_readNotes_125 (n_top (y := nI (v.1 + bi - um.1)) (pk_sub hle) ?_)
                  refine n_icmp_le (tgt := 131) hx hb (by omega) (by omega) dX17_readNotes_126 (by decide) (fun c126 => ?_) (fun c126 => ?_)
                  · have hmm0 : m0 = mm := by omega
                    rw [hmm0] at hmm
                    have e2 : oneS lb um = (gD lb um.1, (um.1 + 1, um.2)) := by unfold oneS; rw [if_neg (by omega)]
                    have h9 := byt_gD hob um.1
                    have hge : um.1 + 1 + (mm - 1) ≤ (notesR lb sd x0).1.2.1 := by
                      rw [hNR, hT]
                      have q9 := notesS_ge (l := lb) (sd := sd) (en := v.1 + bi) (f := f) (x := x) (by omega) (by rw [hmm]; show ¬ (mm = 0 ∨ v.1 + bi - um.1 < mm); omega)
                      rw [hmm] at q9
                      have q8 : (oneS lb um).2.1 + (mm - 1) ≤ (notesS lb sd (v.1 + bi) (f + 1) x).1.2.1 := q9
                      rw [e2] at q8
                      exact q8
                    refine lv_aload_n hx hb dX17_readNotes_131 rfl (lv_at hl 2 rfl) ?_
                    refine call_VR (As := []) (rest := []) (n := 0) C h (c15_take l D dA B Z hZ ([(se, .inr (14, [.ref ba, .int ty, .int ha, .int sE, .int le, va_rf s9, .long (oL x.1.1), .long (lN x.1.2.1), .long (lN x.1.2.2.1), va_rf r1, va_rf r2, .int (oI x.1.2.2.2.2.2.2.1), .int (oI x.1.2.2.2.2.2.2.2.1), va_rf r3, .int (bZ x.1.2.2.2.2.2.2.2.2.1), .int tr, .int (bZ (x.1.2.2.2.2.2.2.2.2.2 0)), .int (bZ (x.1.2.2.2.2.2.2.2.2.2 1)), .int (bZ (x.1.2.2.2.2.2.2.2.2.2 2))]))] ++ (F ++ E)) p9 ba lb um (List.mem_append_right _ (List.mem_append_left _ hba)) hob (by omega) (hm2)) (lw_V q1383 q1115 q1116 q163 q1117) (by decide +kernel) (o_recv C h (RC := RX15) (T := TX15) (N := 3) (List.mem_of_getElem? (i := 0) rfl) rfl) (by decide) (by decide) rfl hl rfl (Nat.le_of_ble_eq_true rfl) dX17_readNotes_132 (by omega) (fun _ H locs _ h => ?_)
                    have h : Wd D B s ([(p9, .inr (12, [.ref ba, .int (nI ((oneS lb um).2.1)), .int (bZ ((oneS lb um).2.2))])), (se, .inr (14, [.ref ba, .int ty, .int ha, .int sE, .int le, va_rf s9, .long (oL x.1.1), .long (lN x.1.2.1), .long (lN x.1.2.2.1), va_rf r1, va_rf r2, .int (oI x.1.2.2.2.2.2.2.1), .int (oI x.1.2.2.2.2.2.2.2.1), va_rf r3, .int (bZ x.1.2.2.2.2.2.2.2.2.1), .int tr, .int (bZ (x.1.2.2.2.2.2.2.2.2.2 0)), .int (bZ (x.1.2.2.2.2.2.2.2.2.2 1)), .int (bZ (x.1.2.2.2.2.2.2.2.2.2 2))]))] ++ (F ++ E)) H locs := h
                    rw [e2] at h ⊢
                    show W p l e R s m args below meth c H locs (cc + 0 + 0) (cs + 0 + 0) Q (F0 m 135 ls [.int (nI (gD lb um.1))])
                    have h : Wd D B s ([(p9, .inr (12, [.ref ba, .int (nI (um.1 + 1)), .int (bZ um.2)])), (se, .inr (14, [.ref ba, .int ty, .int ha, .int sE, .int le, va_rf s9, .long (oL x.1.1), .long (lN x.1.2.1), .long (lN x.1.2.2.1), va_rf r1, va_rf r2, .int (oI x.1.2.2.2.2.2.2.1), .int (oI x.1.2.2.2.2.2.2.2.1), va_rf r3, .int (bZ x.1.2.2.2.2.2.2.2.2.1), .int tr, .int (bZ (x.1.2.2.2.2.2.2.2.2.2 0)), .int (bZ (x.1.2.2.2.2.2.2.2.2.2 1)), .int (bZ (x.1.2.2.2.2.2.2.2.2.2 2))]))] ++ (F ++ E)) H locs := h
                    refine lv_istore (lv' := [(6, .int (nI (gD lb um.1))), (5, .int (nI mm)), (0, .ref se), (1, .ref p9), (2, .int (bZ sd)), (3, .int (nI (v.1 + bi)))]) hx hb dX17_readNotes_135 hl (by decide) rfl (fun ls hl => ?_)
                    refine lv_aload_n hx hb dX17_readNotes_137 rfl (lv_at hl 3 rfl) ?_
                    refine lv_iload hx hb dX17_readNotes_138 (lv_at hl 1 rfl) ?_
                    refine lv_iconst (v := nI 1) hx hb dX17_readNotes_140 (by decide) ?_
                    refine lv_isub hx hb dX17_readNotes_141 (n_top (y := nI (mm - 1)) (pk_sub (by omega)) ?_)
                    have hrl : (rowR lb (mm - 1) (um.1 + 1, um.2)).1.length = mm - 1 := by rw [rowR_t (by show ¬ lb.length - (um.1 + 1) < mm - 1; omega)]; exact sliceL_len (by omega)
                    refine call_VR (As := [.int (nI (mm - 1))]) (rest := []) (n := 1) C h (c15_row l D dA B Z hZ ([(se, .inr (14, [.ref ba, .int ty, .int ha, .int sE, .int le, va_rf s9, .long (oL x.1.1), .long (lN x.1.2.1), .long (lN x.1.2.2.1), va_rf r1, va_rf r2, .int (oI x.1.2.2.2.2.2.2.1), .int (oI x.1.2.2.2.2.2.2.2.1), va_rf r3, .int (bZ x.1.2.2.2.2.2.2.2.2.1), .int tr, .int (bZ (x.1.2.2.2.2.2.2.2.2.2 0)), .int (bZ (x.1.2.2.2.2.2.2.2.2.2 1)), .int (bZ (x.1.2.2.2.2.2.2.2.2.2 2))]))] ++ (F ++ E)) p9 ba lb (um.1 + 1, um.2) (mm - 1) (List.mem_append_right _ (List.mem_append_left _ hba)) hob (by omega) (by show um.1 + 1 ≤ _; omega) (by omega)) (lw_V q1393 q1129 q1130 q163 q1131) (by decide +kernel) (o_recv C h (RC := RX15) (T := TX15) (N := 3) (List.mem_of_getElem? (i := 0) rfl) rfl) (by decide) (by decide) rfl hl rfl (Nat.le_of_ble_eq_true rfl) dX17_readNotes_142 (by omega) (fun q9 H locs _ h => ?_)
                    obtain ⟨sy, hsy⟩ : ∃ z, z = sliceL lb (um.1 + 1) (mm - 1) := ⟨_, rfl⟩
                    have hsl : sy.length = mm - 1 := by rw [hsy, sliceL_len (by omega)]
                    have hsb : byt sy := by rw [hsy]; exact fun z hz => hob z (List.mem_of_mem_drop (List.mem_of_mem_take hz))
                    rw [rowR_t (by show ¬ lb.length - (um.1 + 1) < mm - 1; omega)] at h
                    have h : Wd D B s ([(p9, .inr (12, [.ref ba, .int (nI (um.1 + 1 + (mm - 1))), .int (bZ um.2)])), (se, .inr (14, [.ref ba, .int ty, .int ha, .int sE, .int le, va_rf s9, .long (oL x.1.1), .long (lN x.1.2.1), .long (lN x.1.2.2.1), va_rf r1, va_rf r2, .int (oI x.1.2.2.2.2.2.2.1), .int (oI x.1.2.2.2.2.2.2.2.1), va_rf r3, .int (bZ x.1.2.2.2.2.2.2.2.2.1), .int tr, .int (bZ (x.1.2.2.2.2.2.2.2.2.2 0)), .int (bZ (x.1.2.2.2.2.2.2.2.2.2 1)), .int (bZ (x.1.2.2.2.2.2.2.2.2.2 2))]))] ++ (F ++ (E ++ [(q9, bal dA sy)]))) H locs := by
                      rw [hsy, ← List.append_assoc F]; exact h
                    refine lv_astore (lv' := [(7, .ref q9), (6, .int (nI (gD lb um.1))), (5, .int (nI mm)), (0, .ref se), (1, .ref p9), (2, .int (bZ sd)), (3, .int (nI (v.1 + bi)))]) hx hb dX17_readNotes_145 hl (by decide) rfl (fun ls hl => ?_)
                    refine lv_aload_n hx hb dX17_readNotes_147 rfl (lv_at hl 3 rfl) ?_
                    refine lv_iload hx hb dX17_readNotes_148 (lv_at hl 1 rfl) ?_
                    refine lv_bipush (v := nI 127) hx hb dX17_readNotes_150 (by decide) ?_
                    refine lv_iand hx hb dX17_readNotes_152 (n_top (y := nI ((gD lb um.1) % 128)) (pk_andN (by omega) 7 (by decide)) ?_)
                    refine lv_aload hx hb dX17_readNotes_153 (lv_at hl 0 rfl) ?_
                    refine lv_iload_n hx hb dX17_readNotes_155 rfl (lv_at hl 5 rfl) ?_
                    have jg : ∀ (H : Heap) (locs : List Loc), Wd D B s ([(p9, .inr (12, [.ref ba, .int (nI (um.1 + 1 + (mm - 1))), .int (bZ um.2)])), (se, .inr (14, [.ref ba, .int ty, .int ha, .int sE, .int le, va_rf s9, .long (oL x.1.1), .long (lN x.1.2.1), .long (lN x.1.2.2.1), va_rf r1, va_rf r2, .int (oI x.1.2.2.2.2.2.2.1), .int (oI x.1.2.2.2.2.2.2.2.1), va_rf r3, .int (bZ x.1.2.2.2.2.2.2.2.2.1), .int tr, .int (bZ (x.1.2.2.2.2.2.2.2.2.2 0)), .int (bZ (x.1.2.2.2.2.2.2.2.2.2 1)), .int (bZ (x.1.2.2.2.2.2.2.2.2.2 2))]))] ++ (F ++ (E ++ [(q9, bal dA sy)]))) H locs → ∀ (ls : Array Slot), lv_has ls 8 [(0, .ref se), (1, .ref p9), (2, .int (bZ sd)), (3, .int (nI (v.1 + bi)))] → W p l e R s m args below meth c H locs (cc + 0 + 0 + 1) (cs + 0 + 0 + ((rowR lb (mm - 1) (um.1 + 1, um.2)).1.length)) Q (F0 m 168 ls [.int (bZ (decide (127 < gD lb um.1))), .int (bZ sd), .ref q9, .int (nI ((gD lb um.1) % 128)), .ref se]) := by
                      intro   H locs h ls hl
                      have h : Wd D B s (slC se ba ty ha sE le s9 x.1 r1 r2 r3 tr ++ ([(p9, .inr (12, [.ref ba, .int (nI (um.1 + 1 + (mm - 1))), .int (bZ um.2)]))] ++ (F ++ (E ++ [(q9, bal dA sy)])))) H locs := by
                        unfold slC; exact h.permL (perm_add (fun g f p0 p1 p2 => by (try simp only [p0, p1, p2]) <;> omega))
                      refine call_VR (As := [.int (nI ((gD lb um.1) % 128)), .ref q9, .int (bZ sd), .int (bZ (decide (127 < gD lb um.1)))]) (rest := []) (n := 4) C h (c17_take l D dA B Z hZ ([(p9, .inr (12, [.ref ba, .int (nI (um.1 + 1 + (mm - 1))), .int (bZ um.2)]))] ++ (F ++ (E ++ [(q9, bal dA sy)]))) (P ++ (E ++ [(q9, bal dA sy)])) se ba ty ha sE le s9 x.1 r1 r2 r3 tr (gD lb um.1 % 128) q9 sd (decide (127 < gD lb um.1)) sy (by rw [← List.append_assoc]; exact hRx.up) (List.mem_append_right _ (List.mem_append_right _ List.mem_cons_self)) (by omega) (List.mem_append_right _ (List.mem_append_right _ (List.mem_append_right _ List.mem_cons_self))) hsb (by omega)) (lw_V q1394 q1396 qs13 q165 q1397) (by decide +kernel) (o_recv C h (RC := RX17) (T := TX17) (N := 19) (List.mem_append_left _ List.mem_cons_self) rfl) (by decide) (by decide) rfl hl rfl (Nat.le_of_ble_eq_true rfl) dX17_readNotes_168 (by omega) (fun u9 H locs hu h => ?_)
                      obtain ⟨s1, s2, s3, E2⟩ := u9
                      dsimp only at hu h
                      obtain ⟨u2, hu2⟩ : ∃ z : OU, z = (um.1 + 1 + (mm - 1), um.2) := ⟨_, rfl⟩
                      have hu21 : u2.1 = um.1 + 1 + (mm - 1) := by rw [hu2]
                      have hu22 : u2.2 = um.2 := by rw [hu2]
                      obtain ⟨yy, hyy⟩ : ∃ z, z = noteS x.1 (gD lb um.1 % 128) (decide (127 < gD lb um.1)) sd sy := ⟨_, rfl⟩
                      rw [← hyy] at h hu ⊢
                      have hstep : notesS lb sd (v.1 + bi) (f + 1) x = if yy.2 = true then notesS lb sd (v.1 + bi) f (yy.1, u2) else ((yy.1, u2), false) := by
                        rw [notesS, if_neg (by omega), hmm, if_neg (by show ¬ (mm = 0 ∨ v.1 + bi - um.1 < mm); omega)]
                        show (if (noteS x.1 ((oneS lb um).1 % 128) (decide (127 < (oneS lb um).1)) sd (sliceL lb (oneS lb um).2.1 (mm - 1))).2 = true then _ else _ : (NS × OU) × Bool) = _
                        rw [e2, hyy, hu2, hsy]
                      have hu : RNb dA (P ++ (E ++ [(q9, bal dA sy)] ++ E2)) yy.1 s1 s2 s3 := by rw [← List.append_assoc]; exact hu
                      have h : Wd D B s ([(p9, .inr (12, [.ref ba, .int (nI u2.1), .int (bZ u2.2)])), (se, .inr (14, [.ref ba, .int ty, .int ha, .int sE, .int le, va_rf s9, .long (oL yy.1.1), .long (lN yy.1.2.1), .long (lN yy.1.2.2.1), va_rf s1, va_rf s2, .int (oI yy.1.2.2.2.2.2.2.1), .int (oI yy.1.2.2.2.2.2.2.2.1), va_rf s3, .int (bZ yy.1.2.2.2.2.2.2.2.2.1), .int tr, .int (bZ (yy.1.2.2.2.2.2.2.2.2.2 0)), .int (bZ (yy.1.2.2.2.2.2.2.2.2.2 1)), .int (bZ (yy.1.2.2.2.2.2.2.2.2.2 2))]))] ++ (F ++ (E ++ [(q9, bal dA sy)] ++ E2))) H locs := by
                        rw [hu21, hu22]; unfold slC at h; exact h.permL (perm_add (fun g f p0 p1 p2 => by (try simp only [p0, p1, p2]) <;> omega))
                      show W p l e R s m args below meth c H locs (cc + 0 + 0 + 1 + (sy.length / 21)) (cs + 0 + 0 + ((rowR lb (mm - 1) (um.1 + 1, um.2)).1.length) + sy.length) Q (F0 m 171 ls [.int (bZ yy.2)])
                      refine z_if_ne (tgt := 176) hx hb dX17_readNotes_171 (by decide) (fun c171 => ?_) (fun c171 => ?_)
                      · have hnx : notesS lb sd (v.1 + bi) (lb.length + 1) (x0.1, v) = notesS lb sd (v.1 + bi) f (yy.1, u2) := by rw [hT, hstep, if_pos c171]
                        refine lv_goto (tgt := 30) hx hb dX17_readNotes_176 (by decide) ?_
                        exact ih f _ _ (yy.1, u2) s1 s2 s3 (E ++ [(q9, bal dA sy)] ++ E2) hnx (by show v.1 + bi - u2.1 < f; omega) (by show u2.1 ≤ _; omega) hu (by show 2 * _ + (lb.length - u2.1) ≤ _; omega) (by show _ + 2 * (lb.length - u2.1) ≤ _; omega) (by omega) _ _ h _ (lv_sub hl [0, 1, 2, 3] rfl)
                      · refine lv_iconst (v := nI 0) hx hb dX17_readNotes_174 (by decide) ?_
                        subst hQ
                        have hfin : notesR lb sd x0 = ((yy.1, u2), false) := by rw [hNR, hT, hstep, if_neg (by rw [c171]; decide)]
                        refine n_top (y := bZ false) rfl ?_
                        exact ret_z C hr hlocks h (yy.1, u2, s1, s2, s3, (E ++ [(q9, bal dA sy)] ++ E2)) (fun q => by rw [hfin] at q; cases q) (by rw [hfin]) rfl (by omega) (by omega) dX17_readNotes_175
                    refine lv_iload hx hb dX17_readNotes_156 (lv_at hl 1 rfl) ?_
                    refine lv_bipush (v := nI 127) hx hb dX17_readNotes_158 (by decide) ?_
                    refine n_icmp_le (tgt := 167) hx hb (by omega) (by omega) dX17_readNotes_160 (by decide) (fun c160 => ?_) (fun c160 => ?_)
                    · refine lv_iconst (v := nI 0) hx hb dX17_readNotes_167 (by decide) ?_
                      refine n_top (y := bZ (decide (127 < gD lb um.1))) (by first | (rw [decide_eq_true (by omega)]; rfl) | (rw [decide_eq_false (by omega)]; rfl)) ?_
                      exact jg   _ _ h _ (lv_sub hl [3, 4, 5, 6] rfl)
                    · refine lv_iconst (v := nI 1) hx hb dX17_readNotes_163 (by decide) ?_
                      refine lv_goto (tgt := 168) hx hb dX17_readNotes_164 (by decide) ?_
                      refine n_top (y := bZ (decide (127 < gD lb um.1))) (by first | (rw [decide_eq_true (by omega)]; rfl) | (rw [decide_eq_false (by omega)]; rfl)) ?_
                      exact jg   _ _ h _ (lv_sub hl [3, 4, 5, 6] rfl)
                  · refine lv_iconst (v := nI 0) hx hb dX17_readNotes_129 (by decide) ?_
                    subst hQ
                    have hfin : notesR lb sd x0 = ((x.1, um), false) := by rw [hNR, hT, notesS, if_neg (by omega), hmm, if_pos (by show m0 = 0 ∨ v.1 + bi - um.1 < m0; omega)]
                    refine n_top (y := bZ false) rfl ?_
                    exact ret_z C hr hlocks h (x.1, um, r1, r2, r3, E) (fun q => by rw [hfin] at q; cases q) (by rw [hfin]) rfl (by omega) (by omega) dX17_readNotes_130
                · refine lv_isub hx hb dX17_readNotes_125 ?_
                  refine lv_icmp_le (tgt := 131) hx hb dX17_readNotes_126 (by decide) (fun q => absurd q (neg_lt32 (by omega) (by omega) (by omega))) (fun _ => ?_)
                  refine lv_iconst (v := nI 0) hx hb dX17_readNotes_129 (by decide) ?_
                  subst hQ
                  have hfin : notesR lb sd x0 = ((x.1, um), false) := by rw [hNR, hT, notesS, if_neg (by omega), hmm, if_pos (by show m0 = 0 ∨ v.1 + bi - um.1 < m0; omega)]
                  refine n_top (y := bZ false) rfl ?_
                  exact ret_z C hr hlocks h (x.1, um, r1, r2, r3, E) (fun q => by rw [hfin] at q; cases q) (by rw [hfin]) rfl (by omega) (by omega) dX17_readNotes_130
            refine lv_iload hx hb dX17_readNotes_44 (lv_at hl 0 rfl) ?_
            refine lv_sipush (v := nI 192) hx hb dX17_readNotes_46 (by decide) ?_
            refine n_icmp_ge (tgt := 57) hx hb (by omega) (by omega) dX17_readNotes_49 (by decide) (fun c49 => ?_) (fun c49 => ?_)
            · refine lv_iload hx hb dX17_readNotes_57 (lv_at hl 0 rfl) ?_
              refine lv_sipush (v := nI 224) hx hb dX17_readNotes_59 (by decide) ?_
              refine n_icmp_ge (tgt := 87) hx hb (by omega) (by omega) dX17_readNotes_62 (by decide) (fun c62 => ?_) (fun c62 => ?_)
              · refine lv_iload hx hb dX17_readNotes_87 (lv_at hl 0 rfl) ?_
                refine lv_sipush (v := nI 255) hx hb dX17_readNotes_89 (by decide) ?_
                refine n_icmp_ne (tgt := 110) hx hb (by omega) (by omega) dX17_readNotes_92 (by decide) (fun c92 => ?_) (fun c92 => ?_)
                · refine lv_iconst (v := nI 0) hx hb dX17_readNotes_110 (by decide) ?_
                  exact jm 0 0 ((oneS lb x.2).2) (by unfold manyS; first | (rw [if_pos (by omega)]; done) | (rw [if_neg (by omega), if_pos (by omega)]; done) | (rw [if_neg (by omega), if_neg (by omega), if_pos (by omega)]; done) | (rw [if_neg (by omega), if_neg (by omega), if_neg (by omega)]; done)) (by first | rfl | omega) _ _ h _ (lv_sub hl [1, 2, 3, 4] rfl)
                · refine lv_ldc2 hx hb hown (hts _ q1389) dX17_readNotes_95 ?_
                  refine n_topl (y := lN 100000) (by decide) ?_
                  refine lv_aload_n hx hb dX17_readNotes_98 rfl (lv_at hl 2 rfl) ?_
                  refine lv_iconst (v := nI 4) hx hb dX17_readNotes_99 (by decide) ?_
                  refine call_VR (As := [.int (nI 4)]) (rest := [.long (lN 100000)]) (n := 1) C h (c15_takeN l D dA B Z hZ ([(se, .inr (14, [.ref ba, .int ty, .int ha, .int sE, .int le, va_rf s9, .long (oL x.1.1), .long (lN x.1.2.1), .long (lN x.1.2.2.1), va_rf r1, va_rf r2, .int (oI x.1.2.2.2.2.2.2.1), .int (oI x.1.2.2.2.2.2.2.2.1), va_rf r3, .int (bZ x.1.2.2.2.2.2.2.2.2.1), .int tr, .int (bZ (x.1.2.2.2.2.2.2.2.2.2 0)), .int (bZ (x.1.2.2.2.2.2.2.2.2.2 1)), .int (bZ (x.1.2.2.2.2.2.2.2.2.2 2))]))] ++ (F ++ E)) p9 ba lb ((oneS lb x.2).2) 4 (List.mem_append_right _ (List.mem_append_left _ hba)) hob (by omega) (h1l.1) (by decide)) (lw_V q1388 q1119 q1120 q163 q1121) (by decide +kernel) (o_recv C h (RC := RX15) (T := TX15) (N := 3) (List.mem_of_getElem? (i := 0) rfl) rfl) (by decide) (by decide) rfl hl rfl (Nat.le_of_ble_eq_true rfl) dX17_readNotes_100 (by omega) (fun _ H locs _ h => ?_)
                  have h : Wd D B s ([(p9, .inr (12, [.ref ba, .int (nI ((someS lb 4 0 (oneS lb x.2).2).2.1)), .int (bZ ((someS lb 4 0 (oneS lb x.2).2).2.2))])), (se, .inr (14, [.ref ba, .int ty, .int ha, .int sE, .int le, va_rf s9, .long (oL x.1.1), .long (lN x.1.2.1), .long (lN x.1.2.2.1), va_rf r1, va_rf r2, .int (oI x.1.2.2.2.2.2.2.1), .int (oI x.1.2.2.2.2.2.2.2.1), va_rf r3, .int (bZ x.1.2.2.2.2.2.2.2.2.1), .int tr, .int (bZ (x.1.2.2.2.2.2.2.2.2.2 0)), .int (bZ (x.1.2.2.2.2.2.2.2.2.2 1)), .int (bZ (x.1.2.2.2.2.2.2.2.2.2 2))]))] ++ (F ++ E)) H locs := h
                  refine n_mminl C h (a := 100000) (b := (someS lb 4 0 (oneS lb x.2).2).1) (by omega) (by omega) q1390 q1391 q144 q1392 hl.1 (by decide) (Nat.le_of_ble_eq_true rfl) (by omega) (by omega) dX17_readNotes_103 ?_
                  refine lv_l2i (v := nI (min 100000 ((someS lb 4 0 (oneS lb x.2).2).1))) hx hb dX17_readNotes_106 (lN_i _) ?_
                  refine lv_goto (tgt := 111) hx hb dX17_readNotes_107 (by decide) ?_
                  exact jm (min 100000 ((someS lb 4 0 (oneS lb x.2).2).1)) ((someS lb 4 0 (oneS lb x.2).2).1) ((someS lb 4 0 (oneS lb x.2).2).2) (by unfold manyS; first | (rw [if_pos (by omega)]; done) | (rw [if_neg (by omega), if_pos (by omega)]; done) | (rw [if_neg (by omega), if_neg (by omega), if_pos (by omega)]; done) | (rw [if_neg (by omega), if_neg (by omega), if_neg (by omega)]; done)) (by first | rfl | omega) _ _ h _ (lv_sub hl [1, 2, 3, 4] rfl)
              · refine lv_iload hx hb dX17_readNotes_65 (lv_at hl 0 rfl) ?_
                refine lv_sipush (v := nI 192) hx hb dX17_readNotes_67 (by decide) ?_
                refine lv_isub hx hb dX17_readNotes_70 (n_top (y := nI (((oneS lb x.2).1) - 192)) (pk_sub (by omega)) ?_)
                refine lv_sipush (v := nI 256) hx hb dX17_readNotes_71 (by decide) ?_
                refine lv_imul hx hb dX17_readNotes_74 (n_top (y := nI ((((oneS lb x.2).1) - 192) * 256)) (pk_mul (((oneS lb x.2).1) - 192) 256) ?_)
                refine lv_aload_n hx hb dX17_readNotes_75 rfl (lv_at hl 2 rfl) ?_
                refine call_VR (As := []) (rest := [.int (nI ((((oneS lb x.2).1) - 192) * 256))]) (n := 0) C h (c15_take l D dA B Z hZ ([(se, .inr (14, [.ref ba, .int ty, .int ha, .int sE, .int le, va_rf s9, .long (oL x.1.1), .long (lN x.1.2.1), .long (lN x.1.2.2.1), va_rf r1, va_rf r2, .int (oI x.1.2.2.2.2.2.2.1), .int (oI x.1.2.2.2.2.2.2.2.1), va_rf r3, .int (bZ x.1.2.2.2.2.2.2.2.2.1), .int tr, .int (bZ (x.1.2.2.2.2.2.2.2.2.2 0)), .int (bZ (x.1.2.2.2.2.2.2.2.2.2 1)), .int (bZ (x.1.2.2.2.2.2.2.2.2.2 2))]))] ++ (F ++ E)) p9 ba lb ((oneS lb x.2).2) (List.mem_append_right _ (List.mem_append_left _ hba)) hob (by omega) (h1l.1)) (lw_V q1383 q1115 q1116 q163 q1117) (by decide +kernel) (o_recv C h (RC := RX15) (T := TX15) (N := 3) (List.mem_of_getElem? (i := 0) rfl) rfl) (by decide) (by decide) rfl hl rfl (Nat.le_of_ble_eq_true rfl) dX17_readNotes_76 (by omega) (fun _ H locs _ h => ?_)
                have h : Wd D B s ([(p9, .inr (12, [.ref ba, .int (nI ((oneS lb (oneS lb x.2).2).2.1)), .int (bZ ((oneS lb (oneS lb x.2).2).2.2))])), (se, .inr (14, [.ref ba, .int ty, .int ha, .int sE, .int le, va_rf s9, .long (oL x.1.1), .long (lN x.1.2.1), .long (lN x.1.2.2.1), va_rf r1, va_rf r2, .int (oI x.1.2.2.2.2.2.2.1), .int (oI x.1.2.2.2.2.2.2.2.1), va_rf r3, .int (bZ x.1.2.2.2.2.2.2.2.2.1), .int tr, .int (bZ (x.1.2.2.2.2.2.2.2.2.2 0)), .int (bZ (x.1.2.2.2.2.2.2.2.2.2 1)), .int (bZ (x.1.2.2.2.2.2.2.2.2.2 2))]))] ++ (F ++ E)) H locs := h
                refine lv_iadd hx hb dX17_readNotes_79 (n_top (y := nI (((((oneS lb x.2).1) - 192) * 256) + ((oneS lb (oneS lb x.2).2).1))) (nI_add ((((oneS lb x.2).1) - 192) * 256) ((oneS lb (oneS lb x.2).2).1)) ?_)
                refine lv_sipush (v := nI 192) hx hb dX17_readNotes_80 (by decide) ?_
                refine lv_iadd hx hb dX17_readNotes_83 (n_top (y := nI ((((((oneS lb x.2).1) - 192) * 256) + ((oneS lb (oneS lb x.2).2).1)) + 192)) (nI_add (((((oneS lb x.2).1) - 192) * 256) + ((oneS lb (oneS lb x.2).2).1)) 192) ?_)
                refine lv_goto (tgt := 111) hx hb dX17_readNotes_84 (by decide) ?_
                exact jm ((((((oneS lb x.2).1) - 192) * 256) + ((oneS lb (oneS lb x.2).2).1)) + 192) ((((((oneS lb x.2).1) - 192) * 256) + ((oneS lb (oneS lb x.2).2).1)) + 192) ((oneS lb (oneS lb x.2).2).2) (by unfold manyS; first | (rw [if_pos (by omega)]; done) | (rw [if_neg (by omega), if_pos (by omega)]; done) | (rw [if_neg (by omega), if_neg (by omega), if_pos (by omega)]; done) | (rw [if_neg (by omega), if_neg (by omega), if_neg (by omega)]; done)) (by first | rfl | omega) _ _ h _ (lv_sub hl [1, 2, 3, 4] rfl)
            · refine lv_iload hx hb dX17_readNotes_52 (lv_at hl 0 rfl) ?_
              refine lv_goto (tgt := 111) hx hb dX17_readNotes_54 (by decide) ?_
              exact jm ((oneS lb x.2).1) ((oneS lb x.2).1) ((oneS lb x.2).2) (by unfold manyS; first | (rw [if_pos (by omega)]; done) | (rw [if_neg (by omega), if_pos (by omega)]; done) | (rw [if_neg (by omega), if_neg (by omega), if_pos (by omega)]; done) | (rw [if_neg (by omega), if_neg (by omega), if_neg (by omega)]; done)) (by first | rfl | omega) _ _ h _ (lv_sub hl [1, 2, 3, 4] rfl)
      exact loop _ (lb.length + 1) _ _ (x0.1, v) q1 q2 q3 [] rfl (by show v.1 + bi - v.1 < _; omega) (by show v.1 ≤ _; omega) (by rw [List.append_nil]; exact hR0) (by show 2 * _ + (lb.length - v.1) ≤ _; omega) (by show _ + 2 * (lb.length - v.1) ≤ _; omega) (Nat.lt_succ_self _) _ _ h _ (lv_sub hl [1, 2, 3, 0] rfl)
    · refine lv_iconst (v := nI 0) hx hb dX17_readNotes_28 (by decide) ?_
      subst hQ
      have hfin : notesR lb sd x0 = ((x0.1, v), false) := by unfold notesR; rw [hbv]; exact if_pos (by first | exact Or.inl c16 | (right; show lb.length < v.1 + bi; omega))
      have h : Wd D B s ([(p9, .inr (12, [.ref ba, .int (nI v.1), .int (bZ v.2)])), (se, .inr (14, [.ref ba, .int ty, .int ha, .int sE, .int le, va_rf s9, .long (oL x0.1.1), .long (lN x0.1.2.1), .long (lN x0.1.2.2.1), va_rf q1, va_rf q2, .int (oI x0.1.2.2.2.2.2.2.1), .int (oI x0.1.2.2.2.2.2.2.2.1), va_rf q3, .int (bZ x0.1.2.2.2.2.2.2.2.2.1), .int tr, .int (bZ (x0.1.2.2.2.2.2.2.2.2.2 0)), .int (bZ (x0.1.2.2.2.2.2.2.2.2.2 1)), .int (bZ (x0.1.2.2.2.2.2.2.2.2.2 2))]))] ++ (F ++ [])) H locs := by rw [List.append_nil]; exact h
      refine n_top (y := bZ false) rfl ?_
      exact ret_z C hr hlocks h (x0.1, v, q1, q2, q3, []) (fun q => by rw [hfin] at q; cases q) (by rw [hfin]) rfl (by omega) (by omega) dX17_readNotes_29
