set_option maxRecDepth 100000
set_option maxHeartbeats 400000 in
set_option maxRecDepth 100000 in
theorem c6_reduce (l : Launch) (D : va_G) (dA : Nat → ClassId) (B : Nat) (Z : State → Prop) (hZ : Stab B Z) (F : va_W) (po pr a0 m9 b9 r9 dg sh : Nat) (g gm : Nat → Nat) (hpo : (po, .inr (4, [.ref m9, .ref b9, .ref r9, .ref pr, .int (nI dg), .int (nI sh)])) ∈ F) (hmo : (m9, iar dA 66 gm) ∈ F) (hd : dg ≤ 65) (hd1 : 1 ≤ dg) (ha : a0 + dg < 134) (hg : ∀ j, j < 134 → g j < 65536) (hgm : ∀ j, j < 66 → gm j < 65536) (ht : gm (dg - 1) ≠ 0) (hT : dv 65536 (fun q => g (a0 + q)) (dg + 1) < dv 65536 gm dg * 65536) :
    Ct (S := Nat → Nat) l D dA B Z yX6_reduce cX6_reduce 11 none 2 0 0 [.ref po, .int (nI a0)] ([(pr, iar dA 134 g)] ++ F) (fun f2 => (∀ j, j < dg + 1 → f2 j < 65536) ∧ dv 65536 f2 (dg + 1) = dv 65536 (fun q => g (a0 + q)) (dg + 1) % (dv 65536 gm dg)) (fun _ => none) (fun f2 => [(pr, iar dA 134 (wnF a0 (dg + 1) f2 g))] ++ F) := by
  refine Ct.mk2 (by decide) (Nat.le_of_ble_eq_true rfl) hZ ?_
  intro p e R s m args below meth c ls Q C hr hlocks hin hQ hl h
  have C0 := C
  obtain ⟨hx, hb, hml, hown, hts, -⟩ := C0
  have hl : lv_has ls 11 [(0, .ref po), (1, .int (nI a0))] := hl
  have hg1 := hg (a0 + dg) (by omega)
  have hg2 := hg (a0 + dg - 1) (by omega)
  have hm1 := hgm (dg - 1) (by omega)
  have hgF : ∀ i, gmF gm dg i < 65536 := fun i => gmF_lt hgm hd
  refine lv_ldc2 hx hb hown (hts _ q1615) dX6_reduce_0 ?_
  refine n_topl (y := lN 65536) (by decide) ?_
  refine lv_aload_n hx hb dX6_reduce_3 rfl (lv_at hl 0 rfl) ?_
  refine o_get C h (RC := RX6) (T := TX6) (N := 6) (List.mem_append_right _ hpo) rfl in_X6 3 (by decide) q292 rfl (v := .ref pr) rfl dX6_reduce_4 ?_
  refine lv_iload_n hx hb dX6_reduce_7 rfl (lv_at hl 1 rfl) ?_
  refine lv_aload_n hx hb dX6_reduce_8 rfl (lv_at hl 0 rfl) ?_
  refine o_get C h (RC := RX6) (T := TX6) (N := 6) (List.mem_append_right _ hpo) rfl in_X6 4 (by decide) q293 rfl (v := .int (nI dg)) rfl dX6_reduce_9 ?_
  refine lv_iadd hx hb dX6_reduce_12 (n_top (y := nI (a0 + dg)) (nI_add a0 dg) ?_)
  refine n_iald C h (v := g (a0 + dg)) (List.mem_of_getElem? (i := 0) rfl) (show a0 + dg < 134 by omega) (by decide) rfl dX6_reduce_13 ?_
  refine lv_i2l (v := lN (g (a0 + dg))) hx hb dX6_reduce_14 (nI_l (by omega)) ?_
  refine lv_lmul hx hb dX6_reduce_15 (n_topl (y := lN (65536 * (g (a0 + dg)))) (lN_mul 65536 (g (a0 + dg))) ?_)
  refine lv_aload_n hx hb dX6_reduce_16 rfl (lv_at hl 0 rfl) ?_
  refine o_get C h (RC := RX6) (T := TX6) (N := 6) (List.mem_append_right _ hpo) rfl in_X6 3 (by decide) q292 rfl (v := .ref pr) rfl dX6_reduce_17 ?_
  refine lv_iload_n hx hb dX6_reduce_20 rfl (lv_at hl 1 rfl) ?_
  refine lv_aload_n hx hb dX6_reduce_21 rfl (lv_at hl 0 rfl) ?_
  refine o_get C h (RC := RX6) (T := TX6) (N := 6) (List.mem_append_right _ hpo) rfl in_X6 4 (by decide) q293 rfl (v := .int (nI dg)) rfl dX6_reduce_22 ?_
  refine lv_iadd hx hb dX6_reduce_25 (n_top (y := nI (a0 + dg)) (nI_add a0 dg) ?_)
  refine lv_iconst (v := nI 1) hx hb dX6_reduce_26 (by decide) ?_
  refine lv_isub hx hb dX6_reduce_27 (n_top (y := nI (a0 + dg - 1)) (pk_sub (by omega)) ?_)
  refine n_iald C h (v := g (a0 + dg - 1)) (List.mem_of_getElem? (i := 0) rfl) (show a0 + dg - 1 < 134 by omega) (by decide) rfl dX6_reduce_28 ?_
  refine lv_i2l (v := lN (g (a0 + dg - 1))) hx hb dX6_reduce_29 (nI_l (by omega)) ?_
  refine lv_ladd hx hb dX6_reduce_30 (n_topl (y := lN ((65536 * (g (a0 + dg))) + (g (a0 + dg - 1)))) (lN_add (65536 * (g (a0 + dg))) (g (a0 + dg - 1))) ?_)
  refine lv_lstore_n (lv' := [(2, .long (lN ((65536 * (g (a0 + dg))) + (g (a0 + dg - 1))))), (0, .ref po), (1, .int (nI a0))]) hx hb dX6_reduce_31 rfl hl (by decide) rfl (fun ls hl => ?_)
  refine lv_ldc2 hx hb hown (hts _ q1610) dX6_reduce_32 ?_
  refine n_topl (y := lN 65535) (by decide) ?_
  refine lv_lload_n hx hb dX6_reduce_35 rfl (lv_at hl 0 rfl) ?_
  refine lv_aload_n hx hb dX6_reduce_36 rfl (lv_at hl 1 rfl) ?_
  refine o_get C h (RC := RX6) (T := TX6) (N := 6) (List.mem_append_right _ hpo) rfl in_X6 0 (by decide) q289 rfl (v := .ref m9) rfl dX6_reduce_37 ?_
  refine lv_aload_n hx hb dX6_reduce_40 rfl (lv_at hl 1 rfl) ?_
  refine o_get C h (RC := RX6) (T := TX6) (N := 6) (List.mem_append_right _ hpo) rfl in_X6 4 (by decide) q293 rfl (v := .int (nI dg)) rfl dX6_reduce_41 ?_
  refine lv_iconst (v := nI 1) hx hb dX6_reduce_44 (by decide) ?_
  refine lv_isub hx hb dX6_reduce_45 (n_top (y := nI (dg - 1)) (pk_sub (by omega)) ?_)
  refine n_iald C h (v := gm (dg - 1)) (List.mem_append_right _ hmo) (show dg - 1 < 66 by omega) (by decide) rfl dX6_reduce_46 ?_
  refine lv_i2l (v := lN (gm (dg - 1))) hx hb dX6_reduce_47 (nI_l (by omega)) ?_
  refine lv_ldiv hx hb dX6_reduce_48 (show ¬ lN (gm (dg - 1)) = lN 0 from fun z => ht ((pk_lEQ (by omega) (by decide)).mp z)) ?_
  refine n_topl (y := lN ((65536 * g (a0 + dg) + g (a0 + dg - 1)) / gm (dg - 1))) (l_div (by omega) (by omega) (by omega)) ?_
  have hdq : (65536 * g (a0 + dg) + g (a0 + dg - 1)) / gm (dg - 1) ≤ 65536 * g (a0 + dg) + g (a0 + dg - 1) := Nat.div_le_self _ _
  refine n_mminl C h (a := 65535) (b := (65536 * g (a0 + dg) + g (a0 + dg - 1)) / gm (dg - 1)) (by omega) (by omega) q1616 q1391 q144 q1392 hl.1 (by decide) (Nat.le_of_ble_eq_true rfl) (by omega) (by omega) dX6_reduce_49 ?_
  obtain ⟨qq, hqq⟩ : ∃ z, z = min 65535 ((65536 * g (a0 + dg) + g (a0 + dg - 1)) / gm (dg - 1)) := ⟨_, rfl⟩
  rw [← hqq]
  have hq1 : qq ≤ 65535 := by rw [hqq]; exact Nat.min_le_left _ _
  have hq2 : dv 65536 (fun q => g (a0 + q)) (dg + 1) / (dv 65536 gm dg) ≤ qq := by
    have z := q_ge (f := (fun q => g (a0 + q))) (gm := gm) hd1 (fun j hj => hg _ (by omega)) ht hT
    rw [hqq, show a0 + dg - 1 = a0 + (dg - 1) by omega]
    exact z
  refine lv_lstore (lv' := [(4, .long (lN qq)), (2, .long (lN ((65536 * (g (a0 + dg))) + (g (a0 + dg - 1))))), (0, .ref po), (1, .int (nI a0))]) hx hb dX6_reduce_52 hl (by decide) rfl (fun ls hl => ?_)
  refine lv_lconst (v := lN 0) hx hb dX6_reduce_54 (by decide) ?_
  refine lv_lstore (lv' := [(6, .long (lN 0)), (4, .long (lN qq)), (2, .long (lN ((65536 * (g (a0 + dg))) + (g (a0 + dg - 1))))), (0, .ref po), (1, .int (nI a0))]) hx hb dX6_reduce_55 hl (by decide) rfl (fun ls hl => ?_)
  refine lv_iconst (v := nI 0) hx hb dX6_reduce_57 (by decide) ?_
  refine lv_istore (lv' := [(8, .int (nI 0)), (6, .long (lN 0)), (4, .long (lN qq)), (2, .long (lN ((65536 * (g (a0 + dg))) + (g (a0 + dg - 1))))), (0, .ref po), (1, .int (nI a0))]) hx hb dX6_reduce_58 hl (by decide) rfl (fun ls hl => ?_)
  have h : Wd D B s ([(pr, iar dA 134 (wnF a0 0 (dW (fun q => g (a0 + q)) (gmF gm dg) qq) g))] ++ F) s.heap [] := by rw [wnF_0]; exact h
  have hl : lv_has ls 11 [(8, .int (nI 0)), (6, .long (mC (bW (fun q => g (a0 + q)) (gmF gm dg) qq 0))), (4, .long (lN qq)), (2, .long (lN ((65536 * (g (a0 + dg))) + (g (a0 + dg - 1))))), (0, .ref po), (1, .int (nI a0))] := by
    have e0 : lN 0 = mC (bW (fun q => g (a0 + q)) (gmF gm dg) qq 0) := (show lN 0 = mC 0 by decide)
    rw [← e0]; exact hl
  have loop : ∀ (nn : Nat) (i : Nat), (i ≤ dg + 1) → dg + 1 - i < nn → ∀ (H : Heap) (locs : List Loc), Wd D B s ([(pr, iar dA 134 (wnF a0 i (dW (fun q => g (a0 + q)) (gmF gm dg) qq) g))] ++ F) H locs → ∀ (ls : Array Slot), lv_has ls 11 [(8, .int (nI i)), (6, .long (mC (bW (fun q => g (a0 + q)) (gmF gm dg) qq i))), (4, .long (lN qq)), (1, .int (nI a0)), (0, .ref po)] → W p l e R s m args below meth c H locs 0 0 Q (F0 m 60 ls []) := by
    intro nn
    induction nn with
    | zero => intro i  hi0 hme; exact absurd hme (Nat.not_lt_zero _)
    | succ nn ih =>
      intro i  hi0 hme H locs h ls hl
      refine lv_iload hx hb dX6_reduce_60 (lv_at hl 0 rfl) ?_
      refine lv_aload_n hx hb dX6_reduce_62 rfl (lv_at hl 4 rfl) ?_
      refine o_get C h (RC := RX6) (T := TX6) (N := 6) (List.mem_append_right _ hpo) rfl in_X6 4 (by decide) q293 rfl (v := .int (nI dg)) rfl dX6_reduce_63 ?_
      refine n_icmp_gt (tgt := 138) hx hb (by omega) (by omega) dX6_reduce_66 (by decide) (fun c66 => ?_) (fun c66 => ?_)
      · have hie : i = dg + 1 := by omega
        rw [hie] at h hl
        have h : Wd D B s ([(pr, iar dA 134 (wnF a0 (dg + 1) (dW (fun q => g (a0 + q)) (gmF gm dg) qq) g))] ++ F) H locs := h
        have hl : lv_has ls 11 [(6, .long (mC (bW (fun q => g (a0 + q)) (gmF gm dg) qq (dg + 1)))), (4, .long (lN qq)), (1, .int (nI a0)), (0, .ref po)] := lv_sub hl [1, 2, 3, 4] rfl
        have hMp : 0 < dv 65536 gm dg := by
          rcases Nat.eq_zero_or_pos (dv 65536 gm dg) with z | z
          · rw [z, Nat.zero_mul] at hT; exact absurd hT (Nat.not_lt_zero _)
          · exact z
        have hst := RdI.start (f := (fun q => g (a0 + q))) hd1 hd (fun j hj => hg _ (by omega)) hgm hMp hq1 hq2
        have loopb : ∀ (nnb : Nat) (f2 : Nat → Nat) (q1 c1 : Nat), (RdI (dv 65536 (fun q => g (a0 + q)) (dg + 1)) (dv 65536 gm dg) dg f2 q1 c1) → q1 < nnb → ∀ (H : Heap) (locs : List Loc), Wd D B s ([(pr, iar dA 134 (wnF a0 (dg + 1) f2 g))] ++ F) H locs → ∀ (ls : Array Slot), lv_has ls 11 [(6, .long (mC c1)), (1, .int (nI a0)), (0, .ref po)] → W p l e R s m args below meth c H locs 0 0 Q (F0 m 138 ls []) := by
          intro nnb
          induction nnb with
          | zero => intro f2  q1 c1  hri hme; exact absurd hme (Nat.not_lt_zero _)
          | succ nnb ihb =>
            intro f2  q1 c1  hri hme H locs h ls hl
            refine lv_lload hx hb dX6_reduce_138 (lv_at hl 0 rfl) ?_
            refine lv_lconst (v := lN 0) hx hb dX6_reduce_140 (by decide) ?_
            refine k_lcmp_ge (tgt := 158) hx hb dX6_reduce_141 dX6_reduce_142 (by decide) (fun c141 => ?_) (fun c141 => ?_)
            · subst hQ
              have hc0 : c1 = 0 := by
                have := hri.1
                rcases (show c1 = 0 ∨ c1 = 1 by omega) with z | z
                · exact z
                · exact absurd c141 (by rw [z]; decide)
              rw [hc0] at hri
              exact ret_v C hr hlocks h f2 (⟨hri.2.1, hri.fin⟩) rfl rfl (by omega) (by omega) dX6_reduce_158
            · have hc1 : c1 = 1 := by
                have := hri.1
                rcases (show c1 = 0 ∨ c1 = 1 by omega) with z | z
                · exact absurd (show lN 0 ≤ mC c1 by rw [z]; decide) c141
                · exact z
              rw [hc1] at hri hl
              have hl : lv_has ls 11 [(6, .long (mC 1)), (1, .int (nI a0)), (0, .ref po)] := hl
              have hri2 : RdI (dv 65536 (fun q => g (a0 + q)) (dg + 1)) (dv 65536 gm dg) dg (fun q => wnF a0 (dg + 1) f2 g (a0 + q)) q1 1 := hri.cg (fun j hj => wnF_in hj)
              have hbk := RdI.back rfl hgF hri2
              have hgw : ∀ j, j < 134 → wnF a0 (dg + 1) f2 g j < 65536 := by
                intro j hj
                unfold wnF
                split
                · exact hri.2.1 _ (by omega)
                · exact hg j hj
              refine lv_lload hx hb dX6_reduce_145 (lv_at hl 0 rfl) ?_
              refine lv_aload_n hx hb dX6_reduce_147 rfl (lv_at hl 2 rfl) ?_
              refine lv_iload_n hx hb dX6_reduce_148 rfl (lv_at hl 1 rfl) ?_
              refine call_VR (As := [.int (nI a0)]) (rest := [.long (mC 1)]) (n := 1) C h (c6_addBack l D dA B Z hZ F po pr a0 m9 b9 r9 dg sh (wnF a0 (dg + 1) f2 g) gm hpo hmo hd ha hgw hgm) (lw_V q1617 q1619 qs26 q137 q1620) (by decide +kernel) (o_recv C h (RC := RX6) (T := TX6) (N := 6) (List.mem_append_right _ hpo) rfl) (by decide) (by decide) rfl hl rfl (Nat.le_of_ble_eq_true rfl) dX6_reduce_149 (by omega) (fun _ H locs _ h => ?_)
              have h : Wd D B s ([(pr, iar dA 134 (wnF a0 (dg + 1) (sD (fun q => wnF a0 (dg + 1) f2 g (a0 + q)) (gmF gm dg)) (wnF a0 (dg + 1) f2 g)))] ++ F) H locs := h.permL (perm_add (fun g f p0 p1 p2 => by (try simp only [p0, p1, p2]) <;> omega))
              rw [wnF_wnF] at h
              have h : Wd D B s ([(pr, iar dA 134 (wnF a0 (dg + 1) (sD (fun q => wnF a0 (dg + 1) f2 g (a0 + q)) (gmF gm dg)) g))] ++ F) H locs := h
              refine lv_ladd hx hb dX6_reduce_152 ?_
              refine n_topl (y := mC (1 - cA (fun q => wnF a0 (dg + 1) f2 g (a0 + q)) (gmF gm dg) (dg + 1))) (mC_back (cA_lt _ (fun j hj => hri2.2.1 j hj) (fun j _ => hgF j))) ?_
              refine lv_lstore (lv' := [(6, .long (mC (1 - cA (fun q => wnF a0 (dg + 1) f2 g (a0 + q)) (gmF gm dg) (dg + 1)))), (1, .int (nI a0)), (0, .ref po)]) hx hb dX6_reduce_153 hl (by decide) rfl (fun ls hl => ?_)
              refine lv_goto (tgt := 138) hx hb dX6_reduce_155 (by decide) ?_
              exact ihb _ (q1 - 1) _ hbk.2 (by have := hbk.1; omega) _ _ h _ (lv_sub hl [0, 1, 2] rfl)
        exact loopb _ _ qq _ hst (Nat.lt_succ_self _) _ _ h _ (lv_sub hl [0, 2, 3] rfl)
      · have hgi := hg (a0 + i) (by omega)
        have hmi := hgF i
        have hbw := bW_lt (f := (fun q => g (a0 + q))) (m := (gmF gm dg)) hq1 i (fun j _ => hgF j)
        have hqm : qq * gmF gm dg i ≤ 65535 * 65535 := Nat.mul_le_mul hq1 (by omega)
        refine lv_aload_n hx hb dX6_reduce_69 rfl (lv_at hl 4 rfl) ?_
        refine o_get C h (RC := RX6) (T := TX6) (N := 6) (List.mem_append_right _ hpo) rfl in_X6 3 (by decide) q292 rfl (v := .ref pr) rfl dX6_reduce_70 ?_
        refine lv_iload_n hx hb dX6_reduce_73 rfl (lv_at hl 3 rfl) ?_
        refine lv_iload hx hb dX6_reduce_74 (lv_at hl 0 rfl) ?_
        refine lv_iadd hx hb dX6_reduce_76 (n_top (y := nI (a0 + i)) (nI_add a0 i) ?_)
        refine n_iald C h (v := (wnF a0 i (dW (fun q => g (a0 + q)) (gmF gm dg) qq) g) (a0 + i)) (List.mem_of_getElem? (i := 0) rfl) (show a0 + i < 134 by omega) (by decide) rfl dX6_reduce_77 ?_
        refine n_top (y := nI (g (a0 + i))) (by rw [wnF_hi]) ?_
        refine lv_i2l (v := lN (g (a0 + i))) hx hb dX6_reduce_78 (nI_l (by omega)) ?_
        have jg : ∀ (H : Heap) (locs : List Loc), Wd D B s ([(pr, iar dA 134 (wnF a0 i (dW (fun q => g (a0 + q)) (gmF gm dg) qq) g))] ++ F) H locs → ∀ (ls : Array Slot), lv_has ls 11 [(8, .int (nI i)), (6, .long (mC (bW (fun q => g (a0 + q)) (gmF gm dg) qq i))), (4, .long (lN qq)), (1, .int (nI a0)), (0, .ref po)] → W p l e R s m args below meth c H locs 0 0 Q (F0 m 103 ls [.long (lN (qq * gmF gm dg i)), .long (lN (g (a0 + i)))]) := by
          intro   H locs h ls hl
          refine lv_lsub hx hb dX6_reduce_103 ?_
          refine n_topl (y := lN (g (a0 + i)) - lN (qq * gmF gm dg i)) rfl ?_
          refine lv_lload hx hb dX6_reduce_104 (lv_at hl 1 rfl) ?_
          refine lv_ladd hx hb dX6_reduce_106 ?_
          refine lv_lstore (lv' := [(9, .long ((lN (g (a0 + i)) - lN (qq * gmF gm dg i)) + (mC (bW (fun q => g (a0 + q)) (gmF gm dg) qq i)))), (8, .int (nI i)), (6, .long (mC (bW (fun q => g (a0 + q)) (gmF gm dg) qq i))), (4, .long (lN qq)), (1, .int (nI a0)), (0, .ref po)]) hx hb dX6_reduce_107 hl (by decide) rfl (fun ls hl => ?_)
          refine lv_aload_n hx hb dX6_reduce_109 rfl (lv_at hl 5 rfl) ?_
          refine o_get C h (RC := RX6) (T := TX6) (N := 6) (List.mem_append_right _ hpo) rfl in_X6 3 (by decide) q292 rfl (v := .ref pr) rfl dX6_reduce_110 ?_
          refine lv_iload_n hx hb dX6_reduce_113 rfl (lv_at hl 4 rfl) ?_
          refine lv_iload hx hb dX6_reduce_114 (lv_at hl 1 rfl) ?_
          refine lv_iadd hx hb dX6_reduce_116 (n_top (y := nI (a0 + i)) (nI_add a0 i) ?_)
          refine lv_lload hx hb dX6_reduce_117 (lv_at hl 0 rfl) ?_
          refine lv_ldc2 hx hb hown (hts _ q1610) dX6_reduce_119 ?_
          refine n_topl (y := lN 65535) (by decide) ?_
          refine lv_land hx hb dX6_reduce_122 ?_
          refine n_topl (y := lN (dW (fun q => g (a0 + q)) (gmF gm dg) qq i)) (rd_lo hgi (by omega) (by omega)) ?_
          refine lv_l2i (v := nI (dW (fun q => g (a0 + q)) (gmF gm dg) qq i)) hx hb dX6_reduce_123 (lN_i _) ?_
          refine x_iast C h 0 (v := dW (fun q => g (a0 + q)) (gmF gm dg) qq i) (ws' := [(pr, iar dA 134 (upN (wnF a0 i (dW (fun q => g (a0 + q)) (gmF gm dg) qq) g) (a0 + i) (dW (fun q => g (a0 + q)) (gmF gm dg) qq i)))] ++ F) rfl (by omega) (by decide) rfl dX6_reduce_124 (fun H locs h => ?_)
          have h : Wd D B s ([(pr, iar dA 134 (wnF a0 (i + 1) (dW (fun q => g (a0 + q)) (gmF gm dg) qq) g))] ++ F) H locs := by rw [← wnF_s]; exact h
          refine lv_lload hx hb dX6_reduce_125 (lv_at hl 0 rfl) ?_
          refine lv_bipush (v := nI 16) hx hb dX6_reduce_127 (by decide) ?_
          refine n_lshr hx hb dX6_reduce_129 ?_
          refine n_topl (y := mC (bW (fun q => g (a0 + q)) (gmF gm dg) qq (i + 1))) (rd_hi hgi (by omega) (by omega)) ?_
          refine lv_lstore (lv' := [(6, .long (mC (bW (fun q => g (a0 + q)) (gmF gm dg) qq (i + 1)))), (9, .long ((lN (g (a0 + i)) - lN (qq * gmF gm dg i)) + (mC (bW (fun q => g (a0 + q)) (gmF gm dg) qq i)))), (8, .int (nI i)), (4, .long (lN qq)), (1, .int (nI a0)), (0, .ref po)]) hx hb dX6_reduce_130 hl (by decide) rfl (fun ls hl => ?_)
          refine lv_iinc (v := nI (i + 1)) (lv' := [(8, .int (nI (i + 1))), (6, .long (mC (bW (fun q => g (a0 + q)) (gmF gm dg) qq (i + 1)))), (9, .long ((lN (g (a0 + i)) - lN (qq * gmF gm dg i)) + (mC (bW (fun q => g (a0 + q)) (gmF gm dg) qq i)))), (4, .long (lN qq)), (1, .int (nI a0)), (0, .ref po)]) hx hb dX6_reduce_132 hl (k := 2) rfl (nI_add i 1) (by decide) rfl (fun ls hl => ?_)
          refine lv_goto (tgt := 60) hx hb dX6_reduce_135 (by decide) ?_
          exact ih (i + 1) (by omega) (by omega) _ _ h _ (lv_sub hl [0, 1, 3, 4, 5] rfl)
        refine lv_iload hx hb dX6_reduce_79 (lv_at hl 0 rfl) ?_
        refine lv_aload_n hx hb dX6_reduce_81 rfl (lv_at hl 4 rfl) ?_
        refine o_get C h (RC := RX6) (T := TX6) (N := 6) (List.mem_append_right _ hpo) rfl in_X6 4 (by decide) q293 rfl (v := .int (nI dg)) rfl dX6_reduce_82 ?_
        refine n_icmp_ge (tgt := 102) hx hb (by omega) (by omega) dX6_reduce_85 (by decide) (fun c85 => ?_) (fun c85 => ?_)
        · refine lv_lconst (v := lN 0) hx hb dX6_reduce_102 (by decide) ?_
          refine n_topl (y := lN (qq * gmF gm dg i)) (by unfold gmF; first | rw [if_pos (by omega)] | rw [if_neg (by omega), Nat.mul_zero]) ?_
          exact jg   _ _ h _ (lv_sub hl [0, 1, 2, 3, 4] rfl)
        · have hgm2 := hgm i (by omega)
          refine lv_lload hx hb dX6_reduce_88 (lv_at hl 2 rfl) ?_
          refine lv_aload_n hx hb dX6_reduce_90 rfl (lv_at hl 4 rfl) ?_
          refine o_get C h (RC := RX6) (T := TX6) (N := 6) (List.mem_append_right _ hpo) rfl in_X6 0 (by decide) q289 rfl (v := .ref m9) rfl dX6_reduce_91 ?_
          refine lv_iload hx hb dX6_reduce_94 (lv_at hl 0 rfl) ?_
          refine n_iald C h (v := gm i) (List.mem_append_right _ hmo) (show i < 66 by omega) (by decide) rfl dX6_reduce_96 ?_
          refine lv_i2l (v := lN (gm i)) hx hb dX6_reduce_97 (nI_l (by omega)) ?_
          refine lv_lmul hx hb dX6_reduce_98 (n_topl (y := lN (qq * (gm i))) (lN_mul qq (gm i)) ?_)
          refine lv_goto (tgt := 103) hx hb dX6_reduce_99 (by decide) ?_
          refine n_topl (y := lN (qq * gmF gm dg i)) (by unfold gmF; first | rw [if_pos (by omega)] | rw [if_neg (by omega), Nat.mul_zero]) ?_
          exact jg   _ _ h _ (lv_sub hl [0, 1, 2, 3, 4] rfl)
  exact loop _ 0 (by omega) (Nat.lt_succ_self _) _ _ h _ (lv_sub hl [0, 1, 2, 5, 4] rfl)
