set_option maxRecDepth 100000

theorem w4_sb (x : Int32) {i : Nat} (hi : i < 4) : (shr x (nI (24 - 8 * i))).toInt8.toInt32 = sb_b (uI x / 2 ^ (8 * (3 - i)) % 256) := by
  unfold sb_b
  congr 1
  apply Int8.toBitVec_inj.mp
  rw [Int32.toBitVec_toInt8, Int32.toBitVec_toInt8, BitVec.signExtend_eq_setWidth_of_le _ (by decide), BitVec.signExtend_eq_setWidth_of_le _ (by decide)]
  apply BitVec.eq_of_getLsbD_eq
  intro j hj
  rw [BitVec.getLsbD_setWidth, BitVec.getLsbD_setWidth]
  congr 1
  have e1 : (shr x (nI (24 - 8 * i))).toBitVec = x.toBitVec.sshiftRight (24 - 8 * i) := by
    rcases (show i = 0 ∨ i = 1 ∨ i = 2 ∨ i = 3 by omega) with rfl | rfl | rfl | rfl <;> rfl
  have e2 : (nI (uI x / 2 ^ (8 * (3 - i)) % 256)).toBitVec.getLsbD j = (uI x).testBit (8 * (3 - i) + j) := by
    show (BitVec.ofNat 32 _).getLsbD j = _
    rw [BitVec.getLsbD_ofNat, show (256 : Nat) = 2 ^ 8 from rfl, Nat.testBit_mod_two_pow, Nat.testBit_div_two_pow, show j + 8 * (3 - i) = 8 * (3 - i) + j by omega]
    simp [hj, show j < 32 by omega]
  rw [e1, e2, BitVec.getLsbD_sshiftRight]
  have e3 : 24 - 8 * i + j < 32 := by omega
  simp only [e3, if_true]
  have e4 : 24 - 8 * i = 8 * (3 - i) := by omega
  rw [e4]
  have e5 : ¬ 32 ≤ j := by omega
  simp [e5]
  rfl
theorem dg2_get (x : Nat → Int32) : ∀ (n : Nat) {j : Nat}, j < 4 * n → gD (dg2 x n) j = uI (x (j / 4)) / 2 ^ (8 * (3 - j % 4)) % 256
  | 0, j, h => by omega
  | n + 1, j, h => by
    rw [dg2_succ]
    rcases Nat.lt_or_ge j (4 * n) with q | q
    · rw [gD_appL (by rw [dg2_len]; exact q)]; exact dg2_get x n q
    · rw [gD_appR (by rw [dg2_len]; exact q), dg2_len]
      have e : j / 4 = n := by omega
      have e2 : j % 4 = j - 4 * n := by omega
      rw [e, e2]
      show (sl _ 0 4).getD (j - 4 * n) 0 = _
      rw [sl_getD (by omega)]
      show uI (x n) / 2 ^ (8 * (4 - 1 - (0 + (j - 4 * n)))) % 256 = _
      rw [Nat.zero_add]
theorem dg1_2 (x : H5) : dg1 x = dg2 (t5 x) 5 := by
  unfold dg1
  rw [dg2_succ, dg2_succ, dg2_succ, dg2_succ, dg2_succ]
  rfl
theorem pad_sum (msg : List Nat) : msg ++ [128] ++ List.replicate (padz msg.length) 0 ++ be 8 (8 * msg.length) = padded msg := by
  unfold padded pad
  simp

set_option maxHeartbeats 400000 in
set_option maxRecDepth 100000 in
theorem c4_end (l : Launch) (D : va_G) (dA : Nat → ClassId) (B : Nat) (Z : State → Prop) (hZ : Stab B Z) (F : va_W) (ho st fi bl wo : Nat) (gw : Nat → Int32) (gb : Nat → Nat) (msg : List Nat) (ra nr : Nat) (gr : Nat → Nat)  (hbk : Blk gb msg) (hml : msg.length < 800000) (hnr : 20 ≤ nr) (hnr2 : nr < 1000000) :
    Ct (S := (Nat → Int32) × (Nat → Int32) × (Nat → Nat)) l D dA B Z yX3_end cX3_end 5 none 6 0 0 [.ref ho, .ref ra] ([(ho, .inr (2, [.ref st, .ref fi, .ref bl, .long (lN msg.length), .ref wo])), (st, war dA 5 (t5 (hs1 msg (msg.length / 64)))), (wo, war dA 80 gw), (bl, bar dA 64 gb), (ra, bar dA nr gr)] ++ F) (fun u => Blk u.2.2 (padded msg)) (fun _ => none) (fun u => [(ho, .inr (2, [.ref st, .ref fi, .ref bl, .long (lN ((padded msg).length)), .ref wo])), (st, war dA 5 (t5 (hs1 (padded msg) ((padded msg).length / 64)))), (wo, war dA 80 u.1), (bl, bar dA 64 u.2.2), (ra, bar dA nr (mixF 20 (gD (sha1 msg)) gr))] ++ F) := by
  refine Ct.mk2 (by decide) (Nat.le_of_ble_eq_true rfl) hZ ?_
  intro p e R s m args below meth c ls Q C hr hlocks hin hQ hl h
  have C0 := C
  obtain ⟨hx, hb, hml, hown, hts, -⟩ := C0
  have hl : lv_has ls 5 [(0, .ref ho), (1, .ref ra)] := hl
  refine lv_ldc2 hx hb hown (hts _ q1243) dX3_end_0 ?_
  refine n_topl (y := lN 8) (by decide) ?_
  refine lv_aload_n hx hb dX3_end_3 rfl (lv_at hl 0 rfl) ?_
  refine o_get C h (RC := RX4) (T := TX4) (N := 5) (List.mem_of_getElem? (i := 0) rfl) rfl in_X4 3 (by decide) q242 rfl (v := .long (lN msg.length)) rfl dX3_end_4 ?_
  refine lv_lmul hx hb dX3_end_7 (n_topl (y := lN (8 * msg.length)) (lN_mul 8 msg.length) ?_)
  refine lv_lstore_n (lv' := [(2, .long (lN (8 * msg.length))), (0, .ref ho), (1, .ref ra)]) hx hb dX3_end_8 rfl hl (by decide) rfl (fun ls hl => ?_)
  refine lv_aload_n hx hb dX3_end_9 rfl (lv_at hl 1 rfl) ?_
  refine lv_sipush (v := nI 128) hx hb dX3_end_10 (by decide) ?_
  have h : Wd D B s ([(ho, .inr (2, [.ref st, .ref fi, .ref bl, .long (lN msg.length), .ref wo])), (st, war dA 5 (t5 (hs1 msg (msg.length / 64)))), (wo, war dA 80 gw), (bl, bar dA 64 gb)] ++ ([(ra, bar dA nr gr)] ++ F)) s.heap [] := h.permL (perm_add (fun g f p0 p1 p2 => by (try simp only [p0, p1, p2]) <;> omega))
  refine call_U (As := [.int (nI 128)]) (rest := []) (n := 1) C h (c4_put l D dA B Z hZ ([(ra, bar dA nr gr)] ++ F) ho st fi bl wo gw gb (msg) _ (128) hbk (by omega) (by decide) (by decide)) (lw_U q1230 q1192 q1193 q1191 q134 q1195) rfl (by decide +kernel) (o_recv C h (RC := RX4) (T := TX4) (N := 5) (List.mem_of_getElem? (i := 0) rfl) rfl) (by decide) (by decide) rfl hl rfl (Nat.le_of_ble_eq_true rfl) dX3_end_13 (by omega) (fun u3 H locs hb0 h => ?_)
  obtain ⟨g0, y0, gb0⟩ := u3
  dsimp only at hb0
  have h : Wd D B s ([(ho, .inr (2, [.ref st, .ref fi, .ref bl, .long (lN ((msg ++ [128]).length)), .ref wo])), (st, war dA 5 (t5 (hs1 (msg ++ [128]) ((msg ++ [128]).length / 64)))), (wo, war dA 80 g0), (bl, bar dA 64 gb0), (ra, bar dA nr gr)] ++ F) H locs := h.permL (perm_add (fun g f p0 p1 p2 => by (try simp only [p0, p1, p2]) <;> omega))
  have e5 : msg ++ [128] = msg ++ [128] ++ List.replicate 0 0 := by rw [List.replicate_zero, List.append_nil]
  rw [e5] at h hb0
  have loop : ∀ (nn : Nat) (i : Nat) (g1 y1 : Nat → Int32) (gb1 : Nat → Nat), (i ≤ padz msg.length) → (Blk gb1 (msg ++ [128] ++ List.replicate i 0)) → padz msg.length - i < nn → ∀ (H : Heap) (locs : List Loc), Wd D B s ([(ho, .inr (2, [.ref st, .ref fi, .ref bl, .long (lN ((msg ++ [128] ++ List.replicate i 0).length)), .ref wo])), (st, war dA 5 (t5 (hs1 (msg ++ [128] ++ List.replicate i 0) ((msg ++ [128] ++ List.replicate i 0).length / 64)))), (wo, war dA 80 g1), (bl, bar dA 64 gb1), (ra, bar dA nr gr)] ++ F) H locs → ∀ (ls : Array Slot), lv_has ls 5 [(2, .long (lN (8 * msg.length))), (0, .ref ho), (1, .ref ra)] → W p l e R s m args below meth c H locs (0 + 0) (0 + 0) Q (F0 m 16 ls []) := by
    intro nn
    induction nn with
    | zero => intro i  g1 y1  gb1  hi hb1 hme; exact absurd hme (Nat.not_lt_zero _)
    | succ nn ih =>
      intro i  g1 y1  gb1  hi hb1 hme H locs h ls hl
      have hlen : (msg ++ [128] ++ List.replicate i 0).length = msg.length + 1 + i := by rw [List.length_append, List.length_append, List.length_replicate]; rfl
      have hpz := padz_lt msg.length
      refine lv_aload_n hx hb dX3_end_16 rfl (lv_at hl 1 rfl) ?_
      refine o_get C h (RC := RX4) (T := TX4) (N := 5) (List.mem_of_getElem? (i := 0) rfl) rfl in_X4 3 (by decide) q242 rfl (v := .long (lN ((msg ++ [128] ++ List.replicate i 0).length))) rfl dX3_end_17 ?_
      refine lv_ldc2 hx hb hown (hts _ q1196) dX3_end_20 ?_
      refine n_topl (y := lN 63) (by decide) ?_
      refine lv_land hx hb dX3_end_23 (n_topl (y := lN (((msg ++ [128] ++ List.replicate i 0).length) % 64)) (l_andN (k := 6) (by omega) (by decide)) ?_)
      refine lv_ldc2 hx hb hown (hts _ q1244) dX3_end_24 ?_
      refine n_topl (y := lN 56) (by decide) ?_
      refine n_lcmp_eq (tgt := 39) hx hb (by omega) (by omega) dX3_end_27 dX3_end_28 (by decide) (fun c27 => ?_) (fun c27 => ?_)
      · have c27h : (msg.length + 1 + i) % 64 = 56 := by rw [← hlen]; exact c27
        have hie := pad_end hi c27h
        rw [hie] at h hb1
        refine lv_aload_n hx hb dX3_end_39 rfl (lv_at hl 1 rfl) ?_
        refine lv_lload_n hx hb dX3_end_40 rfl (lv_at hl 0 rfl) ?_
        refine lv_bipush (v := nI 8) hx hb dX3_end_41 (by decide) ?_
        have h : Wd D B s ([(ho, .inr (2, [.ref st, .ref fi, .ref bl, .long (lN ((msg ++ [128] ++ List.replicate (padz msg.length) 0).length)), .ref wo])), (st, war dA 5 (t5 (hs1 (msg ++ [128] ++ List.replicate (padz msg.length) 0) ((msg ++ [128] ++ List.replicate (padz msg.length) 0).length / 64)))), (wo, war dA 80 g1), (bl, bar dA 64 gb1)] ++ ([(ra, bar dA nr gr)] ++ F)) H locs := h.permL (perm_add (fun g f p0 p1 p2 => by (try simp only [p0, p1, p2]) <;> omega))
        refine call_U (As := [.long (lN (8 * msg.length)), .int (nI 8)]) (rest := []) (n := 2) C h (c4_number l D dA B Z hZ ([(ra, bar dA nr gr)] ++ F) ho st fi bl wo g1 gb1 (msg ++ [128] ++ List.replicate (padz msg.length) 0) (8 * msg.length) 8 hb1 (by omega) (by omega) (by rw [← hie]; omega)) (lw_U q1245 q1226 q1227 q1225 q134 q1229) rfl (by decide +kernel) (o_recv C h (RC := RX4) (T := TX4) (N := 5) (List.mem_of_getElem? (i := 0) rfl) rfl) (by decide) (by decide) rfl hl rfl (Nat.le_of_ble_eq_true rfl) dX3_end_43 (by omega) (fun u3 H locs hb3 h => ?_)
        obtain ⟨g3, y3, gb3⟩ := u3
        dsimp only at hb3
        have h : Wd D B s ([(ho, .inr (2, [.ref st, .ref fi, .ref bl, .long (lN ((msg ++ [128] ++ List.replicate (padz msg.length) 0 ++ be 8 (8 * msg.length)).length)), .ref wo])), (st, war dA 5 (t5 (hs1 (msg ++ [128] ++ List.replicate (padz msg.length) 0 ++ be 8 (8 * msg.length)) ((msg ++ [128] ++ List.replicate (padz msg.length) 0 ++ be 8 (8 * msg.length)).length / 64)))), (wo, war dA 80 g3), (bl, bar dA 64 gb3), (ra, bar dA nr gr)] ++ F) H locs := h.permL (perm_add (fun g f p0 p1 p2 => by (try simp only [p0, p1, p2]) <;> omega))
        rw [pad_sum] at h hb3
        refine lv_iconst (v := nI 0) hx hb dX3_end_46 (by decide) ?_
        refine lv_istore (lv' := [(4, .int (nI 0)), (2, .long (lN (8 * msg.length))), (0, .ref ho), (1, .ref ra)]) hx hb dX3_end_47 hl (by decide) rfl (fun ls hl => ?_)
        have h : Wd D B s ([(ho, .inr (2, [.ref st, .ref fi, .ref bl, .long (lN ((padded msg).length)), .ref wo])), (st, war dA 5 (t5 (hs1 (padded msg) ((padded msg).length / 64)))), (wo, war dA 80 g3), (bl, bar dA 64 gb3), (ra, bar dA nr (mixF 0 (gD (sha1 msg)) gr))] ++ F) H locs := by rw [mixF_0]; exact h
        have loopE : ∀ (nnE : Nat) (j : Nat), (j ≤ 20) → 20 - j < nnE → ∀ (H : Heap) (locs : List Loc), Wd D B s ([(ho, .inr (2, [.ref st, .ref fi, .ref bl, .long (lN ((padded msg).length)), .ref wo])), (st, war dA 5 (t5 (hs1 (padded msg) ((padded msg).length / 64)))), (wo, war dA 80 g3), (bl, bar dA 64 gb3), (ra, bar dA nr (mixF j (gD (sha1 msg)) gr))] ++ F) H locs → ∀ (ls : Array Slot), lv_has ls 5 [(4, .int (nI j)), (0, .ref ho), (1, .ref ra)] → W p l e R s m args below meth c H locs (0 + 0 + 0) (0 + 0 + 0) Q (F0 m 49 ls []) := by
          intro nnE
          induction nnE with
          | zero => intro j  hj hme; exact absurd hme (Nat.not_lt_zero _)
          | succ nnE ihE =>
            intro j  hj hme H locs h ls hl
            refine lv_iload hx hb dX3_end_49 (lv_at hl 0 rfl) ?_
            refine lv_aload_n hx hb dX3_end_51 rfl (lv_at hl 1 rfl) ?_
            have h : Wd D B s ([(ho, .inr (2, [.ref st, .ref fi, .ref bl, .long (lN ((padded msg).length)), .ref wo])), (st, war dA 5 (t5 (hs1 (padded msg) ((padded msg).length / 64)))), (wo, war dA 80 g3), (bl, bar dA 64 gb3)] ++ ([(ra, bar dA nr (mixF j (gD (sha1 msg)) gr))] ++ F)) H locs := h.permL (perm_add (fun g f p0 p1 p2 => by (try simp only [p0, p1, p2]) <;> omega))
            refine call_U (As := []) (rest := [.int (nI j)]) (n := 0) C h (c4_size l D dA B Z hZ ([(ra, bar dA nr (mixF j (gD (sha1 msg)) gr))] ++ F) ho st fi bl wo g3 gb3 (lN (padded msg).length) (t5 (hs1 (padded msg) ((padded msg).length / 64)))) (lw_U q1246 q1248 q1249 q1247 q134 q1251) rfl (by decide +kernel) (o_recv C h (RC := RX4) (T := TX4) (N := 5) (List.mem_of_getElem? (i := 0) rfl) rfl) (by decide) (by decide) rfl hl rfl (Nat.le_of_ble_eq_true rfl) dX3_end_52 (by omega) (fun _ H locs _ h => ?_)
            have h : Wd D B s ([(ho, .inr (2, [.ref st, .ref fi, .ref bl, .long (lN ((padded msg).length)), .ref wo])), (st, war dA 5 (t5 (hs1 (padded msg) ((padded msg).length / 64)))), (wo, war dA 80 g3), (bl, bar dA 64 gb3), (ra, bar dA nr (mixF j (gD (sha1 msg)) gr))] ++ F) H locs := h.permL (perm_add (fun g f p0 p1 p2 => by (try simp only [p0, p1, p2]) <;> omega))
            refine n_icmp_ge (tgt := 89) hx hb (by omega) (by omega) dX3_end_55 (by decide) (fun c55 => ?_) (fun c55 => ?_)
            · subst hQ
              rw [show j = 20 by omega] at h
              exact ret_v C hr hlocks h (g3, y3, gb3) hb3 rfl rfl (by omega) (by omega) dX3_end_89
            · refine lv_aload_n hx hb dX3_end_58 rfl (lv_at hl 2 rfl) ?_
              refine lv_iload hx hb dX3_end_59 (lv_at hl 0 rfl) ?_
              refine lv_aload_n hx hb dX3_end_61 rfl (lv_at hl 1 rfl) ?_
              refine o_get C h (RC := RX4) (T := TX4) (N := 5) (List.mem_of_getElem? (i := 0) rfl) rfl in_X4 0 (by decide) q239 rfl (v := .ref st) rfl dX3_end_62 ?_
              refine lv_iload hx hb dX3_end_65 (lv_at hl 0 rfl) ?_
              refine lv_iconst (v := nI 4) hx hb dX3_end_67 (by decide) ?_
              refine lv_idiv hx hb dX3_end_68 (by decide) (n_top (y := nI (j / 4)) (pk_div (by omega) (by omega) (by omega)) ?_)
              refine n_wald C h (v := (t5 (hs1 (padded msg) ((padded msg).length / 64))) (j / 4)) (List.mem_of_getElem? (i := 1) rfl) (show j / 4 < 5 by omega) (by decide) rfl dX3_end_69 ?_
              refine lv_bipush (v := nI 24) hx hb dX3_end_70 (by decide) ?_
              refine lv_bipush (v := nI 8) hx hb dX3_end_72 (by decide) ?_
              refine lv_iload hx hb dX3_end_74 (lv_at hl 0 rfl) ?_
              refine lv_iconst (v := nI 4) hx hb dX3_end_76 (by decide) ?_
              refine lv_irem hx hb dX3_end_77 (by decide) (n_top (y := nI (j % 4)) (pk_rem (by omega) (by omega) (by omega)) ?_)
              refine lv_imul hx hb dX3_end_78 (n_top (y := nI (8 * (j % 4))) (pk_mul 8 (j % 4)) ?_)
              refine lv_isub hx hb dX3_end_79 (n_top (y := nI (24 - (8 * (j % 4)))) (pk_sub (by omega)) ?_)
              refine n_ishr hx hb dX3_end_80 ?_
              refine lv_i2b (v := (shr ((t5 (hs1 (padded msg) ((padded msg).length / 64))) (j / 4)) (nI (24 - (8 * (j % 4))))).toInt8.toInt32) hx hb dX3_end_81 rfl ?_
              refine x_bast C h 4 (v := gD (sha1 msg) j) (ws' := [(ho, .inr (2, [.ref st, .ref fi, .ref bl, .long (lN ((padded msg).length)), .ref wo])), (st, war dA 5 (t5 (hs1 (padded msg) ((padded msg).length / 64)))), (wo, war dA 80 g3), (bl, bar dA 64 gb3), (ra, bar dA nr (upN (mixF j (gD (sha1 msg)) gr) j (gD (sha1 msg) j)))] ++ F) rfl (by omega) (by omega) (by
                rw [w4_sb _ (Nat.mod_lt _ (by decide)), sb_idem]
                congr 1
                unfold sha1
                rw [dg1_2]
                exact (dg2_get _ 5 (by omega)).symm) rfl dX3_end_82 (fun H locs h => ?_)
              rw [mixF_s] at h
              have h : Wd D B s ([(ho, .inr (2, [.ref st, .ref fi, .ref bl, .long (lN ((padded msg).length)), .ref wo])), (st, war dA 5 (t5 (hs1 (padded msg) ((padded msg).length / 64)))), (wo, war dA 80 g3), (bl, bar dA 64 gb3), (ra, bar dA nr (mixF (j + 1) (gD (sha1 msg)) gr))] ++ F) H locs := h
              refine lv_iinc (v := nI (j + 1)) (lv' := [(4, .int (nI (j + 1))), (0, .ref ho), (1, .ref ra)]) hx hb dX3_end_83 hl (k := 0) rfl (nI_add j 1) (by decide) rfl (fun ls hl => ?_)
              refine lv_goto (tgt := 49) hx hb dX3_end_86 (by decide) ?_
              exact ihE (j + 1) (by omega) (by omega) _ _ h _ (lv_sub hl [0, 1, 2] rfl)
        exact loopE _ 0 (Nat.zero_le _) (Nat.lt_succ_self _) _ _ h _ (lv_sub hl [0, 2, 3] rfl)
      · have c27h : (msg.length + 1 + i) % 64 ≠ 56 := by rw [← hlen]; exact c27
        refine lv_aload_n hx hb dX3_end_31 rfl (lv_at hl 1 rfl) ?_
        refine lv_iconst (v := nI 0) hx hb dX3_end_32 (by decide) ?_
        have h : Wd D B s ([(ho, .inr (2, [.ref st, .ref fi, .ref bl, .long (lN ((msg ++ [128] ++ List.replicate i 0).length)), .ref wo])), (st, war dA 5 (t5 (hs1 (msg ++ [128] ++ List.replicate i 0) ((msg ++ [128] ++ List.replicate i 0).length / 64)))), (wo, war dA 80 g1), (bl, bar dA 64 gb1)] ++ ([(ra, bar dA nr gr)] ++ F)) H locs := h.permL (perm_add (fun g f p0 p1 p2 => by (try simp only [p0, p1, p2]) <;> omega))
        refine call_U (As := [.int (nI 0)]) (rest := []) (n := 1) C h (c4_put l D dA B Z hZ ([(ra, bar dA nr gr)] ++ F) ho st fi bl wo g1 gb1 (msg ++ [128] ++ List.replicate i 0) _ (0) hb1 (by omega) (by decide) (by decide)) (lw_U q1230 q1192 q1193 q1191 q134 q1195) rfl (by decide +kernel) (o_recv C h (RC := RX4) (T := TX4) (N := 5) (List.mem_of_getElem? (i := 0) rfl) rfl) (by decide) (by decide) rfl hl rfl (Nat.le_of_ble_eq_true rfl) dX3_end_33 (by omega) (fun u3 H locs hb2 h => ?_)
        obtain ⟨g2, y2, gb2⟩ := u3
        dsimp only at hb2
        have h : Wd D B s ([(ho, .inr (2, [.ref st, .ref fi, .ref bl, .long (lN ((msg ++ [128] ++ List.replicate i 0 ++ [0]).length)), .ref wo])), (st, war dA 5 (t5 (hs1 (msg ++ [128] ++ List.replicate i 0 ++ [0]) ((msg ++ [128] ++ List.replicate i 0 ++ [0]).length / 64)))), (wo, war dA 80 g2), (bl, bar dA 64 gb2), (ra, bar dA nr gr)] ++ F) H locs := h.permL (perm_add (fun g f p0 p1 p2 => by (try simp only [p0, p1, p2]) <;> omega))
        have e5 : msg ++ [128] ++ List.replicate i 0 ++ [0] = msg ++ [128] ++ List.replicate (i + 1) 0 := by rw [List.replicate_succ', List.append_assoc]
        rw [e5] at h hb2
        refine lv_goto (tgt := 16) hx hb dX3_end_36 (by decide) ?_
        exact ih (i + 1) g2 y2 gb2 (pad_lt hi c27h) hb2 (by have := pad_lt hi c27h; omega) _ _ h _ (lv_sub hl [0, 1, 2] rfl)
  exact loop _ 0 g0 y0 gb0 (Nat.zero_le _) hb0 (Nat.lt_succ_self _) _ _ h _ (lv_sub hl [0, 1, 2] rfl)
set_option maxHeartbeats 400000 in
set_option maxRecDepth 100000 in
theorem c5_end (l : Launch) (D : va_G) (dA : Nat → ClassId) (B : Nat) (Z : State → Prop) (hZ : Stab B Z) (F : va_W) (ho st fi bl wo ei : Nat) (gw y : Nat → Int32) (gb : Nat → Nat) (msg : List Nat) (ra nr : Nat) (gr : Nat → Nat) (hzA : ∀ U : State, Z U → ∃ t, va_Z "SignetRing$Second" "ADD" "[I" (.ref t) (bA B) U U.heap ∧ va_T .int t 64 (fun j => .int (K2 j)) (bA B) U U.heap) (hbk : Blk gb msg) (hml : msg.length < 800000) (hnr : 32 ≤ nr) (hnr2 : nr < 1000000) :
    Ct (S := (Nat → Int32) × (Nat → Int32) × (Nat → Nat)) l D dA B Z yX3_end cX3_end 5 none 6 0 0 [.ref ho, .ref ra] ([(ho, .inr (3, [.ref st, .ref fi, .ref bl, .long (lN msg.length), .ref wo, .ref ei])), (st, war dA 8 (hs2 msg (msg.length / 64))), (wo, war dA 64 gw), (ei, war dA 8 y), (bl, bar dA 64 gb), (ra, bar dA nr gr)] ++ F) (fun u => Blk u.2.2 (padded msg)) (fun _ => none) (fun u => [(ho, .inr (3, [.ref st, .ref fi, .ref bl, .long (lN ((padded msg).length)), .ref wo, .ref ei])), (st, war dA 8 (hs2 (padded msg) ((padded msg).length / 64))), (wo, war dA 64 u.1), (ei, war dA 8 u.2.1), (bl, bar dA 64 u.2.2), (ra, bar dA nr (mixF 32 (gD (sha2 msg)) gr))] ++ F) := by
  refine Ct.mk2 (by decide) (Nat.le_of_ble_eq_true rfl) hZ ?_
  intro p e R s m args below meth c ls Q C hr hlocks hin hQ hl h
  have C0 := C
  obtain ⟨hx, hb, hml, hown, hts, -⟩ := C0
  have hl : lv_has ls 5 [(0, .ref ho), (1, .ref ra)] := hl
  refine lv_ldc2 hx hb hown (hts _ q1243) dX3_end_0 ?_
  refine n_topl (y := lN 8) (by decide) ?_
  refine lv_aload_n hx hb dX3_end_3 rfl (lv_at hl 0 rfl) ?_
  refine o_get C h (RC := RX5) (T := TX5) (N := 6) (List.mem_of_getElem? (i := 0) rfl) rfl in_X5 3 (by decide) q242 rfl (v := .long (lN msg.length)) rfl dX3_end_4 ?_
  refine lv_lmul hx hb dX3_end_7 (n_topl (y := lN (8 * msg.length)) (lN_mul 8 msg.length) ?_)
  refine lv_lstore_n (lv' := [(2, .long (lN (8 * msg.length))), (0, .ref ho), (1, .ref ra)]) hx hb dX3_end_8 rfl hl (by decide) rfl (fun ls hl => ?_)
  refine lv_aload_n hx hb dX3_end_9 rfl (lv_at hl 1 rfl) ?_
  refine lv_sipush (v := nI 128) hx hb dX3_end_10 (by decide) ?_
  have h : Wd D B s ([(ho, .inr (3, [.ref st, .ref fi, .ref bl, .long (lN msg.length), .ref wo, .ref ei])), (st, war dA 8 (hs2 msg (msg.length / 64))), (wo, war dA 64 gw), (ei, war dA 8 y), (bl, bar dA 64 gb)] ++ ([(ra, bar dA nr gr)] ++ F)) s.heap [] := h.permL (perm_add (fun g f p0 p1 p2 => by (try simp only [p0, p1, p2]) <;> omega))
  refine call_U (As := [.int (nI 128)]) (rest := []) (n := 1) C h (c5_put l D dA B Z hZ ([(ra, bar dA nr gr)] ++ F) ho st fi bl wo ei gw y gb (msg) _ (128) hzA hbk (by omega) (by decide) (by decide)) (lw_U q1230 q1192 q1194 q1191 q134 q1195) rfl (by decide +kernel) (o_recv C h (RC := RX5) (T := TX5) (N := 6) (List.mem_of_getElem? (i := 0) rfl) rfl) (by decide) (by decide) rfl hl rfl (Nat.le_of_ble_eq_true rfl) dX3_end_13 (by omega) (fun u3 H locs hb0 h => ?_)
  obtain ⟨g0, y0, gb0⟩ := u3
  dsimp only at hb0
  have h : Wd D B s ([(ho, .inr (3, [.ref st, .ref fi, .ref bl, .long (lN ((msg ++ [128]).length)), .ref wo, .ref ei])), (st, war dA 8 (hs2 (msg ++ [128]) ((msg ++ [128]).length / 64))), (wo, war dA 64 g0), (ei, war dA 8 y0), (bl, bar dA 64 gb0), (ra, bar dA nr gr)] ++ F) H locs := h.permL (perm_add (fun g f p0 p1 p2 => by (try simp only [p0, p1, p2]) <;> omega))
  have e5 : msg ++ [128] = msg ++ [128] ++ List.replicate 0 0 := by rw [List.replicate_zero, List.append_nil]
  rw [e5] at h hb0
  have loop : ∀ (nn : Nat) (i : Nat) (g1 y1 : Nat → Int32) (gb1 : Nat → Nat), (i ≤ padz msg.length) → (Blk gb1 (msg ++ [128] ++ List.replicate i 0)) → padz msg.length - i < nn → ∀ (H : Heap) (locs : List Loc), Wd D B s ([(ho, .inr (3, [.ref st, .ref fi, .ref bl, .long (lN ((msg ++ [128] ++ List.replicate i 0).length)), .ref wo, .ref ei])), (st, war dA 8 (hs2 (msg ++ [128] ++ List.replicate i 0) ((msg ++ [128] ++ List.replicate i 0).length / 64))), (wo, war dA 64 g1), (ei, war dA 8 y1), (bl, bar dA 64 gb1), (ra, bar dA nr gr)] ++ F) H locs → ∀ (ls : Array Slot), lv_has ls 5 [(2, .long (lN (8 * msg.length))), (0, .ref ho), (1, .ref ra)] → W p l e R s m args below meth c H locs (0 + 0) (0 + 0) Q (F0 m 16 ls []) := by
    intro nn
    induction nn with
    | zero => intro i  g1 y1  gb1  hi hb1 hme; exact absurd hme (Nat.not_lt_zero _)
    | succ nn ih =>
      intro i  g1 y1  gb1  hi hb1 hme H locs h ls hl
      have hlen : (msg ++ [128] ++ List.replicate i 0).length = msg.length + 1 + i := by rw [List.length_append, List.length_append, List.length_replicate]; rfl
      have hpz := padz_lt msg.length
      refine lv_aload_n hx hb dX3_end_16 rfl (lv_at hl 1 rfl) ?_
      refine o_get C h (RC := RX5) (T := TX5) (N := 6) (List.mem_of_getElem? (i := 0) rfl) rfl in_X5 3 (by decide) q242 rfl (v := .long (lN ((msg ++ [128] ++ List.replicate i 0).length))) rfl dX3_end_17 ?_
      refine lv_ldc2 hx hb hown (hts _ q1196) dX3_end_20 ?_
      refine n_topl (y := lN 63) (by decide) ?_
      refine lv_land hx hb dX3_end_23 (n_topl (y := lN (((msg ++ [128] ++ List.replicate i 0).length) % 64)) (l_andN (k := 6) (by omega) (by decide)) ?_)
      refine lv_ldc2 hx hb hown (hts _ q1244) dX3_end_24 ?_
      refine n_topl (y := lN 56) (by decide) ?_
      refine n_lcmp_eq (tgt := 39) hx hb (by omega) (by omega) dX3_end_27 dX3_end_28 (by decide) (fun c27 => ?_) (fun c27 => ?_)
      · have c27h : (msg.length + 1 + i) % 64 = 56 := by rw [← hlen]; exact c27
        have hie := pad_end hi c27h
        rw [hie] at h hb1
        refine lv_aload_n hx hb dX3_end_39 rfl (lv_at hl 1 rfl) ?_
        refine lv_lload_n hx hb dX3_end_40 rfl (lv_at hl 0 rfl) ?_
        refine lv_bipush (v := nI 8) hx hb dX3_end_41 (by decide) ?_
        have h : Wd D B s ([(ho, .inr (3, [.ref st, .ref fi, .ref bl, .long (lN ((msg ++ [128] ++ List.replicate (padz msg.length) 0).length)), .ref wo, .ref ei])), (st, war dA 8 (hs2 (msg ++ [128] ++ List.replicate (padz msg.length) 0) ((msg ++ [128] ++ List.replicate (padz msg.length) 0).length / 64))), (wo, war dA 64 g1), (ei, war dA 8 y1), (bl, bar dA 64 gb1)] ++ ([(ra, bar dA nr gr)] ++ F)) H locs := h.permL (perm_add (fun g f p0 p1 p2 => by (try simp only [p0, p1, p2]) <;> omega))
        refine call_U (As := [.long (lN (8 * msg.length)), .int (nI 8)]) (rest := []) (n := 2) C h (c5_number l D dA B Z hZ ([(ra, bar dA nr gr)] ++ F) ho st fi bl wo ei g1 y1 gb1 (msg ++ [128] ++ List.replicate (padz msg.length) 0) (8 * msg.length) 8 hzA hb1 (by omega) (by omega) (by rw [← hie]; omega)) (lw_U q1245 q1226 q1228 q1225 q134 q1229) rfl (by decide +kernel) (o_recv C h (RC := RX5) (T := TX5) (N := 6) (List.mem_of_getElem? (i := 0) rfl) rfl) (by decide) (by decide) rfl hl rfl (Nat.le_of_ble_eq_true rfl) dX3_end_43 (by omega) (fun u3 H locs hb3 h => ?_)
        obtain ⟨g3, y3, gb3⟩ := u3
        dsimp only at hb3
        have h : Wd D B s ([(ho, .inr (3, [.ref st, .ref fi, .ref bl, .long (lN ((msg ++ [128] ++ List.replicate (padz msg.length) 0 ++ be 8 (8 * msg.length)).length)), .ref wo, .ref ei])), (st, war dA 8 (hs2 (msg ++ [128] ++ List.replicate (padz msg.length) 0 ++ be 8 (8 * msg.length)) ((msg ++ [128] ++ List.replicate (padz msg.length) 0 ++ be 8 (8 * msg.length)).length / 64))), (wo, war dA 64 g3), (ei, war dA 8 y3), (bl, bar dA 64 gb3), (ra, bar dA nr gr)] ++ F) H locs := h.permL (perm_add (fun g f p0 p1 p2 => by (try simp only [p0, p1, p2]) <;> omega))
        rw [pad_sum] at h hb3
        refine lv_iconst (v := nI 0) hx hb dX3_end_46 (by decide) ?_
        refine lv_istore (lv' := [(4, .int (nI 0)), (2, .long (lN (8 * msg.length))), (0, .ref ho), (1, .ref ra)]) hx hb dX3_end_47 hl (by decide) rfl (fun ls hl => ?_)
        have h : Wd D B s ([(ho, .inr (3, [.ref st, .ref fi, .ref bl, .long (lN ((padded msg).length)), .ref wo, .ref ei])), (st, war dA 8 (hs2 (padded msg) ((padded msg).length / 64))), (wo, war dA 64 g3), (ei, war dA 8 y3), (bl, bar dA 64 gb3), (ra, bar dA nr (mixF 0 (gD (sha2 msg)) gr))] ++ F) H locs := by rw [mixF_0]; exact h
        have loopE : ∀ (nnE : Nat) (j : Nat), (j ≤ 32) → 32 - j < nnE → ∀ (H : Heap) (locs : List Loc), Wd D B s ([(ho, .inr (3, [.ref st, .ref fi, .ref bl, .long (lN ((padded msg).length)), .ref wo, .ref ei])), (st, war dA 8 (hs2 (padded msg) ((padded msg).length / 64))), (wo, war dA 64 g3), (ei, war dA 8 y3), (bl, bar dA 64 gb3), (ra, bar dA nr (mixF j (gD (sha2 msg)) gr))] ++ F) H locs → ∀ (ls : Array Slot), lv_has ls 5 [(4, .int (nI j)), (0, .ref ho), (1, .ref ra)] → W p l e R s m args below meth c H locs (0 + 0 + 0) (0 + 0 + 0) Q (F0 m 49 ls []) := by
          intro nnE
          induction nnE with
          | zero => intro j  hj hme; exact absurd hme (Nat.not_lt_zero _)
          | succ nnE ihE =>
            intro j  hj hme H locs h ls hl
            refine lv_iload hx hb dX3_end_49 (lv_at hl 0 rfl) ?_
            refine lv_aload_n hx hb dX3_end_51 rfl (lv_at hl 1 rfl) ?_
            have h : Wd D B s ([(ho, .inr (3, [.ref st, .ref fi, .ref bl, .long (lN ((padded msg).length)), .ref wo, .ref ei])), (st, war dA 8 (hs2 (padded msg) ((padded msg).length / 64))), (wo, war dA 64 g3), (ei, war dA 8 y3), (bl, bar dA 64 gb3)] ++ ([(ra, bar dA nr (mixF j (gD (sha2 msg)) gr))] ++ F)) H locs := h.permL (perm_add (fun g f p0 p1 p2 => by (try simp only [p0, p1, p2]) <;> omega))
            refine call_U (As := []) (rest := [.int (nI j)]) (n := 0) C h (c5_size l D dA B Z hZ ([(ra, bar dA nr (mixF j (gD (sha2 msg)) gr))] ++ F) ho st fi bl wo ei g3 y3 gb3 (lN (padded msg).length) (hs2 (padded msg) ((padded msg).length / 64))) (lw_U q1246 q1248 q1250 q1247 q134 q1251) rfl (by decide +kernel) (o_recv C h (RC := RX5) (T := TX5) (N := 6) (List.mem_of_getElem? (i := 0) rfl) rfl) (by decide) (by decide) rfl hl rfl (Nat.le_of_ble_eq_true rfl) dX3_end_52 (by omega) (fun _ H locs _ h => ?_)
            have h : Wd D B s ([(ho, .inr (3, [.ref st, .ref fi, .ref bl, .long (lN ((padded msg).length)), .ref wo, .ref ei])), (st, war dA 8 (hs2 (padded msg) ((padded msg).length / 64))), (wo, war dA 64 g3), (ei, war dA 8 y3), (bl, bar dA 64 gb3), (ra, bar dA nr (mixF j (gD (sha2 msg)) gr))] ++ F) H locs := h.permL (perm_add (fun g f p0 p1 p2 => by (try simp only [p0, p1, p2]) <;> omega))
            refine n_icmp_ge (tgt := 89) hx hb (by omega) (by omega) dX3_end_55 (by decide) (fun c55 => ?_) (fun c55 => ?_)
            · subst hQ
              rw [show j = 32 by omega] at h
              exact ret_v C hr hlocks h (g3, y3, gb3) hb3 rfl rfl (by omega) (by omega) dX3_end_89
            · refine lv_aload_n hx hb dX3_end_58 rfl (lv_at hl 2 rfl) ?_
              refine lv_iload hx hb dX3_end_59 (lv_at hl 0 rfl) ?_
              refine lv_aload_n hx hb dX3_end_61 rfl (lv_at hl 1 rfl) ?_
              refine o_get C h (RC := RX5) (T := TX5) (N := 6) (List.mem_of_getElem? (i := 0) rfl) rfl in_X5 0 (by decide) q239 rfl (v := .ref st) rfl dX3_end_62 ?_
              refine lv_iload hx hb dX3_end_65 (lv_at hl 0 rfl) ?_
              refine lv_iconst (v := nI 4) hx hb dX3_end_67 (by decide) ?_
              refine lv_idiv hx hb dX3_end_68 (by decide) (n_top (y := nI (j / 4)) (pk_div (by omega) (by omega) (by omega)) ?_)
              refine n_wald C h (v := (hs2 (padded msg) ((padded msg).length / 64)) (j / 4)) (List.mem_of_getElem? (i := 1) rfl) (show j / 4 < 8 by omega) (by decide) rfl dX3_end_69 ?_
              refine lv_bipush (v := nI 24) hx hb dX3_end_70 (by decide) ?_
              refine lv_bipush (v := nI 8) hx hb dX3_end_72 (by decide) ?_
              refine lv_iload hx hb dX3_end_74 (lv_at hl 0 rfl) ?_
              refine lv_iconst (v := nI 4) hx hb dX3_end_76 (by decide) ?_
              refine lv_irem hx hb dX3_end_77 (by decide) (n_top (y := nI (j % 4)) (pk_rem (by omega) (by omega) (by omega)) ?_)
              refine lv_imul hx hb dX3_end_78 (n_top (y := nI (8 * (j % 4))) (pk_mul 8 (j % 4)) ?_)
              refine lv_isub hx hb dX3_end_79 (n_top (y := nI (24 - (8 * (j % 4)))) (pk_sub (by omega)) ?_)
              refine n_ishr hx hb dX3_end_80 ?_
              refine lv_i2b (v := (shr ((hs2 (padded msg) ((padded msg).length / 64)) (j / 4)) (nI (24 - (8 * (j % 4))))).toInt8.toInt32) hx hb dX3_end_81 rfl ?_
              refine x_bast C h 5 (v := gD (sha2 msg) j) (ws' := [(ho, .inr (3, [.ref st, .ref fi, .ref bl, .long (lN ((padded msg).length)), .ref wo, .ref ei])), (st, war dA 8 (hs2 (padded msg) ((padded msg).length / 64))), (wo, war dA 64 g3), (ei, war dA 8 y3), (bl, bar dA 64 gb3), (ra, bar dA nr (upN (mixF j (gD (sha2 msg)) gr) j (gD (sha2 msg) j)))] ++ F) rfl (by omega) (by omega) (by
                rw [w4_sb _ (Nat.mod_lt _ (by decide)), sb_idem]
                congr 1
                unfold sha2
                exact (dg2_get _ 8 (by omega)).symm) rfl dX3_end_82 (fun H locs h => ?_)
              rw [mixF_s] at h
              have h : Wd D B s ([(ho, .inr (3, [.ref st, .ref fi, .ref bl, .long (lN ((padded msg).length)), .ref wo, .ref ei])), (st, war dA 8 (hs2 (padded msg) ((padded msg).length / 64))), (wo, war dA 64 g3), (ei, war dA 8 y3), (bl, bar dA 64 gb3), (ra, bar dA nr (mixF (j + 1) (gD (sha2 msg)) gr))] ++ F) H locs := h
              refine lv_iinc (v := nI (j + 1)) (lv' := [(4, .int (nI (j + 1))), (0, .ref ho), (1, .ref ra)]) hx hb dX3_end_83 hl (k := 0) rfl (nI_add j 1) (by decide) rfl (fun ls hl => ?_)
              refine lv_goto (tgt := 49) hx hb dX3_end_86 (by decide) ?_
              exact ihE (j + 1) (by omega) (by omega) _ _ h _ (lv_sub hl [0, 1, 2] rfl)
        exact loopE _ 0 (Nat.zero_le _) (Nat.lt_succ_self _) _ _ h _ (lv_sub hl [0, 2, 3] rfl)
      · have c27h : (msg.length + 1 + i) % 64 ≠ 56 := by rw [← hlen]; exact c27
        refine lv_aload_n hx hb dX3_end_31 rfl (lv_at hl 1 rfl) ?_
        refine lv_iconst (v := nI 0) hx hb dX3_end_32 (by decide) ?_
        have h : Wd D B s ([(ho, .inr (3, [.ref st, .ref fi, .ref bl, .long (lN ((msg ++ [128] ++ List.replicate i 0).length)), .ref wo, .ref ei])), (st, war dA 8 (hs2 (msg ++ [128] ++ List.replicate i 0) ((msg ++ [128] ++ List.replicate i 0).length / 64))), (wo, war dA 64 g1), (ei, war dA 8 y1), (bl, bar dA 64 gb1)] ++ ([(ra, bar dA nr gr)] ++ F)) H locs := h.permL (perm_add (fun g f p0 p1 p2 => by (try simp only [p0, p1, p2]) <;> omega))
        refine call_U (As := [.int (nI 0)]) (rest := []) (n := 1) C h (c5_put l D dA B Z hZ ([(ra, bar dA nr gr)] ++ F) ho st fi bl wo ei g1 y1 gb1 (msg ++ [128] ++ List.replicate i 0) _ (0) hzA hb1 (by omega) (by decide) (by decide)) (lw_U q1230 q1192 q1194 q1191 q134 q1195) rfl (by decide +kernel) (o_recv C h (RC := RX5) (T := TX5) (N := 6) (List.mem_of_getElem? (i := 0) rfl) rfl) (by decide) (by decide) rfl hl rfl (Nat.le_of_ble_eq_true rfl) dX3_end_33 (by omega) (fun u3 H locs hb2 h => ?_)
        obtain ⟨g2, y2, gb2⟩ := u3
        dsimp only at hb2
        have h : Wd D B s ([(ho, .inr (3, [.ref st, .ref fi, .ref bl, .long (lN ((msg ++ [128] ++ List.replicate i 0 ++ [0]).length)), .ref wo, .ref ei])), (st, war dA 8 (hs2 (msg ++ [128] ++ List.replicate i 0 ++ [0]) ((msg ++ [128] ++ List.replicate i 0 ++ [0]).length / 64))), (wo, war dA 64 g2), (ei, war dA 8 y2), (bl, bar dA 64 gb2), (ra, bar dA nr gr)] ++ F) H locs := h.permL (perm_add (fun g f p0 p1 p2 => by (try simp only [p0, p1, p2]) <;> omega))
        have e5 : msg ++ [128] ++ List.replicate i 0 ++ [0] = msg ++ [128] ++ List.replicate (i + 1) 0 := by rw [List.replicate_succ', List.append_assoc]
        rw [e5] at h hb2
        refine lv_goto (tgt := 16) hx hb dX3_end_36 (by decide) ?_
        exact ih (i + 1) g2 y2 gb2 (pad_lt hi c27h) hb2 (by have := pad_lt hi c27h; omega) _ _ h _ (lv_sub hl [0, 1, 2] rfl)
  exact loop _ 0 g0 y0 gb0 (Nat.zero_le _) hb0 (Nat.lt_succ_self _) _ _ h _ (lv_sub hl [0, 1, 2] rfl)
