set_option maxRecDepth 100000

theorem i_ext {x y : Int32} (h : ∀ i, x.toBitVec.getLsbD i = y.toBitVec.getLsbD i) : x = y := Int32.toBitVec_inj.mp (BitVec.eq_of_getLsbD_eq (fun i _ => h i))
theorem i_ch (x y z : Int32) : (x &&& y) ||| ((x ^^^ (-1)) &&& z) = z ^^^ (x &&& (y ^^^ z)) := by
  apply Int32.toBitVec_inj.mp
  rw [Int32.toBitVec_or, Int32.toBitVec_and, Int32.toBitVec_and, Int32.toBitVec_xor, Int32.toBitVec_xor, Int32.toBitVec_and, Int32.toBitVec_xor]
  apply BitVec.eq_of_getLsbD_eq
  intro i hi
  have h1 : (Int32.toBitVec (-1)).getLsbD i = true := by
    show (BitVec.allOnes 32).getLsbD i = true
    rw [BitVec.getLsbD_allOnes]; exact decide_eq_true hi
  simp only [BitVec.getLsbD_or, BitVec.getLsbD_and, BitVec.getLsbD_xor, h1]
  cases x.toBitVec.getLsbD i <;> cases y.toBitVec.getLsbD i <;> cases z.toBitVec.getLsbD i <;> rfl
theorem i_maj (x y z : Int32) : (x &&& y) ||| (x &&& z) ||| (y &&& z) = (x &&& y) ||| (z &&& (x ||| y)) := by
  apply Int32.toBitVec_inj.mp
  simp only [Int32.toBitVec_or, Int32.toBitVec_and]
  apply BitVec.eq_of_getLsbD_eq
  intro i hi
  simp only [BitVec.getLsbD_or, BitVec.getLsbD_and]
  cases x.toBitVec.getLsbD i <;> cases y.toBitVec.getLsbD i <;> cases z.toBitVec.getLsbD i <;> rfl
def t5 (x : H5) (k : Nat) : Int32 := if k = 0 then x.1 else if k = 1 then x.2.1 else if k = 2 then x.2.2.1 else if k = 3 then x.2.2.2.1 else x.2.2.2.2
theorem mix16 (gw : Nat → Int32) : mixF 16 (sW1 gw) gw = gw := by
  funext j
  unfold mixF
  split
  · next h => exact sW1_lo h
  · rfl

set_option maxHeartbeats 1000000 in
set_option maxRecDepth 100000 in
theorem c4_mix (l : Launch) (D : va_G) (dA : Nat → ClassId) (B : Nat) (Z : State → Prop) (hZ : Stab B Z) (F : va_W) (ho st fi bl wo : Nat) (mn : Int64) (x : H5) (gw : Nat → Int32)  :
    Ct (S := Unit) l D dA B Z yX4_mix cX4_mix 11 none 2 0 0 [.ref ho, .ref st] ([(ho, .inr (2, [.ref st, .ref fi, .ref bl, .long mn, .ref wo])), (st, war dA 5 (t5 x)), (wo, war dA 80 gw)] ++ F) (fun _ => True) (fun _ => none) (fun _ => [(ho, .inr (2, [.ref st, .ref fi, .ref bl, .long mn, .ref wo])), (st, war dA 5 (t5 (add5 x (rd1 (sW1 gw) 80 x)))), (wo, war dA 80 (mixF 80 (sW1 gw) gw))] ++ F) := by
  refine Ct.mk2 (by decide) (Nat.le_of_ble_eq_true rfl) hZ ?_
  intro p e R s m args below meth c ls Q C hr hlocks hin hQ hl h
  have C0 := C
  obtain ⟨hx, hb, hml, hown, hts, -⟩ := C0
  have hl : lv_has ls 11 [(0, .ref ho), (1, .ref st)] := hl
  refine lv_bipush (v := nI 16) hx hb dX4_mix_0 (by decide) ?_
  refine lv_istore_n (lv' := [(2, .int (nI 16)), (0, .ref ho), (1, .ref st)]) hx hb dX4_mix_2 rfl hl (by decide) rfl (fun ls hl => ?_)
  have h : Wd D B s ([(ho, .inr (2, [.ref st, .ref fi, .ref bl, .long mn, .ref wo])), (st, war dA 5 (t5 x)), (wo, war dA 80 (mixF 16 (sW1 gw) gw))] ++ F) s.heap [] := by rw [mix16]; exact h
  have loop : ∀ (nn : Nat) (i : Nat), (16 ≤ i) → (i ≤ 80) → 80 - i < nn → ∀ (H : Heap) (locs : List Loc), Wd D B s ([(ho, .inr (2, [.ref st, .ref fi, .ref bl, .long mn, .ref wo])), (st, war dA 5 (t5 x)), (wo, war dA 80 (mixF i (sW1 gw) gw))] ++ F) H locs → ∀ (ls : Array Slot), lv_has ls 11 [(2, .int (nI i)), (0, .ref ho), (1, .ref st)] → W p l e R s m args below meth c H locs 0 0 Q (F0 m 3 ls []) := by
    intro nn
    induction nn with
    | zero => intro i  hi0 hi1 hme; exact absurd hme (Nat.not_lt_zero _)
    | succ nn ih =>
      intro i  hi0 hi1 hme H locs h ls hl
      refine lv_iload_n hx hb dX4_mix_3 rfl (lv_at hl 0 rfl) ?_
      refine lv_bipush (v := nI 80) hx hb dX4_mix_4 (by decide) ?_
      refine n_icmp_ge (tgt := 63) hx hb (by omega) (by omega) dX4_mix_6 (by decide) (fun c6 => ?_) (fun c6 => ?_)
      · have hi8 : i = 80 := by omega
        rw [hi8] at h
        have h : Wd D B s ([(ho, .inr (2, [.ref st, .ref fi, .ref bl, .long mn, .ref wo])), (st, war dA 5 (t5 x)), (wo, war dA 80 (mixF 80 (sW1 gw) gw))] ++ F) H locs := h
        refine lv_aload_n hx hb dX4_mix_63 rfl (lv_at hl 2 rfl) ?_
        refine lv_iconst (v := nI 0) hx hb dX4_mix_64 (by decide) ?_
        refine n_wald C h (v := (t5 x) 0) (List.mem_of_getElem? (i := 1) rfl) (show 0 < 5 by omega) (by decide) rfl dX4_mix_65 ?_
        refine n_top (y := x.1) rfl ?_
        refine lv_istore_n (lv' := [(2, .int x.1), (0, .ref ho), (1, .ref st)]) hx hb dX4_mix_66 rfl hl (by decide) rfl (fun ls hl => ?_)
        refine lv_aload_n hx hb dX4_mix_67 rfl (lv_at hl 2 rfl) ?_
        refine lv_iconst (v := nI 1) hx hb dX4_mix_68 (by decide) ?_
        refine n_wald C h (v := (t5 x) 1) (List.mem_of_getElem? (i := 1) rfl) (show 1 < 5 by omega) (by decide) rfl dX4_mix_69 ?_
        refine n_top (y := x.2.1) rfl ?_
        refine lv_istore_n (lv' := [(3, .int x.2.1), (2, .int x.1), (0, .ref ho), (1, .ref st)]) hx hb dX4_mix_70 rfl hl (by decide) rfl (fun ls hl => ?_)
        refine lv_aload_n hx hb dX4_mix_71 rfl (lv_at hl 3 rfl) ?_
        refine lv_iconst (v := nI 2) hx hb dX4_mix_72 (by decide) ?_
        refine n_wald C h (v := (t5 x) 2) (List.mem_of_getElem? (i := 1) rfl) (show 2 < 5 by omega) (by decide) rfl dX4_mix_73 ?_
        refine n_top (y := x.2.2.1) rfl ?_
        refine lv_istore (lv' := [(4, .int x.2.2.1), (3, .int x.2.1), (2, .int x.1), (0, .ref ho), (1, .ref st)]) hx hb dX4_mix_74 hl (by decide) rfl (fun ls hl => ?_)
        refine lv_aload_n hx hb dX4_mix_76 rfl (lv_at hl 4 rfl) ?_
        refine lv_iconst (v := nI 3) hx hb dX4_mix_77 (by decide) ?_
        refine n_wald C h (v := (t5 x) 3) (List.mem_of_getElem? (i := 1) rfl) (show 3 < 5 by omega) (by decide) rfl dX4_mix_78 ?_
        refine n_top (y := x.2.2.2.1) rfl ?_
        refine lv_istore (lv' := [(5, .int x.2.2.2.1), (4, .int x.2.2.1), (3, .int x.2.1), (2, .int x.1), (0, .ref ho), (1, .ref st)]) hx hb dX4_mix_79 hl (by decide) rfl (fun ls hl => ?_)
        refine lv_aload_n hx hb dX4_mix_81 rfl (lv_at hl 5 rfl) ?_
        refine lv_iconst (v := nI 4) hx hb dX4_mix_82 (by decide) ?_
        refine n_wald C h (v := (t5 x) 4) (List.mem_of_getElem? (i := 1) rfl) (show 4 < 5 by omega) (by decide) rfl dX4_mix_83 ?_
        refine n_top (y := x.2.2.2.2) rfl ?_
        refine lv_istore (lv' := [(6, .int x.2.2.2.2), (5, .int x.2.2.2.1), (4, .int x.2.2.1), (3, .int x.2.1), (2, .int x.1), (0, .ref ho), (1, .ref st)]) hx hb dX4_mix_84 hl (by decide) rfl (fun ls hl => ?_)
        refine lv_iconst (v := nI 0) hx hb dX4_mix_86 (by decide) ?_
        refine lv_istore (lv' := [(7, .int (nI 0)), (6, .int x.2.2.2.2), (5, .int x.2.2.2.1), (4, .int x.2.2.1), (3, .int x.2.1), (2, .int x.1), (0, .ref ho), (1, .ref st)]) hx hb dX4_mix_87 hl (by decide) rfl (fun ls hl => ?_)
        have hl : lv_has ls 11 [(7, .int (nI 0)), (2, .int ((rd1 (sW1 gw) 0 x).1)), (3, .int ((rd1 (sW1 gw) 0 x).2.1)), (4, .int ((rd1 (sW1 gw) 0 x).2.2.1)), (5, .int ((rd1 (sW1 gw) 0 x).2.2.2.1)), (6, .int ((rd1 (sW1 gw) 0 x).2.2.2.2)), (0, .ref ho), (1, .ref st)] := lv_sub hl [0, 5, 4, 3, 2, 1, 6, 7] rfl
        have loopR : ∀ (nnR : Nat) (k : Nat) (y : H5), (k ≤ 80) → (y = rd1 (sW1 gw) k x) → 80 - k < nnR → ∀ (H : Heap) (locs : List Loc), Wd D B s ([(ho, .inr (2, [.ref st, .ref fi, .ref bl, .long mn, .ref wo])), (st, war dA 5 (t5 x)), (wo, war dA 80 (mixF 80 (sW1 gw) gw))] ++ F) H locs → ∀ (ls : Array Slot), lv_has ls 11 [(7, .int (nI k)), (2, .int y.1), (3, .int y.2.1), (4, .int y.2.2.1), (5, .int y.2.2.2.1), (6, .int y.2.2.2.2), (0, .ref ho), (1, .ref st)] → W p l e R s m args below meth c H locs 0 0 Q (F0 m 89 ls []) := by
          intro nnR
          induction nnR with
          | zero => intro k  y  hi0 hi1 hme; exact absurd hme (Nat.not_lt_zero _)
          | succ nnR ihR =>
            intro k  y  hi0 hi1 hme H locs h ls hl
            refine lv_iload hx hb dX4_mix_89 (lv_at hl 0 rfl) ?_
            refine lv_bipush (v := nI 80) hx hb dX4_mix_91 (by decide) ?_
            refine n_icmp_ge (tgt := 249) hx hb (by omega) (by omega) dX4_mix_93 (by decide) (fun c93 => ?_) (fun c93 => ?_)
            · refine lv_aload_n hx hb dX4_mix_249 rfl (lv_at hl 7 rfl) ?_
              refine lv_iconst (v := nI 0) hx hb dX4_mix_250 (by decide) ?_
              refine lv_dup2_11 hx hb dX4_mix_251 rfl rfl ?_
              refine n_wald C h (v := (t5 x) 0) (List.mem_of_getElem? (i := 1) rfl) (show 0 < 5 by omega) (by decide) rfl dX4_mix_252 ?_
              refine lv_iload_n hx hb dX4_mix_253 rfl (lv_at hl 1 rfl) ?_
              refine lv_iadd hx hb dX4_mix_254 ?_
              refine x_wast C h 1 (v := ((t5 x) 0) + y.1) (ws' := [(ho, .inr (2, [.ref st, .ref fi, .ref bl, .long mn, .ref wo])), (st, war dA 5 (upN (t5 x) 0 (((t5 x) 0) + y.1))), (wo, war dA 80 (mixF 80 (sW1 gw) gw))] ++ F) rfl (by omega) (by decide) rfl dX4_mix_255 (fun H locs h => ?_)
              refine lv_aload_n hx hb dX4_mix_256 rfl (lv_at hl 7 rfl) ?_
              refine lv_iconst (v := nI 1) hx hb dX4_mix_257 (by decide) ?_
              refine lv_dup2_11 hx hb dX4_mix_258 rfl rfl ?_
              refine n_wald C h (v := (upN (t5 x) 0 (((t5 x) 0) + y.1)) 1) (List.mem_of_getElem? (i := 1) rfl) (show 1 < 5 by omega) (by decide) rfl dX4_mix_259 ?_
              refine lv_iload_n hx hb dX4_mix_260 rfl (lv_at hl 2 rfl) ?_
              refine lv_iadd hx hb dX4_mix_261 ?_
              refine x_wast C h 1 (v := ((upN (t5 x) 0 (((t5 x) 0) + y.1)) 1) + y.2.1) (ws' := [(ho, .inr (2, [.ref st, .ref fi, .ref bl, .long mn, .ref wo])), (st, war dA 5 (upN (upN (t5 x) 0 (((t5 x) 0) + y.1)) 1 (((upN (t5 x) 0 (((t5 x) 0) + y.1)) 1) + y.2.1))), (wo, war dA 80 (mixF 80 (sW1 gw) gw))] ++ F) rfl (by omega) (by decide) rfl dX4_mix_262 (fun H locs h => ?_)
              refine lv_aload_n hx hb dX4_mix_263 rfl (lv_at hl 7 rfl) ?_
              refine lv_iconst (v := nI 2) hx hb dX4_mix_264 (by decide) ?_
              refine lv_dup2_11 hx hb dX4_mix_265 rfl rfl ?_
              refine n_wald C h (v := (upN (upN (t5 x) 0 (((t5 x) 0) + y.1)) 1 (((upN (t5 x) 0 (((t5 x) 0) + y.1)) 1) + y.2.1)) 2) (List.mem_of_getElem? (i := 1) rfl) (show 2 < 5 by omega) (by decide) rfl dX4_mix_266 ?_
              refine lv_iload hx hb dX4_mix_267 (lv_at hl 3 rfl) ?_
              refine lv_iadd hx hb dX4_mix_269 ?_
              refine x_wast C h 1 (v := ((upN (upN (t5 x) 0 (((t5 x) 0) + y.1)) 1 (((upN (t5 x) 0 (((t5 x) 0) + y.1)) 1) + y.2.1)) 2) + y.2.2.1) (ws' := [(ho, .inr (2, [.ref st, .ref fi, .ref bl, .long mn, .ref wo])), (st, war dA 5 (upN (upN (upN (t5 x) 0 (((t5 x) 0) + y.1)) 1 (((upN (t5 x) 0 (((t5 x) 0) + y.1)) 1) + y.2.1)) 2 (((upN (upN (t5 x) 0 (((t5 x) 0) + y.1)) 1 (((upN (t5 x) 0 (((t5 x) 0) + y.1)) 1) + y.2.1)) 2) + y.2.2.1))), (wo, war dA 80 (mixF 80 (sW1 gw) gw))] ++ F) rfl (by omega) (by decide) rfl dX4_mix_270 (fun H locs h => ?_)
              refine lv_aload_n hx hb dX4_mix_271 rfl (lv_at hl 7 rfl) ?_
              refine lv_iconst (v := nI 3) hx hb dX4_mix_272 (by decide) ?_
              refine lv_dup2_11 hx hb dX4_mix_273 rfl rfl ?_
              refine n_wald C h (v := (upN (upN (upN (t5 x) 0 (((t5 x) 0) + y.1)) 1 (((upN (t5 x) 0 (((t5 x) 0) + y.1)) 1) + y.2.1)) 2 (((upN (upN (t5 x) 0 (((t5 x) 0) + y.1)) 1 (((upN (t5 x) 0 (((t5 x) 0) + y.1)) 1) + y.2.1)) 2) + y.2.2.1)) 3) (List.mem_of_getElem? (i := 1) rfl) (show 3 < 5 by omega) (by decide) rfl dX4_mix_274 ?_
              refine lv_iload hx hb dX4_mix_275 (lv_at hl 4 rfl) ?_
              refine lv_iadd hx hb dX4_mix_277 ?_
              refine x_wast C h 1 (v := ((upN (upN (upN (t5 x) 0 (((t5 x) 0) + y.1)) 1 (((upN (t5 x) 0 (((t5 x) 0) + y.1)) 1) + y.2.1)) 2 (((upN (upN (t5 x) 0 (((t5 x) 0) + y.1)) 1 (((upN (t5 x) 0 (((t5 x) 0) + y.1)) 1) + y.2.1)) 2) + y.2.2.1)) 3) + y.2.2.2.1) (ws' := [(ho, .inr (2, [.ref st, .ref fi, .ref bl, .long mn, .ref wo])), (st, war dA 5 (upN (upN (upN (upN (t5 x) 0 (((t5 x) 0) + y.1)) 1 (((upN (t5 x) 0 (((t5 x) 0) + y.1)) 1) + y.2.1)) 2 (((upN (upN (t5 x) 0 (((t5 x) 0) + y.1)) 1 (((upN (t5 x) 0 (((t5 x) 0) + y.1)) 1) + y.2.1)) 2) + y.2.2.1)) 3 (((upN (upN (upN (t5 x) 0 (((t5 x) 0) + y.1)) 1 (((upN (t5 x) 0 (((t5 x) 0) + y.1)) 1) + y.2.1)) 2 (((upN (upN (t5 x) 0 (((t5 x) 0) + y.1)) 1 (((upN (t5 x) 0 (((t5 x) 0) + y.1)) 1) + y.2.1)) 2) + y.2.2.1)) 3) + y.2.2.2.1))), (wo, war dA 80 (mixF 80 (sW1 gw) gw))] ++ F) rfl (by omega) (by decide) rfl dX4_mix_278 (fun H locs h => ?_)
              refine lv_aload_n hx hb dX4_mix_279 rfl (lv_at hl 7 rfl) ?_
              refine lv_iconst (v := nI 4) hx hb dX4_mix_280 (by decide) ?_
              refine lv_dup2_11 hx hb dX4_mix_281 rfl rfl ?_
              refine n_wald C h (v := (upN (upN (upN (upN (t5 x) 0 (((t5 x) 0) + y.1)) 1 (((upN (t5 x) 0 (((t5 x) 0) + y.1)) 1) + y.2.1)) 2 (((upN (upN (t5 x) 0 (((t5 x) 0) + y.1)) 1 (((upN (t5 x) 0 (((t5 x) 0) + y.1)) 1) + y.2.1)) 2) + y.2.2.1)) 3 (((upN (upN (upN (t5 x) 0 (((t5 x) 0) + y.1)) 1 (((upN (t5 x) 0 (((t5 x) 0) + y.1)) 1) + y.2.1)) 2 (((upN (upN (t5 x) 0 (((t5 x) 0) + y.1)) 1 (((upN (t5 x) 0 (((t5 x) 0) + y.1)) 1) + y.2.1)) 2) + y.2.2.1)) 3) + y.2.2.2.1)) 4) (List.mem_of_getElem? (i := 1) rfl) (show 4 < 5 by omega) (by decide) rfl dX4_mix_282 ?_
              refine lv_iload hx hb dX4_mix_283 (lv_at hl 5 rfl) ?_
              refine lv_iadd hx hb dX4_mix_285 ?_
              refine x_wast C h 1 (v := ((upN (upN (upN (upN (t5 x) 0 (((t5 x) 0) + y.1)) 1 (((upN (t5 x) 0 (((t5 x) 0) + y.1)) 1) + y.2.1)) 2 (((upN (upN (t5 x) 0 (((t5 x) 0) + y.1)) 1 (((upN (t5 x) 0 (((t5 x) 0) + y.1)) 1) + y.2.1)) 2) + y.2.2.1)) 3 (((upN (upN (upN (t5 x) 0 (((t5 x) 0) + y.1)) 1 (((upN (t5 x) 0 (((t5 x) 0) + y.1)) 1) + y.2.1)) 2 (((upN (upN (t5 x) 0 (((t5 x) 0) + y.1)) 1 (((upN (t5 x) 0 (((t5 x) 0) + y.1)) 1) + y.2.1)) 2) + y.2.2.1)) 3) + y.2.2.2.1)) 4) + y.2.2.2.2) (ws' := [(ho, .inr (2, [.ref st, .ref fi, .ref bl, .long mn, .ref wo])), (st, war dA 5 (upN (upN (upN (upN (upN (t5 x) 0 (((t5 x) 0) + y.1)) 1 (((upN (t5 x) 0 (((t5 x) 0) + y.1)) 1) + y.2.1)) 2 (((upN (upN (t5 x) 0 (((t5 x) 0) + y.1)) 1 (((upN (t5 x) 0 (((t5 x) 0) + y.1)) 1) + y.2.1)) 2) + y.2.2.1)) 3 (((upN (upN (upN (t5 x) 0 (((t5 x) 0) + y.1)) 1 (((upN (t5 x) 0 (((t5 x) 0) + y.1)) 1) + y.2.1)) 2 (((upN (upN (t5 x) 0 (((t5 x) 0) + y.1)) 1 (((upN (t5 x) 0 (((t5 x) 0) + y.1)) 1) + y.2.1)) 2) + y.2.2.1)) 3) + y.2.2.2.1)) 4 (((upN (upN (upN (upN (t5 x) 0 (((t5 x) 0) + y.1)) 1 (((upN (t5 x) 0 (((t5 x) 0) + y.1)) 1) + y.2.1)) 2 (((upN (upN (t5 x) 0 (((t5 x) 0) + y.1)) 1 (((upN (t5 x) 0 (((t5 x) 0) + y.1)) 1) + y.2.1)) 2) + y.2.2.1)) 3 (((upN (upN (upN (t5 x) 0 (((t5 x) 0) + y.1)) 1 (((upN (t5 x) 0 (((t5 x) 0) + y.1)) 1) + y.2.1)) 2 (((upN (upN (t5 x) 0 (((t5 x) 0) + y.1)) 1 (((upN (t5 x) 0 (((t5 x) 0) + y.1)) 1) + y.2.1)) 2) + y.2.2.1)) 3) + y.2.2.2.1)) 4) + y.2.2.2.2))), (wo, war dA 80 (mixF 80 (sW1 gw) gw))] ++ F) rfl (by omega) (by decide) rfl dX4_mix_286 (fun H locs h => ?_)
              subst hQ
              have hk8 : y = rd1 (sW1 gw) 80 x := by rw [hi1, show k = 80 by omega]
              have h : Wd D B s ([(ho, .inr (2, [.ref st, .ref fi, .ref bl, .long mn, .ref wo])), (st, war dA 5 (t5 (add5 x (rd1 (sW1 gw) 80 x)))), (wo, war dA 80 (mixF 80 (sW1 gw) gw))] ++ F) H locs := Wd.same h 1 rfl (war_same (fun j hj => by
                rw [← hk8]
                rcases j with _ | _ | _ | _ | _ | j
                · rfl
                · rfl
                · rfl
                · rfl
                · rfl
                · omega)) rfl
              exact ret_v C hr hlocks h () trivial rfl rfl (by omega) (by omega) dX4_mix_287
            · have jf : ∀ (H : Heap) (locs : List Loc), Wd D B s ([(ho, .inr (2, [.ref st, .ref fi, .ref bl, .long mn, .ref wo])), (st, war dA 5 (t5 x)), (wo, war dA 80 (mixF 80 (sW1 gw) gw))] ++ F) H locs → ∀ (ls : Array Slot), lv_has ls 11 [(7, .int (nI k)), (2, .int y.1), (3, .int y.2.1), (4, .int y.2.2.1), (5, .int y.2.2.2.1), (6, .int y.2.2.2.2), (0, .ref ho), (1, .ref st)] → W p l e R s m args below meth c H locs 0 0 Q (F0 m 156 ls [.int (f1 k y.2.1 y.2.2.1 y.2.2.2.1)]) := by
                intro   H locs h ls hl
                refine lv_istore (lv' := [(8, .int (f1 k y.2.1 y.2.2.1 y.2.2.2.1)), (7, .int (nI k)), (2, .int y.1), (3, .int y.2.1), (4, .int y.2.2.1), (5, .int y.2.2.2.1), (6, .int y.2.2.2.2), (0, .ref ho), (1, .ref st)]) hx hb dX4_mix_156 hl (by decide) rfl (fun ls hl => ?_)
                have jk : ∀ (H : Heap) (locs : List Loc), Wd D B s ([(ho, .inr (2, [.ref st, .ref fi, .ref bl, .long mn, .ref wo])), (st, war dA 5 (t5 x)), (wo, war dA 80 (mixF 80 (sW1 gw) gw))] ++ F) H locs → ∀ (ls : Array Slot), lv_has ls 11 [(8, .int (f1 k y.2.1 y.2.2.1 y.2.2.2.1)), (7, .int (nI k)), (2, .int y.1), (3, .int y.2.1), (4, .int y.2.2.1), (5, .int y.2.2.2.1), (6, .int y.2.2.2.2), (0, .ref ho), (1, .ref st)] → W p l e R s m args below meth c H locs 0 0 Q (F0 m 196 ls [.int (k1 k)]) := by
                  intro   H locs h ls hl
                  refine lv_istore (lv' := [(9, .int (k1 k)), (8, .int (f1 k y.2.1 y.2.2.1 y.2.2.2.1)), (7, .int (nI k)), (2, .int y.1), (3, .int y.2.1), (4, .int y.2.2.1), (5, .int y.2.2.2.1), (6, .int y.2.2.2.2), (0, .ref ho), (1, .ref st)]) hx hb dX4_mix_196 hl (by decide) rfl (fun ls hl => ?_)
                  refine lv_iload_n hx hb dX4_mix_198 rfl (lv_at hl 3 rfl) ?_
                  refine lv_iconst (v := nI 5) hx hb dX4_mix_199 (by decide) ?_
                  refine call_SN (As := [.int y.1, .int (nI 5)]) (rest := []) (n := 2) C h (c1_turn l D dA B Z hZ _ y.1 (nI 5)) (lw_meth q1212) q1210 q1211 q129 (by decide +kernel) (by decide) (by decide) rfl hl rfl (Nat.le_of_ble_eq_true rfl) dX4_mix_200 (by omega) (fun _ H locs _ h => ?_)
                  refine lv_iload hx hb dX4_mix_203 (lv_at hl 1 rfl) ?_
                  refine lv_iadd hx hb dX4_mix_205 ?_
                  refine lv_iload hx hb dX4_mix_206 (lv_at hl 7 rfl) ?_
                  refine lv_iadd hx hb dX4_mix_208 ?_
                  refine lv_iload hx hb dX4_mix_209 (lv_at hl 0 rfl) ?_
                  refine lv_iadd hx hb dX4_mix_211 ?_
                  refine lv_aload_n hx hb dX4_mix_212 rfl (lv_at hl 8 rfl) ?_
                  refine o_getS C h (RC := RX4) (T := TX4) (N := 5) (List.mem_of_getElem? (i := 0) rfl) rfl in_X4 4 (by decide) q244 q245 (v := .ref wo) rfl dX4_mix_213 ?_
                  refine lv_iload hx hb dX4_mix_216 (lv_at hl 2 rfl) ?_
                  refine n_wald C h (v := (mixF 80 (sW1 gw) gw) k) (List.mem_of_getElem? (i := 2) rfl) (show k < 80 by omega) (by decide) rfl dX4_mix_218 ?_
                  refine n_top (y := sW1 gw k) (mixF_lt _ _ (by omega)) ?_
                  refine lv_iadd hx hb dX4_mix_219 ?_
                  refine lv_istore (lv' := [(10, .int (((((rotl y.1 (nI 5)) + (f1 k y.2.1 y.2.2.1 y.2.2.2.1)) + y.2.2.2.2) + (k1 k)) + (sW1 gw k))), (9, .int (k1 k)), (8, .int (f1 k y.2.1 y.2.2.1 y.2.2.2.1)), (7, .int (nI k)), (2, .int y.1), (3, .int y.2.1), (4, .int y.2.2.1), (5, .int y.2.2.2.1), (6, .int y.2.2.2.2), (0, .ref ho), (1, .ref st)]) hx hb dX4_mix_220 hl (by decide) rfl (fun ls hl => ?_)
                  refine lv_iload hx hb dX4_mix_222 (lv_at hl 7 rfl) ?_
                  refine lv_istore (lv' := [(6, .int y.2.2.2.1), (10, .int (((((rotl y.1 (nI 5)) + (f1 k y.2.1 y.2.2.1 y.2.2.2.1)) + y.2.2.2.2) + (k1 k)) + (sW1 gw k))), (9, .int (k1 k)), (8, .int (f1 k y.2.1 y.2.2.1 y.2.2.2.1)), (7, .int (nI k)), (2, .int y.1), (3, .int y.2.1), (4, .int y.2.2.1), (5, .int y.2.2.2.1), (0, .ref ho), (1, .ref st)]) hx hb dX4_mix_224 hl (by decide) rfl (fun ls hl => ?_)
                  refine lv_iload hx hb dX4_mix_226 (lv_at hl 7 rfl) ?_
                  refine lv_istore (lv' := [(5, .int y.2.2.1), (6, .int y.2.2.2.1), (10, .int (((((rotl y.1 (nI 5)) + (f1 k y.2.1 y.2.2.1 y.2.2.2.1)) + y.2.2.2.2) + (k1 k)) + (sW1 gw k))), (9, .int (k1 k)), (8, .int (f1 k y.2.1 y.2.2.1 y.2.2.2.1)), (7, .int (nI k)), (2, .int y.1), (3, .int y.2.1), (4, .int y.2.2.1), (0, .ref ho), (1, .ref st)]) hx hb dX4_mix_228 hl (by decide) rfl (fun ls hl => ?_)
                  refine lv_iload_n hx hb dX4_mix_230 rfl (lv_at hl 7 rfl) ?_
                  refine lv_bipush (v := nI 30) hx hb dX4_mix_231 (by decide) ?_
                  refine call_SN (As := [.int y.2.1, .int (nI 30)]) (rest := []) (n := 2) C h (c1_turn l D dA B Z hZ _ y.2.1 (nI 30)) (lw_meth q1212) q1210 q1211 q129 (by decide +kernel) (by decide) (by decide) rfl hl rfl (Nat.le_of_ble_eq_true rfl) dX4_mix_233 (by omega) (fun _ H locs _ h => ?_)
                  refine lv_istore (lv' := [(4, .int (rotl y.2.1 (nI 30))), (5, .int y.2.2.1), (6, .int y.2.2.2.1), (10, .int (((((rotl y.1 (nI 5)) + (f1 k y.2.1 y.2.2.1 y.2.2.2.1)) + y.2.2.2.2) + (k1 k)) + (sW1 gw k))), (9, .int (k1 k)), (8, .int (f1 k y.2.1 y.2.2.1 y.2.2.2.1)), (7, .int (nI k)), (2, .int y.1), (3, .int y.2.1), (0, .ref ho), (1, .ref st)]) hx hb dX4_mix_236 hl (by decide) rfl (fun ls hl => ?_)
                  refine lv_iload_n hx hb dX4_mix_238 rfl (lv_at hl 7 rfl) ?_
                  refine lv_istore_n (lv' := [(3, .int y.1), (4, .int (rotl y.2.1 (nI 30))), (5, .int y.2.2.1), (6, .int y.2.2.2.1), (10, .int (((((rotl y.1 (nI 5)) + (f1 k y.2.1 y.2.2.1 y.2.2.2.1)) + y.2.2.2.2) + (k1 k)) + (sW1 gw k))), (9, .int (k1 k)), (8, .int (f1 k y.2.1 y.2.2.1 y.2.2.2.1)), (7, .int (nI k)), (2, .int y.1), (0, .ref ho), (1, .ref st)]) hx hb dX4_mix_239 rfl hl (by decide) rfl (fun ls hl => ?_)
                  refine lv_iload hx hb dX4_mix_240 (lv_at hl 4 rfl) ?_
                  refine lv_istore_n (lv' := [(2, .int (((((rotl y.1 (nI 5)) + (f1 k y.2.1 y.2.2.1 y.2.2.2.1)) + y.2.2.2.2) + (k1 k)) + (sW1 gw k))), (3, .int y.1), (4, .int (rotl y.2.1 (nI 30))), (5, .int y.2.2.1), (6, .int y.2.2.2.1), (10, .int (((((rotl y.1 (nI 5)) + (f1 k y.2.1 y.2.2.1 y.2.2.2.1)) + y.2.2.2.2) + (k1 k)) + (sW1 gw k))), (9, .int (k1 k)), (8, .int (f1 k y.2.1 y.2.2.1 y.2.2.2.1)), (7, .int (nI k)), (0, .ref ho), (1, .ref st)]) hx hb dX4_mix_242 rfl hl (by decide) rfl (fun ls hl => ?_)
                  refine lv_iinc (v := nI (k + 1)) (lv' := [(7, .int (nI (k + 1))), (2, .int (((((rotl y.1 (nI 5)) + (f1 k y.2.1 y.2.2.1 y.2.2.2.1)) + y.2.2.2.2) + (k1 k)) + (sW1 gw k))), (3, .int y.1), (4, .int (rotl y.2.1 (nI 30))), (5, .int y.2.2.1), (6, .int y.2.2.2.1), (10, .int (((((rotl y.1 (nI 5)) + (f1 k y.2.1 y.2.2.1 y.2.2.2.1)) + y.2.2.2.2) + (k1 k)) + (sW1 gw k))), (9, .int (k1 k)), (8, .int (f1 k y.2.1 y.2.2.1 y.2.2.2.1)), (0, .ref ho), (1, .ref st)]) hx hb dX4_mix_243 hl (k := 8) rfl (nI_add k 1) (by decide) rfl (fun ls hl => ?_)
                  refine lv_goto (tgt := 89) hx hb dX4_mix_246 (by decide) ?_
                  exact ihR (k + 1) (st1 (sW1 gw) k y) (by omega) (by rw [hi1]; rfl) (by omega) _ _ h _ (lv_sub hl [0, 1, 2, 3, 4, 5, 9, 10] rfl)
                refine lv_iload hx hb dX4_mix_158 (lv_at hl 1 rfl) ?_
                refine lv_bipush (v := nI 20) hx hb dX4_mix_160 (by decide) ?_
                refine n_icmp_ge (tgt := 170) hx hb (by omega) (by omega) dX4_mix_162 (by decide) (fun c162 => ?_) (fun c162 => ?_)
                · refine lv_iload hx hb dX4_mix_170 (lv_at hl 1 rfl) ?_
                  refine lv_bipush (v := nI 40) hx hb dX4_mix_172 (by decide) ?_
                  refine n_icmp_ge (tgt := 182) hx hb (by omega) (by omega) dX4_mix_174 (by decide) (fun c174 => ?_) (fun c174 => ?_)
                  · refine lv_iload hx hb dX4_mix_182 (lv_at hl 1 rfl) ?_
                    refine lv_bipush (v := nI 60) hx hb dX4_mix_184 (by decide) ?_
                    refine n_icmp_ge (tgt := 194) hx hb (by omega) (by omega) dX4_mix_186 (by decide) (fun c186 => ?_) (fun c186 => ?_)
                    · refine lv_ldc hx hb hown (hts _ q1216) dX4_mix_194 ?_
                      refine n_top (y := k1 k) (by unfold k1; first | rw [if_pos (by omega)] | rw [if_neg (by omega), if_pos (by omega)] | rw [if_neg (by omega), if_neg (by omega), if_pos (by omega)] | rw [if_neg (by omega), if_neg (by omega), if_neg (by omega)]) ?_
                      exact jk   _ _ h _ (lv_sub hl [0, 1, 2, 3, 4, 5, 6, 7, 8] rfl)
                    · refine lv_ldc hx hb hown (hts _ q1215) dX4_mix_189 ?_
                      refine lv_goto (tgt := 196) hx hb dX4_mix_191 (by decide) ?_
                      refine n_top (y := k1 k) (by unfold k1; first | rw [if_pos (by omega)] | rw [if_neg (by omega), if_pos (by omega)] | rw [if_neg (by omega), if_neg (by omega), if_pos (by omega)] | rw [if_neg (by omega), if_neg (by omega), if_neg (by omega)]) ?_
                      exact jk   _ _ h _ (lv_sub hl [0, 1, 2, 3, 4, 5, 6, 7, 8] rfl)
                  · refine lv_ldc hx hb hown (hts _ q1214) dX4_mix_177 ?_
                    refine n_top (y := nI 1859775393) (by decide) ?_
                    refine lv_goto (tgt := 196) hx hb dX4_mix_179 (by decide) ?_
                    refine n_top (y := k1 k) (by unfold k1; first | rw [if_pos (by omega)] | rw [if_neg (by omega), if_pos (by omega)] | rw [if_neg (by omega), if_neg (by omega), if_pos (by omega)] | rw [if_neg (by omega), if_neg (by omega), if_neg (by omega)]) ?_
                    exact jk   _ _ h _ (lv_sub hl [0, 1, 2, 3, 4, 5, 6, 7, 8] rfl)
                · refine lv_ldc hx hb hown (hts _ q1213) dX4_mix_165 ?_
                  refine n_top (y := nI 1518500249) (by decide) ?_
                  refine lv_goto (tgt := 196) hx hb dX4_mix_167 (by decide) ?_
                  refine n_top (y := k1 k) (by unfold k1; first | rw [if_pos (by omega)] | rw [if_neg (by omega), if_pos (by omega)] | rw [if_neg (by omega), if_neg (by omega), if_pos (by omega)] | rw [if_neg (by omega), if_neg (by omega), if_neg (by omega)]) ?_
                  exact jk   _ _ h _ (lv_sub hl [0, 1, 2, 3, 4, 5, 6, 7, 8] rfl)
              refine lv_iload hx hb dX4_mix_96 (lv_at hl 0 rfl) ?_
              refine lv_bipush (v := nI 20) hx hb dX4_mix_98 (by decide) ?_
              refine n_icmp_ge (tgt := 117) hx hb (by omega) (by omega) dX4_mix_100 (by decide) (fun c100 => ?_) (fun c100 => ?_)
              · refine lv_iload hx hb dX4_mix_117 (lv_at hl 0 rfl) ?_
                refine lv_bipush (v := nI 40) hx hb dX4_mix_119 (by decide) ?_
                refine n_icmp_lt (tgt := 131) hx hb (by omega) (by omega) dX4_mix_121 (by decide) (fun c121 => ?_) (fun c121 => ?_)
                · refine lv_iload_n hx hb dX4_mix_131 rfl (lv_at hl 2 rfl) ?_
                  refine lv_iload hx hb dX4_mix_132 (lv_at hl 3 rfl) ?_
                  refine lv_ixor hx hb dX4_mix_134 ?_
                  refine lv_iload hx hb dX4_mix_135 (lv_at hl 4 rfl) ?_
                  refine lv_ixor hx hb dX4_mix_137 ?_
                  refine lv_goto (tgt := 156) hx hb dX4_mix_138 (by decide) ?_
                  refine n_top (y := f1 k y.2.1 y.2.2.1 y.2.2.2.1) (by unfold f1; rw [if_neg (by omega)]; first | rw [if_pos (by omega)] | rw [if_neg (by omega), if_neg (by omega)]) ?_
                  exact jf   _ _ h _ (lv_sub hl [0, 1, 2, 3, 4, 5, 6, 7] rfl)
                · refine lv_iload hx hb dX4_mix_124 (lv_at hl 0 rfl) ?_
                  refine lv_bipush (v := nI 60) hx hb dX4_mix_126 (by decide) ?_
                  refine n_icmp_lt (tgt := 141) hx hb (by omega) (by omega) dX4_mix_128 (by decide) (fun c128 => ?_) (fun c128 => ?_)
                  · refine lv_iload_n hx hb dX4_mix_141 rfl (lv_at hl 2 rfl) ?_
                    refine lv_iload hx hb dX4_mix_142 (lv_at hl 3 rfl) ?_
                    refine lv_iand hx hb dX4_mix_144 ?_
                    refine lv_iload_n hx hb dX4_mix_145 rfl (lv_at hl 2 rfl) ?_
                    refine lv_iload hx hb dX4_mix_146 (lv_at hl 4 rfl) ?_
                    refine lv_iand hx hb dX4_mix_148 ?_
                    refine lv_ior hx hb dX4_mix_149 ?_
                    refine lv_iload hx hb dX4_mix_150 (lv_at hl 3 rfl) ?_
                    refine lv_iload hx hb dX4_mix_152 (lv_at hl 4 rfl) ?_
                    refine lv_iand hx hb dX4_mix_154 ?_
                    refine lv_ior hx hb dX4_mix_155 ?_
                    refine n_top (y := f1 k y.2.1 y.2.2.1 y.2.2.2.1) (by rw [i_maj]; unfold f1; rw [if_neg (by omega), if_neg (by omega), if_pos (by omega)]) ?_
                    exact jf   _ _ h _ (lv_sub hl [0, 1, 2, 3, 4, 5, 6, 7] rfl)
                  · refine lv_iload_n hx hb dX4_mix_131 rfl (lv_at hl 2 rfl) ?_
                    refine lv_iload hx hb dX4_mix_132 (lv_at hl 3 rfl) ?_
                    refine lv_ixor hx hb dX4_mix_134 ?_
                    refine lv_iload hx hb dX4_mix_135 (lv_at hl 4 rfl) ?_
                    refine lv_ixor hx hb dX4_mix_137 ?_
                    refine lv_goto (tgt := 156) hx hb dX4_mix_138 (by decide) ?_
                    refine n_top (y := f1 k y.2.1 y.2.2.1 y.2.2.2.1) (by unfold f1; rw [if_neg (by omega)]; first | rw [if_pos (by omega)] | rw [if_neg (by omega), if_neg (by omega)]) ?_
                    exact jf   _ _ h _ (lv_sub hl [0, 1, 2, 3, 4, 5, 6, 7] rfl)
              · refine lv_iload_n hx hb dX4_mix_103 rfl (lv_at hl 2 rfl) ?_
                refine lv_iload hx hb dX4_mix_104 (lv_at hl 3 rfl) ?_
                refine lv_iand hx hb dX4_mix_106 ?_
                refine lv_iload_n hx hb dX4_mix_107 rfl (lv_at hl 2 rfl) ?_
                refine lv_iconst (v := -1) hx hb dX4_mix_108 (by decide) ?_
                refine lv_ixor hx hb dX4_mix_109 ?_
                refine lv_iload hx hb dX4_mix_110 (lv_at hl 4 rfl) ?_
                refine lv_iand hx hb dX4_mix_112 ?_
                refine lv_ior hx hb dX4_mix_113 ?_
                refine lv_goto (tgt := 156) hx hb dX4_mix_114 (by decide) ?_
                refine n_top (y := f1 k y.2.1 y.2.2.1 y.2.2.2.1) (by rw [i_ch]; unfold f1; rw [if_pos c100]) ?_
                exact jf   _ _ h _ (lv_sub hl [0, 1, 2, 3, 4, 5, 6, 7] rfl)
        exact loopR _ 0 x (by omega) rfl (Nat.lt_succ_self _) _ _ h _ (lv_sub hl [0, 1, 2, 3, 4, 5, 6, 7] rfl)
      · refine lv_aload_n hx hb dX4_mix_9 rfl (lv_at hl 1 rfl) ?_
        refine o_getS C h (RC := RX4) (T := TX4) (N := 5) (List.mem_of_getElem? (i := 0) rfl) rfl in_X4 4 (by decide) q244 q245 (v := .ref wo) rfl dX4_mix_10 ?_
        refine lv_iload_n hx hb dX4_mix_13 rfl (lv_at hl 0 rfl) ?_
        refine lv_aload_n hx hb dX4_mix_14 rfl (lv_at hl 1 rfl) ?_
        refine o_getS C h (RC := RX4) (T := TX4) (N := 5) (List.mem_of_getElem? (i := 0) rfl) rfl in_X4 4 (by decide) q244 q245 (v := .ref wo) rfl dX4_mix_15 ?_
        refine lv_iload_n hx hb dX4_mix_18 rfl (lv_at hl 0 rfl) ?_
        refine lv_iconst (v := nI 3) hx hb dX4_mix_19 (by decide) ?_
        refine lv_isub hx hb dX4_mix_20 (n_top (y := nI (i - 3)) (pk_sub (by omega)) ?_)
        refine n_wald C h (v := (mixF i (sW1 gw) gw) (i - 3)) (List.mem_of_getElem? (i := 2) rfl) (show i - 3 < 80 by omega) (by decide) rfl dX4_mix_21 ?_
        refine n_top (y := sW1 gw (i - 3)) (mixF_lt _ _ (by omega)) ?_
        refine lv_aload_n hx hb dX4_mix_22 rfl (lv_at hl 1 rfl) ?_
        refine o_getS C h (RC := RX4) (T := TX4) (N := 5) (List.mem_of_getElem? (i := 0) rfl) rfl in_X4 4 (by decide) q244 q245 (v := .ref wo) rfl dX4_mix_23 ?_
        refine lv_iload_n hx hb dX4_mix_26 rfl (lv_at hl 0 rfl) ?_
        refine lv_bipush (v := nI 8) hx hb dX4_mix_27 (by decide) ?_
        refine lv_isub hx hb dX4_mix_29 (n_top (y := nI (i - 8)) (pk_sub (by omega)) ?_)
        refine n_wald C h (v := (mixF i (sW1 gw) gw) (i - 8)) (List.mem_of_getElem? (i := 2) rfl) (show i - 8 < 80 by omega) (by decide) rfl dX4_mix_30 ?_
        refine n_top (y := sW1 gw (i - 8)) (mixF_lt _ _ (by omega)) ?_
        refine lv_ixor hx hb dX4_mix_31 ?_
        refine lv_aload_n hx hb dX4_mix_32 rfl (lv_at hl 1 rfl) ?_
        refine o_getS C h (RC := RX4) (T := TX4) (N := 5) (List.mem_of_getElem? (i := 0) rfl) rfl in_X4 4 (by decide) q244 q245 (v := .ref wo) rfl dX4_mix_33 ?_
        refine lv_iload_n hx hb dX4_mix_36 rfl (lv_at hl 0 rfl) ?_
        refine lv_bipush (v := nI 14) hx hb dX4_mix_37 (by decide) ?_
        refine lv_isub hx hb dX4_mix_39 (n_top (y := nI (i - 14)) (pk_sub (by omega)) ?_)
        refine n_wald C h (v := (mixF i (sW1 gw) gw) (i - 14)) (List.mem_of_getElem? (i := 2) rfl) (show i - 14 < 80 by omega) (by decide) rfl dX4_mix_40 ?_
        refine n_top (y := sW1 gw (i - 14)) (mixF_lt _ _ (by omega)) ?_
        refine lv_ixor hx hb dX4_mix_41 ?_
        refine lv_aload_n hx hb dX4_mix_42 rfl (lv_at hl 1 rfl) ?_
        refine o_getS C h (RC := RX4) (T := TX4) (N := 5) (List.mem_of_getElem? (i := 0) rfl) rfl in_X4 4 (by decide) q244 q245 (v := .ref wo) rfl dX4_mix_43 ?_
        refine lv_iload_n hx hb dX4_mix_46 rfl (lv_at hl 0 rfl) ?_
        refine lv_bipush (v := nI 16) hx hb dX4_mix_47 (by decide) ?_
        refine lv_isub hx hb dX4_mix_49 (n_top (y := nI (i - 16)) (pk_sub (by omega)) ?_)
        refine n_wald C h (v := (mixF i (sW1 gw) gw) (i - 16)) (List.mem_of_getElem? (i := 2) rfl) (show i - 16 < 80 by omega) (by decide) rfl dX4_mix_50 ?_
        refine n_top (y := sW1 gw (i - 16)) (mixF_lt _ _ (by omega)) ?_
        refine lv_ixor hx hb dX4_mix_51 ?_
        refine lv_iconst (v := nI 1) hx hb dX4_mix_52 (by decide) ?_
        refine call_SN (As := [.int ((((sW1 gw (i - 3)) ^^^ (sW1 gw (i - 8))) ^^^ (sW1 gw (i - 14))) ^^^ (sW1 gw (i - 16))), .int (nI 1)]) (rest := [.int (nI i), .ref wo]) (n := 2) C h (c1_turn l D dA B Z hZ _ _ (nI 1)) (lw_meth q1212) q1210 q1211 q129 (by decide +kernel) (by decide) (by decide) rfl hl rfl (Nat.le_of_ble_eq_true rfl) dX4_mix_53 (by omega) (fun _ H locs _ h => ?_)
        refine n_top (y := sW1 gw i) (sW1_hi hi0).symm ?_
        refine x_wast C h 2 (v := sW1 gw i) (ws' := [(ho, .inr (2, [.ref st, .ref fi, .ref bl, .long mn, .ref wo])), (st, war dA 5 (t5 x)), (wo, war dA 80 (upN (mixF i (sW1 gw) gw) i (sW1 gw i)))] ++ F) rfl (by omega) (by decide) rfl dX4_mix_56 (fun H locs h => ?_)
        rw [mixF_s] at h
        have h : Wd D B s ([(ho, .inr (2, [.ref st, .ref fi, .ref bl, .long mn, .ref wo])), (st, war dA 5 (t5 x)), (wo, war dA 80 (mixF (i + 1) (sW1 gw) gw))] ++ F) H locs := h
        refine lv_iinc (v := nI (i + 1)) (lv' := [(2, .int (nI (i + 1))), (0, .ref ho), (1, .ref st)]) hx hb dX4_mix_57 hl (k := 0) rfl (nI_add i 1) (by decide) rfl (fun ls hl => ?_)
        refine lv_goto (tgt := 3) hx hb dX4_mix_60 (by decide) ?_
        exact ih (i + 1) (by omega) (by omega) (by omega) _ _ h _ (lv_sub hl [0, 1, 2] rfl)
  exact loop _ 16 (by omega) (by omega) (Nat.lt_succ_self _) _ _ h _ (lv_sub hl [0, 1, 2] rfl)
