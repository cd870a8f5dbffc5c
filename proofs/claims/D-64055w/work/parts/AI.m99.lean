set_option maxRecDepth 100000

def nst (l : List Nat) : Nat → OU
  | 0 => (kS1 l).2
  | i + 1 => (numS l (nst l i)).2
theorem nst_le {l : List Nat} (h : byt l) (h0 : (kS1 l).2.1 ≤ l.length) : ∀ i, (nst l i).1 ≤ l.length
  | 0 => h0
  | i + 1 => (numS_ok h (nst l i) (nst_le h h0 i)).1
theorem sum_le {l : List Nat} (h : byt l) (a : Nat) : ∀ n, (sl (gD l) a n).sum ≤ 256 * n
  | 0 => Nat.le_refl _
  | n + 1 => by
    rw [sl_succ, List.sum_append]
    have := sum_le h a n
    have := byt_gD h (a + n)
    simp only [List.sum_cons, List.sum_nil]
    omega

set_option maxHeartbeats 400000 in
set_option maxRecDepth 100000 in
theorem c1_readSecret (l : Launch) (D : va_G) (dA : Nat → ClassId) (B : Nat) (Z : State → Prop) (hZ : Stab B Z) (F : va_W) (p9 na ba nb an ae ap : Nat) (md : Int64) (lb : List Nat) (hba : (ba, bal dA lb) ∈ F) (hob : byt lb) (hol : lb.length ≤ 4096) (hu0 : (kU5 lb).2.1 ≤ lb.length) :
    Ct (S := OU × Option Nat × va_W) l D dA B Z yX1_readSecret cX1_readSecret 5 (some .boolean) 6 4 (4 * lb.length) [.ref p9, .ref na] ([(p9, .inr (12, [.ref ba, .int (nI ((kU5 lb).2.1)), .int (bZ ((kU5 lb).2.2))])), (na, .inr (13, [.ref nb, .long md, .ref an, .ref ae, .ref ap, .null]))] ++ F) (fun u => (decide ((kS0 lb).1 = 0) && ((kS5 lb).2.2 && decide ((kS5 lb).1 = kSum lb % 65536))) = true → u.1 = (kS5 lb).2 ∧ ∃ q, u.2.1 = some q ∧ (q, bal dA (kSec lb)) ∈ u.2.2) (fun _ => some (.int (bZ (decide ((kS0 lb).1 = 0) && ((kS5 lb).2.2 && decide ((kS5 lb).1 = kSum lb % 65536)))))) (fun u => [(p9, .inr (12, [.ref ba, .int (nI u.1.1), .int (bZ u.1.2)])), (na, .inr (13, [.ref nb, .long md, .ref an, .ref ae, .ref ap, va_rf u.2.1]))] ++ (F ++ u.2.2)) := by
  refine Ct.mk2 (by decide) (Nat.le_of_ble_eq_true rfl) hZ ?_
  intro p e R s m args below meth c ls Q C hr hlocks hin hQ hl h
  have C0 := C
  obtain ⟨hx, hb, hml, hown, hts, -⟩ := C0
  have hl : lv_has ls 5 [(0, .ref p9), (1, .ref na)] := hl
  have h0l : (kS0 lb).2.1 ≤ lb.length := (oneS_le hu0).1
  have h1o := numS_ok hob (kS0 lb).2 h0l
  have h1l : (kS1 lb).2.1 ≤ lb.length := h1o.1
  have h1k : (kS1 lb).1.length ≤ lb.length := h1o.2.2.1
  have hnl := nst_le hob h1l
  have h4l : (kS4 lb).2.1 ≤ lb.length := hnl 3
  have h01 : (kS0 lb).2.1 ≤ (kS1 lb).2.1 := h1o.2.2.2
  have h12 : (kS1 lb).2.1 ≤ (nst lb 1).1 := (numS_ok hob (nst lb 0) (hnl 0)).2.2.2
  have h23 : (nst lb 1).1 ≤ (nst lb 2).1 := (numS_ok hob (nst lb 1) (hnl 1)).2.2.2
  have h34 : (nst lb 2).1 ≤ (kS4 lb).2.1 := (numS_ok hob (nst lb 2) (hnl 2)).2.2.2
  have h0b : (kS0 lb).1 < 256 := oneS_lt hob _
  have h5o := someS_ok hob 2 0 0 (kS4 lb).2 h4l (by decide)
  have h5b : (kS5 lb).1 < 65536 := h5o.1
  refine lv_aload_n hx hb dX1_readSecret_0 rfl (lv_at hl 0 rfl) ?_
  refine call_VR (As := []) (rest := []) (n := 0) C h (c15_take l D dA B Z hZ ([(na, .inr (13, [.ref nb, .long md, .ref an, .ref ae, .ref ap, .null]))] ++ F) p9 ba lb (kU5 lb).2 (List.mem_append_right _ hba) hob (by omega) hu0) (lw_V q1114 q1115 q1116 q163 q1117) (by decide +kernel) (o_recv C h (RC := RX15) (T := TX15) (N := 3) (List.mem_of_getElem? (i := 0) rfl) rfl) (by decide) (by decide) rfl hl rfl (Nat.le_of_ble_eq_true rfl) dX1_readSecret_1 (by omega) (fun _ H locs _ h => ?_)
  have h : Wd D B s ([(p9, .inr (12, [.ref ba, .int (nI ((kS0 lb).2.1)), .int (bZ ((kS0 lb).2.2))])), (na, .inr (13, [.ref nb, .long md, .ref an, .ref ae, .ref ap, .null]))] ++ F) H locs := h
  show W p l e R s m args below meth c H locs (0 + 0) (0 + 0) Q (F0 m 4 ls [.int (nI ((kS0 lb).1))])
  refine n_if_eq (tgt := 9) hx hb (by omega) dX1_readSecret_4 (by decide) (fun c4 => ?_) (fun c4 => ?_)
  · refine lv_aload_n hx hb dX1_readSecret_9 rfl (lv_at hl 0 rfl) ?_
    refine o_get C h (RC := RX15) (T := TX15) (N := 3) (List.mem_of_getElem? (i := 0) rfl) rfl in_X15 1 (by decide) q1103 rfl (v := .int (nI ((kS0 lb).2.1))) rfl dX1_readSecret_10 ?_
    refine lv_istore_n (lv' := [(2, .int (nI ((kS0 lb).2.1))), (0, .ref p9), (1, .ref na)]) hx hb dX1_readSecret_13 rfl hl (by decide) rfl (fun ls hl => ?_)
    refine lv_aload_n hx hb dX1_readSecret_14 rfl (lv_at hl 2 rfl) ?_
    refine lv_aload_n hx hb dX1_readSecret_15 rfl (lv_at hl 1 rfl) ?_
    refine call_VR (As := []) (rest := [.ref na]) (n := 0) C h (c15_number l D dA B Z hZ ([(na, .inr (13, [.ref nb, .long md, .ref an, .ref ae, .ref ap, .null]))] ++ F) p9 ba lb (kS0 lb).2 (List.mem_append_right _ hba) hob (by omega) h0l) (lw_V q1123 q1124 q1125 q163 q1126) (by decide +kernel) (o_recv C h (RC := RX15) (T := TX15) (N := 3) (List.mem_of_getElem? (i := 0) rfl) rfl) (by decide) (by decide) rfl hl rfl (Nat.le_of_ble_eq_true rfl) dX1_readSecret_16 (by omega) (fun qs H locs _ h => ?_)
    have h : Wd D B s ([(p9, .inr (12, [.ref ba, .int (nI ((nst lb 0).1)), .int (bZ ((nst lb 0).2))])), (na, .inr (13, [.ref nb, .long md, .ref an, .ref ae, .ref ap, .null]))] ++ (F ++ [(qs, bal dA (kSec lb))])) H locs := h
    refine o_put C h 1 (RC := RX16) (T := TX16) (N := 6) (ws' := [(p9, .inr (12, [.ref ba, .int (nI ((nst lb 0).1)), .int (bZ ((nst lb 0).2))])), (na, .inr (13, [.ref nb, .long md, .ref an, .ref ae, .ref ap, .ref qs]))] ++ (F ++ [(qs, bal dA (kSec lb))])) rfl rfl in_X16 tyX16_ok nmX16 5 (by decide) q1158 rfl rfl (v := .ref qs) rfl rfl (Nat.le_of_ble_eq_true rfl) rfl dX1_readSecret_19 (fun H locs h => ?_)
    refine lv_iconst (v := nI 0) hx hb dX1_readSecret_22 (by decide) ?_
    refine lv_istore_n (lv' := [(3, .int (nI 0)), (2, .int (nI ((kS0 lb).2.1))), (0, .ref p9), (1, .ref na)]) hx hb dX1_readSecret_23 rfl hl (by decide) rfl (fun ls hl => ?_)
    have h : Wd D B s ([(p9, .inr (12, [.ref ba, .int (nI ((nst lb 0).1)), .int (bZ ((nst lb 0).2))])), (na, .inr (13, [.ref nb, .long md, .ref an, .ref ae, .ref ap, .ref qs]))] ++ (F ++ ([(qs, bal dA (kSec lb))] ++ []))) H locs := h
    have loop : ∀ (nn : Nat) (i : Nat) (E : va_W) (cc cs : Nat), (i ≤ 3) → (cc ≤ 1 + i) → (cs ≤ (1 + i) * lb.length) → 3 - i < nn → ∀ (H : Heap) (locs : List Loc), Wd D B s ([(p9, .inr (12, [.ref ba, .int (nI ((nst lb i).1)), .int (bZ ((nst lb i).2))])), (na, .inr (13, [.ref nb, .long md, .ref an, .ref ae, .ref ap, .ref qs]))] ++ (F ++ ([(qs, bal dA (kSec lb))] ++ E))) H locs → ∀ (ls : Array Slot), lv_has ls 5 [(0, .ref p9), (1, .ref na), (2, .int (nI ((kS0 lb).2.1))), (3, .int (nI i))] → W p l e R s m args below meth c H locs cc cs Q (F0 m 24 ls []) := by
      intro nn
      induction nn with
      | zero => intro i  E  cc cs  hi0 hcc hcs hme; exact absurd hme (Nat.not_lt_zero _)
      | succ nn ih =>
        intro i  E  cc cs  hi0 hcc hcs hme H locs h ls hl
        have hni := numS_ok hob (nst lb i) (hnl i)
        have hmul : (1 + i) * lb.length + lb.length ≤ 4 * lb.length + (if i = 3 then lb.length else 0) := by
          rcases (show i = 0 ∨ i = 1 ∨ i = 2 ∨ i = 3 by omega) with q | q | q | q <;> subst q <;> simp <;> omega
        refine lv_iload_n hx hb dX1_readSecret_24 rfl (lv_at hl 3 rfl) ?_
        refine lv_iconst (v := nI 3) hx hb dX1_readSecret_25 (by decide) ?_
        refine n_icmp_ge (tgt := 40) hx hb (by omega) (by omega) dX1_readSecret_26 (by decide) (fun c26 => ?_) (fun c26 => ?_)
        · refine lv_iconst (v := nI 0) hx hb dX1_readSecret_40 (by decide) ?_
          refine lv_istore_n (lv' := [(3, .int (nI 0)), (0, .ref p9), (1, .ref na), (2, .int (nI ((kS0 lb).2.1)))]) hx hb dX1_readSecret_41 rfl hl (by decide) rfl (fun ls hl => ?_)
          refine lv_iload_n hx hb dX1_readSecret_42 rfl (lv_at hl 3 rfl) ?_
          refine lv_istore (lv' := [(4, .int (nI ((kS0 lb).2.1))), (3, .int (nI 0)), (0, .ref p9), (1, .ref na), (2, .int (nI ((kS0 lb).2.1)))]) hx hb dX1_readSecret_43 hl (by decide) rfl (fun ls hl => ?_)
          have hi3 : i = 3 := by omega
          rw [hi3] at h hcc hcs
          have h : Wd D B s ([(p9, .inr (12, [.ref ba, .int (nI ((kS4 lb).2.1)), .int (bZ ((kS4 lb).2.2))])), (na, .inr (13, [.ref nb, .long md, .ref an, .ref ae, .ref ap, .ref qs]))] ++ (F ++ ([(qs, bal dA (kSec lb))] ++ E))) H locs := h
          have hl : lv_has ls 5 [(4, .int (nI ((kS0 lb).2.1 + 0))), (3, .int (nI ((sl (gD lb) (kS0 lb).2.1 0).sum))), (0, .ref p9), (1, .ref na), (2, .int (nI ((kS0 lb).2.1)))] := hl
          have loop2 : ∀ (nn2 : Nat) (j : Nat), ((kS0 lb).2.1 + j ≤ (kS4 lb).2.1) → (kS4 lb).2.1 - ((kS0 lb).2.1 + j) < nn2 → ∀ (H : Heap) (locs : List Loc), Wd D B s ([(p9, .inr (12, [.ref ba, .int (nI ((kS4 lb).2.1)), .int (bZ ((kS4 lb).2.2))])), (na, .inr (13, [.ref nb, .long md, .ref an, .ref ae, .ref ap, .ref qs]))] ++ (F ++ ([(qs, bal dA (kSec lb))] ++ E))) H locs → ∀ (ls : Array Slot), lv_has ls 5 [(0, .ref p9), (1, .ref na), (3, .int (nI ((sl (gD lb) (kS0 lb).2.1 j).sum))), (4, .int (nI ((kS0 lb).2.1 + j)))] → W p l e R s m args below meth c H locs cc cs Q (F0 m 45 ls []) := by
            intro nn2
            induction nn2 with
            | zero => intro j  hj0 hme; exact absurd hme (Nat.not_lt_zero _)
            | succ nn2 ih2 =>
              intro j  hj0 hme H locs h ls hl
              have hgj := byt_gD hob ((kS0 lb).2.1 + j)
              have hsj := sum_le hob (kS0 lb).2.1 j
              refine lv_iload hx hb dX1_readSecret_45 (lv_at hl 3 rfl) ?_
              refine lv_aload_n hx hb dX1_readSecret_47 rfl (lv_at hl 0 rfl) ?_
              refine o_get C h (RC := RX15) (T := TX15) (N := 3) (List.mem_of_getElem? (i := 0) rfl) rfl in_X15 1 (by decide) q1103 rfl (v := .int (nI ((kS4 lb).2.1))) rfl dX1_readSecret_48 ?_
              refine n_icmp_ge (tgt := 74) hx hb (by omega) (by omega) dX1_readSecret_51 (by decide) (fun c51 => ?_) (fun c51 => ?_)
              · refine lv_aload_n hx hb dX1_readSecret_74 rfl (lv_at hl 0 rfl) ?_
                refine lv_iconst (v := nI 2) hx hb dX1_readSecret_75 (by decide) ?_
                have hje : (kS0 lb).2.1 + j = (kS4 lb).2.1 := by omega
                have hsum : (sl (gD lb) (kS0 lb).2.1 j).sum = kSum lb := by unfold kSum; rw [show (kS4 lb).2.1 - (kS0 lb).2.1 = j by omega]
                rw [hsum] at hl hsj
                refine call_VR (As := [.int (nI 2)]) (rest := []) (n := 1) C h (c15_takeN l D dA B Z hZ ([(na, .inr (13, [.ref nb, .long md, .ref an, .ref ae, .ref ap, .ref qs]))] ++ (F ++ ([(qs, bal dA (kSec lb))] ++ E))) p9 ba lb (kS4 lb).2 2 (List.mem_append_right _ (List.mem_append_left _ hba)) hob (by omega) h4l (by decide)) (lw_V q1118 q1119 q1120 q163 q1121) (by decide +kernel) (o_recv C h (RC := RX15) (T := TX15) (N := 3) (List.mem_of_getElem? (i := 0) rfl) rfl) (by decide) (by decide) rfl hl rfl (Nat.le_of_ble_eq_true rfl) dX1_readSecret_76 (by omega) (fun _ H locs _ h => ?_)
                have h : Wd D B s ([(p9, .inr (12, [.ref ba, .int (nI ((kS5 lb).2.1)), .int (bZ ((kS5 lb).2.2))])), (na, .inr (13, [.ref nb, .long md, .ref an, .ref ae, .ref ap, .ref qs]))] ++ (F ++ ([(qs, bal dA (kSec lb))] ++ E))) H locs := h
                show W p l e R s m args below meth c H locs (cc + 0) (cs + 0) Q (F0 m 79 ls [.long (lN ((kS5 lb).1))])
                refine lv_iload_n hx hb dX1_readSecret_79 rfl (lv_at hl 2 rfl) ?_
                refine lv_ldcw hx hb hown (hts _ q1175) dX1_readSecret_80 ?_
                refine n_top (y := nI 65535) (by decide) ?_
                refine lv_iand hx hb dX1_readSecret_83 (n_top (y := nI ((kSum lb) % 65536)) (pk_andN (by omega) 16 (by decide)) ?_)
                refine lv_i2l (v := lN ((kSum lb) % 65536)) hx hb dX1_readSecret_84 (nI_l (by omega)) ?_
                refine n_lcmp_ne (tgt := 100) hx hb (by omega) (by omega) dX1_readSecret_85 dX1_readSecret_86 (by decide) (fun c85 => ?_) (fun c85 => ?_)
                · refine lv_iconst (v := nI 0) hx hb dX1_readSecret_100 (by decide) ?_
                  subst hQ
                  have hfin : (decide ((kS0 lb).1 = 0) && ((kS5 lb).2.2 && decide ((kS5 lb).1 = kSum lb % 65536))) = false := by first | (rw [decide_eq_false (show ¬ (kS5 lb).1 = kSum lb % 65536 by omega)]; simp; done) | (rw [c93]; simp; done)
                  refine n_top (y := bZ false) rfl ?_
                  exact ret_z C hr hlocks h ((kS5 lb).2, some qs, [(qs, bal dA (kSec lb))] ++ E) (fun _ => ⟨rfl, qs, rfl, List.mem_append_left _ List.mem_cons_self⟩) (by rw [hfin]) rfl (by omega) (by omega) dX1_readSecret_101
                · refine lv_aload_n hx hb dX1_readSecret_89 rfl (lv_at hl 0 rfl) ?_
                  refine o_get C h (RC := RX15) (T := TX15) (N := 3) (List.mem_of_getElem? (i := 0) rfl) rfl in_X15 2 (by decide) q1106 rfl (v := .int (bZ ((kS5 lb).2.2))) rfl dX1_readSecret_90 ?_
                  refine z_if_eq (tgt := 100) hx hb dX1_readSecret_93 (by decide) (fun c93 => ?_) (fun c93 => ?_)
                  · refine lv_iconst (v := nI 0) hx hb dX1_readSecret_100 (by decide) ?_
                    subst hQ
                    have hfin : (decide ((kS0 lb).1 = 0) && ((kS5 lb).2.2 && decide ((kS5 lb).1 = kSum lb % 65536))) = false := by first | (rw [decide_eq_false (show ¬ (kS5 lb).1 = kSum lb % 65536 by omega)]; simp; done) | (rw [c93]; simp; done)
                    refine n_top (y := bZ false) rfl ?_
                    exact ret_z C hr hlocks h ((kS5 lb).2, some qs, [(qs, bal dA (kSec lb))] ++ E) (fun _ => ⟨rfl, qs, rfl, List.mem_append_left _ List.mem_cons_self⟩) (by rw [hfin]) rfl (by omega) (by omega) dX1_readSecret_101
                  · refine lv_iconst (v := nI 1) hx hb dX1_readSecret_96 (by decide) ?_
                    refine lv_goto (tgt := 101) hx hb dX1_readSecret_97 (by decide) ?_
                    subst hQ
                    have hfin : (decide ((kS0 lb).1 = 0) && ((kS5 lb).2.2 && decide ((kS5 lb).1 = kSum lb % 65536))) = true := by rw [decide_eq_true (show (kS0 lb).1 = 0 by omega), c93, decide_eq_true (show (kS5 lb).1 = kSum lb % 65536 by omega)]; rfl
                    refine n_top (y := bZ true) rfl ?_
                    exact ret_z C hr hlocks h ((kS5 lb).2, some qs, [(qs, bal dA (kSec lb))] ++ E) (fun _ => ⟨rfl, qs, rfl, List.mem_append_left _ List.mem_cons_self⟩) (by rw [hfin]) rfl (by omega) (by omega) dX1_readSecret_101
              · refine lv_iload_n hx hb dX1_readSecret_54 rfl (lv_at hl 2 rfl) ?_
                refine lv_aload_n hx hb dX1_readSecret_55 rfl (lv_at hl 0 rfl) ?_
                refine o_get C h (RC := RX15) (T := TX15) (N := 3) (List.mem_of_getElem? (i := 0) rfl) rfl in_X15 0 (by decide) q1100 rfl (v := .ref ba) rfl dX1_readSecret_56 ?_
                refine lv_iload hx hb dX1_readSecret_59 (lv_at hl 3 rfl) ?_
                refine n_bald C h (v := (gD lb) ((kS0 lb).2.1 + j)) (List.mem_append_right _ (List.mem_append_left _ hba)) (show (kS0 lb).2.1 + j < lb.length by omega) (by omega) rfl dX1_readSecret_61 ?_
                refine lv_sipush (v := nI 255) hx hb dX1_readSecret_62 (by decide) ?_
                refine lv_iand hx hb dX1_readSecret_65 ?_
                refine n_top (y := nI (gD lb ((kS0 lb).2.1 + j))) ((sb_byte _ hgj).1) ?_
                refine lv_iadd hx hb dX1_readSecret_66 (n_top (y := nI (((sl (gD lb) (kS0 lb).2.1 j).sum) + (gD lb ((kS0 lb).2.1 + j)))) (nI_add ((sl (gD lb) (kS0 lb).2.1 j).sum) (gD lb ((kS0 lb).2.1 + j))) ?_)
                refine lv_istore_n (lv' := [(3, .int (nI (((sl (gD lb) (kS0 lb).2.1 j).sum) + (gD lb ((kS0 lb).2.1 + j))))), (0, .ref p9), (1, .ref na), (4, .int (nI ((kS0 lb).2.1 + j)))]) hx hb dX1_readSecret_67 rfl hl (by decide) rfl (fun ls hl => ?_)
                refine lv_iinc (v := nI (((kS0 lb).2.1 + j) + 1)) (lv' := [(4, .int (nI (((kS0 lb).2.1 + j) + 1))), (3, .int (nI (((sl (gD lb) (kS0 lb).2.1 j).sum) + (gD lb ((kS0 lb).2.1 + j))))), (0, .ref p9), (1, .ref na)]) hx hb dX1_readSecret_68 hl (k := 3) rfl (nI_add ((kS0 lb).2.1 + j) 1) (by decide) rfl (fun ls hl => ?_)
                refine lv_goto (tgt := 45) hx hb dX1_readSecret_71 (by decide) ?_
                rw [show (sl (gD lb) (kS0 lb).2.1 j).sum + gD lb ((kS0 lb).2.1 + j) = (sl (gD lb) (kS0 lb).2.1 (j + 1)).sum by rw [sl_succ, List.sum_append]; simp] at hl
                exact ih2 (j + 1) (by omega) (by omega) _ _ h _ (lv_sub hl [2, 3, 1, 0] rfl)
          exact loop2 _ 0 (by omega) (Nat.lt_succ_self _) _ _ h _ (lv_sub hl [2, 3, 1, 0] rfl)
        · refine lv_aload_n hx hb dX1_readSecret_29 rfl (lv_at hl 0 rfl) ?_
          rw [if_neg (show ¬ i = 3 by omega)] at hmul
          refine call_VR (As := []) (rest := []) (n := 0) C h (c15_number l D dA B Z hZ ([(na, .inr (13, [.ref nb, .long md, .ref an, .ref ae, .ref ap, .ref qs]))] ++ (F ++ ([(qs, bal dA (kSec lb))] ++ E))) p9 ba lb (nst lb i) (List.mem_append_right _ (List.mem_append_left _ hba)) hob (by omega) (hnl i)) (lw_V q1123 q1124 q1125 q163 q1126) (by decide +kernel) (o_recv C h (RC := RX15) (T := TX15) (N := 3) (List.mem_of_getElem? (i := 0) rfl) rfl) (by decide) (by decide) rfl hl rfl (Nat.le_of_ble_eq_true rfl) dX1_readSecret_30 (by omega) (fun q9 H locs _ h => ?_)
          have h : Wd D B s ([(p9, .inr (12, [.ref ba, .int (nI ((numS lb (nst lb i)).2.1)), .int (bZ ((numS lb (nst lb i)).2.2))])), (na, .inr (13, [.ref nb, .long md, .ref an, .ref ae, .ref ap, .ref qs]))] ++ (F ++ ([(qs, bal dA (kSec lb))] ++ (E ++ [(q9, bal dA (numS lb (nst lb i)).1)])))) H locs := h.permL (perm_add (fun g f p0 p1 p2 => by (try simp only [p0, p1, p2]) <;> omega))
          have h : Wd D B s ([(p9, .inr (12, [.ref ba, .int (nI ((nst lb (i + 1)).1)), .int (bZ ((nst lb (i + 1)).2))])), (na, .inr (13, [.ref nb, .long md, .ref an, .ref ae, .ref ap, .ref qs]))] ++ (F ++ ([(qs, bal dA (kSec lb))] ++ (E ++ [(q9, bal dA (numS lb (nst lb i)).1)])))) H locs := h
          refine lv_pop hx hb dX1_readSecret_33 rfl ?_
          refine lv_iinc (v := nI (i + 1)) (lv' := [(3, .int (nI (i + 1))), (0, .ref p9), (1, .ref na), (2, .int (nI ((kS0 lb).2.1)))]) hx hb dX1_readSecret_34 hl (k := 3) rfl (nI_add i 1) (by decide) rfl (fun ls hl => ?_)
          refine lv_goto (tgt := 24) hx hb dX1_readSecret_37 (by decide) ?_
          exact ih (i + 1) (E ++ [(q9, bal dA (numS lb (nst lb i)).1)]) _ _ (by omega) (by omega) (by rw [show 1 + (i + 1) = (1 + i) + 1 by omega, Nat.add_mul, Nat.one_mul]; omega) (by omega) _ _ h _ (lv_sub hl [1, 2, 3, 0] rfl)
    exact loop _ 0 [] _ _ (by omega) (by omega) (by omega) (Nat.lt_succ_self _) _ _ h _ (lv_sub hl [2, 3, 1, 0] rfl)
  · refine lv_iconst (v := nI 0) hx hb dX1_readSecret_7 (by decide) ?_
    subst hQ
    have h : Wd D B s ([(p9, .inr (12, [.ref ba, .int (nI ((kS0 lb).2.1)), .int (bZ ((kS0 lb).2.2))])), (na, .inr (13, [.ref nb, .long md, .ref an, .ref ae, .ref ap, .null]))] ++ (F ++ [])) H locs := by rw [List.append_nil]; exact h
    have hfin : (decide ((kS0 lb).1 = 0) && ((kS5 lb).2.2 && decide ((kS5 lb).1 = kSum lb % 65536))) = false := by rw [decide_eq_false (show ¬ (kS0 lb).1 = 0 by omega)]; rfl
    refine n_top (y := bZ false) rfl ?_
    exact ret_z C hr hlocks h ((kS0 lb).2, none, []) (fun q => by rw [hfin] at q; cases q) (by rw [hfin]) rfl (by omega) (by omega) dX1_readSecret_8
