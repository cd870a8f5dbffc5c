set_option maxRecDepth 100000

def sgK (l : List Nat) (g k : Nat) : List Nat := sgS l (4 * g) ++ (List.range k).map (fun j => sgI l (4 * g + j))
theorem sgK_0 (l : List Nat) (g : Nat) : sgK l g 0 = sgS l (4 * g) := List.append_nil _
theorem sgK_s (l : List Nat) (g k : Nat) : sgK l g (k + 1) = sgK l g k ++ [sgI l (4 * g + k)] := by
  unfold sgK
  rw [List.range_succ, List.map_append, List.append_assoc]; rfl
theorem sgK_e {l : List Nat} {g : Nat} : ∀ k, k ≤ 3 → sgK l g k = sgS l (4 * g + k) := by
  intro k
  induction k with
  | zero => intro _; exact sgK_0 l g
  | succ k ih =>
    intro hk
    rw [sgK_s, ih (by omega)]
    show _ = sgS l (4 * g + k + 1)
    rw [sgS, if_neg (by omega), List.append_nil]
def sgNl (l : List Nat) (g : Nat) : List Nat := if 4 * (g + 1) % 64 = 0 ∨ l.length ≤ 3 * g + 3 then [10] else []
theorem sgK_4 {l : List Nat} {g : Nat} (h : 3 * g < l.length) : sgS l (4 * (g + 1)) = sgK l g 4 ++ sgNl l g := by
  rw [sgK_s, sgK_e 3 (by decide), show 4 * (g + 1) = 4 * g + 3 + 1 by omega, sgS, List.append_assoc]
  congr 2
  unfold sgNl
  by_cases q : 4 * (g + 1) % 64 = 0 ∨ l.length ≤ 3 * g + 3
  · rw [if_pos q, if_pos (by omega)]
  · rw [if_neg q, if_neg (by omega)]
theorem sgK_len (l : List Nat) (g k : Nat) : (sgK l g k).length = (sgS l (4 * g)).length + k := by
  unfold sgK; rw [List.length_append, List.length_map, List.length_range]
theorem sgS_mono (l : List Nat) {i j : Nat} (h : i ≤ j) : (sgS l i).length ≤ (sgS l j).length := by
  induction j with
  | zero => rw [Nat.le_zero.mp h]; exact Nat.le_refl _
  | succ j ih =>
    by_cases q : i = j + 1
    · rw [q]; exact Nat.le_refl _
    · have := ih (by omega)
      rw [sgS, List.length_append]; omega
theorem v3N_lt {l : List Nat} (hl : byt l) (g : Nat) {k : Nat} (hk : k ≤ 3) : v3N l g k < 256 ^ k := by
  have h0 := byt_gD hl (3 * g)
  have h1 := byt_gD hl (3 * g + 1)
  have h2 := byt_gD hl (3 * g + 2)
  rcases (show k = 0 ∨ k = 1 ∨ k = 2 ∨ k = 3 by omega) with q | q | q | q <;> subst q <;> simp [v3N] <;> omega
theorem v3N_s (l : List Nat) (g : Nat) {k : Nat} (hk : k < 3) : v3N l g (k + 1) = v3N l g k * 256 + gD l (3 * g + k) := by
  rcases (show k = 0 ∨ k = 1 ∨ k = 2 by omega) with q | q | q <;> subst q <;> simp [v3N]
theorem sb_put {v : Nat} (h : v < 128) : (nI v).toInt8.toInt32 = sb_b v := by rw [sb_small v h]; exact n_i8 h

set_option maxHeartbeats 1000000 in
set_option maxRecDepth 100000 in
theorem c1_putSigns (l : Launch) (D : va_G) (dA : Nat → ClassId) (B : Nat) (Z : State → Prop) (hZ : Stab B Z) (F : va_W) (r b cap : Nat) (g : Nat → Nat) (lt : List Nat) (a n0 : Nat) (ga : Nat → Nat) (lb : List Nat) (hsb : SBis g cap lt) (hcap : 64 ≤ cap) (hll : lt.length < 100000) (hcm : cap < 400000) (hm : (a, bar dA n0 ga) ∈ F) (hsa : SBis ga n0 lb) (hlb : byt lb) (hn0 : n0 < 400000) (hl9 : lb.length ≤ 9000) :
    Ct (S := Nat × (Nat → Nat) × va_W) l D dA B Z yX1_putSigns cX1_putSigns 8 none 5 (rC cap (lt ++ sgS lb (4 * ((lb.length + 2) / 3))).length) (rS cap (lt ++ sgS lb (4 * ((lb.length + 2) / 3))).length) [.ref r, .ref a, .int (nI lb.length)] ([(r, .inr (1, [.ref b, .int (nI lt.length)])), (b, bar dA cap g)] ++ F) (fun u => SBis u.2.1 (gro cap (lt ++ sgS lb (4 * ((lb.length + 2) / 3))).length) (lt ++ sgS lb (4 * ((lb.length + 2) / 3)))) (fun _ => none) (fun u => [(r, .inr (1, [.ref u.1, .int (nI ((lt ++ sgS lb (4 * ((lb.length + 2) / 3))).length))])), (u.1, bar dA (gro cap (lt ++ sgS lb (4 * ((lb.length + 2) / 3))).length) u.2.1)] ++ (F ++ u.2.2)) := by
  refine Ct.mk2 (by decide) (Nat.le_of_ble_eq_true rfl) hZ ?_
  intro p e R s m args below meth c ls Q C hr hlocks hin hQ hl h
  have C0 := C
  obtain ⟨hx, hb, hml, hown, hts, -⟩ := C0
  have hl : lv_has ls 8 [(0, .ref r), (1, .ref a), (2, .int (nI lb.length))] := hl
  have hg0r : gro cap lt.length = cap := gro_le hsb.1
  have hSr0 : SBis g (gro cap lt.length) lt := by rw [hg0r]; exact hsb
  have hz0r : rC cap lt.length = 0 ∧ rS cap lt.length = 0 := rC_0 hg0r
  have h : Wd D B s ([(r, .inr (1, [.ref b, .int (nI lt.length)])), (b, bar dA (gro cap lt.length) g)] ++ F) s.heap [] := by rw [hg0r]; exact h
  refine W.widen (k := 0 + rC cap lt.length) (n := 0 + rS cap lt.length) (by omega) (by omega) ?_
  have hFL : (lt ++ sgS lb (4 * ((lb.length + 2) / 3))).length = lt.length + (sgS lb (4 * ((lb.length + 2) / 3))).length := List.length_append ..
  have hSL := sgS_len lb (4 * ((lb.length + 2) / 3))
  refine lv_iconst (v := nI 0) hx hb dX1_putSigns_0 (by decide) ?_
  refine lv_istore_n (lv' := [(3, .int (nI 0)), (0, .ref r), (1, .ref a), (2, .int (nI lb.length))]) hx hb dX1_putSigns_1 rfl hl (by decide) rfl (fun ls hl => ?_)
  refine lv_iconst (v := nI 0) hx hb dX1_putSigns_2 (by decide) ?_
  refine lv_istore (lv' := [(4, .int (nI 0)), (3, .int (nI 0)), (0, .ref r), (1, .ref a), (2, .int (nI lb.length))]) hx hb dX1_putSigns_3 hl (by decide) rfl (fun ls hl => ?_)
  have hl : lv_has ls 8 [(4, .int (nI (3 * 0))), (3, .int (nI (4 * 0))), (0, .ref r), (1, .ref a), (2, .int (nI lb.length))] := hl
  have h : Wd D B s ([(r, .inr (1, [.ref b, .int (nI lt.length)])), (b, bar dA (gro cap lt.length) g)] ++ (F ++ [])) s.heap [] := by rw [List.append_nil]; exact h
  have loop : ∀ (nn : Nat) (g9 b2 : Nat) (g2 : Nat → Nat) (L2 : List Nat) (E : va_W), (3 * g9 < lb.length + 3) → (SBis g2 (gro cap L2.length) L2) → (L2 = lt ++ sgS lb (4 * g9)) → lb.length + 3 - 3 * g9 < nn → ∀ (H : Heap) (locs : List Loc), Wd D B s ([(r, .inr (1, [.ref b2, .int (nI L2.length)])), (b2, bar dA (gro cap L2.length) g2)] ++ (F ++ E)) H locs → ∀ (ls : Array Slot), lv_has ls 8 [(0, .ref r), (1, .ref a), (2, .int (nI lb.length)), (3, .int (nI (4 * g9))), (4, .int (nI (3 * g9)))] → W p l e R s m args below meth c H locs (0 + rC cap L2.length) (0 + rS cap L2.length) Q (F0 m 5 ls []) := by
    intro nn
    induction nn with
    | zero => intro g9 b2  g2  L2  E  hg9 hS2 hL2e hme; exact absurd hme (Nat.not_lt_zero _)
    | succ nn ih =>
      intro g9 b2  g2  L2  E  hg9 hS2 hL2e hme H locs h ls hl
      have hsm := sgS_mono lb (i := 4 * g9) (j := 4 * ((lb.length + 2) / 3)) (by omega)
      have hLl : L2.length = lt.length + (sgS lb (4 * g9)).length := by rw [hL2e, List.length_append]
      refine lv_iload hx hb dX1_putSigns_5 (lv_at hl 4 rfl) ?_
      refine lv_iload_n hx hb dX1_putSigns_7 rfl (lv_at hl 2 rfl) ?_
      refine n_icmp_ge (tgt := 147) hx hb (by omega) (by omega) dX1_putSigns_8 (by decide) (fun c8 => ?_) (fun c8 => ?_)
      · subst hQ
        have hge : 4 * g9 = 4 * ((lb.length + 2) / 3) := by omega
        have hfin : L2 = lt ++ sgS lb (4 * ((lb.length + 2) / 3)) := by rw [hL2e, hge]
        rw [hfin] at h hS2
        have hcf : rC cap L2.length = rC cap (lt ++ sgS lb (4 * ((lb.length + 2) / 3))).length ∧ rS cap L2.length = rS cap (lt ++ sgS lb (4 * ((lb.length + 2) / 3))).length := by rw [hfin]; exact ⟨rfl, rfl⟩
        exact ret_v C hr hlocks h (b2, g2, E) hS2 rfl rfl (by omega) (by omega) dX1_putSigns_147
      · have hsm2 := sgS_mono lb (i := 4 * (g9 + 1)) (j := 4 * ((lb.length + 2) / 3)) (by omega)
        have hK4 := sgK_4 (l := lb) (g := g9) (by omega)
        have hK4l : (sgS lb (4 * (g9 + 1))).length = (sgS lb (4 * g9)).length + 4 + (sgNl lb g9).length := by rw [hK4, List.length_append, sgK_len]
        have hv3 : v3N lb g9 3 < 16777216 := v3N_lt hlb g9 (k := 3) (Nat.le_refl _)
        refine lv_iconst (v := nI 3) hx hb dX1_putSigns_11 (by decide) ?_
        refine lv_iload_n hx hb dX1_putSigns_12 rfl (lv_at hl 2 rfl) ?_
        refine lv_iload hx hb dX1_putSigns_13 (lv_at hl 4 rfl) ?_
        refine lv_isub hx hb dX1_putSigns_15 (n_top (y := nI (lb.length - (3 * g9))) (pk_sub (by omega)) ?_)
        refine n_mmin C h (a := 3) (b := lb.length - (3 * g9)) (by omega) (by omega) q1435 q474 q144 q475 hl.1 (by decide) (Nat.le_of_ble_eq_true rfl) (by omega) (by omega) dX1_putSigns_16 ?_
        refine lv_istore (lv' := [(5, .int (nI (min 3 (lb.length - (3 * g9))))), (0, .ref r), (1, .ref a), (2, .int (nI lb.length)), (3, .int (nI (4 * g9))), (4, .int (nI (3 * g9)))]) hx hb dX1_putSigns_19 hl (by decide) rfl (fun ls hl => ?_)
        refine lv_iconst (v := nI 0) hx hb dX1_putSigns_21 (by decide) ?_
        refine lv_istore (lv' := [(6, .int (nI 0)), (5, .int (nI (min 3 (lb.length - (3 * g9))))), (0, .ref r), (1, .ref a), (2, .int (nI lb.length)), (3, .int (nI (4 * g9))), (4, .int (nI (3 * g9)))]) hx hb dX1_putSigns_22 hl (by decide) rfl (fun ls hl => ?_)
        refine lv_iconst (v := nI 0) hx hb dX1_putSigns_24 (by decide) ?_
        refine lv_istore (lv' := [(7, .int (nI 0)), (6, .int (nI 0)), (5, .int (nI (min 3 (lb.length - (3 * g9))))), (0, .ref r), (1, .ref a), (2, .int (nI lb.length)), (3, .int (nI (4 * g9))), (4, .int (nI (3 * g9)))]) hx hb dX1_putSigns_25 hl (by decide) rfl (fun ls hl => ?_)
        have hl : lv_has ls 8 [(7, .int (nI 0)), (6, .int (nI (v3N lb g9 0))), (5, .int (nI (min 3 (lb.length - (3 * g9))))), (0, .ref r), (1, .ref a), (2, .int (nI lb.length)), (3, .int (nI (4 * g9))), (4, .int (nI (3 * g9)))] := hl
        have loopK : ∀ (nnK : Nat) (k : Nat), (k ≤ 3) → 3 - k < nnK → ∀ (H : Heap) (locs : List Loc), Wd D B s ([(r, .inr (1, [.ref b2, .int (nI L2.length)])), (b2, bar dA (gro cap L2.length) g2)] ++ (F ++ E)) H locs → ∀ (ls : Array Slot), lv_has ls 8 [(0, .ref r), (1, .ref a), (2, .int (nI lb.length)), (3, .int (nI (4 * g9))), (4, .int (nI (3 * g9))), (5, .int (nI (min 3 (lb.length - (3 * g9))))), (6, .int (nI (v3N lb g9 k))), (7, .int (nI k))] → W p l e R s m args below meth c H locs (0 + rC cap L2.length) (0 + rS cap L2.length) Q (F0 m 27 ls []) := by
          intro nnK
          induction nnK with
          | zero => intro k  hk3 hme; exact absurd hme (Nat.not_lt_zero _)
          | succ nnK ihK =>
            intro k  hk3 hme H locs h ls hl
            have hvk := v3N_lt hlb g9 hk3
            have hpk : 256 ^ k ≤ 16777216 := Nat.pow_le_pow_right (n := 256) (by decide) hk3
            have hgk := byt_gD hlb (3 * g9 + k)
            have hv24 : v3N lb g9 k < 16777216 := Nat.lt_of_lt_of_le hvk hpk
            refine lv_iload hx hb dX1_putSigns_27 (lv_at hl 7 rfl) ?_
            refine lv_iconst (v := nI 3) hx hb dX1_putSigns_29 (by decide) ?_
            refine n_icmp_ge (tgt := 69) hx hb (by omega) (by omega) dX1_putSigns_30 (by decide) (fun c30 => ?_) (fun c30 => ?_)
            · refine lv_iconst (v := nI 0) hx hb dX1_putSigns_69 (by decide) ?_
              refine lv_istore (lv' := [(7, .int (nI 0)), (0, .ref r), (1, .ref a), (2, .int (nI lb.length)), (3, .int (nI (4 * g9))), (4, .int (nI (3 * g9))), (5, .int (nI (min 3 (lb.length - (3 * g9))))), (6, .int (nI (v3N lb g9 k)))]) hx hb dX1_putSigns_70 hl (by decide) rfl (fun ls hl => ?_)
              have hk3e : k = 3 := by omega
              rw [hk3e] at hl
              have hl : lv_has ls 8 [(7, .int (nI 0)), (0, .ref r), (1, .ref a), (2, .int (nI lb.length)), (3, .int (nI (4 * g9))), (4, .int (nI (3 * g9))), (5, .int (nI (min 3 (lb.length - (3 * g9))))), (6, .int (nI (v3N lb g9 3)))] := hl
              have h : Wd D B s ([(r, .inr (1, [.ref b2, .int (nI L2.length)])), (b2, bar dA (gro cap L2.length) g2)] ++ ((F ++ E) ++ [])) H locs := by rw [List.append_nil]; exact h
              have loopJ : ∀ (nnJ : Nat) (j b3 : Nat) (g3 : Nat → Nat) (L3 : List Nat) (E3 : va_W), (j ≤ 4) → (SBis g3 (gro cap L3.length) L3) → (L3 = lt ++ sgK lb g9 j) → 4 - j < nnJ → ∀ (H : Heap) (locs : List Loc), Wd D B s ([(r, .inr (1, [.ref b3, .int (nI L3.length)])), (b3, bar dA (gro cap L3.length) g3)] ++ ((F ++ E) ++ E3)) H locs → ∀ (ls : Array Slot), lv_has ls 8 [(0, .ref r), (1, .ref a), (2, .int (nI lb.length)), (3, .int (nI (4 * g9))), (4, .int (nI (3 * g9))), (5, .int (nI (min 3 (lb.length - (3 * g9))))), (6, .int (nI (v3N lb g9 3))), (7, .int (nI j))] → W p l e R s m args below meth c H locs (0 + rC cap L3.length) (0 + rS cap L3.length) Q (F0 m 72 ls []) := by
                intro nnJ
                induction nnJ with
                | zero => intro j b3  g3  L3  E3  hj4 hS3 hL3e hme; exact absurd hme (Nat.not_lt_zero _)
                | succ nnJ ihJ =>
                  intro j b3  g3  L3  E3  hj4 hS3 hL3e hme H locs h ls hl
                  have hL3l : L3.length = lt.length + (sgS lb (4 * g9)).length + j := by rw [hL3e, List.length_append, sgK_len]; omega
                  refine lv_iload hx hb dX1_putSigns_72 (lv_at hl 7 rfl) ?_
                  refine lv_iconst (v := nI 4) hx hb dX1_putSigns_74 (by decide) ?_
                  refine n_icmp_ge (tgt := 117) hx hb (by omega) (by omega) dX1_putSigns_75 (by decide) (fun c75 => ?_) (fun c75 => ?_)
                  · refine lv_iinc (v := nI (4 * (g9 + 1))) (lv' := [(3, .int (nI (4 * (g9 + 1)))), (0, .ref r), (1, .ref a), (2, .int (nI lb.length)), (4, .int (nI (3 * g9))), (5, .int (nI (min 3 (lb.length - (3 * g9))))), (6, .int (nI (v3N lb g9 3))), (7, .int (nI j))]) hx hb dX1_putSigns_117 hl (k := 3) rfl (by rw [show 4 * (g9 + 1) = 4 * g9 + 4 by omega]; exact nI_add _ _) (by decide) rfl (fun ls hl => ?_)
                    have hj4e : j = 4 := by omega
                    have j141 : ∀ (b4 : Nat) (g4 : Nat → Nat) (L4 : List Nat) (E4 : va_W), (SBis g4 (gro cap L4.length) L4) → (L4 = lt ++ sgS lb (4 * (g9 + 1))) → ∀ (H : Heap) (locs : List Loc), Wd D B s ([(r, .inr (1, [.ref b4, .int (nI L4.length)])), (b4, bar dA (gro cap L4.length) g4)] ++ (((F ++ E) ++ E3) ++ E4)) H locs → ∀ (ls : Array Slot), lv_has ls 8 [(3, .int (nI (4 * (g9 + 1)))), (0, .ref r), (1, .ref a), (2, .int (nI lb.length)), (4, .int (nI (3 * g9))), (5, .int (nI (min 3 (lb.length - (3 * g9))))), (6, .int (nI (v3N lb g9 3))), (7, .int (nI j))] → W p l e R s m args below meth c H locs (0 + rC cap L4.length) (0 + rS cap L4.length) Q (F0 m 141 ls []) := by
                      intro b4  g4  L4  E4  hS4 hLn H locs h ls hl
                      refine lv_iinc (v := nI (3 * (g9 + 1))) (lv' := [(4, .int (nI (3 * (g9 + 1)))), (3, .int (nI (4 * (g9 + 1)))), (0, .ref r), (1, .ref a), (2, .int (nI lb.length)), (5, .int (nI (min 3 (lb.length - (3 * g9))))), (6, .int (nI (v3N lb g9 3))), (7, .int (nI j))]) hx hb dX1_putSigns_141 hl (k := 4) rfl (by rw [show 3 * (g9 + 1) = 3 * g9 + 3 by omega]; exact nI_add _ _) (by decide) rfl (fun ls hl => ?_)
                      refine lv_goto (tgt := 5) hx hb dX1_putSigns_144 (by decide) ?_
                      have h : Wd D B s ([(r, .inr (1, [.ref b4, .int (nI L4.length)])), (b4, bar dA (gro cap L4.length) g4)] ++ (F ++ (E ++ (E3 ++ E4)))) H locs := h.permL (perm_add (fun g f p0 p1 p2 => by (try simp only [p0, p1, p2]) <;> omega))
                      exact ih (g9 + 1) b4 g4 L4 (E ++ (E3 ++ E4)) (by omega) hS4 hLn (by omega) _ _ h _ (lv_sub hl [2, 3, 4, 1, 0] rfl)
                    refine lv_iload_n hx hb dX1_putSigns_120 rfl (lv_at hl 0 rfl) ?_
                    refine lv_bipush (v := nI 64) hx hb dX1_putSigns_121 (by decide) ?_
                    refine lv_irem hx hb dX1_putSigns_123 (by decide) ?_
                    refine n_top (y := nI (4 * (g9 + 1) % 64)) (pk_rem (by omega) (by omega) (by omega)) ?_
                    refine n_if_eq (tgt := 135) hx hb (by omega) dX1_putSigns_124 (by decide) (fun c124 => ?_) (fun c124 => ?_)
                    · refine lv_aload_n hx hb dX1_putSigns_135 rfl (lv_at hl 1 rfl) ?_
                      refine lv_bipush (v := nI 10) hx hb dX1_putSigns_136 (by decide) ?_
                      have hnlr1 : (L3 ++ [10]).length = L3.length + 1 := by rw [List.length_append]; rfl
                      have hnqr1 : (L3.length + 1) = (L3 ++ [10]).length := hnlr1.symm
                      have hcbr1 := gro_b (cap := cap) (m := L3.length) (by omega)
                      have hcar1 := rC_add (cap := cap) (m := L3.length) (m' := (L3.length + 1)) (by omega) (by omega)
                      have hcmr1 := rC_mono (cap := cap) (m := (L3.length + 1)) (m' := (lt ++ sgS lb (4 * ((lb.length + 2) / 3))).length) (by omega) (by omega)
                      refine call_VR (As := [.int (nI 10)]) (rest := []) (n := 1) C h (c2_put l D dA B Z hZ ((F ++ E) ++ E3) r b3 (gro cap L3.length) g3 L3 (nI 10) 10 hS3 (by omega) (by omega) (by omega) rfl) (lw_V q1503 q562 q563 q130 q564) (by decide +kernel) (o_recv C h (RC := RX2) (T := TX2) (N := 2) (List.mem_of_getElem? (i := 0) rfl) rfl) (by decide) (by decide) rfl hl rfl (Nat.le_of_ble_eq_true rfl) dX1_putSigns_138 (by omega) (fun urr1 H locs hur1 h => ?_)
                      obtain ⟨br1, gr1, Er1⟩ := urr1
                      obtain ⟨Lr1, hLr1⟩ : ∃ z, z = L3 ++ [10] := ⟨_, rfl⟩
                      dsimp only at hur1 h
                      rw [← hLr1] at h hur1 hnlr1
                      have hger1 : gro (gro cap L3.length) Lr1.length = gro cap Lr1.length := gro_gro (by omega) (by omega)
                      rw [hger1] at h hur1
                      have hclr1 : rC cap (L3.length + 1) = rC cap Lr1.length ∧ rS cap (L3.length + 1) = rS cap Lr1.length := by rw [hLr1, hnqr1]; exact ⟨rfl, rfl⟩
                      have h : Wd D B s ([(r, .inr (1, [.ref br1, .int (nI Lr1.length)])), (br1, bar dA (gro cap Lr1.length) gr1)] ++ (((F ++ E) ++ E3) ++ Er1)) H locs := h
                      refine W.widen (k := 0 + rC cap Lr1.length) (n := 0 + rS cap Lr1.length) (by omega) (by omega) ?_
                      have h : Wd D B s ([(r, .inr (1, [.ref br1, .int (nI Lr1.length)])), (br1, bar dA (gro cap Lr1.length) gr1)] ++ (((F ++ E) ++ E3) ++ Er1)) H locs := by (try rw [List.append_nil]) <;> exact h
                      exact j141 br1 gr1 Lr1 Er1 hur1 (by rw [hLr1, hL3e, hj4e, hK4, List.append_assoc]; unfold sgNl; rw [if_pos (by omega)]) _ _ h _ (lv_sub hl [0, 1, 2, 3, 4, 5, 6, 7] rfl)
                    · refine lv_iload hx hb dX1_putSigns_127 (lv_at hl 4 rfl) ?_
                      refine lv_iconst (v := nI 3) hx hb dX1_putSigns_129 (by decide) ?_
                      refine lv_iadd hx hb dX1_putSigns_130 (n_top (y := nI ((3 * g9) + 3)) (nI_add (3 * g9) 3) ?_)
                      refine lv_iload_n hx hb dX1_putSigns_131 rfl (lv_at hl 3 rfl) ?_
                      refine n_icmp_lt (tgt := 141) hx hb (by omega) (by omega) dX1_putSigns_132 (by decide) (fun c132 => ?_) (fun c132 => ?_)
                      · have h : Wd D B s ([(r, .inr (1, [.ref b3, .int (nI L3.length)])), (b3, bar dA (gro cap L3.length) g3)] ++ (((F ++ E) ++ E3) ++ [])) H locs := by (try rw [List.append_nil]) <;> exact h
                        exact j141 b3 g3 L3 [] hS3 (by rw [hL3e, hj4e, hK4]; unfold sgNl; rw [if_neg (by omega), List.append_nil]) _ _ h _ (lv_sub hl [0, 1, 2, 3, 4, 5, 6, 7] rfl)
                      · refine lv_aload_n hx hb dX1_putSigns_135 rfl (lv_at hl 1 rfl) ?_
                        refine lv_bipush (v := nI 10) hx hb dX1_putSigns_136 (by decide) ?_
                        have hnlr2 : (L3 ++ [10]).length = L3.length + 1 := by rw [List.length_append]; rfl
                        have hnqr2 : (L3.length + 1) = (L3 ++ [10]).length := hnlr2.symm
                        have hcbr2 := gro_b (cap := cap) (m := L3.length) (by omega)
                        have hcar2 := rC_add (cap := cap) (m := L3.length) (m' := (L3.length + 1)) (by omega) (by omega)
                        have hcmr2 := rC_mono (cap := cap) (m := (L3.length + 1)) (m' := (lt ++ sgS lb (4 * ((lb.length + 2) / 3))).length) (by omega) (by omega)
                        refine call_VR (As := [.int (nI 10)]) (rest := []) (n := 1) C h (c2_put l D dA B Z hZ ((F ++ E) ++ E3) r b3 (gro cap L3.length) g3 L3 (nI 10) 10 hS3 (by omega) (by omega) (by omega) rfl) (lw_V q1503 q562 q563 q130 q564) (by decide +kernel) (o_recv C h (RC := RX2) (T := TX2) (N := 2) (List.mem_of_getElem? (i := 0) rfl) rfl) (by decide) (by decide) rfl hl rfl (Nat.le_of_ble_eq_true rfl) dX1_putSigns_138 (by omega) (fun urr2 H locs hur2 h => ?_)
                        obtain ⟨br2, gr2, Er2⟩ := urr2
                        obtain ⟨Lr2, hLr2⟩ : ∃ z, z = L3 ++ [10] := ⟨_, rfl⟩
                        dsimp only at hur2 h
                        rw [← hLr2] at h hur2 hnlr2
                        have hger2 : gro (gro cap L3.length) Lr2.length = gro cap Lr2.length := gro_gro (by omega) (by omega)
                        rw [hger2] at h hur2
                        have hclr2 : rC cap (L3.length + 1) = rC cap Lr2.length ∧ rS cap (L3.length + 1) = rS cap Lr2.length := by rw [hLr2, hnqr2]; exact ⟨rfl, rfl⟩
                        have h : Wd D B s ([(r, .inr (1, [.ref br2, .int (nI Lr2.length)])), (br2, bar dA (gro cap Lr2.length) gr2)] ++ (((F ++ E) ++ E3) ++ Er2)) H locs := h
                        refine W.widen (k := 0 + rC cap Lr2.length) (n := 0 + rS cap Lr2.length) (by omega) (by omega) ?_
                        have h : Wd D B s ([(r, .inr (1, [.ref br2, .int (nI Lr2.length)])), (br2, bar dA (gro cap Lr2.length) gr2)] ++ (((F ++ E) ++ E3) ++ Er2)) H locs := by (try rw [List.append_nil]) <;> exact h
                        exact j141 br2 gr2 Lr2 Er2 hur2 (by rw [hLr2, hL3e, hj4e, hK4, List.append_assoc]; unfold sgNl; rw [if_pos (by omega)]) _ _ h _ (lv_sub hl [0, 1, 2, 3, 4, 5, 6, 7] rfl)
                  · have hsgi := sgI_v (l := lb) hlb (g := g9) (k := j) (by omega) (by omega)
                    have hsgl := sgI_lt lb (4 * g9 + j)
                    refine lv_aload_n hx hb dX1_putSigns_78 rfl (lv_at hl 0 rfl) ?_
                    have j108 : ∀ (H : Heap) (locs : List Loc), Wd D B s ([(r, .inr (1, [.ref b3, .int (nI L3.length)])), (b3, bar dA (gro cap L3.length) g3)] ++ ((F ++ E) ++ E3)) H locs → ∀ (ls : Array Slot), lv_has ls 8 [(0, .ref r), (1, .ref a), (2, .int (nI lb.length)), (3, .int (nI (4 * g9))), (4, .int (nI (3 * g9))), (5, .int (nI (min 3 (lb.length - (3 * g9))))), (6, .int (nI (v3N lb g9 3))), (7, .int (nI j))] → W p l e R s m args below meth c H locs (0 + rC cap L3.length) (0 + rS cap L3.length) Q (F0 m 108 ls [.int (nI (sgI lb (4 * g9 + j))), .ref r]) := by
                      intro   H locs h ls hl
                      have hnlr3 : (L3 ++ [sgI lb (4 * g9 + j)]).length = L3.length + 1 := by rw [List.length_append]; rfl
                      have hnqr3 : (L3.length + 1) = (L3 ++ [sgI lb (4 * g9 + j)]).length := hnlr3.symm
                      have hcbr3 := gro_b (cap := cap) (m := L3.length) (by omega)
                      have hcar3 := rC_add (cap := cap) (m := L3.length) (m' := (L3.length + 1)) (by omega) (by omega)
                      have hcmr3 := rC_mono (cap := cap) (m := (L3.length + 1)) (m' := (lt ++ sgS lb (4 * ((lb.length + 2) / 3))).length) (by omega) (by omega)
                      refine call_VR (As := [.int (nI (sgI lb (4 * g9 + j)))]) (rest := []) (n := 1) C h (c2_put l D dA B Z hZ ((F ++ E) ++ E3) r b3 (gro cap L3.length) g3 L3 (nI (sgI lb (4 * g9 + j))) (sgI lb (4 * g9 + j)) hS3 (by omega) (by omega) (by omega) (sb_put hsgl)) (lw_V q1503 q562 q563 q130 q564) (by decide +kernel) (o_recv C h (RC := RX2) (T := TX2) (N := 2) (List.mem_of_getElem? (i := 0) rfl) rfl) (by decide) (by decide) rfl hl rfl (Nat.le_of_ble_eq_true rfl) dX1_putSigns_108 (by omega) (fun urr3 H locs hur3 h => ?_)
                      obtain ⟨br3, gr3, Er3⟩ := urr3
                      obtain ⟨Lr3, hLr3⟩ : ∃ z, z = L3 ++ [sgI lb (4 * g9 + j)] := ⟨_, rfl⟩
                      dsimp only at hur3 h
                      rw [← hLr3] at h hur3 hnlr3
                      have hger3 : gro (gro cap L3.length) Lr3.length = gro cap Lr3.length := gro_gro (by omega) (by omega)
                      rw [hger3] at h hur3
                      have hclr3 : rC cap (L3.length + 1) = rC cap Lr3.length ∧ rS cap (L3.length + 1) = rS cap Lr3.length := by rw [hLr3, hnqr3]; exact ⟨rfl, rfl⟩
                      have h : Wd D B s ([(r, .inr (1, [.ref br3, .int (nI Lr3.length)])), (br3, bar dA (gro cap Lr3.length) gr3)] ++ (((F ++ E) ++ E3) ++ Er3)) H locs := h
                      refine W.widen (k := 0 + rC cap Lr3.length) (n := 0 + rS cap Lr3.length) (by omega) (by omega) ?_
                      refine lv_iinc (v := nI (j + 1)) (lv' := [(7, .int (nI (j + 1))), (0, .ref r), (1, .ref a), (2, .int (nI lb.length)), (3, .int (nI (4 * g9))), (4, .int (nI (3 * g9))), (5, .int (nI (min 3 (lb.length - (3 * g9))))), (6, .int (nI (v3N lb g9 3)))]) hx hb dX1_putSigns_111 hl (k := 7) rfl (nI_add j 1) (by decide) rfl (fun ls hl => ?_)
                      refine lv_goto (tgt := 72) hx hb dX1_putSigns_114 (by decide) ?_
                      have h : Wd D B s ([(r, .inr (1, [.ref br3, .int (nI Lr3.length)])), (br3, bar dA (gro cap Lr3.length) gr3)] ++ ((F ++ E) ++ (E3 ++ Er3))) H locs := h.permL (perm_add (fun g f p0 p1 p2 => by (try simp only [p0, p1, p2]) <;> omega))
                      exact ihJ (j + 1) br3 gr3 Lr3 (E3 ++ Er3) (by omega) hur3 (by rw [hLr3, hL3e, sgK_s, List.append_assoc, ← hsgi]) (by omega) _ _ h _ (lv_sub hl [1, 2, 3, 4, 5, 6, 7, 0] rfl)
                    refine lv_iload hx hb dX1_putSigns_79 (lv_at hl 7 rfl) ?_
                    refine lv_iload hx hb dX1_putSigns_81 (lv_at hl 5 rfl) ?_
                    refine n_icmp_gt (tgt := 106) hx hb (by omega) (by omega) dX1_putSigns_83 (by decide) (fun c83 => ?_) (fun c83 => ?_)
                    · refine lv_bipush (v := nI 61) hx hb dX1_putSigns_106 (by decide) ?_
                      refine n_top (y := nI (sgI lb (4 * g9 + j))) (by rw [hsgi, if_neg (by omega)]) ?_
                      exact j108   _ _ h _ (lv_sub hl [0, 1, 2, 3, 4, 5, 6, 7] rfl)
                    · refine lv_iload hx hb dX1_putSigns_86 (lv_at hl 6 rfl) ?_
                      have hdv : v3N lb g9 3 / 2 ^ (18 - 6 * j) < 16777216 := Nat.lt_of_le_of_lt (Nat.div_le_self _ _) hv3
                      refine lv_bipush (v := nI 18) hx hb dX1_putSigns_88 (by decide) ?_
                      refine lv_bipush (v := nI 6) hx hb dX1_putSigns_90 (by decide) ?_
                      refine lv_iload hx hb dX1_putSigns_92 (lv_at hl 7 rfl) ?_
                      refine lv_imul hx hb dX1_putSigns_94 (n_top (y := nI (6 * j)) (pk_mul 6 j) ?_)
                      refine lv_isub hx hb dX1_putSigns_95 (n_top (y := nI (18 - (6 * j))) (pk_sub (by omega)) ?_)
                      refine n_ishr hx hb dX1_putSigns_96 ?_
                      refine n_top (y := nI (v3N lb g9 3 / 2 ^ (18 - 6 * j))) (n_shrN (by omega) (by omega)) ?_
                      refine lv_bipush (v := nI 63) hx hb dX1_putSigns_97 (by decide) ?_
                      refine lv_iand hx hb dX1_putSigns_99 (n_top (y := nI ((v3N lb g9 3 / 2 ^ (18 - 6 * j)) % 64)) (pk_andN (by omega) 6 (by decide)) ?_)
                      refine call_S (As := [.int (nI ((v3N lb g9 3 / 2 ^ (18 - 6 * j)) % 64))]) (rest := [.ref r]) (n := 1) C h (c1_signOf l D dA B Z hZ _ (v3N lb g9 3 / 2 ^ (18 - 6 * j) % 64) (by omega)) (lw_S q1783 q1784 q129 q1785) (by decide +kernel) (by decide) (by decide) rfl hl rfl (Nat.le_of_ble_eq_true rfl) dX1_putSigns_100 (by omega) (fun _ H locs _ h => ?_)
                      refine W.widen (k := 0 + rC cap L3.length) (n := 0 + rS cap L3.length) (by omega) (by omega) ?_
                      refine lv_goto (tgt := 108) hx hb dX1_putSigns_103 (by decide) ?_
                      refine n_top (y := nI (sgI lb (4 * g9 + j))) (by rw [hsgi, if_pos (by omega)]) ?_
                      exact j108   _ _ h _ (lv_sub hl [0, 1, 2, 3, 4, 5, 6, 7] rfl)
              exact loopJ _ 0 b2 g2 L2 [] (by omega) hS2 (by rw [sgK_0]; exact hL2e) (Nat.lt_succ_self _) _ _ h _ (lv_sub hl [1, 2, 3, 4, 5, 6, 7, 0] rfl)
            · have hvs := v3N_s lb g9 (k := k) (by omega)
              have hv16 : v3N lb g9 k < 65536 := Nat.lt_of_lt_of_le hvk (Nat.le_trans (Nat.pow_le_pow_right (n := 256) (by decide) (show k ≤ 2 by omega)) (by decide))
              refine lv_iload hx hb dX1_putSigns_33 (lv_at hl 6 rfl) ?_
              refine lv_bipush (v := nI 8) hx hb dX1_putSigns_35 (by decide) ?_
              refine n_ishl hx hb dX1_putSigns_37 (n_top (y := nI ((v3N lb g9 k) * 256)) (pk_shlN _ 8 (by decide) (by omega)) ?_)
              have j60 : ∀ (H : Heap) (locs : List Loc), Wd D B s ([(r, .inr (1, [.ref b2, .int (nI L2.length)])), (b2, bar dA (gro cap L2.length) g2)] ++ (F ++ E)) H locs → ∀ (ls : Array Slot), lv_has ls 8 [(0, .ref r), (1, .ref a), (2, .int (nI lb.length)), (3, .int (nI (4 * g9))), (4, .int (nI (3 * g9))), (5, .int (nI (min 3 (lb.length - (3 * g9))))), (6, .int (nI (v3N lb g9 k))), (7, .int (nI k))] → W p l e R s m args below meth c H locs (0 + rC cap L2.length) (0 + rS cap L2.length) Q (F0 m 60 ls [.int (nI (gD lb (3 * g9 + k))), .int (nI (v3N lb g9 k * 256))]) := by
                intro   H locs h ls hl
                refine lv_ior hx hb dX1_putSigns_60 ?_
                refine n_top (y := nI (v3N lb g9 (k + 1))) (by rw [hvs]; exact n_app8 (by omega) hgk) ?_
                refine lv_istore (lv' := [(6, .int (nI (v3N lb g9 (k + 1)))), (0, .ref r), (1, .ref a), (2, .int (nI lb.length)), (3, .int (nI (4 * g9))), (4, .int (nI (3 * g9))), (5, .int (nI (min 3 (lb.length - (3 * g9))))), (7, .int (nI k))]) hx hb dX1_putSigns_61 hl (by decide) rfl (fun ls hl => ?_)
                refine lv_iinc (v := nI (k + 1)) (lv' := [(7, .int (nI (k + 1))), (6, .int (nI (v3N lb g9 (k + 1)))), (0, .ref r), (1, .ref a), (2, .int (nI lb.length)), (3, .int (nI (4 * g9))), (4, .int (nI (3 * g9))), (5, .int (nI (min 3 (lb.length - (3 * g9)))))]) hx hb dX1_putSigns_63 hl (k := 7) rfl (nI_add k 1) (by decide) rfl (fun ls hl => ?_)
                refine lv_goto (tgt := 27) hx hb dX1_putSigns_66 (by decide) ?_
                exact ihK (k + 1) (by omega) (by omega) _ _ h _ (lv_sub hl [2, 3, 4, 5, 6, 7, 1, 0] rfl)
              refine lv_iload hx hb dX1_putSigns_38 (lv_at hl 7 rfl) ?_
              refine lv_iload hx hb dX1_putSigns_40 (lv_at hl 5 rfl) ?_
              refine n_icmp_ge (tgt := 59) hx hb (by omega) (by omega) dX1_putSigns_42 (by decide) (fun c42 => ?_) (fun c42 => ?_)
              · refine lv_iconst (v := nI 0) hx hb dX1_putSigns_59 (by decide) ?_
                refine n_top (y := nI (gD lb (3 * g9 + k))) (by rw [gD_out (l := lb) (j := 3 * g9 + k) (by omega)]) ?_
                exact j60   _ _ h _ (lv_sub hl [0, 1, 2, 3, 4, 5, 6, 7] rfl)
              · refine lv_aload_n hx hb dX1_putSigns_45 rfl (lv_at hl 1 rfl) ?_
                refine lv_iload hx hb dX1_putSigns_46 (lv_at hl 4 rfl) ?_
                refine lv_iload hx hb dX1_putSigns_48 (lv_at hl 7 rfl) ?_
                refine lv_iadd hx hb dX1_putSigns_50 (n_top (y := nI ((3 * g9) + k)) (nI_add (3 * g9) k) ?_)
                refine n_bald C h (v := ga ((3 * g9) + k)) (List.mem_append_right _ (List.mem_append_left _ hm)) (show (3 * g9) + k < n0 by omega) (by omega) rfl dX1_putSigns_51 ?_
                refine lv_sipush (v := nI 255) hx hb dX1_putSigns_52 (by decide) ?_
                refine lv_iand hx hb dX1_putSigns_55 ?_
                refine n_top (y := nI (gD lb (3 * g9 + k))) (by rw [(sb_byte _ (by rw [hsa.2 _ (by omega)]; exact hgk)).1, hsa.2 _ (by omega)]) ?_
                refine lv_goto (tgt := 60) hx hb dX1_putSigns_56 (by decide) ?_
                exact j60   _ _ h _ (lv_sub hl [0, 1, 2, 3, 4, 5, 6, 7] rfl)
        exact loopK _ 0 (Nat.zero_le _) (Nat.lt_succ_self _) _ _ h _ (lv_sub hl [3, 4, 5, 6, 7, 2, 1, 0] rfl)
  exact loop _ 0 b g lt [] (by omega) hSr0 ((List.append_nil _).symm) (Nat.lt_succ_self _) _ _ h _ (lv_sub hl [2, 3, 4, 1, 0] rfl)
set_option maxHeartbeats 1000000 in
set_option maxRecDepth 100000 in
theorem c1_armorS (l : Launch) (D : va_G) (dA : Nat → ClassId) (B : Nat) (Z : State → Prop) (hZ : Stab B Z) (F : va_W) (r b cap : Nat) (g : Nat → Nat) (lt : List Nat) (a n0 : Nat) (ga : Nat → Nat) (lb : List Nat) (sa9 sv9 k9 : Nat) (hsb : SBis g cap lt) (hcap : 64 ≤ cap) (hll : lt.length < 100000) (hcm : cap < 400000) (hzs : ZS dA B Z) (hm : (a, bar dA n0 ga) ∈ F) (hsa : SBis ga n0 lb) (hlb : byt lb) (hn0 : n0 < 400000) (hl9 : lb.length ≤ 9000) (hk9 : k9 < 3) (hs9 : StrV dA B Z F sa9 sv9 (labL k9)) :
    Ct (S := Nat × (Nat → Nat) × va_W) l D dA B Z yX1_armor cX1_armor 6 none 8 (rC cap (lt ++ armL k9 lb).length + 14) (rS cap (lt ++ armL k9 lb).length + 1388) [.ref r, .ref a, .int (nI lb.length), .ref sa9] ([(r, .inr (1, [.ref b, .int (nI lt.length)])), (b, bar dA cap g)] ++ F) (fun u => SBis u.2.1 (gro cap (lt ++ armL k9 lb).length) (lt ++ armL k9 lb)) (fun _ => none) (fun u => [(r, .inr (1, [.ref u.1, .int (nI ((lt ++ armL k9 lb).length))])), (u.1, bar dA (gro cap (lt ++ armL k9 lb).length) u.2.1)] ++ (F ++ u.2.2)) := by
  refine Ct.mk2 (by decide) (Nat.le_of_ble_eq_true rfl) hZ ?_
  intro p e R s m args below meth c ls Q C hr hlocks hin hQ hl h
  have C0 := C
  obtain ⟨hx, hb, hml, hown, hts, -⟩ := C0
  have hl : lv_has ls 6 [(0, .ref r), (1, .ref a), (2, .int (nI lb.length)), (3, .ref sa9)] := hl
  have hg0r : gro cap lt.length = cap := gro_le hsb.1
  have hSr0 : SBis g (gro cap lt.length) lt := by rw [hg0r]; exact hsb
  have hz0r : rC cap lt.length = 0 ∧ rS cap lt.length = 0 := rC_0 hg0r
  have h : Wd D B s ([(r, .inr (1, [.ref b, .int (nI lt.length)])), (b, bar dA (gro cap lt.length) g)] ++ F) s.heap [] := by rw [hg0r]; exact h
  refine W.widen (k := 0 + rC cap lt.length) (n := 0 + rS cap lt.length) (by omega) (by omega) ?_
  obtain ⟨sm, hsm⟩ : ∃ z, z = crcS lb := ⟨_, rfl⟩
  have hsml : sm < 16777216 := by rw [hsm]; exact crcS_lt hlb
  have hFL : (lt ++ armL k9 lb).length = lt.length + ((bgL k9).length + 2 + (sgS lb (4 * ((lb.length + 2) / 3))).length + 6 + (enL k9).length + 1) := by unfold armL; simp only [List.length_append, List.length_cons, List.length_nil]; omega
  have hbl : (bgL k9).length = (labL k9).length + 16 := by unfold bgL; simp only [List.length_append, List.length_cons, List.length_nil]; omega
  have hel : (enL k9).length = (labL k9).length + 14 := by unfold enL; simp only [List.length_append, List.length_cons, List.length_nil]; omega
  have hlk := labL_len k9
  have hSL := sgS_len lb (4 * ((lb.length + 2) / 3))
  obtain ⟨sa44, sv44, hr44, hk44⟩ := hzs.2.2.1 _ (List.mem_of_getElem? (l := strTab) (i := 3) rfl)
  obtain ⟨sa50, sv50, hr50, hk50⟩ := hzs.2.2.1 _ (List.mem_of_getElem? (l := strTab) (i := 4) rfl)
  obtain ⟨sa68, sv68, hr68, hk68⟩ := hzs.2.2.1 _ (List.mem_of_getElem? (l := strTab) (i := 5) rfl)
  obtain ⟨sa70, sv70, hr70, hk70⟩ := hzs.2.2.1 _ (List.mem_of_getElem? (l := strTab) (i := 6) rfl)
  refine lv_aload_n hx hb dX1_armor_0 rfl (lv_at hl 0 rfl) ?_
  refine o_new C h (RC := RJ12) (T := TJ12) (N := 4) (ci := 18) (fs := [.null, .int 0, .int (bZ false), .int 0]) rfl in_J12 tyJ12_ok q699 q700 q155 dv_J12 (by omega) (by omega) dX1_armor_1 (fun o1 H h => ?_)
  have h := Wd.toFront h
  have h : Wd D B s ([(o1, .inr (18, [.null, .int 0, .int (bZ false), .int 0])), (r, .inr (1, [.ref b, .int (nI lt.length)])), (b, bar dA (gro cap lt.length) g)] ++ F) H [] := h
  refine lv_dup hx hb dX1_armor_4 rfl ?_
  refine call_I (As := []) (rest := [.ref o1, .ref r]) (n := 0) C h (cJ_sbInit l D dA B Z hZ ([(r, .inr (1, [.ref b, .int (nI lt.length)])), (b, bar dA (gro cap lt.length) g)] ++ F) o1 hzs) (lw_meth q703) q155 q701 q702 rfl (by decide +kernel) (by decide) (by decide) rfl hl rfl (Nat.le_of_ble_eq_true rfl) dX1_armor_5 (by omega) (fun v0p H locs _ h => ?_)
  have h : Wd D B s ([(o1, .inr (18, [.ref v0p, .int (nI 0), .int (bZ false), .int (nI (([] : List Nat).length))])), (v0p, bar dA 16 (fun _ => 0)), (r, .inr (1, [.ref b, .int (nI lt.length)])), (b, bar dA (gro cap lt.length) g)] ++ F) H locs := h
  have hnl9 : ([] : List Nat).length = 0 := rfl
  have hsb0p := SBis_0
  have hnn0p : (16 : Nat) ≤ 16 := Nat.le_refl _
  refine s_ldc C h hr44 dX1_armor_8 ?_
  have hle1p : ([45, 45, 45, 45, 45, 66, 69, 71, 73, 78, 32]).length ≤ 20 := by decide
  refine call_VR (As := [.ref sa44]) (rest := [.ref r]) (n := 1) C h (cJ_append l D dA B Z hZ ([(r, .inr (1, [.ref b, .int (nI lt.length)])), (b, bar dA (gro cap lt.length) g)] ++ F) o1 v0p 16 (fun _ => 0) false ([] : List Nat) sa44 sv44 ([45, 45, 45, 45, 45, 66, 69, 71, 73, 78, 32]) (nilup hk44 _) (by intro x hx; revert x; decide) (by omega) hzs hsb0p (by omega) (by (try simp only [List.length_append, List.length_nil]) <;> omega)) (lw_V q731 q732 q733 q155 q734) (by decide +kernel) (o_recv C h (RC := RJ12) (T := TJ12) (N := 4) (List.mem_of_getElem? (i := 0) rfl) rfl) (by decide) (by decide) rfl hl rfl (Nat.le_of_ble_eq_true rfl) dX1_armor_10 (by omega) (fun u1p H locs hu1p h => ?_)
  obtain ⟨v1p, n1p, g1p, E1p⟩ := u1p
  obtain ⟨hsb1p, hnn1p⟩ := hu1p
  have h : Wd D B s ([(o1, .inr (18, [.ref v1p, .int (nI 0), .int (bZ false), .int (nI ((([] : List Nat) ++ [45, 45, 45, 45, 45, 66, 69, 71, 73, 78, 32]).length))])), (v1p, bar dA n1p g1p), (r, .inr (1, [.ref b, .int (nI lt.length)])), (b, bar dA (gro cap lt.length) g)] ++ (F ++ E1p)) H locs := h
  have hsb1p : SBis g1p n1p (([] : List Nat) ++ [45, 45, 45, 45, 45, 66, 69, 71, 73, 78, 32]) := hsb1p
  have hnn1p : n1p ≤ 2 * 16 + 2 + ((([] : List Nat)).length + ([45, 45, 45, 45, 45, 66, 69, 71, 73, 78, 32]).length) := hnn1p
  have hll1p : (([] : List Nat) ++ [45, 45, 45, 45, 45, 66, 69, 71, 73, 78, 32]).length ≤ 20 := by simp only [List.length_append, List.length_nil] at *; omega
  have hnz1p : n1p ≤ 54 := by simp only [List.length_nil] at hnn1p; omega
  refine lv_aload_n hx hb dX1_armor_13 rfl (lv_at hl 3 rfl) ?_
  have hle2p : (labL k9).length ≤ 20 := by omega
  refine call_VR (As := [.ref sa9]) (rest := [.ref r]) (n := 1) C h (cJ_append l D dA B Z hZ ([(r, .inr (1, [.ref b, .int (nI lt.length)])), (b, bar dA (gro cap lt.length) g)] ++ (F ++ E1p)) o1 v1p n1p g1p false (([] : List Nat) ++ [45, 45, 45, 45, 45, 66, 69, 71, 73, 78, 32]) sa9 sv9 (labL k9) (hs9.up (fun x hx => List.mem_append_right _ (List.mem_append_left _ (hx)))) (fun x hx => Nat.lt_trans (labL_128 hk9 x hx) (by decide)) (by omega) hzs hsb1p (by omega) (by (try simp only [List.length_append, List.length_nil]) <;> omega)) (lw_V q731 q732 q733 q155 q734) (by decide +kernel) (o_recv C h (RC := RJ12) (T := TJ12) (N := 4) (List.mem_of_getElem? (i := 0) rfl) rfl) (by decide) (by decide) rfl hl rfl (Nat.le_of_ble_eq_true rfl) dX1_armor_14 (by omega) (fun u2p H locs hu2p h => ?_)
  obtain ⟨v2p, n2p, g2p, E2p⟩ := u2p
  obtain ⟨hsb2p, hnn2p⟩ := hu2p
  have h : Wd D B s ([(o1, .inr (18, [.ref v2p, .int (nI 0), .int (bZ false), .int (nI ((([] : List Nat) ++ [45, 45, 45, 45, 45, 66, 69, 71, 73, 78, 32] ++ labL k9).length))])), (v2p, bar dA n2p g2p), (r, .inr (1, [.ref b, .int (nI lt.length)])), (b, bar dA (gro cap lt.length) g)] ++ ((F ++ E1p) ++ E2p)) H locs := h
  have hsb2p : SBis g2p n2p (([] : List Nat) ++ [45, 45, 45, 45, 45, 66, 69, 71, 73, 78, 32] ++ labL k9) := hsb2p
  have hnn2p : n2p ≤ 2 * n1p + 2 + ((([] : List Nat) ++ [45, 45, 45, 45, 45, 66, 69, 71, 73, 78, 32]).length + (labL k9).length) := hnn2p
  have hll2p : (([] : List Nat) ++ [45, 45, 45, 45, 45, 66, 69, 71, 73, 78, 32] ++ labL k9).length ≤ 40 := by simp only [List.length_append, List.length_nil] at *; omega
  have hnz2p : n2p ≤ 150 := by omega
  refine s_ldc C h hr50 dX1_armor_17 ?_
  have hle3p : ([45, 45, 45, 45, 45, 10, 10]).length ≤ 20 := by decide
  refine call_VR (As := [.ref sa50]) (rest := [.ref r]) (n := 1) C h (cJ_append l D dA B Z hZ ([(r, .inr (1, [.ref b, .int (nI lt.length)])), (b, bar dA (gro cap lt.length) g)] ++ ((F ++ E1p) ++ E2p)) o1 v2p n2p g2p false (([] : List Nat) ++ [45, 45, 45, 45, 45, 66, 69, 71, 73, 78, 32] ++ labL k9) sa50 sv50 ([45, 45, 45, 45, 45, 10, 10]) (nilup hk50 _) (by intro x hx; revert x; decide) (by omega) hzs hsb2p (by omega) (by (try simp only [List.length_append, List.length_nil]) <;> omega)) (lw_V q731 q732 q733 q155 q734) (by decide +kernel) (o_recv C h (RC := RJ12) (T := TJ12) (N := 4) (List.mem_of_getElem? (i := 0) rfl) rfl) (by decide) (by decide) rfl hl rfl (Nat.le_of_ble_eq_true rfl) dX1_armor_19 (by omega) (fun u3p H locs hu3p h => ?_)
  obtain ⟨v3p, n3p, g3p, E3p⟩ := u3p
  obtain ⟨hsb3p, hnn3p⟩ := hu3p
  have h : Wd D B s ([(o1, .inr (18, [.ref v3p, .int (nI 0), .int (bZ false), .int (nI ((([] : List Nat) ++ [45, 45, 45, 45, 45, 66, 69, 71, 73, 78, 32] ++ labL k9 ++ [45, 45, 45, 45, 45, 10, 10]).length))])), (v3p, bar dA n3p g3p), (r, .inr (1, [.ref b, .int (nI lt.length)])), (b, bar dA (gro cap lt.length) g)] ++ (((F ++ E1p) ++ E2p) ++ E3p)) H locs := h
  have hsb3p : SBis g3p n3p (([] : List Nat) ++ [45, 45, 45, 45, 45, 66, 69, 71, 73, 78, 32] ++ labL k9 ++ [45, 45, 45, 45, 45, 10, 10]) := hsb3p
  have hnn3p : n3p ≤ 2 * n2p + 2 + ((([] : List Nat) ++ [45, 45, 45, 45, 45, 66, 69, 71, 73, 78, 32] ++ labL k9).length + ([45, 45, 45, 45, 45, 10, 10]).length) := hnn3p
  have hll3p : (([] : List Nat) ++ [45, 45, 45, 45, 45, 66, 69, 71, 73, 78, 32] ++ labL k9 ++ [45, 45, 45, 45, 45, 10, 10]).length ≤ 60 := by simp only [List.length_append, List.length_nil] at *; omega
  have hnz3p : n3p ≤ 370 := by omega
  refine call_VR (As := []) (rest := [.ref r]) (n := 0) C h (cJ_toString l D dA B Z hZ ([(r, .inr (1, [.ref b, .int (nI lt.length)])), (b, bar dA (gro cap lt.length) g)] ++ (((F ++ E1p) ++ E2p) ++ E3p)) o1 v3p n3p g3p false (([] : List Nat) ++ [45, 45, 45, 45, 45, 66, 69, 71, 73, 78, 32] ++ labL k9 ++ [45, 45, 45, 45, 45, 10, 10]) hzs hsb3p (by omega)) (lw_V q828 q829 q830 q155 q831) (by decide +kernel) (o_recv C h (RC := RJ12) (T := TJ12) (N := 4) (List.mem_of_getElem? (i := 0) rfl) rfl) (by decide) (by decide) rfl hl rfl (Nat.le_of_ble_eq_true rfl) dX1_armor_22 (by omega) (fun usp H locs _ h => ?_)
  obtain ⟨srp, sqp⟩ := usp
  have h : Wd D B s ([(srp, .inr (17, [.ref sqp, .int (nI 0), .int 0, .int (bZ false)])), (sqp, bal dA (([] : List Nat) ++ [45, 45, 45, 45, 45, 66, 69, 71, 73, 78, 32] ++ labL k9 ++ [45, 45, 45, 45, 45, 10, 10])), (o1, .inr (18, [.ref v3p, .int (nI 0), .int (bZ false), .int (nI ((([] : List Nat) ++ [45, 45, 45, 45, 45, 66, 69, 71, 73, 78, 32] ++ labL k9 ++ [45, 45, 45, 45, 45, 10, 10]).length))])), (v3p, bar dA n3p g3p), (r, .inr (1, [.ref b, .int (nI lt.length)])), (b, bar dA (gro cap lt.length) g)] ++ (((F ++ E1p) ++ E2p) ++ E3p)) H locs := h
  obtain ⟨Lp, hLp⟩ : ∃ z, z = ([] : List Nat) ++ [45, 45, 45, 45, 45, 66, 69, 71, 73, 78, 32] ++ labL k9 ++ [45, 45, 45, 45, 45, 10, 10] := ⟨_, rfl⟩
  have h : Wd D B s ([(r, .inr (1, [.ref b, .int (nI lt.length)])), (b, bar dA (gro cap lt.length) g), (srp, .inr (17, [.ref sqp, .int (nI 0), .int 0, .int (bZ false)])), (sqp, bal dA (([] : List Nat) ++ [45, 45, 45, 45, 45, 66, 69, 71, 73, 78, 32] ++ labL k9 ++ [45, 45, 45, 45, 45, 10, 10])), (o1, .inr (18, [.ref v3p, .int (nI 0), .int (bZ false), .int (nI ((([] : List Nat) ++ [45, 45, 45, 45, 45, 66, 69, 71, 73, 78, 32] ++ labL k9 ++ [45, 45, 45, 45, 45, 10, 10]).length))])), (v3p, bar dA n3p g3p)] ++ (((F ++ E1p) ++ E2p) ++ E3p)) H locs := h.perm [4, 5, 0, 1, 2, 3] rfl rfl
  rw [← hLp] at h
  obtain ⟨Fp, hFp⟩ : ∃ z, z = [(srp, .inr (17, [.ref sqp, .int (nI 0), .int 0, .int (bZ false)])), (sqp, bal dA Lp), (o1, .inr (18, [.ref v3p, .int (nI 0), .int (bZ false), .int (nI Lp.length)])), (v3p, bar dA n3p g3p)] ++ (((F ++ E1p) ++ E2p) ++ E3p) := ⟨_, rfl⟩
  have hfsp : ∀ x ∈ (((F ++ E1p) ++ E2p) ++ E3p), x ∈ Fp := fun x hx => by rw [hFp]; exact List.mem_append_right _ hx
  have hstp : StrV dA B Z Fp srp sqp Lp := Or.inl ⟨.int 0, .int (bZ false), by rw [hFp]; exact List.mem_append_left _ List.mem_cons_self, by rw [hFp]; exact List.mem_append_left _ (List.mem_cons_of_mem _ List.mem_cons_self)⟩
  have h : Wd D B s ([(r, .inr (1, [.ref b, .int (nI lt.length)])), (b, bar dA (gro cap lt.length) g)] ++ Fp) H locs := by rw [hFp]; exact h
  have hLpl : Lp.length < 100 := by rw [hLp]; omega
  obtain ⟨Ep, hEp⟩ : ∃ Ez, Fp = Ez ++ F := ⟨_, hFp⟩
  have hstp2 : StrV dA B Z (F ++ Ep) srp sqp Lp := hstp.up (fun x hx => by rw [hEp] at hx; exact (List.mem_append.mp hx).elim (fun q => List.mem_append_right _ q) (fun q => List.mem_append_left _ q))
  have h : Wd D B s ([(r, .inr (1, [.ref b, .int (nI lt.length)])), (b, bar dA (gro cap lt.length) g)] ++ (F ++ Ep)) H locs := by
    rw [hEp] at h
    exact h.permL (perm_add (fun g f p0 p1 p2 => by (try simp only [p0, p1, p2]) <;> omega))
  refine W.widen (k := 7 + rC cap lt.length) (n := 694 + rS cap lt.length) (by omega) (by omega) ?_
  have hLpe : Lp = bgL k9 ++ [10] ++ [10] := by rw [hLp, List.nil_append]; unfold bgL; simp only [List.append_assoc]; rfl
  have hLpb : byt Lp := by rw [hLp, List.nil_append]; exact byt_app (byt_app (by intro x hx; revert x; decide) (labL_byt k9)) (by intro x hx; revert x; decide)
  have hLpl : Lp.length = (bgL k9).length + 2 := by rw [hLpe]; simp only [List.length_append, List.length_cons, List.length_nil]
  have hnlr1 : (lt ++ Lp).length = lt.length + Lp.length := by rw [List.length_append]
  have hcbr1 := gro_b (cap := cap) (m := lt.length) (by omega)
  have hcar1 := rC_add (cap := cap) (m := lt.length) (m' := (lt ++ Lp).length) (by omega) (by omega)
  have hcmr1 := rC_mono (cap := cap) (m := (lt ++ Lp).length) (m' := (lt ++ armL k9 lb).length) (by omega) (by omega)
  refine call_VR (As := [.ref srp]) (rest := []) (n := 1) C h (c2_say l D dA B Z hZ (F ++ Ep) r b (gro cap lt.length) g lt srp sqp Lp hzs hSr0 (by omega) (hstp2) (hLpb) (by omega) (by omega) (by omega)) (lw_V q1748 q1749 q1750 q130 q1751) (by decide +kernel) (o_recv C h (RC := RX2) (T := TX2) (N := 2) (List.mem_of_getElem? (i := 0) rfl) rfl) (by decide) (by decide) rfl hl rfl (Nat.le_of_ble_eq_true rfl) dX1_armor_25 (by omega) (fun urr1 H locs hur1 h => ?_)
  obtain ⟨br1, gr1, Er1⟩ := urr1
  obtain ⟨Lr1, hLr1⟩ : ∃ z, z = lt ++ Lp := ⟨_, rfl⟩
  dsimp only at hur1 h
  rw [← hLr1] at h hur1 hnlr1
  have hger1 : gro (gro cap lt.length) Lr1.length = gro cap Lr1.length := gro_gro (by omega) (by omega)
  rw [hger1] at h hur1
  have hclr1 : rC cap (lt ++ Lp).length = rC cap Lr1.length ∧ rS cap (lt ++ Lp).length = rS cap Lr1.length := by rw [hLr1]; exact ⟨rfl, rfl⟩
  have h : Wd D B s ([(r, .inr (1, [.ref br1, .int (nI Lr1.length)])), (br1, bar dA (gro cap Lr1.length) gr1)] ++ ((F ++ Ep) ++ Er1)) H locs := h
  refine W.widen (k := 7 + rC cap Lr1.length) (n := 694 + rS cap Lr1.length) (by omega) (by omega) ?_
  refine lv_aload_n hx hb dX1_armor_28 rfl (lv_at hl 0 rfl) ?_
  refine lv_aload_n hx hb dX1_armor_29 rfl (lv_at hl 1 rfl) ?_
  refine lv_iload_n hx hb dX1_armor_30 rfl (lv_at hl 2 rfl) ?_
  have hnlr2 : (Lr1 ++ sgS lb (4 * ((lb.length + 2) / 3))).length = Lr1.length + ((sgS lb (4 * ((lb.length + 2) / 3))).length) := by rw [List.length_append]
  have hcbr2 := gro_b (cap := cap) (m := Lr1.length) (by omega)
  have hcar2 := rC_add (cap := cap) (m := Lr1.length) (m' := (Lr1 ++ sgS lb (4 * ((lb.length + 2) / 3))).length) (by omega) (by omega)
  have hcmr2 := rC_mono (cap := cap) (m := (Lr1 ++ sgS lb (4 * ((lb.length + 2) / 3))).length) (m' := (lt ++ armL k9 lb).length) (by omega) (by omega)
  refine call_S (As := [.ref r, .ref a, .int (nI lb.length)]) (rest := []) (n := 3) C h (c1_putSigns l D dA B Z hZ ((F ++ Ep) ++ Er1) r br1 (gro cap Lr1.length) gr1 Lr1 a n0 ga lb hur1 (by omega) (by omega) (by omega) (List.mem_append_left _ (List.mem_append_left _ (hm))) hsa hlb hn0 hl9) (lw_S q1780 q1781 q129 q1782) (by decide +kernel) (by decide) (by decide) rfl hl rfl (Nat.le_of_ble_eq_true rfl) dX1_armor_31 (by omega) (fun urr2 H locs hur2 h => ?_)
  obtain ⟨br2, gr2, Er2⟩ := urr2
  obtain ⟨Lr2, hLr2⟩ : ∃ z, z = Lr1 ++ sgS lb (4 * ((lb.length + 2) / 3)) := ⟨_, rfl⟩
  dsimp only at hur2 h
  rw [← hLr2] at h hur2 hnlr2
  have hger2 : gro (gro cap Lr1.length) Lr2.length = gro cap Lr2.length := gro_gro (by omega) (by omega)
  rw [hger2] at h hur2
  have hclr2 : rC cap (Lr1 ++ sgS lb (4 * ((lb.length + 2) / 3))).length = rC cap Lr2.length ∧ rS cap (Lr1 ++ sgS lb (4 * ((lb.length + 2) / 3))).length = rS cap Lr2.length := by rw [hLr2]; exact ⟨rfl, rfl⟩
  have h : Wd D B s ([(r, .inr (1, [.ref br2, .int (nI Lr2.length)])), (br2, bar dA (gro cap Lr2.length) gr2)] ++ (((F ++ Ep) ++ Er1) ++ Er2)) H locs := h
  refine W.widen (k := 7 + rC cap Lr2.length) (n := 694 + rS cap Lr2.length) (by omega) (by omega) ?_
  refine lv_aload_n hx hb dX1_armor_34 rfl (lv_at hl 1 rfl) ?_
  refine lv_iload_n hx hb dX1_armor_35 rfl (lv_at hl 2 rfl) ?_
  refine call_S (As := [.ref a, .int (nI lb.length)]) (rest := []) (n := 2) C h (c1_sumOf l D dA B Z hZ _ a n0 ga lb.length (List.mem_append_right _ (List.mem_append_left _ (List.mem_append_left _ (List.mem_append_left _ (hm))))) hsa.1 (by omega) (fun j hj => by rw [hsa.2 j hj]; exact byt_gD hlb j)) (lw_S q1430 q1000 q129 q1001) (by decide +kernel) (by decide) (by decide) rfl hl rfl (Nat.le_of_ble_eq_true rfl) dX1_armor_36 (by omega) (fun _ H locs _ h => ?_)
  refine W.widen (k := 7 + rC cap Lr2.length) (n := 694 + rS cap Lr2.length) (by omega) (by omega) ?_
  refine n_top (y := nI sm) (by rw [hsa.sl, hsm]) ?_
  refine lv_istore (lv' := [(4, .int (nI sm)), (0, .ref r), (1, .ref a), (2, .int (nI lb.length)), (3, .ref sa9)]) hx hb dX1_armor_39 hl (by decide) rfl (fun ls hl => ?_)
  refine lv_aload_n hx hb dX1_armor_41 rfl (lv_at hl 1 rfl) ?_
  refine lv_bipush (v := nI 61) hx hb dX1_armor_42 (by decide) ?_
  have hnlr3 : (Lr2 ++ [61]).length = Lr2.length + 1 := by rw [List.length_append]; rfl
  have hnqr3 : (Lr2.length + 1) = (Lr2 ++ [61]).length := hnlr3.symm
  have hcbr3 := gro_b (cap := cap) (m := Lr2.length) (by omega)
  have hcar3 := rC_add (cap := cap) (m := Lr2.length) (m' := (Lr2.length + 1)) (by omega) (by omega)
  have hcmr3 := rC_mono (cap := cap) (m := (Lr2.length + 1)) (m' := (lt ++ armL k9 lb).length) (by omega) (by omega)
  refine call_VR (As := [.int (nI 61)]) (rest := []) (n := 1) C h (c2_put l D dA B Z hZ (((F ++ Ep) ++ Er1) ++ Er2) r br2 (gro cap Lr2.length) gr2 Lr2 (nI 61) 61 hur2 (by omega) (by omega) (by omega) rfl) (lw_V q1503 q562 q563 q130 q564) (by decide +kernel) (o_recv C h (RC := RX2) (T := TX2) (N := 2) (List.mem_of_getElem? (i := 0) rfl) rfl) (by decide) (by decide) rfl hl rfl (Nat.le_of_ble_eq_true rfl) dX1_armor_44 (by omega) (fun urr3 H locs hur3 h => ?_)
  obtain ⟨br3, gr3, Er3⟩ := urr3
  obtain ⟨Lr3, hLr3⟩ : ∃ z, z = Lr2 ++ [61] := ⟨_, rfl⟩
  dsimp only at hur3 h
  rw [← hLr3] at h hur3 hnlr3
  have hger3 : gro (gro cap Lr2.length) Lr3.length = gro cap Lr3.length := gro_gro (by omega) (by omega)
  rw [hger3] at h hur3
  have hclr3 : rC cap (Lr2.length + 1) = rC cap Lr3.length ∧ rS cap (Lr2.length + 1) = rS cap Lr3.length := by rw [hLr3, hnqr3]; exact ⟨rfl, rfl⟩
  have h : Wd D B s ([(r, .inr (1, [.ref br3, .int (nI Lr3.length)])), (br3, bar dA (gro cap Lr3.length) gr3)] ++ ((((F ++ Ep) ++ Er1) ++ Er2) ++ Er3)) H locs := h
  refine W.widen (k := 7 + rC cap Lr3.length) (n := 694 + rS cap Lr3.length) (by omega) (by omega) ?_
  refine lv_bipush (v := nI 18) hx hb dX1_armor_47 (by decide) ?_
  refine lv_istore (lv' := [(5, .int (nI 18)), (4, .int (nI sm)), (0, .ref r), (1, .ref a), (2, .int (nI lb.length)), (3, .ref sa9)]) hx hb dX1_armor_49 hl (by decide) rfl (fun ls hl => ?_)
  refine lv_iload hx hb dX1_armor_51 (lv_at hl 0 rfl) ?_
  refine lv_if_lt (tgt := 77) hx hb dX1_armor_53 (by decide) (fun c53 => absurd c53 (by decide)) (fun c53 => ?_)
  refine lv_aload_n hx hb dX1_armor_56 rfl (lv_at hl 2 rfl) ?_
  refine lv_iload hx hb dX1_armor_57 (lv_at hl 1 rfl) ?_
  refine lv_iload hx hb dX1_armor_59 (lv_at hl 0 rfl) ?_
  refine n_ishr hx hb dX1_armor_61 (n_top (y := nI (sm / 262144)) (pk_shrN (by omega) _ 18 (by decide)) ?_)
  refine lv_bipush (v := nI 63) hx hb dX1_armor_62 (by decide) ?_
  refine lv_iand hx hb dX1_armor_64 (n_top (y := nI ((sm / 262144) % 64)) (pk_andN (by omega) 6 (by decide)) ?_)
  refine call_S (As := [.int (nI ((sm / 262144) % 64))]) (rest := [.ref r]) (n := 1) C h (c1_signOf l D dA B Z hZ _ ((sm / 262144) % 64) (by omega)) (lw_S q1783 q1784 q129 q1785) (by decide +kernel) (by decide) (by decide) rfl hl rfl (Nat.le_of_ble_eq_true rfl) dX1_armor_65 (by omega) (fun _ H locs _ h => ?_)
  refine W.widen (k := 7 + rC cap Lr3.length) (n := 694 + rS cap Lr3.length) (by omega) (by omega) ?_
  have hnlr4 : (Lr3 ++ [sgnN ((sm / 262144) % 64)]).length = Lr3.length + 1 := by rw [List.length_append]; rfl
  have hnqr4 : (Lr3.length + 1) = (Lr3 ++ [sgnN ((sm / 262144) % 64)]).length := hnlr4.symm
  have hcbr4 := gro_b (cap := cap) (m := Lr3.length) (by omega)
  have hcar4 := rC_add (cap := cap) (m := Lr3.length) (m' := (Lr3.length + 1)) (by omega) (by omega)
  have hcmr4 := rC_mono (cap := cap) (m := (Lr3.length + 1)) (m' := (lt ++ armL k9 lb).length) (by omega) (by omega)
  refine call_VR (As := [.int (nI (sgnN ((sm / 262144) % 64)))]) (rest := []) (n := 1) C h (c2_put l D dA B Z hZ ((((F ++ Ep) ++ Er1) ++ Er2) ++ Er3) r br3 (gro cap Lr3.length) gr3 Lr3 (nI (sgnN ((sm / 262144) % 64))) (sgnN ((sm / 262144) % 64)) hur3 (by omega) (by omega) (by omega) (sb_put (sgnN_lt (Nat.mod_lt _ (by decide))))) (lw_V q1503 q562 q563 q130 q564) (by decide +kernel) (o_recv C h (RC := RX2) (T := TX2) (N := 2) (List.mem_of_getElem? (i := 0) rfl) rfl) (by decide) (by decide) rfl hl rfl (Nat.le_of_ble_eq_true rfl) dX1_armor_68 (by omega) (fun urr4 H locs hur4 h => ?_)
  obtain ⟨br4, gr4, Er4⟩ := urr4
  obtain ⟨Lr4, hLr4⟩ : ∃ z, z = Lr3 ++ [sgnN ((sm / 262144) % 64)] := ⟨_, rfl⟩
  dsimp only at hur4 h
  rw [← hLr4] at h hur4 hnlr4
  have hger4 : gro (gro cap Lr3.length) Lr4.length = gro cap Lr4.length := gro_gro (by omega) (by omega)
  rw [hger4] at h hur4
  have hclr4 : rC cap (Lr3.length + 1) = rC cap Lr4.length ∧ rS cap (Lr3.length + 1) = rS cap Lr4.length := by rw [hLr4, hnqr4]; exact ⟨rfl, rfl⟩
  have h : Wd D B s ([(r, .inr (1, [.ref br4, .int (nI Lr4.length)])), (br4, bar dA (gro cap Lr4.length) gr4)] ++ (((((F ++ Ep) ++ Er1) ++ Er2) ++ Er3) ++ Er4)) H locs := h
  refine W.widen (k := 7 + rC cap Lr4.length) (n := 694 + rS cap Lr4.length) (by omega) (by omega) ?_
  refine lv_iinc (v := nI 12) (lv' := [(5, .int (nI 12)), (4, .int (nI sm)), (0, .ref r), (1, .ref a), (2, .int (nI lb.length)), (3, .ref sa9)]) hx hb dX1_armor_71 hl (k := 0) rfl (by decide) (by decide) rfl (fun ls hl => ?_)
  refine lv_goto (tgt := 51) hx hb dX1_armor_74 (by decide) ?_
  refine lv_iload hx hb dX1_armor_51 (lv_at hl 0 rfl) ?_
  refine lv_if_lt (tgt := 77) hx hb dX1_armor_53 (by decide) (fun c53 => absurd c53 (by decide)) (fun c53 => ?_)
  refine lv_aload_n hx hb dX1_armor_56 rfl (lv_at hl 2 rfl) ?_
  refine lv_iload hx hb dX1_armor_57 (lv_at hl 1 rfl) ?_
  refine lv_iload hx hb dX1_armor_59 (lv_at hl 0 rfl) ?_
  refine n_ishr hx hb dX1_armor_61 (n_top (y := nI (sm / 4096)) (pk_shrN (by omega) _ 12 (by decide)) ?_)
  refine lv_bipush (v := nI 63) hx hb dX1_armor_62 (by decide) ?_
  refine lv_iand hx hb dX1_armor_64 (n_top (y := nI ((sm / 4096) % 64)) (pk_andN (by omega) 6 (by decide)) ?_)
  refine call_S (As := [.int (nI ((sm / 4096) % 64))]) (rest := [.ref r]) (n := 1) C h (c1_signOf l D dA B Z hZ _ ((sm / 4096) % 64) (by omega)) (lw_S q1783 q1784 q129 q1785) (by decide +kernel) (by decide) (by decide) rfl hl rfl (Nat.le_of_ble_eq_true rfl) dX1_armor_65 (by omega) (fun _ H locs _ h => ?_)
  refine W.widen (k := 7 + rC cap Lr4.length) (n := 694 + rS cap Lr4.length) (by omega) (by omega) ?_
  have hnlr5 : (Lr4 ++ [sgnN ((sm / 4096) % 64)]).length = Lr4.length + 1 := by rw [List.length_append]; rfl
  have hnqr5 : (Lr4.length + 1) = (Lr4 ++ [sgnN ((sm / 4096) % 64)]).length := hnlr5.symm
  have hcbr5 := gro_b (cap := cap) (m := Lr4.length) (by omega)
  have hcar5 := rC_add (cap := cap) (m := Lr4.length) (m' := (Lr4.length + 1)) (by omega) (by omega)
  have hcmr5 := rC_mono (cap := cap) (m := (Lr4.length + 1)) (m' := (lt ++ armL k9 lb).length) (by omega) (by omega)
  refine call_VR (As := [.int (nI (sgnN ((sm / 4096) % 64)))]) (rest := []) (n := 1) C h (c2_put l D dA B Z hZ (((((F ++ Ep) ++ Er1) ++ Er2) ++ Er3) ++ Er4) r br4 (gro cap Lr4.length) gr4 Lr4 (nI (sgnN ((sm / 4096) % 64))) (sgnN ((sm / 4096) % 64)) hur4 (by omega) (by omega) (by omega) (sb_put (sgnN_lt (Nat.mod_lt _ (by decide))))) (lw_V q1503 q562 q563 q130 q564) (by decide +kernel) (o_recv C h (RC := RX2) (T := TX2) (N := 2) (List.mem_of_getElem? (i := 0) rfl) rfl) (by decide) (by decide) rfl hl rfl (Nat.le_of_ble_eq_true rfl) dX1_armor_68 (by omega) (fun urr5 H locs hur5 h => ?_)
  obtain ⟨br5, gr5, Er5⟩ := urr5
  obtain ⟨Lr5, hLr5⟩ : ∃ z, z = Lr4 ++ [sgnN ((sm / 4096) % 64)] := ⟨_, rfl⟩
  dsimp only at hur5 h
  rw [← hLr5] at h hur5 hnlr5
  have hger5 : gro (gro cap Lr4.length) Lr5.length = gro cap Lr5.length := gro_gro (by omega) (by omega)
  rw [hger5] at h hur5
  have hclr5 : rC cap (Lr4.length + 1) = rC cap Lr5.length ∧ rS cap (Lr4.length + 1) = rS cap Lr5.length := by rw [hLr5, hnqr5]; exact ⟨rfl, rfl⟩
  have h : Wd D B s ([(r, .inr (1, [.ref br5, .int (nI Lr5.length)])), (br5, bar dA (gro cap Lr5.length) gr5)] ++ ((((((F ++ Ep) ++ Er1) ++ Er2) ++ Er3) ++ Er4) ++ Er5)) H locs := h
  refine W.widen (k := 7 + rC cap Lr5.length) (n := 694 + rS cap Lr5.length) (by omega) (by omega) ?_
  refine lv_iinc (v := nI 6) (lv' := [(5, .int (nI 6)), (4, .int (nI sm)), (0, .ref r), (1, .ref a), (2, .int (nI lb.length)), (3, .ref sa9)]) hx hb dX1_armor_71 hl (k := 0) rfl (by decide) (by decide) rfl (fun ls hl => ?_)
  refine lv_goto (tgt := 51) hx hb dX1_armor_74 (by decide) ?_
  refine lv_iload hx hb dX1_armor_51 (lv_at hl 0 rfl) ?_
  refine lv_if_lt (tgt := 77) hx hb dX1_armor_53 (by decide) (fun c53 => absurd c53 (by decide)) (fun c53 => ?_)
  refine lv_aload_n hx hb dX1_armor_56 rfl (lv_at hl 2 rfl) ?_
  refine lv_iload hx hb dX1_armor_57 (lv_at hl 1 rfl) ?_
  refine lv_iload hx hb dX1_armor_59 (lv_at hl 0 rfl) ?_
  refine n_ishr hx hb dX1_armor_61 (n_top (y := nI (sm / 64)) (pk_shrN (by omega) _ 6 (by decide)) ?_)
  refine lv_bipush (v := nI 63) hx hb dX1_armor_62 (by decide) ?_
  refine lv_iand hx hb dX1_armor_64 (n_top (y := nI ((sm / 64) % 64)) (pk_andN (by omega) 6 (by decide)) ?_)
  refine call_S (As := [.int (nI ((sm / 64) % 64))]) (rest := [.ref r]) (n := 1) C h (c1_signOf l D dA B Z hZ _ ((sm / 64) % 64) (by omega)) (lw_S q1783 q1784 q129 q1785) (by decide +kernel) (by decide) (by decide) rfl hl rfl (Nat.le_of_ble_eq_true rfl) dX1_armor_65 (by omega) (fun _ H locs _ h => ?_)
  refine W.widen (k := 7 + rC cap Lr5.length) (n := 694 + rS cap Lr5.length) (by omega) (by omega) ?_
  have hnlr6 : (Lr5 ++ [sgnN ((sm / 64) % 64)]).length = Lr5.length + 1 := by rw [List.length_append]; rfl
  have hnqr6 : (Lr5.length + 1) = (Lr5 ++ [sgnN ((sm / 64) % 64)]).length := hnlr6.symm
  have hcbr6 := gro_b (cap := cap) (m := Lr5.length) (by omega)
  have hcar6 := rC_add (cap := cap) (m := Lr5.length) (m' := (Lr5.length + 1)) (by omega) (by omega)
  have hcmr6 := rC_mono (cap := cap) (m := (Lr5.length + 1)) (m' := (lt ++ armL k9 lb).length) (by omega) (by omega)
  refine call_VR (As := [.int (nI (sgnN ((sm / 64) % 64)))]) (rest := []) (n := 1) C h (c2_put l D dA B Z hZ ((((((F ++ Ep) ++ Er1) ++ Er2) ++ Er3) ++ Er4) ++ Er5) r br5 (gro cap Lr5.length) gr5 Lr5 (nI (sgnN ((sm / 64) % 64))) (sgnN ((sm / 64) % 64)) hur5 (by omega) (by omega) (by omega) (sb_put (sgnN_lt (Nat.mod_lt _ (by decide))))) (lw_V q1503 q562 q563 q130 q564) (by decide +kernel) (o_recv C h (RC := RX2) (T := TX2) (N := 2) (List.mem_of_getElem? (i := 0) rfl) rfl) (by decide) (by decide) rfl hl rfl (Nat.le_of_ble_eq_true rfl) dX1_armor_68 (by omega) (fun urr6 H locs hur6 h => ?_)
  obtain ⟨br6, gr6, Er6⟩ := urr6
  obtain ⟨Lr6, hLr6⟩ : ∃ z, z = Lr5 ++ [sgnN ((sm / 64) % 64)] := ⟨_, rfl⟩
  dsimp only at hur6 h
  rw [← hLr6] at h hur6 hnlr6
  have hger6 : gro (gro cap Lr5.length) Lr6.length = gro cap Lr6.length := gro_gro (by omega) (by omega)
  rw [hger6] at h hur6
  have hclr6 : rC cap (Lr5.length + 1) = rC cap Lr6.length ∧ rS cap (Lr5.length + 1) = rS cap Lr6.length := by rw [hLr6, hnqr6]; exact ⟨rfl, rfl⟩
  have h : Wd D B s ([(r, .inr (1, [.ref br6, .int (nI Lr6.length)])), (br6, bar dA (gro cap Lr6.length) gr6)] ++ (((((((F ++ Ep) ++ Er1) ++ Er2) ++ Er3) ++ Er4) ++ Er5) ++ Er6)) H locs := h
  refine W.widen (k := 7 + rC cap Lr6.length) (n := 694 + rS cap Lr6.length) (by omega) (by omega) ?_
  refine lv_iinc (v := nI 0) (lv' := [(5, .int (nI 0)), (4, .int (nI sm)), (0, .ref r), (1, .ref a), (2, .int (nI lb.length)), (3, .ref sa9)]) hx hb dX1_armor_71 hl (k := 0) rfl (by decide) (by decide) rfl (fun ls hl => ?_)
  refine lv_goto (tgt := 51) hx hb dX1_armor_74 (by decide) ?_
  refine lv_iload hx hb dX1_armor_51 (lv_at hl 0 rfl) ?_
  refine lv_if_lt (tgt := 77) hx hb dX1_armor_53 (by decide) (fun c53 => absurd c53 (by decide)) (fun c53 => ?_)
  refine lv_aload_n hx hb dX1_armor_56 rfl (lv_at hl 2 rfl) ?_
  refine lv_iload hx hb dX1_armor_57 (lv_at hl 1 rfl) ?_
  refine lv_iload hx hb dX1_armor_59 (lv_at hl 0 rfl) ?_
  refine n_ishr hx hb dX1_armor_61 (n_top (y := nI (sm / 1)) (pk_shrN (by omega) _ 0 (by decide)) ?_)
  refine lv_bipush (v := nI 63) hx hb dX1_armor_62 (by decide) ?_
  refine lv_iand hx hb dX1_armor_64 (n_top (y := nI ((sm / 1) % 64)) (pk_andN (by omega) 6 (by decide)) ?_)
  refine call_S (As := [.int (nI ((sm / 1) % 64))]) (rest := [.ref r]) (n := 1) C h (c1_signOf l D dA B Z hZ _ ((sm / 1) % 64) (by omega)) (lw_S q1783 q1784 q129 q1785) (by decide +kernel) (by decide) (by decide) rfl hl rfl (Nat.le_of_ble_eq_true rfl) dX1_armor_65 (by omega) (fun _ H locs _ h => ?_)
  refine W.widen (k := 7 + rC cap Lr6.length) (n := 694 + rS cap Lr6.length) (by omega) (by omega) ?_
  have hnlr7 : (Lr6 ++ [sgnN ((sm / 1) % 64)]).length = Lr6.length + 1 := by rw [List.length_append]; rfl
  have hnqr7 : (Lr6.length + 1) = (Lr6 ++ [sgnN ((sm / 1) % 64)]).length := hnlr7.symm
  have hcbr7 := gro_b (cap := cap) (m := Lr6.length) (by omega)
  have hcar7 := rC_add (cap := cap) (m := Lr6.length) (m' := (Lr6.length + 1)) (by omega) (by omega)
  have hcmr7 := rC_mono (cap := cap) (m := (Lr6.length + 1)) (m' := (lt ++ armL k9 lb).length) (by omega) (by omega)
  refine call_VR (As := [.int (nI (sgnN ((sm / 1) % 64)))]) (rest := []) (n := 1) C h (c2_put l D dA B Z hZ (((((((F ++ Ep) ++ Er1) ++ Er2) ++ Er3) ++ Er4) ++ Er5) ++ Er6) r br6 (gro cap Lr6.length) gr6 Lr6 (nI (sgnN ((sm / 1) % 64))) (sgnN ((sm / 1) % 64)) hur6 (by omega) (by omega) (by omega) (sb_put (sgnN_lt (Nat.mod_lt _ (by decide))))) (lw_V q1503 q562 q563 q130 q564) (by decide +kernel) (o_recv C h (RC := RX2) (T := TX2) (N := 2) (List.mem_of_getElem? (i := 0) rfl) rfl) (by decide) (by decide) rfl hl rfl (Nat.le_of_ble_eq_true rfl) dX1_armor_68 (by omega) (fun urr7 H locs hur7 h => ?_)
  obtain ⟨br7, gr7, Er7⟩ := urr7
  obtain ⟨Lr7, hLr7⟩ : ∃ z, z = Lr6 ++ [sgnN ((sm / 1) % 64)] := ⟨_, rfl⟩
  dsimp only at hur7 h
  rw [← hLr7] at h hur7 hnlr7
  have hger7 : gro (gro cap Lr6.length) Lr7.length = gro cap Lr7.length := gro_gro (by omega) (by omega)
  rw [hger7] at h hur7
  have hclr7 : rC cap (Lr6.length + 1) = rC cap Lr7.length ∧ rS cap (Lr6.length + 1) = rS cap Lr7.length := by rw [hLr7, hnqr7]; exact ⟨rfl, rfl⟩
  have h : Wd D B s ([(r, .inr (1, [.ref br7, .int (nI Lr7.length)])), (br7, bar dA (gro cap Lr7.length) gr7)] ++ ((((((((F ++ Ep) ++ Er1) ++ Er2) ++ Er3) ++ Er4) ++ Er5) ++ Er6) ++ Er7)) H locs := h
  refine W.widen (k := 7 + rC cap Lr7.length) (n := 694 + rS cap Lr7.length) (by omega) (by omega) ?_
  refine lv_iinc (v := -6) (lv' := [(5, .int (-6)), (4, .int (nI sm)), (0, .ref r), (1, .ref a), (2, .int (nI lb.length)), (3, .ref sa9)]) hx hb dX1_armor_71 hl (k := 0) rfl (by decide) (by decide) rfl (fun ls hl => ?_)
  refine lv_goto (tgt := 51) hx hb dX1_armor_74 (by decide) ?_
  refine lv_iload hx hb dX1_armor_51 (lv_at hl 0 rfl) ?_
  refine lv_if_lt (tgt := 77) hx hb dX1_armor_53 (by decide) (fun c53 => ?_) (fun c53 => absurd (show (-6 : Int32) < 0 by decide) c53)
  refine lv_aload_n hx hb dX1_armor_77 rfl (lv_at hl 2 rfl) ?_
  refine o_new C h (RC := RJ12) (T := TJ12) (N := 4) (ci := 18) (fs := [.null, .int 0, .int (bZ false), .int 0]) rfl in_J12 tyJ12_ok q699 q700 q155 dv_J12 (by omega) (by omega) dX1_armor_78 (fun o2 H h => ?_)
  have h := Wd.toFront h
  have h : Wd D B s ([(o2, .inr (18, [.null, .int 0, .int (bZ false), .int 0])), (r, .inr (1, [.ref br7, .int (nI Lr7.length)])), (br7, bar dA (gro cap Lr7.length) gr7)] ++ ((((((((F ++ Ep) ++ Er1) ++ Er2) ++ Er3) ++ Er4) ++ Er5) ++ Er6) ++ Er7)) H locs := h
  refine lv_dup hx hb dX1_armor_81 rfl ?_
  refine call_I (As := []) (rest := [.ref o2, .ref r]) (n := 0) C h (cJ_sbInit l D dA B Z hZ ([(r, .inr (1, [.ref br7, .int (nI Lr7.length)])), (br7, bar dA (gro cap Lr7.length) gr7)] ++ ((((((((F ++ Ep) ++ Er1) ++ Er2) ++ Er3) ++ Er4) ++ Er5) ++ Er6) ++ Er7)) o2 hzs) (lw_meth q703) q155 q701 q702 rfl (by decide +kernel) (by decide) (by decide) rfl hl rfl (Nat.le_of_ble_eq_true rfl) dX1_armor_82 (by omega) (fun v0e H locs _ h => ?_)
  have h : Wd D B s ([(o2, .inr (18, [.ref v0e, .int (nI 0), .int (bZ false), .int (nI (([] : List Nat).length))])), (v0e, bar dA 16 (fun _ => 0)), (r, .inr (1, [.ref br7, .int (nI Lr7.length)])), (br7, bar dA (gro cap Lr7.length) gr7)] ++ ((((((((F ++ Ep) ++ Er1) ++ Er2) ++ Er3) ++ Er4) ++ Er5) ++ Er6) ++ Er7)) H locs := h
  have hnl9 : ([] : List Nat).length = 0 := rfl
  have hsb0e := SBis_0
  have hnn0e : (16 : Nat) ≤ 16 := Nat.le_refl _
  refine s_ldc C h hr68 dX1_armor_85 ?_
  have hle1e : ([10, 45, 45, 45, 45, 45, 69, 78, 68, 32]).length ≤ 20 := by decide
  refine call_VR (As := [.ref sa68]) (rest := [.ref r]) (n := 1) C h (cJ_append l D dA B Z hZ ([(r, .inr (1, [.ref br7, .int (nI Lr7.length)])), (br7, bar dA (gro cap Lr7.length) gr7)] ++ ((((((((F ++ Ep) ++ Er1) ++ Er2) ++ Er3) ++ Er4) ++ Er5) ++ Er6) ++ Er7)) o2 v0e 16 (fun _ => 0) false ([] : List Nat) sa68 sv68 ([10, 45, 45, 45, 45, 45, 69, 78, 68, 32]) (nilup hk68 _) (by intro x hx; revert x; decide) (by omega) hzs hsb0e (by omega) (by (try simp only [List.length_append, List.length_nil]) <;> omega)) (lw_V q731 q732 q733 q155 q734) (by decide +kernel) (o_recv C h (RC := RJ12) (T := TJ12) (N := 4) (List.mem_of_getElem? (i := 0) rfl) rfl) (by decide) (by decide) rfl hl rfl (Nat.le_of_ble_eq_true rfl) dX1_armor_87 (by omega) (fun u1e H locs hu1e h => ?_)
  obtain ⟨v1e, n1e, g1e, E1e⟩ := u1e
  obtain ⟨hsb1e, hnn1e⟩ := hu1e
  have h : Wd D B s ([(o2, .inr (18, [.ref v1e, .int (nI 0), .int (bZ false), .int (nI ((([] : List Nat) ++ [10, 45, 45, 45, 45, 45, 69, 78, 68, 32]).length))])), (v1e, bar dA n1e g1e), (r, .inr (1, [.ref br7, .int (nI Lr7.length)])), (br7, bar dA (gro cap Lr7.length) gr7)] ++ (((((((((F ++ Ep) ++ Er1) ++ Er2) ++ Er3) ++ Er4) ++ Er5) ++ Er6) ++ Er7) ++ E1e)) H locs := h
  have hsb1e : SBis g1e n1e (([] : List Nat) ++ [10, 45, 45, 45, 45, 45, 69, 78, 68, 32]) := hsb1e
  have hnn1e : n1e ≤ 2 * 16 + 2 + ((([] : List Nat)).length + ([10, 45, 45, 45, 45, 45, 69, 78, 68, 32]).length) := hnn1e
  have hll1e : (([] : List Nat) ++ [10, 45, 45, 45, 45, 45, 69, 78, 68, 32]).length ≤ 20 := by simp only [List.length_append, List.length_nil] at *; omega
  have hnz1e : n1e ≤ 54 := by simp only [List.length_nil] at hnn1e; omega
  refine lv_aload_n hx hb dX1_armor_90 rfl (lv_at hl 5 rfl) ?_
  have hle2e : (labL k9).length ≤ 20 := by omega
  refine call_VR (As := [.ref sa9]) (rest := [.ref r]) (n := 1) C h (cJ_append l D dA B Z hZ ([(r, .inr (1, [.ref br7, .int (nI Lr7.length)])), (br7, bar dA (gro cap Lr7.length) gr7)] ++ (((((((((F ++ Ep) ++ Er1) ++ Er2) ++ Er3) ++ Er4) ++ Er5) ++ Er6) ++ Er7) ++ E1e)) o2 v1e n1e g1e false (([] : List Nat) ++ [10, 45, 45, 45, 45, 45, 69, 78, 68, 32]) sa9 sv9 (labL k9) (hs9.up (fun x hx => List.mem_append_right _ (List.mem_append_left _ (List.mem_append_left _ (List.mem_append_left _ (List.mem_append_left _ (List.mem_append_left _ (List.mem_append_left _ (List.mem_append_left _ (List.mem_append_left _ (List.mem_append_left _ (hx)))))))))))) (fun x hx => Nat.lt_trans (labL_128 hk9 x hx) (by decide)) (by omega) hzs hsb1e (by omega) (by (try simp only [List.length_append, List.length_nil]) <;> omega)) (lw_V q731 q732 q733 q155 q734) (by decide +kernel) (o_recv C h (RC := RJ12) (T := TJ12) (N := 4) (List.mem_of_getElem? (i := 0) rfl) rfl) (by decide) (by decide) rfl hl rfl (Nat.le_of_ble_eq_true rfl) dX1_armor_91 (by omega) (fun u2e H locs hu2e h => ?_)
  obtain ⟨v2e, n2e, g2e, E2e⟩ := u2e
  obtain ⟨hsb2e, hnn2e⟩ := hu2e
  have h : Wd D B s ([(o2, .inr (18, [.ref v2e, .int (nI 0), .int (bZ false), .int (nI ((([] : List Nat) ++ [10, 45, 45, 45, 45, 45, 69, 78, 68, 32] ++ labL k9).length))])), (v2e, bar dA n2e g2e), (r, .inr (1, [.ref br7, .int (nI Lr7.length)])), (br7, bar dA (gro cap Lr7.length) gr7)] ++ ((((((((((F ++ Ep) ++ Er1) ++ Er2) ++ Er3) ++ Er4) ++ Er5) ++ Er6) ++ Er7) ++ E1e) ++ E2e)) H locs := h
  have hsb2e : SBis g2e n2e (([] : List Nat) ++ [10, 45, 45, 45, 45, 45, 69, 78, 68, 32] ++ labL k9) := hsb2e
  have hnn2e : n2e ≤ 2 * n1e + 2 + ((([] : List Nat) ++ [10, 45, 45, 45, 45, 45, 69, 78, 68, 32]).length + (labL k9).length) := hnn2e
  have hll2e : (([] : List Nat) ++ [10, 45, 45, 45, 45, 45, 69, 78, 68, 32] ++ labL k9).length ≤ 40 := by simp only [List.length_append, List.length_nil] at *; omega
  have hnz2e : n2e ≤ 150 := by omega
  refine s_ldc C h hr70 dX1_armor_94 ?_
  have hle3e : ([45, 45, 45, 45, 45, 10]).length ≤ 20 := by decide
  refine call_VR (As := [.ref sa70]) (rest := [.ref r]) (n := 1) C h (cJ_append l D dA B Z hZ ([(r, .inr (1, [.ref br7, .int (nI Lr7.length)])), (br7, bar dA (gro cap Lr7.length) gr7)] ++ ((((((((((F ++ Ep) ++ Er1) ++ Er2) ++ Er3) ++ Er4) ++ Er5) ++ Er6) ++ Er7) ++ E1e) ++ E2e)) o2 v2e n2e g2e false (([] : List Nat) ++ [10, 45, 45, 45, 45, 45, 69, 78, 68, 32] ++ labL k9) sa70 sv70 ([45, 45, 45, 45, 45, 10]) (nilup hk70 _) (by intro x hx; revert x; decide) (by omega) hzs hsb2e (by omega) (by (try simp only [List.length_append, List.length_nil]) <;> omega)) (lw_V q731 q732 q733 q155 q734) (by decide +kernel) (o_recv C h (RC := RJ12) (T := TJ12) (N := 4) (List.mem_of_getElem? (i := 0) rfl) rfl) (by decide) (by decide) rfl hl rfl (Nat.le_of_ble_eq_true rfl) dX1_armor_96 (by omega) (fun u3e H locs hu3e h => ?_)
  obtain ⟨v3e, n3e, g3e, E3e⟩ := u3e
  obtain ⟨hsb3e, hnn3e⟩ := hu3e
  have h : Wd D B s ([(o2, .inr (18, [.ref v3e, .int (nI 0), .int (bZ false), .int (nI ((([] : List Nat) ++ [10, 45, 45, 45, 45, 45, 69, 78, 68, 32] ++ labL k9 ++ [45, 45, 45, 45, 45, 10]).length))])), (v3e, bar dA n3e g3e), (r, .inr (1, [.ref br7, .int (nI Lr7.length)])), (br7, bar dA (gro cap Lr7.length) gr7)] ++ (((((((((((F ++ Ep) ++ Er1) ++ Er2) ++ Er3) ++ Er4) ++ Er5) ++ Er6) ++ Er7) ++ E1e) ++ E2e) ++ E3e)) H locs := h
  have hsb3e : SBis g3e n3e (([] : List Nat) ++ [10, 45, 45, 45, 45, 45, 69, 78, 68, 32] ++ labL k9 ++ [45, 45, 45, 45, 45, 10]) := hsb3e
  have hnn3e : n3e ≤ 2 * n2e + 2 + ((([] : List Nat) ++ [10, 45, 45, 45, 45, 45, 69, 78, 68, 32] ++ labL k9).length + ([45, 45, 45, 45, 45, 10]).length) := hnn3e
  have hll3e : (([] : List Nat) ++ [10, 45, 45, 45, 45, 45, 69, 78, 68, 32] ++ labL k9 ++ [45, 45, 45, 45, 45, 10]).length ≤ 60 := by simp only [List.length_append, List.length_nil] at *; omega
  have hnz3e : n3e ≤ 370 := by omega
  refine call_VR (As := []) (rest := [.ref r]) (n := 0) C h (cJ_toString l D dA B Z hZ ([(r, .inr (1, [.ref br7, .int (nI Lr7.length)])), (br7, bar dA (gro cap Lr7.length) gr7)] ++ (((((((((((F ++ Ep) ++ Er1) ++ Er2) ++ Er3) ++ Er4) ++ Er5) ++ Er6) ++ Er7) ++ E1e) ++ E2e) ++ E3e)) o2 v3e n3e g3e false (([] : List Nat) ++ [10, 45, 45, 45, 45, 45, 69, 78, 68, 32] ++ labL k9 ++ [45, 45, 45, 45, 45, 10]) hzs hsb3e (by omega)) (lw_V q828 q829 q830 q155 q831) (by decide +kernel) (o_recv C h (RC := RJ12) (T := TJ12) (N := 4) (List.mem_of_getElem? (i := 0) rfl) rfl) (by decide) (by decide) rfl hl rfl (Nat.le_of_ble_eq_true rfl) dX1_armor_99 (by omega) (fun use H locs _ h => ?_)
  obtain ⟨sre, sqe⟩ := use
  have h : Wd D B s ([(sre, .inr (17, [.ref sqe, .int (nI 0), .int 0, .int (bZ false)])), (sqe, bal dA (([] : List Nat) ++ [10, 45, 45, 45, 45, 45, 69, 78, 68, 32] ++ labL k9 ++ [45, 45, 45, 45, 45, 10])), (o2, .inr (18, [.ref v3e, .int (nI 0), .int (bZ false), .int (nI ((([] : List Nat) ++ [10, 45, 45, 45, 45, 45, 69, 78, 68, 32] ++ labL k9 ++ [45, 45, 45, 45, 45, 10]).length))])), (v3e, bar dA n3e g3e), (r, .inr (1, [.ref br7, .int (nI Lr7.length)])), (br7, bar dA (gro cap Lr7.length) gr7)] ++ (((((((((((F ++ Ep) ++ Er1) ++ Er2) ++ Er3) ++ Er4) ++ Er5) ++ Er6) ++ Er7) ++ E1e) ++ E2e) ++ E3e)) H locs := h
  obtain ⟨Le, hLe⟩ : ∃ z, z = ([] : List Nat) ++ [10, 45, 45, 45, 45, 45, 69, 78, 68, 32] ++ labL k9 ++ [45, 45, 45, 45, 45, 10] := ⟨_, rfl⟩
  have h : Wd D B s ([(r, .inr (1, [.ref br7, .int (nI Lr7.length)])), (br7, bar dA (gro cap Lr7.length) gr7), (sre, .inr (17, [.ref sqe, .int (nI 0), .int 0, .int (bZ false)])), (sqe, bal dA (([] : List Nat) ++ [10, 45, 45, 45, 45, 45, 69, 78, 68, 32] ++ labL k9 ++ [45, 45, 45, 45, 45, 10])), (o2, .inr (18, [.ref v3e, .int (nI 0), .int (bZ false), .int (nI ((([] : List Nat) ++ [10, 45, 45, 45, 45, 45, 69, 78, 68, 32] ++ labL k9 ++ [45, 45, 45, 45, 45, 10]).length))])), (v3e, bar dA n3e g3e)] ++ (((((((((((F ++ Ep) ++ Er1) ++ Er2) ++ Er3) ++ Er4) ++ Er5) ++ Er6) ++ Er7) ++ E1e) ++ E2e) ++ E3e)) H locs := h.perm [4, 5, 0, 1, 2, 3] rfl rfl
  rw [← hLe] at h
  obtain ⟨Fe, hFe⟩ : ∃ z, z = [(sre, .inr (17, [.ref sqe, .int (nI 0), .int 0, .int (bZ false)])), (sqe, bal dA Le), (o2, .inr (18, [.ref v3e, .int (nI 0), .int (bZ false), .int (nI Le.length)])), (v3e, bar dA n3e g3e)] ++ (((((((((((F ++ Ep) ++ Er1) ++ Er2) ++ Er3) ++ Er4) ++ Er5) ++ Er6) ++ Er7) ++ E1e) ++ E2e) ++ E3e) := ⟨_, rfl⟩
  have hfse : ∀ x ∈ (((((((((((F ++ Ep) ++ Er1) ++ Er2) ++ Er3) ++ Er4) ++ Er5) ++ Er6) ++ Er7) ++ E1e) ++ E2e) ++ E3e), x ∈ Fe := fun x hx => by rw [hFe]; exact List.mem_append_right _ hx
  have hste : StrV dA B Z Fe sre sqe Le := Or.inl ⟨.int 0, .int (bZ false), by rw [hFe]; exact List.mem_append_left _ List.mem_cons_self, by rw [hFe]; exact List.mem_append_left _ (List.mem_cons_of_mem _ List.mem_cons_self)⟩
  have h : Wd D B s ([(r, .inr (1, [.ref br7, .int (nI Lr7.length)])), (br7, bar dA (gro cap Lr7.length) gr7)] ++ Fe) H locs := by rw [hFe]; exact h
  have hLel : Le.length < 100 := by rw [hLe]; omega
  obtain ⟨Ee, hEe⟩ : ∃ Ez, Fe = Ez ++ ((((((((F ++ Ep) ++ Er1) ++ Er2) ++ Er3) ++ Er4) ++ Er5) ++ Er6) ++ Er7) := ⟨_, hFe⟩
  have hste2 : StrV dA B Z (((((((((F ++ Ep) ++ Er1) ++ Er2) ++ Er3) ++ Er4) ++ Er5) ++ Er6) ++ Er7) ++ Ee) sre sqe Le := hste.up (fun x hx => by rw [hEe] at hx; exact (List.mem_append.mp hx).elim (fun q => List.mem_append_right _ q) (fun q => List.mem_append_left _ q))
  have h : Wd D B s ([(r, .inr (1, [.ref br7, .int (nI Lr7.length)])), (br7, bar dA (gro cap Lr7.length) gr7)] ++ (((((((((F ++ Ep) ++ Er1) ++ Er2) ++ Er3) ++ Er4) ++ Er5) ++ Er6) ++ Er7) ++ Ee)) H locs := by
    rw [hEe] at h
    exact h.permL (perm_add (fun g f p0 p1 p2 => by (try simp only [p0, p1, p2]) <;> omega))
  refine W.widen (k := 7 + 7 + rC cap Lr7.length) (n := 694 + 694 + rS cap Lr7.length) (by omega) (by omega) ?_
  have hLee : Le = [10] ++ enL k9 ++ [10] := by rw [hLe, List.nil_append]; unfold enL; simp only [List.append_assoc]; rfl
  have hLeb : byt Le := by rw [hLe, List.nil_append]; exact byt_app (byt_app (by intro x hx; revert x; decide) (labL_byt k9)) (by intro x hx; revert x; decide)
  have hLel : Le.length = (enL k9).length + 2 := by rw [hLee]; simp only [List.length_append, List.length_cons, List.length_nil]; omega
  have hnlr8 : (Lr7 ++ Le).length = Lr7.length + Le.length := by rw [List.length_append]
  have hcbr8 := gro_b (cap := cap) (m := Lr7.length) (by omega)
  have hcar8 := rC_add (cap := cap) (m := Lr7.length) (m' := (Lr7 ++ Le).length) (by omega) (by omega)
  have hcmr8 := rC_mono (cap := cap) (m := (Lr7 ++ Le).length) (m' := (lt ++ armL k9 lb).length) (by omega) (by omega)
  refine call_VR (As := [.ref sre]) (rest := []) (n := 1) C h (c2_say l D dA B Z hZ (((((((((F ++ Ep) ++ Er1) ++ Er2) ++ Er3) ++ Er4) ++ Er5) ++ Er6) ++ Er7) ++ Ee) r br7 (gro cap Lr7.length) gr7 Lr7 sre sqe Le hzs hur7 (by omega) (hste2) (hLeb) (by omega) (by omega) (by omega)) (lw_V q1748 q1749 q1750 q130 q1751) (by decide +kernel) (o_recv C h (RC := RX2) (T := TX2) (N := 2) (List.mem_of_getElem? (i := 0) rfl) rfl) (by decide) (by decide) rfl hl rfl (Nat.le_of_ble_eq_true rfl) dX1_armor_102 (by omega) (fun urr8 H locs hur8 h => ?_)
  obtain ⟨br8, gr8, Er8⟩ := urr8
  obtain ⟨Lr8, hLr8⟩ : ∃ z, z = Lr7 ++ Le := ⟨_, rfl⟩
  dsimp only at hur8 h
  rw [← hLr8] at h hur8 hnlr8
  have hger8 : gro (gro cap Lr7.length) Lr8.length = gro cap Lr8.length := gro_gro (by omega) (by omega)
  rw [hger8] at h hur8
  have hclr8 : rC cap (Lr7 ++ Le).length = rC cap Lr8.length ∧ rS cap (Lr7 ++ Le).length = rS cap Lr8.length := by rw [hLr8]; exact ⟨rfl, rfl⟩
  have h : Wd D B s ([(r, .inr (1, [.ref br8, .int (nI Lr8.length)])), (br8, bar dA (gro cap Lr8.length) gr8)] ++ ((((((((((F ++ Ep) ++ Er1) ++ Er2) ++ Er3) ++ Er4) ++ Er5) ++ Er6) ++ Er7) ++ Ee) ++ Er8)) H locs := h
  refine W.widen (k := 7 + 7 + rC cap Lr8.length) (n := 694 + 694 + rS cap Lr8.length) (by omega) (by omega) ?_
  subst hQ
  have hfin : Lr8 = lt ++ armL k9 lb := by rw [hLr8, hLr7, hLr6, hLr5, hLr4, hLr3, hLr2, hLr1, hLee, hLpe, hsm]; unfold armL; simp only [List.append_assoc, Nat.div_one]
  have h : Wd D B s ([(r, .inr (1, [.ref br8, .int (nI Lr8.length)])), (br8, bar dA (gro cap Lr8.length) gr8)] ++ (F ++ (Ep ++ Er1 ++ Er2 ++ Er3 ++ Er4 ++ Er5 ++ Er6 ++ Er7 ++ Ee ++ Er8))) H locs := h.permL (perm_add (fun g f p0 p1 p2 => by (try simp only [p0, p1, p2]) <;> omega))
  rw [hfin] at h hur8
  have hcf : rC cap Lr8.length = rC cap (lt ++ armL k9 lb).length ∧ rS cap Lr8.length = rS cap (lt ++ armL k9 lb).length := by rw [hfin]; exact ⟨rfl, rfl⟩
  exact ret_v C hr hlocks h (br8, gr8, Ep ++ Er1 ++ Er2 ++ Er3 ++ Er4 ++ Er5 ++ Er6 ++ Er7 ++ Ee ++ Er8) hur8 rfl rfl (by omega) (by omega) dX1_armor_105
set_option maxHeartbeats 400000 in
set_option maxRecDepth 100000 in
theorem c1_putFront (l : Launch) (D : va_G) (dA : Nat → ClassId) (B : Nat) (Z : State → Prop) (hZ : Stab B Z) (F : va_W) (r b cap : Nat) (g : Nat → Nat) (lt : List Nat) (me bs dc rg h1 h2 dg po9 tk pl pk tx sd : Nat) (sz : Nat) (n : NBr) (dcl : List Nat) (hsb : SBis g cap lt) (hcap : 64 ≤ cap) (hll : lt.length < 100000) (hcm : cap < 400000) (hme : (me, .inr (0, [.ref bs, .int (nI sz), .ref dc, .ref r, .ref rg, .ref h1, .ref h2, .ref dg, .ref po9, .ref tk, .ref pl, .ref pk, .ref tx, .ref sd])) ∈ F) (hN : NumIn dA F n) (hdc : (dc, bal dA dcl) ∈ F) (hdb : byt dcl) (hdl : dcl.length ≤ 4096) :
    Ct (S := Nat × (Nat → Nat) × va_W) l D dA B Z yX1_putFront cX1_putFront 3 none 6 (rC cap (lt ++ frnB (sha1 (keyMsg n.2.1)) dcl).length) (rS cap (lt ++ frnB (sha1 (keyMsg n.2.1)) dcl).length) [.ref me, .ref n.1] ([(r, .inr (1, [.ref b, .int (nI lt.length)])), (b, bar dA cap g)] ++ F) (fun u => SBis u.2.1 (gro cap (lt ++ frnB (sha1 (keyMsg n.2.1)) dcl).length) (lt ++ frnB (sha1 (keyMsg n.2.1)) dcl)) (fun _ => none) (fun u => [(r, .inr (1, [.ref u.1, .int (nI ((lt ++ frnB (sha1 (keyMsg n.2.1)) dcl).length))])), (u.1, bar dA (gro cap (lt ++ frnB (sha1 (keyMsg n.2.1)) dcl).length) u.2.1)] ++ (F ++ u.2.2)) := by
  refine Ct.mk2 (by decide) (Nat.le_of_ble_eq_true rfl) hZ ?_
  intro p e R s m args below meth c ls Q C hr hlocks hin hQ hl h
  have C0 := C
  obtain ⟨hx, hb, hml, hown, hts, -⟩ := C0
  have hl : lv_has ls 3 [(0, .ref me), (1, .ref n.1)] := hl
  have hg0r : gro cap lt.length = cap := gro_le hsb.1
  have hSr0 : SBis g (gro cap lt.length) lt := by rw [hg0r]; exact hsb
  have hz0r : rC cap lt.length = 0 ∧ rS cap lt.length = 0 := rC_0 hg0r
  have h : Wd D B s ([(r, .inr (1, [.ref b, .int (nI lt.length)])), (b, bar dA (gro cap lt.length) g)] ++ F) s.heap [] := by rw [hg0r]; exact h
  refine W.widen (k := 0 + rC cap lt.length) (n := 0 + rS cap lt.length) (by omega) (by omega) ?_
  obtain ⟨⟨hnbn, hnln, hnkn, hnsn⟩, ban, ann, aen, apn, san, hncn, hnban, hnann, hnaen, hnapn, hnsan⟩ := hN
  have hs20 : (sha1 (keyMsg n.2.1)).length = 20 := sha1_len _
  have hsb9 := sha1_byt (keyMsg n.2.1)
  have hNE : frnB (sha1 (keyMsg n.2.1)) dcl = [196] ++ [13] ++ [3] ++ [0] ++ [8] ++ [1] ++ sl (gD (sha1 (keyMsg n.2.1))) 12 8 ++ [1] ++ [203] ++ lenB (dcl.length + 6) ++ [98] ++ [0] ++ [0] ++ [0] ++ [0] ++ [0] ++ dcl := by unfold frnB pktB frnL; simp only [List.append_assoc]; rfl
  have hle2 : (lenB (dcl.length + 6)).length ≤ 2 := by unfold lenB; split <;> decide
  have hFL : (lt ++ frnB (sha1 (keyMsg n.2.1)) dcl).length = lt.length + (22 + (lenB (dcl.length + 6)).length + dcl.length) := by rw [List.length_append, hNE]; simp only [List.length_append, List.length_cons, List.length_nil, sl_len]; omega
  refine lv_aload_n hx hb dX1_putFront_0 rfl (lv_at hl 0 rfl) ?_
  refine o_get C h (RC := RX1) (T := TX1) (N := 14) (List.mem_append_right _ hme) rfl in_X1 3 (by decide) q311 rfl (v := .ref r) rfl dX1_putFront_1 ?_
  refine lv_sipush (v := nI 196) hx hb dX1_putFront_4 (by decide) ?_
  have hnlr1 : (lt ++ [196]).length = lt.length + 1 := by rw [List.length_append]; rfl
  have hnqr1 : (lt.length + 1) = (lt ++ [196]).length := hnlr1.symm
  have hcbr1 := gro_b (cap := cap) (m := lt.length) (by omega)
  have hcar1 := rC_add (cap := cap) (m := lt.length) (m' := (lt.length + 1)) (by omega) (by omega)
  have hcmr1 := rC_mono (cap := cap) (m := (lt.length + 1)) (m' := (lt ++ frnB (sha1 (keyMsg n.2.1)) dcl).length) (by omega) (by omega)
  refine call_VR (As := [.int (nI 196)]) (rest := []) (n := 1) C h (c2_put l D dA B Z hZ F r b (gro cap lt.length) g lt (nI 196) 196 hSr0 (by omega) (by omega) (by omega) (sb_mod _)) (lw_V q1503 q562 q563 q130 q564) (by decide +kernel) (o_recv C h (RC := RX2) (T := TX2) (N := 2) (List.mem_of_getElem? (i := 0) rfl) rfl) (by decide) (by decide) rfl hl rfl (Nat.le_of_ble_eq_true rfl) dX1_putFront_7 (by omega) (fun urr1 H locs hur1 h => ?_)
  obtain ⟨br1, gr1, Er1⟩ := urr1
  obtain ⟨Lr1, hLr1⟩ : ∃ z, z = lt ++ [196] := ⟨_, rfl⟩
  dsimp only at hur1 h
  rw [← hLr1] at h hur1 hnlr1
  have hger1 : gro (gro cap lt.length) Lr1.length = gro cap Lr1.length := gro_gro (by omega) (by omega)
  rw [hger1] at h hur1
  have hclr1 : rC cap (lt.length + 1) = rC cap Lr1.length ∧ rS cap (lt.length + 1) = rS cap Lr1.length := by rw [hLr1, hnqr1]; exact ⟨rfl, rfl⟩
  have h : Wd D B s ([(r, .inr (1, [.ref br1, .int (nI Lr1.length)])), (br1, bar dA (gro cap Lr1.length) gr1)] ++ (F ++ Er1)) H locs := h
  refine W.widen (k := 0 + rC cap Lr1.length) (n := 0 + rS cap Lr1.length) (by omega) (by omega) ?_
  refine lv_aload_n hx hb dX1_putFront_10 rfl (lv_at hl 0 rfl) ?_
  refine o_get C h (RC := RX1) (T := TX1) (N := 14) (List.mem_append_right _ (List.mem_append_left _ hme)) rfl in_X1 3 (by decide) q311 rfl (v := .ref r) rfl dX1_putFront_11 ?_
  refine lv_bipush (v := nI 13) hx hb dX1_putFront_14 (by decide) ?_
  have hnlr2 : (Lr1 ++ [13]).length = Lr1.length + 1 := by rw [List.length_append]; rfl
  have hnqr2 : (Lr1.length + 1) = (Lr1 ++ [13]).length := hnlr2.symm
  have hcbr2 := gro_b (cap := cap) (m := Lr1.length) (by omega)
  have hcar2 := rC_add (cap := cap) (m := Lr1.length) (m' := (Lr1.length + 1)) (by omega) (by omega)
  have hcmr2 := rC_mono (cap := cap) (m := (Lr1.length + 1)) (m' := (lt ++ frnB (sha1 (keyMsg n.2.1)) dcl).length) (by omega) (by omega)
  refine call_VR (As := [.int (nI 13)]) (rest := []) (n := 1) C h (c2_put l D dA B Z hZ (F ++ Er1) r br1 (gro cap Lr1.length) gr1 Lr1 (nI 13) 13 hur1 (by omega) (by omega) (by omega) rfl) (lw_V q1503 q562 q563 q130 q564) (by decide +kernel) (o_recv C h (RC := RX2) (T := TX2) (N := 2) (List.mem_of_getElem? (i := 0) rfl) rfl) (by decide) (by decide) rfl hl rfl (Nat.le_of_ble_eq_true rfl) dX1_putFront_16 (by omega) (fun urr2 H locs hur2 h => ?_)
  obtain ⟨br2, gr2, Er2⟩ := urr2
  obtain ⟨Lr2, hLr2⟩ : ∃ z, z = Lr1 ++ [13] := ⟨_, rfl⟩
  dsimp only at hur2 h
  rw [← hLr2] at h hur2 hnlr2
  have hger2 : gro (gro cap Lr1.length) Lr2.length = gro cap Lr2.length := gro_gro (by omega) (by omega)
  rw [hger2] at h hur2
  have hclr2 : rC cap (Lr1.length + 1) = rC cap Lr2.length ∧ rS cap (Lr1.length + 1) = rS cap Lr2.length := by rw [hLr2, hnqr2]; exact ⟨rfl, rfl⟩
  have h : Wd D B s ([(r, .inr (1, [.ref br2, .int (nI Lr2.length)])), (br2, bar dA (gro cap Lr2.length) gr2)] ++ ((F ++ Er1) ++ Er2)) H locs := h
  refine W.widen (k := 0 + rC cap Lr2.length) (n := 0 + rS cap Lr2.length) (by omega) (by omega) ?_
  refine lv_aload_n hx hb dX1_putFront_19 rfl (lv_at hl 0 rfl) ?_
  refine o_get C h (RC := RX1) (T := TX1) (N := 14) (List.mem_append_right _ (List.mem_append_left _ (List.mem_append_left _ hme))) rfl in_X1 3 (by decide) q311 rfl (v := .ref r) rfl dX1_putFront_20 ?_
  refine lv_iconst (v := nI 3) hx hb dX1_putFront_23 (by decide) ?_
  have hnlr3 : (Lr2 ++ [3]).length = Lr2.length + 1 := by rw [List.length_append]; rfl
  have hnqr3 : (Lr2.length + 1) = (Lr2 ++ [3]).length := hnlr3.symm
  have hcbr3 := gro_b (cap := cap) (m := Lr2.length) (by omega)
  have hcar3 := rC_add (cap := cap) (m := Lr2.length) (m' := (Lr2.length + 1)) (by omega) (by omega)
  have hcmr3 := rC_mono (cap := cap) (m := (Lr2.length + 1)) (m' := (lt ++ frnB (sha1 (keyMsg n.2.1)) dcl).length) (by omega) (by omega)
  refine call_VR (As := [.int (nI 3)]) (rest := []) (n := 1) C h (c2_put l D dA B Z hZ ((F ++ Er1) ++ Er2) r br2 (gro cap Lr2.length) gr2 Lr2 (nI 3) 3 hur2 (by omega) (by omega) (by omega) rfl) (lw_V q1503 q562 q563 q130 q564) (by decide +kernel) (o_recv C h (RC := RX2) (T := TX2) (N := 2) (List.mem_of_getElem? (i := 0) rfl) rfl) (by decide) (by decide) rfl hl rfl (Nat.le_of_ble_eq_true rfl) dX1_putFront_24 (by omega) (fun urr3 H locs hur3 h => ?_)
  obtain ⟨br3, gr3, Er3⟩ := urr3
  obtain ⟨Lr3, hLr3⟩ : ∃ z, z = Lr2 ++ [3] := ⟨_, rfl⟩
  dsimp only at hur3 h
  rw [← hLr3] at h hur3 hnlr3
  have hger3 : gro (gro cap Lr2.length) Lr3.length = gro cap Lr3.length := gro_gro (by omega) (by omega)
  rw [hger3] at h hur3
  have hclr3 : rC cap (Lr2.length + 1) = rC cap Lr3.length ∧ rS cap (Lr2.length + 1) = rS cap Lr3.length := by rw [hLr3, hnqr3]; exact ⟨rfl, rfl⟩
  have h : Wd D B s ([(r, .inr (1, [.ref br3, .int (nI Lr3.length)])), (br3, bar dA (gro cap Lr3.length) gr3)] ++ (((F ++ Er1) ++ Er2) ++ Er3)) H locs := h
  refine W.widen (k := 0 + rC cap Lr3.length) (n := 0 + rS cap Lr3.length) (by omega) (by omega) ?_
  refine lv_aload_n hx hb dX1_putFront_27 rfl (lv_at hl 0 rfl) ?_
  refine o_get C h (RC := RX1) (T := TX1) (N := 14) (List.mem_append_right _ (List.mem_append_left _ (List.mem_append_left _ (List.mem_append_left _ hme)))) rfl in_X1 3 (by decide) q311 rfl (v := .ref r) rfl dX1_putFront_28 ?_
  refine lv_iconst (v := nI 0) hx hb dX1_putFront_31 (by decide) ?_
  have hnlr4 : (Lr3 ++ [0]).length = Lr3.length + 1 := by rw [List.length_append]; rfl
  have hnqr4 : (Lr3.length + 1) = (Lr3 ++ [0]).length := hnlr4.symm
  have hcbr4 := gro_b (cap := cap) (m := Lr3.length) (by omega)
  have hcar4 := rC_add (cap := cap) (m := Lr3.length) (m' := (Lr3.length + 1)) (by omega) (by omega)
  have hcmr4 := rC_mono (cap := cap) (m := (Lr3.length + 1)) (m' := (lt ++ frnB (sha1 (keyMsg n.2.1)) dcl).length) (by omega) (by omega)
  refine call_VR (As := [.int (nI 0)]) (rest := []) (n := 1) C h (c2_put l D dA B Z hZ (((F ++ Er1) ++ Er2) ++ Er3) r br3 (gro cap Lr3.length) gr3 Lr3 (nI 0) 0 hur3 (by omega) (by omega) (by omega) rfl) (lw_V q1503 q562 q563 q130 q564) (by decide +kernel) (o_recv C h (RC := RX2) (T := TX2) (N := 2) (List.mem_of_getElem? (i := 0) rfl) rfl) (by decide) (by decide) rfl hl rfl (Nat.le_of_ble_eq_true rfl) dX1_putFront_32 (by omega) (fun urr4 H locs hur4 h => ?_)
  obtain ⟨br4, gr4, Er4⟩ := urr4
  obtain ⟨Lr4, hLr4⟩ : ∃ z, z = Lr3 ++ [0] := ⟨_, rfl⟩
  dsimp only at hur4 h
  rw [← hLr4] at h hur4 hnlr4
  have hger4 : gro (gro cap Lr3.length) Lr4.length = gro cap Lr4.length := gro_gro (by omega) (by omega)
  rw [hger4] at h hur4
  have hclr4 : rC cap (Lr3.length + 1) = rC cap Lr4.length ∧ rS cap (Lr3.length + 1) = rS cap Lr4.length := by rw [hLr4, hnqr4]; exact ⟨rfl, rfl⟩
  have h : Wd D B s ([(r, .inr (1, [.ref br4, .int (nI Lr4.length)])), (br4, bar dA (gro cap Lr4.length) gr4)] ++ ((((F ++ Er1) ++ Er2) ++ Er3) ++ Er4)) H locs := h
  refine W.widen (k := 0 + rC cap Lr4.length) (n := 0 + rS cap Lr4.length) (by omega) (by omega) ?_
  refine lv_aload_n hx hb dX1_putFront_35 rfl (lv_at hl 0 rfl) ?_
  refine o_get C h (RC := RX1) (T := TX1) (N := 14) (List.mem_append_right _ (List.mem_append_left _ (List.mem_append_left _ (List.mem_append_left _ (List.mem_append_left _ hme))))) rfl in_X1 3 (by decide) q311 rfl (v := .ref r) rfl dX1_putFront_36 ?_
  refine lv_bipush (v := nI 8) hx hb dX1_putFront_39 (by decide) ?_
  have hnlr5 : (Lr4 ++ [8]).length = Lr4.length + 1 := by rw [List.length_append]; rfl
  have hnqr5 : (Lr4.length + 1) = (Lr4 ++ [8]).length := hnlr5.symm
  have hcbr5 := gro_b (cap := cap) (m := Lr4.length) (by omega)
  have hcar5 := rC_add (cap := cap) (m := Lr4.length) (m' := (Lr4.length + 1)) (by omega) (by omega)
  have hcmr5 := rC_mono (cap := cap) (m := (Lr4.length + 1)) (m' := (lt ++ frnB (sha1 (keyMsg n.2.1)) dcl).length) (by omega) (by omega)
  refine call_VR (As := [.int (nI 8)]) (rest := []) (n := 1) C h (c2_put l D dA B Z hZ ((((F ++ Er1) ++ Er2) ++ Er3) ++ Er4) r br4 (gro cap Lr4.length) gr4 Lr4 (nI 8) 8 hur4 (by omega) (by omega) (by omega) rfl) (lw_V q1503 q562 q563 q130 q564) (by decide +kernel) (o_recv C h (RC := RX2) (T := TX2) (N := 2) (List.mem_of_getElem? (i := 0) rfl) rfl) (by decide) (by decide) rfl hl rfl (Nat.le_of_ble_eq_true rfl) dX1_putFront_41 (by omega) (fun urr5 H locs hur5 h => ?_)
  obtain ⟨br5, gr5, Er5⟩ := urr5
  obtain ⟨Lr5, hLr5⟩ : ∃ z, z = Lr4 ++ [8] := ⟨_, rfl⟩
  dsimp only at hur5 h
  rw [← hLr5] at h hur5 hnlr5
  have hger5 : gro (gro cap Lr4.length) Lr5.length = gro cap Lr5.length := gro_gro (by omega) (by omega)
  rw [hger5] at h hur5
  have hclr5 : rC cap (Lr4.length + 1) = rC cap Lr5.length ∧ rS cap (Lr4.length + 1) = rS cap Lr5.length := by rw [hLr5, hnqr5]; exact ⟨rfl, rfl⟩
  have h : Wd D B s ([(r, .inr (1, [.ref br5, .int (nI Lr5.length)])), (br5, bar dA (gro cap Lr5.length) gr5)] ++ (((((F ++ Er1) ++ Er2) ++ Er3) ++ Er4) ++ Er5)) H locs := h
  refine W.widen (k := 0 + rC cap Lr5.length) (n := 0 + rS cap Lr5.length) (by omega) (by omega) ?_
  refine lv_aload_n hx hb dX1_putFront_44 rfl (lv_at hl 0 rfl) ?_
  refine o_get C h (RC := RX1) (T := TX1) (N := 14) (List.mem_append_right _ (List.mem_append_left _ (List.mem_append_left _ (List.mem_append_left _ (List.mem_append_left _ (List.mem_append_left _ hme)))))) rfl in_X1 3 (by decide) q311 rfl (v := .ref r) rfl dX1_putFront_45 ?_
  refine lv_iconst (v := nI 1) hx hb dX1_putFront_48 (by decide) ?_
  have hnlr6 : (Lr5 ++ [1]).length = Lr5.length + 1 := by rw [List.length_append]; rfl
  have hnqr6 : (Lr5.length + 1) = (Lr5 ++ [1]).length := hnlr6.symm
  have hcbr6 := gro_b (cap := cap) (m := Lr5.length) (by omega)
  have hcar6 := rC_add (cap := cap) (m := Lr5.length) (m' := (Lr5.length + 1)) (by omega) (by omega)
  have hcmr6 := rC_mono (cap := cap) (m := (Lr5.length + 1)) (m' := (lt ++ frnB (sha1 (keyMsg n.2.1)) dcl).length) (by omega) (by omega)
  refine call_VR (As := [.int (nI 1)]) (rest := []) (n := 1) C h (c2_put l D dA B Z hZ (((((F ++ Er1) ++ Er2) ++ Er3) ++ Er4) ++ Er5) r br5 (gro cap Lr5.length) gr5 Lr5 (nI 1) 1 hur5 (by omega) (by omega) (by omega) rfl) (lw_V q1503 q562 q563 q130 q564) (by decide +kernel) (o_recv C h (RC := RX2) (T := TX2) (N := 2) (List.mem_of_getElem? (i := 0) rfl) rfl) (by decide) (by decide) rfl hl rfl (Nat.le_of_ble_eq_true rfl) dX1_putFront_49 (by omega) (fun urr6 H locs hur6 h => ?_)
  obtain ⟨br6, gr6, Er6⟩ := urr6
  obtain ⟨Lr6, hLr6⟩ : ∃ z, z = Lr5 ++ [1] := ⟨_, rfl⟩
  dsimp only at hur6 h
  rw [← hLr6] at h hur6 hnlr6
  have hger6 : gro (gro cap Lr5.length) Lr6.length = gro cap Lr6.length := gro_gro (by omega) (by omega)
  rw [hger6] at h hur6
  have hclr6 : rC cap (Lr5.length + 1) = rC cap Lr6.length ∧ rS cap (Lr5.length + 1) = rS cap Lr6.length := by rw [hLr6, hnqr6]; exact ⟨rfl, rfl⟩
  have h : Wd D B s ([(r, .inr (1, [.ref br6, .int (nI Lr6.length)])), (br6, bar dA (gro cap Lr6.length) gr6)] ++ ((((((F ++ Er1) ++ Er2) ++ Er3) ++ Er4) ++ Er5) ++ Er6)) H locs := h
  refine W.widen (k := 0 + rC cap Lr6.length) (n := 0 + rS cap Lr6.length) (by omega) (by omega) ?_
  refine lv_aload_n hx hb dX1_putFront_52 rfl (lv_at hl 0 rfl) ?_
  refine o_get C h (RC := RX1) (T := TX1) (N := 14) (List.mem_append_right _ (List.mem_append_left _ (List.mem_append_left _ (List.mem_append_left _ (List.mem_append_left _ (List.mem_append_left _ (List.mem_append_left _ hme))))))) rfl in_X1 3 (by decide) q311 rfl (v := .ref r) rfl dX1_putFront_53 ?_
  refine lv_aload_n hx hb dX1_putFront_56 rfl (lv_at hl 1 rfl) ?_
  refine o_get C h (RC := RX16) (T := TX16) (N := 6) (List.mem_append_right _ (List.mem_append_left _ (List.mem_append_left _ (List.mem_append_left _ (List.mem_append_left _ (List.mem_append_left _ (List.mem_append_left _ hncn))))))) rfl in_X16 4 (by decide) q1156 rfl (v := .ref apn) rfl dX1_putFront_57 ?_
  refine lv_bipush (v := nI 12) hx hb dX1_putFront_60 (by decide) ?_
  refine lv_bipush (v := nI 20) hx hb dX1_putFront_62 (by decide) ?_
  have hnlr7 : (Lr6 ++ sl (gD (sha1 (keyMsg n.2.1))) 12 (20 - 12)).length = Lr6.length + (20 - 12) := by rw [List.length_append, sl_len]
  have hcbr7 := gro_b (cap := cap) (m := Lr6.length) (by omega)
  have hcar7 := rC_add (cap := cap) (m := Lr6.length) (m' := (Lr6 ++ sl (gD (sha1 (keyMsg n.2.1))) 12 (20 - 12)).length) (by omega) (by omega)
  have hcmr7 := rC_mono (cap := cap) (m := (Lr6 ++ sl (gD (sha1 (keyMsg n.2.1))) 12 (20 - 12)).length) (m' := (lt ++ frnB (sha1 (keyMsg n.2.1)) dcl).length) (by omega) (by omega)
  refine call_VR (As := [.ref apn, .int (nI 12), .int (nI 20)]) (rest := []) (n := 3) C h (c2_putA l D dA B Z hZ ((((((F ++ Er1) ++ Er2) ++ Er3) ++ Er4) ++ Er5) ++ Er6) r br6 (gro cap Lr6.length) gr6 Lr6 apn ((sha1 (keyMsg n.2.1)).length) 12 20 (gD (sha1 (keyMsg n.2.1))) hur6 (by omega) (List.mem_append_left _ (List.mem_append_left _ (List.mem_append_left _ (List.mem_append_left _ (List.mem_append_left _ (List.mem_append_left _ hnapn)))))) (by omega) (by omega) (by omega) (by omega) (by omega) (fun j _ => byt_gD hsb9 j)) (lw_V q557 q558 q559 q130 q560) (by decide +kernel) (o_recv C h (RC := RX2) (T := TX2) (N := 2) (List.mem_of_getElem? (i := 0) rfl) rfl) (by decide) (by decide) rfl hl rfl (Nat.le_of_ble_eq_true rfl) dX1_putFront_64 (by omega) (fun urr7 H locs hur7 h => ?_)
  obtain ⟨br7, gr7, Er7⟩ := urr7
  obtain ⟨Lr7, hLr7⟩ : ∃ z, z = Lr6 ++ sl (gD (sha1 (keyMsg n.2.1))) 12 (20 - 12) := ⟨_, rfl⟩
  dsimp only at hur7 h
  rw [← hLr7] at h hur7 hnlr7
  have hger7 : gro (gro cap Lr6.length) Lr7.length = gro cap Lr7.length := gro_gro (by omega) (by omega)
  rw [hger7] at h hur7
  have hclr7 : rC cap (Lr6 ++ sl (gD (sha1 (keyMsg n.2.1))) 12 (20 - 12)).length = rC cap Lr7.length ∧ rS cap (Lr6 ++ sl (gD (sha1 (keyMsg n.2.1))) 12 (20 - 12)).length = rS cap Lr7.length := by rw [hLr7]; exact ⟨rfl, rfl⟩
  have h : Wd D B s ([(r, .inr (1, [.ref br7, .int (nI Lr7.length)])), (br7, bar dA (gro cap Lr7.length) gr7)] ++ (((((((F ++ Er1) ++ Er2) ++ Er3) ++ Er4) ++ Er5) ++ Er6) ++ Er7)) H locs := h
  refine W.widen (k := 0 + rC cap Lr7.length) (n := 0 + rS cap Lr7.length) (by omega) (by omega) ?_
  refine lv_aload_n hx hb dX1_putFront_67 rfl (lv_at hl 0 rfl) ?_
  refine o_get C h (RC := RX1) (T := TX1) (N := 14) (List.mem_append_right _ (List.mem_append_left _ (List.mem_append_left _ (List.mem_append_left _ (List.mem_append_left _ (List.mem_append_left _ (List.mem_append_left _ (List.mem_append_left _ hme)))))))) rfl in_X1 3 (by decide) q311 rfl (v := .ref r) rfl dX1_putFront_68 ?_
  refine lv_iconst (v := nI 1) hx hb dX1_putFront_71 (by decide) ?_
  have hnlr8 : (Lr7 ++ [1]).length = Lr7.length + 1 := by rw [List.length_append]; rfl
  have hnqr8 : (Lr7.length + 1) = (Lr7 ++ [1]).length := hnlr8.symm
  have hcbr8 := gro_b (cap := cap) (m := Lr7.length) (by omega)
  have hcar8 := rC_add (cap := cap) (m := Lr7.length) (m' := (Lr7.length + 1)) (by omega) (by omega)
  have hcmr8 := rC_mono (cap := cap) (m := (Lr7.length + 1)) (m' := (lt ++ frnB (sha1 (keyMsg n.2.1)) dcl).length) (by omega) (by omega)
  refine call_VR (As := [.int (nI 1)]) (rest := []) (n := 1) C h (c2_put l D dA B Z hZ (((((((F ++ Er1) ++ Er2) ++ Er3) ++ Er4) ++ Er5) ++ Er6) ++ Er7) r br7 (gro cap Lr7.length) gr7 Lr7 (nI 1) 1 hur7 (by omega) (by omega) (by omega) rfl) (lw_V q1503 q562 q563 q130 q564) (by decide +kernel) (o_recv C h (RC := RX2) (T := TX2) (N := 2) (List.mem_of_getElem? (i := 0) rfl) rfl) (by decide) (by decide) rfl hl rfl (Nat.le_of_ble_eq_true rfl) dX1_putFront_72 (by omega) (fun urr8 H locs hur8 h => ?_)
  obtain ⟨br8, gr8, Er8⟩ := urr8
  obtain ⟨Lr8, hLr8⟩ : ∃ z, z = Lr7 ++ [1] := ⟨_, rfl⟩
  dsimp only at hur8 h
  rw [← hLr8] at h hur8 hnlr8
  have hger8 : gro (gro cap Lr7.length) Lr8.length = gro cap Lr8.length := gro_gro (by omega) (by omega)
  rw [hger8] at h hur8
  have hclr8 : rC cap (Lr7.length + 1) = rC cap Lr8.length ∧ rS cap (Lr7.length + 1) = rS cap Lr8.length := by rw [hLr8, hnqr8]; exact ⟨rfl, rfl⟩
  have h : Wd D B s ([(r, .inr (1, [.ref br8, .int (nI Lr8.length)])), (br8, bar dA (gro cap Lr8.length) gr8)] ++ ((((((((F ++ Er1) ++ Er2) ++ Er3) ++ Er4) ++ Er5) ++ Er6) ++ Er7) ++ Er8)) H locs := h
  refine W.widen (k := 0 + rC cap Lr8.length) (n := 0 + rS cap Lr8.length) (by omega) (by omega) ?_
  refine lv_aload_n hx hb dX1_putFront_75 rfl (lv_at hl 0 rfl) ?_
  refine o_get C h (RC := RX1) (T := TX1) (N := 14) (List.mem_append_right _ (List.mem_append_left _ (List.mem_append_left _ (List.mem_append_left _ (List.mem_append_left _ (List.mem_append_left _ (List.mem_append_left _ (List.mem_append_left _ (List.mem_append_left _ hme))))))))) rfl in_X1 3 (by decide) q311 rfl (v := .ref r) rfl dX1_putFront_76 ?_
  refine lv_sipush (v := nI 203) hx hb dX1_putFront_79 (by decide) ?_
  have hnlr9 : (Lr8 ++ [203]).length = Lr8.length + 1 := by rw [List.length_append]; rfl
  have hnqr9 : (Lr8.length + 1) = (Lr8 ++ [203]).length := hnlr9.symm
  have hcbr9 := gro_b (cap := cap) (m := Lr8.length) (by omega)
  have hcar9 := rC_add (cap := cap) (m := Lr8.length) (m' := (Lr8.length + 1)) (by omega) (by omega)
  have hcmr9 := rC_mono (cap := cap) (m := (Lr8.length + 1)) (m' := (lt ++ frnB (sha1 (keyMsg n.2.1)) dcl).length) (by omega) (by omega)
  refine call_VR (As := [.int (nI 203)]) (rest := []) (n := 1) C h (c2_put l D dA B Z hZ ((((((((F ++ Er1) ++ Er2) ++ Er3) ++ Er4) ++ Er5) ++ Er6) ++ Er7) ++ Er8) r br8 (gro cap Lr8.length) gr8 Lr8 (nI 203) 203 hur8 (by omega) (by omega) (by omega) (sb_mod _)) (lw_V q1503 q562 q563 q130 q564) (by decide +kernel) (o_recv C h (RC := RX2) (T := TX2) (N := 2) (List.mem_of_getElem? (i := 0) rfl) rfl) (by decide) (by decide) rfl hl rfl (Nat.le_of_ble_eq_true rfl) dX1_putFront_82 (by omega) (fun urr9 H locs hur9 h => ?_)
  obtain ⟨br9, gr9, Er9⟩ := urr9
  obtain ⟨Lr9, hLr9⟩ : ∃ z, z = Lr8 ++ [203] := ⟨_, rfl⟩
  dsimp only at hur9 h
  rw [← hLr9] at h hur9 hnlr9
  have hger9 : gro (gro cap Lr8.length) Lr9.length = gro cap Lr9.length := gro_gro (by omega) (by omega)
  rw [hger9] at h hur9
  have hclr9 : rC cap (Lr8.length + 1) = rC cap Lr9.length ∧ rS cap (Lr8.length + 1) = rS cap Lr9.length := by rw [hLr9, hnqr9]; exact ⟨rfl, rfl⟩
  have h : Wd D B s ([(r, .inr (1, [.ref br9, .int (nI Lr9.length)])), (br9, bar dA (gro cap Lr9.length) gr9)] ++ (((((((((F ++ Er1) ++ Er2) ++ Er3) ++ Er4) ++ Er5) ++ Er6) ++ Er7) ++ Er8) ++ Er9)) H locs := h
  refine W.widen (k := 0 + rC cap Lr9.length) (n := 0 + rS cap Lr9.length) (by omega) (by omega) ?_
  refine lv_aload_n hx hb dX1_putFront_85 rfl (lv_at hl 0 rfl) ?_
  refine o_get C h (RC := RX1) (T := TX1) (N := 14) (List.mem_append_right _ (List.mem_append_left _ (List.mem_append_left _ (List.mem_append_left _ (List.mem_append_left _ (List.mem_append_left _ (List.mem_append_left _ (List.mem_append_left _ (List.mem_append_left _ (List.mem_append_left _ hme)))))))))) rfl in_X1 3 (by decide) q311 rfl (v := .ref r) rfl dX1_putFront_86 ?_
  refine lv_aload_n hx hb dX1_putFront_89 rfl (lv_at hl 0 rfl) ?_
  refine o_get C h (RC := RX1) (T := TX1) (N := 14) (List.mem_append_right _ (List.mem_append_left _ (List.mem_append_left _ (List.mem_append_left _ (List.mem_append_left _ (List.mem_append_left _ (List.mem_append_left _ (List.mem_append_left _ (List.mem_append_left _ (List.mem_append_left _ hme)))))))))) rfl in_X1 2 (by decide) q310 rfl (v := .ref dc) rfl dX1_putFront_90 ?_
  refine n_balen C h (List.mem_append_right _ (List.mem_append_left _ (List.mem_append_left _ (List.mem_append_left _ (List.mem_append_left _ (List.mem_append_left _ (List.mem_append_left _ (List.mem_append_left _ (List.mem_append_left _ (List.mem_append_left _ hdc)))))))))) dX1_putFront_93 ?_
  refine lv_bipush (v := nI 6) hx hb dX1_putFront_94 (by decide) ?_
  refine lv_iadd hx hb dX1_putFront_96 (n_top (y := nI (dcl.length + 6)) (nI_add dcl.length 6) ?_)
  have hnlr10 : (Lr9 ++ lenB (dcl.length + 6)).length = Lr9.length + ((lenB (dcl.length + 6)).length) := by rw [List.length_append]
  have hcbr10 := gro_b (cap := cap) (m := Lr9.length) (by omega)
  have hcar10 := rC_add (cap := cap) (m := Lr9.length) (m' := (Lr9 ++ lenB (dcl.length + 6)).length) (by omega) (by omega)
  have hcmr10 := rC_mono (cap := cap) (m := (Lr9 ++ lenB (dcl.length + 6)).length) (m' := (lt ++ frnB (sha1 (keyMsg n.2.1)) dcl).length) (by omega) (by omega)
  refine call_S (As := [.ref r, .int (nI (dcl.length + 6))]) (rest := []) (n := 2) C h (c1_length l D dA B Z hZ (((((((((F ++ Er1) ++ Er2) ++ Er3) ++ Er4) ++ Er5) ++ Er6) ++ Er7) ++ Er8) ++ Er9) r br9 (gro cap Lr9.length) gr9 Lr9 (dcl.length + 6) hur9 (by omega) (by omega) (by omega) (by omega)) (lw_S q1773 q1774 q129 q1775) (by decide +kernel) (by decide) (by decide) rfl hl rfl (Nat.le_of_ble_eq_true rfl) dX1_putFront_97 (by omega) (fun urr10 H locs hur10 h => ?_)
  obtain ⟨br10, gr10, Er10⟩ := urr10
  obtain ⟨Lr10, hLr10⟩ : ∃ z, z = Lr9 ++ lenB (dcl.length + 6) := ⟨_, rfl⟩
  dsimp only at hur10 h
  rw [← hLr10] at h hur10 hnlr10
  have hger10 : gro (gro cap Lr9.length) Lr10.length = gro cap Lr10.length := gro_gro (by omega) (by omega)
  rw [hger10] at h hur10
  have hclr10 : rC cap (Lr9 ++ lenB (dcl.length + 6)).length = rC cap Lr10.length ∧ rS cap (Lr9 ++ lenB (dcl.length + 6)).length = rS cap Lr10.length := by rw [hLr10]; exact ⟨rfl, rfl⟩
  have h : Wd D B s ([(r, .inr (1, [.ref br10, .int (nI Lr10.length)])), (br10, bar dA (gro cap Lr10.length) gr10)] ++ ((((((((((F ++ Er1) ++ Er2) ++ Er3) ++ Er4) ++ Er5) ++ Er6) ++ Er7) ++ Er8) ++ Er9) ++ Er10)) H locs := h
  refine W.widen (k := 0 + rC cap Lr10.length) (n := 0 + rS cap Lr10.length) (by omega) (by omega) ?_
  refine lv_aload_n hx hb dX1_putFront_100 rfl (lv_at hl 0 rfl) ?_
  refine o_get C h (RC := RX1) (T := TX1) (N := 14) (List.mem_append_right _ (List.mem_append_left _ (List.mem_append_left _ (List.mem_append_left _ (List.mem_append_left _ (List.mem_append_left _ (List.mem_append_left _ (List.mem_append_left _ (List.mem_append_left _ (List.mem_append_left _ (List.mem_append_left _ hme))))))))))) rfl in_X1 3 (by decide) q311 rfl (v := .ref r) rfl dX1_putFront_101 ?_
  refine lv_bipush (v := nI 98) hx hb dX1_putFront_104 (by decide) ?_
  have hnlr11 : (Lr10 ++ [98]).length = Lr10.length + 1 := by rw [List.length_append]; rfl
  have hnqr11 : (Lr10.length + 1) = (Lr10 ++ [98]).length := hnlr11.symm
  have hcbr11 := gro_b (cap := cap) (m := Lr10.length) (by omega)
  have hcar11 := rC_add (cap := cap) (m := Lr10.length) (m' := (Lr10.length + 1)) (by omega) (by omega)
  have hcmr11 := rC_mono (cap := cap) (m := (Lr10.length + 1)) (m' := (lt ++ frnB (sha1 (keyMsg n.2.1)) dcl).length) (by omega) (by omega)
  refine call_VR (As := [.int (nI 98)]) (rest := []) (n := 1) C h (c2_put l D dA B Z hZ ((((((((((F ++ Er1) ++ Er2) ++ Er3) ++ Er4) ++ Er5) ++ Er6) ++ Er7) ++ Er8) ++ Er9) ++ Er10) r br10 (gro cap Lr10.length) gr10 Lr10 (nI 98) 98 hur10 (by omega) (by omega) (by omega) rfl) (lw_V q1503 q562 q563 q130 q564) (by decide +kernel) (o_recv C h (RC := RX2) (T := TX2) (N := 2) (List.mem_of_getElem? (i := 0) rfl) rfl) (by decide) (by decide) rfl hl rfl (Nat.le_of_ble_eq_true rfl) dX1_putFront_106 (by omega) (fun urr11 H locs hur11 h => ?_)
  obtain ⟨br11, gr11, Er11⟩ := urr11
  obtain ⟨Lr11, hLr11⟩ : ∃ z, z = Lr10 ++ [98] := ⟨_, rfl⟩
  dsimp only at hur11 h
  rw [← hLr11] at h hur11 hnlr11
  have hger11 : gro (gro cap Lr10.length) Lr11.length = gro cap Lr11.length := gro_gro (by omega) (by omega)
  rw [hger11] at h hur11
  have hclr11 : rC cap (Lr10.length + 1) = rC cap Lr11.length ∧ rS cap (Lr10.length + 1) = rS cap Lr11.length := by rw [hLr11, hnqr11]; exact ⟨rfl, rfl⟩
  have h : Wd D B s ([(r, .inr (1, [.ref br11, .int (nI Lr11.length)])), (br11, bar dA (gro cap Lr11.length) gr11)] ++ (((((((((((F ++ Er1) ++ Er2) ++ Er3) ++ Er4) ++ Er5) ++ Er6) ++ Er7) ++ Er8) ++ Er9) ++ Er10) ++ Er11)) H locs := h
  refine W.widen (k := 0 + rC cap Lr11.length) (n := 0 + rS cap Lr11.length) (by omega) (by omega) ?_
  refine lv_iconst (v := nI 0) hx hb dX1_putFront_109 (by decide) ?_
  refine lv_istore_n (lv' := [(2, .int (nI 0)), (0, .ref me), (1, .ref n.1)]) hx hb dX1_putFront_110 rfl hl (by decide) rfl (fun ls hl => ?_)
  refine lv_iload_n hx hb dX1_putFront_111 rfl (lv_at hl 0 rfl) ?_
  refine lv_iconst (v := nI 5) hx hb dX1_putFront_112 (by decide) ?_
  refine n_icmp_ge (tgt := 130) hx hb (by omega) (by omega) dX1_putFront_113 (by decide) (fun c113 => by exfalso; omega) (fun c113 => ?_)
  refine lv_aload_n hx hb dX1_putFront_116 rfl (lv_at hl 1 rfl) ?_
  refine o_get C h (RC := RX1) (T := TX1) (N := 14) (List.mem_append_right _ (List.mem_append_left _ (List.mem_append_left _ (List.mem_append_left _ (List.mem_append_left _ (List.mem_append_left _ (List.mem_append_left _ (List.mem_append_left _ (List.mem_append_left _ (List.mem_append_left _ (List.mem_append_left _ (List.mem_append_left _ hme)))))))))))) rfl in_X1 3 (by decide) q311 rfl (v := .ref r) rfl dX1_putFront_117 ?_
  refine lv_iconst (v := nI 0) hx hb dX1_putFront_120 (by decide) ?_
  have hnlr12 : (Lr11 ++ [0]).length = Lr11.length + 1 := by rw [List.length_append]; rfl
  have hnqr12 : (Lr11.length + 1) = (Lr11 ++ [0]).length := hnlr12.symm
  have hcbr12 := gro_b (cap := cap) (m := Lr11.length) (by omega)
  have hcar12 := rC_add (cap := cap) (m := Lr11.length) (m' := (Lr11.length + 1)) (by omega) (by omega)
  have hcmr12 := rC_mono (cap := cap) (m := (Lr11.length + 1)) (m' := (lt ++ frnB (sha1 (keyMsg n.2.1)) dcl).length) (by omega) (by omega)
  refine call_VR (As := [.int (nI 0)]) (rest := []) (n := 1) C h (c2_put l D dA B Z hZ (((((((((((F ++ Er1) ++ Er2) ++ Er3) ++ Er4) ++ Er5) ++ Er6) ++ Er7) ++ Er8) ++ Er9) ++ Er10) ++ Er11) r br11 (gro cap Lr11.length) gr11 Lr11 (nI 0) 0 hur11 (by omega) (by omega) (by omega) rfl) (lw_V q1503 q562 q563 q130 q564) (by decide +kernel) (o_recv C h (RC := RX2) (T := TX2) (N := 2) (List.mem_of_getElem? (i := 0) rfl) rfl) (by decide) (by decide) rfl hl rfl (Nat.le_of_ble_eq_true rfl) dX1_putFront_121 (by omega) (fun urr12 H locs hur12 h => ?_)
  obtain ⟨br12, gr12, Er12⟩ := urr12
  obtain ⟨Lr12, hLr12⟩ : ∃ z, z = Lr11 ++ [0] := ⟨_, rfl⟩
  dsimp only at hur12 h
  rw [← hLr12] at h hur12 hnlr12
  have hger12 : gro (gro cap Lr11.length) Lr12.length = gro cap Lr12.length := gro_gro (by omega) (by omega)
  rw [hger12] at h hur12
  have hclr12 : rC cap (Lr11.length + 1) = rC cap Lr12.length ∧ rS cap (Lr11.length + 1) = rS cap Lr12.length := by rw [hLr12, hnqr12]; exact ⟨rfl, rfl⟩
  have h : Wd D B s ([(r, .inr (1, [.ref br12, .int (nI Lr12.length)])), (br12, bar dA (gro cap Lr12.length) gr12)] ++ ((((((((((((F ++ Er1) ++ Er2) ++ Er3) ++ Er4) ++ Er5) ++ Er6) ++ Er7) ++ Er8) ++ Er9) ++ Er10) ++ Er11) ++ Er12)) H locs := h
  refine W.widen (k := 0 + rC cap Lr12.length) (n := 0 + rS cap Lr12.length) (by omega) (by omega) ?_
  refine lv_iinc (v := nI 1) (lv' := [(2, .int (nI 1)), (0, .ref me), (1, .ref n.1)]) hx hb dX1_putFront_124 hl (k := 0) rfl (by decide) (by decide) rfl (fun ls hl => ?_)
  refine lv_goto (tgt := 111) hx hb dX1_putFront_127 (by decide) ?_
  refine lv_iload_n hx hb dX1_putFront_111 rfl (lv_at hl 0 rfl) ?_
  refine lv_iconst (v := nI 5) hx hb dX1_putFront_112 (by decide) ?_
  refine n_icmp_ge (tgt := 130) hx hb (by omega) (by omega) dX1_putFront_113 (by decide) (fun c113 => by exfalso; omega) (fun c113 => ?_)
  refine lv_aload_n hx hb dX1_putFront_116 rfl (lv_at hl 1 rfl) ?_
  refine o_get C h (RC := RX1) (T := TX1) (N := 14) (List.mem_append_right _ (List.mem_append_left _ (List.mem_append_left _ (List.mem_append_left _ (List.mem_append_left _ (List.mem_append_left _ (List.mem_append_left _ (List.mem_append_left _ (List.mem_append_left _ (List.mem_append_left _ (List.mem_append_left _ (List.mem_append_left _ (List.mem_append_left _ hme))))))))))))) rfl in_X1 3 (by decide) q311 rfl (v := .ref r) rfl dX1_putFront_117 ?_
  refine lv_iconst (v := nI 0) hx hb dX1_putFront_120 (by decide) ?_
  have hnlr13 : (Lr12 ++ [0]).length = Lr12.length + 1 := by rw [List.length_append]; rfl
  have hnqr13 : (Lr12.length + 1) = (Lr12 ++ [0]).length := hnlr13.symm
  have hcbr13 := gro_b (cap := cap) (m := Lr12.length) (by omega)
  have hcar13 := rC_add (cap := cap) (m := Lr12.length) (m' := (Lr12.length + 1)) (by omega) (by omega)
  have hcmr13 := rC_mono (cap := cap) (m := (Lr12.length + 1)) (m' := (lt ++ frnB (sha1 (keyMsg n.2.1)) dcl).length) (by omega) (by omega)
  refine call_VR (As := [.int (nI 0)]) (rest := []) (n := 1) C h (c2_put l D dA B Z hZ ((((((((((((F ++ Er1) ++ Er2) ++ Er3) ++ Er4) ++ Er5) ++ Er6) ++ Er7) ++ Er8) ++ Er9) ++ Er10) ++ Er11) ++ Er12) r br12 (gro cap Lr12.length) gr12 Lr12 (nI 0) 0 hur12 (by omega) (by omega) (by omega) rfl) (lw_V q1503 q562 q563 q130 q564) (by decide +kernel) (o_recv C h (RC := RX2) (T := TX2) (N := 2) (List.mem_of_getElem? (i := 0) rfl) rfl) (by decide) (by decide) rfl hl rfl (Nat.le_of_ble_eq_true rfl) dX1_putFront_121 (by omega) (fun urr13 H locs hur13 h => ?_)
  obtain ⟨br13, gr13, Er13⟩ := urr13
  obtain ⟨Lr13, hLr13⟩ : ∃ z, z = Lr12 ++ [0] := ⟨_, rfl⟩
  dsimp only at hur13 h
  rw [← hLr13] at h hur13 hnlr13
  have hger13 : gro (gro cap Lr12.length) Lr13.length = gro cap Lr13.length := gro_gro (by omega) (by omega)
  rw [hger13] at h hur13
  have hclr13 : rC cap (Lr12.length + 1) = rC cap Lr13.length ∧ rS cap (Lr12.length + 1) = rS cap Lr13.length := by rw [hLr13, hnqr13]; exact ⟨rfl, rfl⟩
  have h : Wd D B s ([(r, .inr (1, [.ref br13, .int (nI Lr13.length)])), (br13, bar dA (gro cap Lr13.length) gr13)] ++ (((((((((((((F ++ Er1) ++ Er2) ++ Er3) ++ Er4) ++ Er5) ++ Er6) ++ Er7) ++ Er8) ++ Er9) ++ Er10) ++ Er11) ++ Er12) ++ Er13)) H locs := h
  refine W.widen (k := 0 + rC cap Lr13.length) (n := 0 + rS cap Lr13.length) (by omega) (by omega) ?_
  refine lv_iinc (v := nI 2) (lv' := [(2, .int (nI 2)), (0, .ref me), (1, .ref n.1)]) hx hb dX1_putFront_124 hl (k := 0) rfl (by decide) (by decide) rfl (fun ls hl => ?_)
  refine lv_goto (tgt := 111) hx hb dX1_putFront_127 (by decide) ?_
  refine lv_iload_n hx hb dX1_putFront_111 rfl (lv_at hl 0 rfl) ?_
  refine lv_iconst (v := nI 5) hx hb dX1_putFront_112 (by decide) ?_
  refine n_icmp_ge (tgt := 130) hx hb (by omega) (by omega) dX1_putFront_113 (by decide) (fun c113 => by exfalso; omega) (fun c113 => ?_)
  refine lv_aload_n hx hb dX1_putFront_116 rfl (lv_at hl 1 rfl) ?_
  refine o_get C h (RC := RX1) (T := TX1) (N := 14) (List.mem_append_right _ (List.mem_append_left _ (List.mem_append_left _ (List.mem_append_left _ (List.mem_append_left _ (List.mem_append_left _ (List.mem_append_left _ (List.mem_append_left _ (List.mem_append_left _ (List.mem_append_left _ (List.mem_append_left _ (List.mem_append_left _ (List.mem_append_left _ (List.mem_append_left _ hme)))))))))))))) rfl in_X1 3 (by decide) q311 rfl (v := .ref r) rfl dX1_putFront_117 ?_
  refine lv_iconst (v := nI 0) hx hb dX1_putFront_120 (by decide) ?_
  have hnlr14 : (Lr13 ++ [0]).length = Lr13.length + 1 := by rw [List.length_append]; rfl
  have hnqr14 : (Lr13.length + 1) = (Lr13 ++ [0]).length := hnlr14.symm
  have hcbr14 := gro_b (cap := cap) (m := Lr13.length) (by omega)
  have hcar14 := rC_add (cap := cap) (m := Lr13.length) (m' := (Lr13.length + 1)) (by omega) (by omega)
  have hcmr14 := rC_mono (cap := cap) (m := (Lr13.length + 1)) (m' := (lt ++ frnB (sha1 (keyMsg n.2.1)) dcl).length) (by omega) (by omega)
  refine call_VR (As := [.int (nI 0)]) (rest := []) (n := 1) C h (c2_put l D dA B Z hZ (((((((((((((F ++ Er1) ++ Er2) ++ Er3) ++ Er4) ++ Er5) ++ Er6) ++ Er7) ++ Er8) ++ Er9) ++ Er10) ++ Er11) ++ Er12) ++ Er13) r br13 (gro cap Lr13.length) gr13 Lr13 (nI 0) 0 hur13 (by omega) (by omega) (by omega) rfl) (lw_V q1503 q562 q563 q130 q564) (by decide +kernel) (o_recv C h (RC := RX2) (T := TX2) (N := 2) (List.mem_of_getElem? (i := 0) rfl) rfl) (by decide) (by decide) rfl hl rfl (Nat.le_of_ble_eq_true rfl) dX1_putFront_121 (by omega) (fun urr14 H locs hur14 h => ?_)
  obtain ⟨br14, gr14, Er14⟩ := urr14
  obtain ⟨Lr14, hLr14⟩ : ∃ z, z = Lr13 ++ [0] := ⟨_, rfl⟩
  dsimp only at hur14 h
  rw [← hLr14] at h hur14 hnlr14
  have hger14 : gro (gro cap Lr13.length) Lr14.length = gro cap Lr14.length := gro_gro (by omega) (by omega)
  rw [hger14] at h hur14
  have hclr14 : rC cap (Lr13.length + 1) = rC cap Lr14.length ∧ rS cap (Lr13.length + 1) = rS cap Lr14.length := by rw [hLr14, hnqr14]; exact ⟨rfl, rfl⟩
  have h : Wd D B s ([(r, .inr (1, [.ref br14, .int (nI Lr14.length)])), (br14, bar dA (gro cap Lr14.length) gr14)] ++ ((((((((((((((F ++ Er1) ++ Er2) ++ Er3) ++ Er4) ++ Er5) ++ Er6) ++ Er7) ++ Er8) ++ Er9) ++ Er10) ++ Er11) ++ Er12) ++ Er13) ++ Er14)) H locs := h
  refine W.widen (k := 0 + rC cap Lr14.length) (n := 0 + rS cap Lr14.length) (by omega) (by omega) ?_
  refine lv_iinc (v := nI 3) (lv' := [(2, .int (nI 3)), (0, .ref me), (1, .ref n.1)]) hx hb dX1_putFront_124 hl (k := 0) rfl (by decide) (by decide) rfl (fun ls hl => ?_)
  refine lv_goto (tgt := 111) hx hb dX1_putFront_127 (by decide) ?_
  refine lv_iload_n hx hb dX1_putFront_111 rfl (lv_at hl 0 rfl) ?_
  refine lv_iconst (v := nI 5) hx hb dX1_putFront_112 (by decide) ?_
  refine n_icmp_ge (tgt := 130) hx hb (by omega) (by omega) dX1_putFront_113 (by decide) (fun c113 => by exfalso; omega) (fun c113 => ?_)
  refine lv_aload_n hx hb dX1_putFront_116 rfl (lv_at hl 1 rfl) ?_
  refine o_get C h (RC := RX1) (T := TX1) (N := 14) (List.mem_append_right _ (List.mem_append_left _ (List.mem_append_left _ (List.mem_append_left _ (List.mem_append_left _ (List.mem_append_left _ (List.mem_append_left _ (List.mem_append_left _ (List.mem_append_left _ (List.mem_append_left _ (List.mem_append_left _ (List.mem_append_left _ (List.mem_append_left _ (List.mem_append_left _ (List.mem_append_left _ hme))))))))))))))) rfl in_X1 3 (by decide) q311 rfl (v := .ref r) rfl dX1_putFront_117 ?_
  refine lv_iconst (v := nI 0) hx hb dX1_putFront_120 (by decide) ?_
  have hnlr15 : (Lr14 ++ [0]).length = Lr14.length + 1 := by rw [List.length_append]; rfl
  have hnqr15 : (Lr14.length + 1) = (Lr14 ++ [0]).length := hnlr15.symm
  have hcbr15 := gro_b (cap := cap) (m := Lr14.length) (by omega)
  have hcar15 := rC_add (cap := cap) (m := Lr14.length) (m' := (Lr14.length + 1)) (by omega) (by omega)
  have hcmr15 := rC_mono (cap := cap) (m := (Lr14.length + 1)) (m' := (lt ++ frnB (sha1 (keyMsg n.2.1)) dcl).length) (by omega) (by omega)
  refine call_VR (As := [.int (nI 0)]) (rest := []) (n := 1) C h (c2_put l D dA B Z hZ ((((((((((((((F ++ Er1) ++ Er2) ++ Er3) ++ Er4) ++ Er5) ++ Er6) ++ Er7) ++ Er8) ++ Er9) ++ Er10) ++ Er11) ++ Er12) ++ Er13) ++ Er14) r br14 (gro cap Lr14.length) gr14 Lr14 (nI 0) 0 hur14 (by omega) (by omega) (by omega) rfl) (lw_V q1503 q562 q563 q130 q564) (by decide +kernel) (o_recv C h (RC := RX2) (T := TX2) (N := 2) (List.mem_of_getElem? (i := 0) rfl) rfl) (by decide) (by decide) rfl hl rfl (Nat.le_of_ble_eq_true rfl) dX1_putFront_121 (by omega) (fun urr15 H locs hur15 h => ?_)
  obtain ⟨br15, gr15, Er15⟩ := urr15
  obtain ⟨Lr15, hLr15⟩ : ∃ z, z = Lr14 ++ [0] := ⟨_, rfl⟩
  dsimp only at hur15 h
  rw [← hLr15] at h hur15 hnlr15
  have hger15 : gro (gro cap Lr14.length) Lr15.length = gro cap Lr15.length := gro_gro (by omega) (by omega)
  rw [hger15] at h hur15
  have hclr15 : rC cap (Lr14.length + 1) = rC cap Lr15.length ∧ rS cap (Lr14.length + 1) = rS cap Lr15.length := by rw [hLr15, hnqr15]; exact ⟨rfl, rfl⟩
  have h : Wd D B s ([(r, .inr (1, [.ref br15, .int (nI Lr15.length)])), (br15, bar dA (gro cap Lr15.length) gr15)] ++ (((((((((((((((F ++ Er1) ++ Er2) ++ Er3) ++ Er4) ++ Er5) ++ Er6) ++ Er7) ++ Er8) ++ Er9) ++ Er10) ++ Er11) ++ Er12) ++ Er13) ++ Er14) ++ Er15)) H locs := h
  refine W.widen (k := 0 + rC cap Lr15.length) (n := 0 + rS cap Lr15.length) (by omega) (by omega) ?_
  refine lv_iinc (v := nI 4) (lv' := [(2, .int (nI 4)), (0, .ref me), (1, .ref n.1)]) hx hb dX1_putFront_124 hl (k := 0) rfl (by decide) (by decide) rfl (fun ls hl => ?_)
  refine lv_goto (tgt := 111) hx hb dX1_putFront_127 (by decide) ?_
  refine lv_iload_n hx hb dX1_putFront_111 rfl (lv_at hl 0 rfl) ?_
  refine lv_iconst (v := nI 5) hx hb dX1_putFront_112 (by decide) ?_
  refine n_icmp_ge (tgt := 130) hx hb (by omega) (by omega) dX1_putFront_113 (by decide) (fun c113 => by exfalso; omega) (fun c113 => ?_)
  refine lv_aload_n hx hb dX1_putFront_116 rfl (lv_at hl 1 rfl) ?_
  refine o_get C h (RC := RX1) (T := TX1) (N := 14) (List.mem_append_right _ (List.mem_append_left _ (List.mem_append_left _ (List.mem_append_left _ (List.mem_append_left _ (List.mem_append_left _ (List.mem_append_left _ (List.mem_append_left _ (List.mem_append_left _ (List.mem_append_left _ (List.mem_append_left _ (List.mem_append_left _ (List.mem_append_left _ (List.mem_append_left _ (List.mem_append_left _ (List.mem_append_left _ hme)))))))))))))))) rfl in_X1 3 (by decide) q311 rfl (v := .ref r) rfl dX1_putFront_117 ?_
  refine lv_iconst (v := nI 0) hx hb dX1_putFront_120 (by decide) ?_
  have hnlr16 : (Lr15 ++ [0]).length = Lr15.length + 1 := by rw [List.length_append]; rfl
  have hnqr16 : (Lr15.length + 1) = (Lr15 ++ [0]).length := hnlr16.symm
  have hcbr16 := gro_b (cap := cap) (m := Lr15.length) (by omega)
  have hcar16 := rC_add (cap := cap) (m := Lr15.length) (m' := (Lr15.length + 1)) (by omega) (by omega)
  have hcmr16 := rC_mono (cap := cap) (m := (Lr15.length + 1)) (m' := (lt ++ frnB (sha1 (keyMsg n.2.1)) dcl).length) (by omega) (by omega)
  refine call_VR (As := [.int (nI 0)]) (rest := []) (n := 1) C h (c2_put l D dA B Z hZ (((((((((((((((F ++ Er1) ++ Er2) ++ Er3) ++ Er4) ++ Er5) ++ Er6) ++ Er7) ++ Er8) ++ Er9) ++ Er10) ++ Er11) ++ Er12) ++ Er13) ++ Er14) ++ Er15) r br15 (gro cap Lr15.length) gr15 Lr15 (nI 0) 0 hur15 (by omega) (by omega) (by omega) rfl) (lw_V q1503 q562 q563 q130 q564) (by decide +kernel) (o_recv C h (RC := RX2) (T := TX2) (N := 2) (List.mem_of_getElem? (i := 0) rfl) rfl) (by decide) (by decide) rfl hl rfl (Nat.le_of_ble_eq_true rfl) dX1_putFront_121 (by omega) (fun urr16 H locs hur16 h => ?_)
  obtain ⟨br16, gr16, Er16⟩ := urr16
  obtain ⟨Lr16, hLr16⟩ : ∃ z, z = Lr15 ++ [0] := ⟨_, rfl⟩
  dsimp only at hur16 h
  rw [← hLr16] at h hur16 hnlr16
  have hger16 : gro (gro cap Lr15.length) Lr16.length = gro cap Lr16.length := gro_gro (by omega) (by omega)
  rw [hger16] at h hur16
  have hclr16 : rC cap (Lr15.length + 1) = rC cap Lr16.length ∧ rS cap (Lr15.length + 1) = rS cap Lr16.length := by rw [hLr16, hnqr16]; exact ⟨rfl, rfl⟩
  have h : Wd D B s ([(r, .inr (1, [.ref br16, .int (nI Lr16.length)])), (br16, bar dA (gro cap Lr16.length) gr16)] ++ ((((((((((((((((F ++ Er1) ++ Er2) ++ Er3) ++ Er4) ++ Er5) ++ Er6) ++ Er7) ++ Er8) ++ Er9) ++ Er10) ++ Er11) ++ Er12) ++ Er13) ++ Er14) ++ Er15) ++ Er16)) H locs := h
  refine W.widen (k := 0 + rC cap Lr16.length) (n := 0 + rS cap Lr16.length) (by omega) (by omega) ?_
  refine lv_iinc (v := nI 5) (lv' := [(2, .int (nI 5)), (0, .ref me), (1, .ref n.1)]) hx hb dX1_putFront_124 hl (k := 0) rfl (by decide) (by decide) rfl (fun ls hl => ?_)
  refine lv_goto (tgt := 111) hx hb dX1_putFront_127 (by decide) ?_
  refine lv_iload_n hx hb dX1_putFront_111 rfl (lv_at hl 0 rfl) ?_
  refine lv_iconst (v := nI 5) hx hb dX1_putFront_112 (by decide) ?_
  refine n_icmp_ge (tgt := 130) hx hb (by omega) (by omega) dX1_putFront_113 (by decide) (fun c113 => ?_) (fun c113 => by exfalso; omega)
  refine lv_aload_n hx hb dX1_putFront_130 rfl (lv_at hl 1 rfl) ?_
  refine o_get C h (RC := RX1) (T := TX1) (N := 14) (List.mem_append_right _ (List.mem_append_left _ (List.mem_append_left _ (List.mem_append_left _ (List.mem_append_left _ (List.mem_append_left _ (List.mem_append_left _ (List.mem_append_left _ (List.mem_append_left _ (List.mem_append_left _ (List.mem_append_left _ (List.mem_append_left _ (List.mem_append_left _ (List.mem_append_left _ (List.mem_append_left _ (List.mem_append_left _ (List.mem_append_left _ hme))))))))))))))))) rfl in_X1 3 (by decide) q311 rfl (v := .ref r) rfl dX1_putFront_131 ?_
  refine lv_aload_n hx hb dX1_putFront_134 rfl (lv_at hl 1 rfl) ?_
  refine o_get C h (RC := RX1) (T := TX1) (N := 14) (List.mem_append_right _ (List.mem_append_left _ (List.mem_append_left _ (List.mem_append_left _ (List.mem_append_left _ (List.mem_append_left _ (List.mem_append_left _ (List.mem_append_left _ (List.mem_append_left _ (List.mem_append_left _ (List.mem_append_left _ (List.mem_append_left _ (List.mem_append_left _ (List.mem_append_left _ (List.mem_append_left _ (List.mem_append_left _ (List.mem_append_left _ hme))))))))))))))))) rfl in_X1 2 (by decide) q310 rfl (v := .ref dc) rfl dX1_putFront_135 ?_
  refine lv_iconst (v := nI 0) hx hb dX1_putFront_138 (by decide) ?_
  refine lv_aload_n hx hb dX1_putFront_139 rfl (lv_at hl 1 rfl) ?_
  refine o_get C h (RC := RX1) (T := TX1) (N := 14) (List.mem_append_right _ (List.mem_append_left _ (List.mem_append_left _ (List.mem_append_left _ (List.mem_append_left _ (List.mem_append_left _ (List.mem_append_left _ (List.mem_append_left _ (List.mem_append_left _ (List.mem_append_left _ (List.mem_append_left _ (List.mem_append_left _ (List.mem_append_left _ (List.mem_append_left _ (List.mem_append_left _ (List.mem_append_left _ (List.mem_append_left _ hme))))))))))))))))) rfl in_X1 2 (by decide) q310 rfl (v := .ref dc) rfl dX1_putFront_140 ?_
  refine n_balen C h (List.mem_append_right _ (List.mem_append_left _ (List.mem_append_left _ (List.mem_append_left _ (List.mem_append_left _ (List.mem_append_left _ (List.mem_append_left _ (List.mem_append_left _ (List.mem_append_left _ (List.mem_append_left _ (List.mem_append_left _ (List.mem_append_left _ (List.mem_append_left _ (List.mem_append_left _ (List.mem_append_left _ (List.mem_append_left _ (List.mem_append_left _ hdc))))))))))))))))) dX1_putFront_143 ?_
  have hnlr17 : (Lr16 ++ sl (gD dcl) 0 (dcl.length - 0)).length = Lr16.length + (dcl.length - 0) := by rw [List.length_append, sl_len]
  have hcbr17 := gro_b (cap := cap) (m := Lr16.length) (by omega)
  have hcar17 := rC_add (cap := cap) (m := Lr16.length) (m' := (Lr16 ++ sl (gD dcl) 0 (dcl.length - 0)).length) (by omega) (by omega)
  have hcmr17 := rC_mono (cap := cap) (m := (Lr16 ++ sl (gD dcl) 0 (dcl.length - 0)).length) (m' := (lt ++ frnB (sha1 (keyMsg n.2.1)) dcl).length) (by omega) (by omega)
  refine call_VR (As := [.ref dc, .int (nI 0), .int (nI dcl.length)]) (rest := []) (n := 3) C h (c2_putA l D dA B Z hZ ((((((((((((((((F ++ Er1) ++ Er2) ++ Er3) ++ Er4) ++ Er5) ++ Er6) ++ Er7) ++ Er8) ++ Er9) ++ Er10) ++ Er11) ++ Er12) ++ Er13) ++ Er14) ++ Er15) ++ Er16) r br16 (gro cap Lr16.length) gr16 Lr16 dc dcl.length 0 dcl.length (gD dcl) hur16 (by omega) (List.mem_append_left _ (List.mem_append_left _ (List.mem_append_left _ (List.mem_append_left _ (List.mem_append_left _ (List.mem_append_left _ (List.mem_append_left _ (List.mem_append_left _ (List.mem_append_left _ (List.mem_append_left _ (List.mem_append_left _ (List.mem_append_left _ (List.mem_append_left _ (List.mem_append_left _ (List.mem_append_left _ (List.mem_append_left _ hdc)))))))))))))))) (by omega) (by omega) (by omega) (by omega) (by omega) (fun j _ => byt_gD hdb j)) (lw_V q557 q558 q559 q130 q560) (by decide +kernel) (o_recv C h (RC := RX2) (T := TX2) (N := 2) (List.mem_of_getElem? (i := 0) rfl) rfl) (by decide) (by decide) rfl hl rfl (Nat.le_of_ble_eq_true rfl) dX1_putFront_144 (by omega) (fun urr17 H locs hur17 h => ?_)
  obtain ⟨br17, gr17, Er17⟩ := urr17
  obtain ⟨Lr17, hLr17⟩ : ∃ z, z = Lr16 ++ sl (gD dcl) 0 (dcl.length - 0) := ⟨_, rfl⟩
  dsimp only at hur17 h
  rw [← hLr17] at h hur17 hnlr17
  have hger17 : gro (gro cap Lr16.length) Lr17.length = gro cap Lr17.length := gro_gro (by omega) (by omega)
  rw [hger17] at h hur17
  have hclr17 : rC cap (Lr16 ++ sl (gD dcl) 0 (dcl.length - 0)).length = rC cap Lr17.length ∧ rS cap (Lr16 ++ sl (gD dcl) 0 (dcl.length - 0)).length = rS cap Lr17.length := by rw [hLr17]; exact ⟨rfl, rfl⟩
  have h : Wd D B s ([(r, .inr (1, [.ref br17, .int (nI Lr17.length)])), (br17, bar dA (gro cap Lr17.length) gr17)] ++ (((((((((((((((((F ++ Er1) ++ Er2) ++ Er3) ++ Er4) ++ Er5) ++ Er6) ++ Er7) ++ Er8) ++ Er9) ++ Er10) ++ Er11) ++ Er12) ++ Er13) ++ Er14) ++ Er15) ++ Er16) ++ Er17)) H locs := h
  refine W.widen (k := 0 + rC cap Lr17.length) (n := 0 + rS cap Lr17.length) (by omega) (by omega) ?_
  subst hQ
  have hfin : Lr17 = lt ++ frnB (sha1 (keyMsg n.2.1)) dcl := by rw [hLr17, hLr16, hLr15, hLr14, hLr13, hLr12, hLr11, hLr10, hLr9, hLr8, hLr7, hLr6, hLr5, hLr4, hLr3, hLr2, hLr1, hNE, Nat.sub_zero, sl_gD]; simp only [List.append_assoc]
  have h : Wd D B s ([(r, .inr (1, [.ref br17, .int (nI Lr17.length)])), (br17, bar dA (gro cap Lr17.length) gr17)] ++ (F ++ (Er1 ++ Er2 ++ Er3 ++ Er4 ++ Er5 ++ Er6 ++ Er7 ++ Er8 ++ Er9 ++ Er10 ++ Er11 ++ Er12 ++ Er13 ++ Er14 ++ Er15 ++ Er16 ++ Er17))) H locs := h.permL (perm_add (fun g f p0 p1 p2 => by (try simp only [p0, p1, p2]) <;> omega))
  rw [hfin] at h hur17
  have hcf : rC cap Lr17.length = rC cap (lt ++ frnB (sha1 (keyMsg n.2.1)) dcl).length ∧ rS cap Lr17.length = rS cap (lt ++ frnB (sha1 (keyMsg n.2.1)) dcl).length := by rw [hfin]; exact ⟨rfl, rfl⟩
  exact ret_v C hr hlocks h (br17, gr17, Er1 ++ Er2 ++ Er3 ++ Er4 ++ Er5 ++ Er6 ++ Er7 ++ Er8 ++ Er9 ++ Er10 ++ Er11 ++ Er12 ++ Er13 ++ Er14 ++ Er15 ++ Er16 ++ Er17) hur17 rfl rfl (by omega) (by omega) dX1_putFront_147
