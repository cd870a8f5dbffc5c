set_option maxRecDepth 100000

set_option maxRecDepth 100000 in
theorem four_A {tx : List Nat} {p k m v : Nat} (hk : k ≤ m) (hm : m ≤ 3) (h1 : okF tx p (min k (m + 1)) = true) (h2 : v * 2 ^ (24 - 6 * k) = sumF tx p (min k (m + 1))) (hv : vOk (gD tx (p + k)) = true) : okF tx p (min (k + 1) (m + 1)) = true ∧ (v * 64 + vN (gD tx (p + k))) * 2 ^ (24 - 6 * (k + 1)) = sumF tx p (min (k + 1) (m + 1)) := by
  rw [Nat.min_eq_left (by omega)] at h1 h2 ⊢
  refine ⟨by rw [okF, h1, hv]; rfl, ?_⟩
  rw [sumF, ← h2]
  clear h2 h1
  have hc : k = 0 ∨ k = 1 ∨ k = 2 ∨ k = 3 := by omega
  generalize vN (gD tx (p + k)) = y
  rcases hc with rfl | rfl | rfl | rfl
  · show (v * 64 + y) * 262144 = v * 16777216 + y * 262144; rw [Nat.add_mul, Nat.mul_assoc]
  · show (v * 64 + y) * 4096 = v * 262144 + y * 4096; omega
  · show (v * 64 + y) * 64 = v * 4096 + y * 64; omega
  · show (v * 64 + y) * 1 = v * 64 + y * 1; omega
set_option maxRecDepth 100000 in
theorem four_B {tx : List Nat} {p k m v : Nat} (hk : m < k) (hk4 : k < 4) (h1 : okF tx p (min k (m + 1)) = true) (h2 : v * 2 ^ (24 - 6 * k) = sumF tx p (min k (m + 1))) : okF tx p (min (k + 1) (m + 1)) = true ∧ (v * 64 + 0) * 2 ^ (24 - 6 * (k + 1)) = sumF tx p (min (k + 1) (m + 1)) := by
  rw [Nat.min_eq_right (by omega)] at h1 h2 ⊢
  refine ⟨h1, ?_⟩
  rw [← h2]
  clear h2 h1
  have hc : k = 0 ∨ k = 1 ∨ k = 2 ∨ k = 3 := by omega
  rcases hc with rfl | rfl | rfl | rfl
  · show (v * 64 + 0) * 262144 = v * 16777216; rw [Nat.add_zero, Nat.mul_assoc]
  · show (v * 64 + 0) * 4096 = v * 262144; omega
  · show (v * 64 + 0) * 64 = v * 4096; omega
  · show (v * 64 + 0) * 1 = v * 64; omega
set_option maxRecDepth 100000 in
theorem four_v {tx : List Nat} {p k m v : Nat} (hk4 : k ≤ 4) (hm : m ≤ 3) (h1 : okF tx p (min k (m + 1)) = true) (h2 : v * 2 ^ (24 - 6 * k) = sumF tx p (min k (m + 1))) : v < 16777216 ∧ (k < 4 → v < 262144) := by
  have h3 := (sumF_lt (tx := tx) (p := p) (min k (m + 1)) (by omega) h1).1
  rw [← h2] at h3
  have hc : k = 0 ∨ k = 1 ∨ k = 2 ∨ k = 3 ∨ k = 4 := by omega
  rcases hc with rfl | rfl | rfl | rfl | rfl <;> omega
theorem okF_f {tx : List Nat} {p : Nat} : ∀ {n k : Nat}, k < n → vOk (gD tx (p + k)) = false → okF tx p n = false := by
  intro n
  induction n with
  | zero => intro k h; omega
  | succ n ih =>
    intro k h hv
    rw [okF]
    by_cases q : k = n
    · rw [← q, hv, Bool.and_false]
    · rw [ih (by omega) hv, Bool.false_and]
theorem fourF_n {tx : List Nat} {p k : Nat} (h : k ≤ manyF tx p) (hv : vOk (gD tx (p + k)) = false) : fourF tx p = none := by
  unfold fourF
  rw [if_neg]
  rintro ⟨q, -⟩
  rw [okF_f (k := k) (by omega) hv] at q
  cases q
theorem fourF_n2 {tx : List Nat} {p : Nat} (h : sumF tx p (manyF tx p + 1) % 2 ^ (24 - 8 * manyF tx p) ≠ 0) : fourF tx p = none := by
  unfold fourF
  rw [if_neg]
  rintro ⟨-, q⟩
  exact h q
theorem fourF_s {tx : List Nat} {p : Nat} (h1 : okF tx p (manyF tx p + 1) = true) (h : sumF tx p (manyF tx p + 1) % 2 ^ (24 - 8 * manyF tx p) = 0) : fourF tx p = some (sl (byF (sumF tx p (manyF tx p + 1))) 0 (manyF tx p)) := by
  unfold fourF
  rw [if_pos ⟨h1, h⟩]

set_option maxHeartbeats 400000 in
set_option maxRecDepth 100000 in
theorem c12_four (l : Launch) (D : va_G) (dA : Nat → ClassId) (B : Nat) (Z : State → Prop) (hZ : Stab B Z) (F : va_W) (li tx n0 : Nat) (gt : Nat → Nat) (lt : List Nat) (nx fr to i r b cap : Nat) (g : Nat → Nat) (lr : List Nat) (bb : List Nat) (htx : (tx, bar dA n0 gt) ∈ F) (hsb : SBis gt n0 lt) (hbt : byt lt) (hn0 : n0 < 1000000) (hl4 : lt.length ≤ 4096) (hi4 : fr + i + 4 ≤ to) (hto : to ≤ lt.length) (hsr : SBis g cap lr) (hcap : 64 ≤ cap) (hlr : lr.length < 200000) (hcm : cap < 500000) (hbb : fourF lt (fr + i) = some bb) :
    Ct (S := Nat × (Nat → Nat) × va_W) l D dA B Z yX12_four cX12_four 7 (some .boolean) 8 (rC cap (lr ++ bb).length) (rS cap (lr ++ bb).length) [.ref li, .ref r, .int (nI i)] ([(li, .inr (9, [.ref tx, .int (nI lt.length), .int (nI nx), .int (nI fr), .int (nI to)])), (r, .inr (1, [.ref b, .int (nI lr.length)])), (b, bar dA cap g)] ++ F) (fun u => SBis u.2.1 (gro cap (lr ++ bb).length) (lr ++ bb)) (fun _ => some (.int (bZ (decide (bb.length < 3))))) (fun u => [(li, .inr (9, [.ref tx, .int (nI lt.length), .int (nI nx), .int (nI fr), .int (nI to)])), (r, .inr (1, [.ref u.1, .int (nI ((lr ++ bb).length))])), (u.1, bar dA (gro cap (lr ++ bb).length) u.2.1)] ++ (F ++ u.2.2)) := by
  refine Ct.mk2 (by decide) (Nat.le_of_ble_eq_true rfl) hZ ?_
  intro p e R s m args below meth c ls Q C hr hlocks hin hQ hl h
  have C0 := C
  obtain ⟨hx, hb, hml, hown, hts, -⟩ := C0
  have hl : lv_has ls 7 [(0, .ref li), (1, .ref r), (2, .int (nI i))] := hl
  have hsl := hsb.1
  have hby0 := byt_gD hbt (fr + i + 0)
  have hby1 := byt_gD hbt (fr + i + 1)
  have hby2 := byt_gD hbt (fr + i + 2)
  have hby3 := byt_gD hbt (fr + i + 3)
  have htx9 : (tx, bar dA n0 gt) ∈ [(r, .inr (1, [.ref b, .int (nI lr.length)])), (b, bar dA cap g)] ++ F := List.mem_append_right _ htx
  have jm : ∀ (mk9 : Nat), (mk9 = manyF lt (fr + i)) → ∀ (H : Heap) (locs : List Loc), Wd D B s ([(li, .inr (9, [.ref tx, .int (nI lt.length), .int (nI nx), .int (nI fr), .int (nI to)])), (r, .inr (1, [.ref b, .int (nI lr.length)])), (b, bar dA cap g)] ++ F) H locs → ∀ (ls : Array Slot), lv_has ls 7 [(0, .ref li), (1, .ref r), (2, .int (nI i))] → W p l e R s m args below meth c H locs 0 0 Q (F0 m 33 ls [.int (nI mk9)]) := by
    intro mk9  hmk H locs h ls hl
    have hmk2 := manyF_le lt (fr + i)
    rw [← hmk] at hmk2
    have hpw := Nat.two_pow_pos (24 - 8 * mk9)
    have hpw2 : 2 ^ (24 - 8 * mk9) ≤ 2 ^ 16 := Nat.pow_le_pow_right (by decide) (by omega)
    refine lv_istore_n (lv' := [(3, .int (nI mk9)), (0, .ref li), (1, .ref r), (2, .int (nI i))]) hx hb dX12_four_33 rfl hl (by decide) rfl (fun ls hl => ?_)
    refine lv_iconst (v := nI 0) hx hb dX12_four_34 (by decide) ?_
    refine lv_istore (lv' := [(4, .int (nI 0)), (3, .int (nI mk9)), (0, .ref li), (1, .ref r), (2, .int (nI i))]) hx hb dX12_four_35 hl (by decide) rfl (fun ls hl => ?_)
    refine lv_iconst (v := nI 0) hx hb dX12_four_37 (by decide) ?_
    refine lv_istore (lv' := [(5, .int (nI 0)), (4, .int (nI 0)), (3, .int (nI mk9)), (0, .ref li), (1, .ref r), (2, .int (nI i))]) hx hb dX12_four_38 hl (by decide) rfl (fun ls hl => ?_)
    have loop : ∀ (nn : Nat) (k v : Nat), (k ≤ 4) → (okF lt (fr + i) (min k (mk9 + 1)) = true) → (v * 2 ^ (24 - 6 * k) = sumF lt (fr + i) (min k (mk9 + 1))) → 4 - k < nn → ∀ (H : Heap) (locs : List Loc), Wd D B s ([(li, .inr (9, [.ref tx, .int (nI lt.length), .int (nI nx), .int (nI fr), .int (nI to)])), (r, .inr (1, [.ref b, .int (nI lr.length)])), (b, bar dA cap g)] ++ F) H locs → ∀ (ls : Array Slot), lv_has ls 7 [(5, .int (nI k)), (4, .int (nI v)), (3, .int (nI mk9)), (0, .ref li), (1, .ref r), (2, .int (nI i))] → W p l e R s m args below meth c H locs 0 0 Q (F0 m 40 ls []) := by
      intro nn
      induction nn with
      | zero => intro k v  hk0 hk1 hk2 hme; exact absurd hme (Nat.not_lt_zero _)
      | succ nn ih =>
        intro k v  hk0 hk1 hk2 hme H locs h ls hl
        have hvb := four_v hk0 (by omega) hk1 hk2
        have hbk := byt_gD hbt (fr + i + k)
        refine lv_iload hx hb dX12_four_40 (lv_at hl 0 rfl) ?_
        refine lv_iconst (v := nI 4) hx hb dX12_four_42 (by decide) ?_
        refine n_icmp_ge (tgt := 99) hx hb (by omega) (by omega) dX12_four_43 (by decide) (fun c43 => ?_) (fun c43 => ?_)
        · have hk4 : k = 4 := by omega
          have hvs : v = sumF lt (fr + i) (manyF lt (fr + i) + 1) := by rw [hk4, Nat.min_eq_right (by omega)] at hk2; rw [← hmk, ← hk2]; omega
          have hok9 : okF lt (fr + i) (manyF lt (fr + i) + 1) = true := by rw [hk4, Nat.min_eq_right (by omega)] at hk1; rw [← hmk]; exact hk1
          have hvm := Nat.mod_le v (2 ^ (24 - 8 * mk9))
          have hone : 1 * 2 ^ (24 - 8 * mk9) < 4294967296 := by omega
          refine lv_iload hx hb dX12_four_99 (lv_at hl 1 rfl) ?_
          refine lv_iconst (v := nI 1) hx hb dX12_four_101 (by decide) ?_
          refine lv_bipush (v := nI 24) hx hb dX12_four_102 (by decide) ?_
          refine lv_bipush (v := nI 8) hx hb dX12_four_104 (by decide) ?_
          refine lv_iload_n hx hb dX12_four_106 rfl (lv_at hl 2 rfl) ?_
          refine lv_imul hx hb dX12_four_107 (n_top (y := nI (8 * mk9)) (pk_mul 8 mk9) ?_)
          refine lv_isub hx hb dX12_four_108 (n_top (y := nI (24 - (8 * mk9))) (pk_sub (by omega)) ?_)
          refine n_ishl hx hb dX12_four_109 ?_
          refine n_top (y := nI (2 ^ (24 - 8 * mk9))) (by rw [n_shlN (by omega) (by omega), Nat.one_mul]) ?_
          refine lv_iconst (v := nI 1) hx hb dX12_four_110 (by decide) ?_
          refine lv_isub hx hb dX12_four_111 (n_top (y := nI ((2 ^ (24 - 8 * mk9)) - 1)) (pk_sub (by omega)) ?_)
          refine lv_iand hx hb dX12_four_112 ?_
          refine n_top (y := nI (v % 2 ^ (24 - 8 * mk9))) (pk_andN (by omega) (24 - 8 * mk9) (pk_tn (by omega))) ?_
          refine n_if_eq (tgt := 125) hx hb (by omega) dX12_four_113 (by decide) (fun c113 => ?_) (fun c113 => ?_)
          · have hs9 := fourF_s hok9 (by rw [← hvs, ← hmk]; exact c113)
            rw [hbb] at hs9
            have hbe : bb = sl (byF v) 0 mk9 := by rw [hvs, hmk]; exact Option.some.inj hs9
            refine lv_iconst (v := nI 0) hx hb dX12_four_125 (by decide) ?_
            refine lv_istore (lv' := [(5, .int (nI 0)), (4, .int (nI v)), (3, .int (nI mk9)), (0, .ref li), (1, .ref r), (2, .int (nI i))]) hx hb dX12_four_126 hl (by decide) rfl (fun ls hl => ?_)
            have e0 : lr ++ sl (byF v) 0 0 = lr := by rw [sl_0, List.append_nil]
            have h : Wd D B s ([(li, .inr (9, [.ref tx, .int (nI lt.length), .int (nI nx), .int (nI fr), .int (nI to)])), (r, .inr (1, [.ref b, .int (nI ((lr ++ sl (byF v) 0 0).length))])), (b, bar dA cap g)] ++ (F ++ [])) H locs := by rw [e0, List.append_nil]; exact h
            have hs0 : SBis g cap (lr ++ sl (byF v) 0 0) := by rw [e0]; exact hsr
            have hg0 : cap = gro cap (lr ++ sl (byF v) 0 0).length := by rw [e0, gro_le hsr.1]
            have loopP : ∀ (nnP : Nat) (j : Nat) (b2 c2 : Nat) (g2 : Nat → Nat) (E : va_W) (cc cs : Nat), (j ≤ mk9) → (SBis g2 c2 (lr ++ sl (byF v) 0 j)) → (c2 = gro cap (lr ++ sl (byF v) 0 j).length) → (cc ≤ rC cap (lr ++ sl (byF v) 0 j).length) → (cs ≤ rS cap (lr ++ sl (byF v) 0 j).length) → mk9 - j < nnP → ∀ (H : Heap) (locs : List Loc), Wd D B s ([(li, .inr (9, [.ref tx, .int (nI lt.length), .int (nI nx), .int (nI fr), .int (nI to)])), (r, .inr (1, [.ref b2, .int (nI ((lr ++ sl (byF v) 0 j).length))])), (b2, bar dA c2 g2)] ++ (F ++ E)) H locs → ∀ (ls : Array Slot), lv_has ls 7 [(5, .int (nI j)), (4, .int (nI v)), (3, .int (nI mk9)), (0, .ref li), (1, .ref r), (2, .int (nI i))] → W p l e R s m args below meth c H locs cc cs Q (F0 m 128 ls []) := by
              intro nnP
              induction nnP with
              | zero => intro j  b2 c2  g2  E  cc cs  hj0 hs2 hc2 hcc hcs hme; exact absurd hme (Nat.not_lt_zero _)
              | succ nnP ihP =>
                intro j  b2 c2  g2  E  cc cs  hj0 hs2 hc2 hcc hcs hme H locs h ls hl
                have hlen : (lr ++ sl (byF v) 0 j).length = lr.length + j := by rw [List.length_append, sl_len]
                have hgb9 := gro_b (cap := cap) (m := (lr ++ sl (byF v) 0 j).length) (by omega)
                have hlb9 : (lr ++ bb).length = lr.length + mk9 := by rw [List.length_append, hbe, sl_len]
                refine lv_iload hx hb dX12_four_128 (lv_at hl 0 rfl) ?_
                refine lv_iload_n hx hb dX12_four_130 rfl (lv_at hl 2 rfl) ?_
                refine n_icmp_ge (tgt := 159) hx hb (by omega) (by omega) dX12_four_131 (by decide) (fun c131 => ?_) (fun c131 => ?_)
                · refine lv_iload_n hx hb dX12_four_159 rfl (lv_at hl 2 rfl) ?_
                  refine lv_iconst (v := nI 3) hx hb dX12_four_160 (by decide) ?_
                  refine n_icmp_ge (tgt := 168) hx hb (by omega) (by omega) dX12_four_161 (by decide) (fun c161 => ?_) (fun c161 => ?_)
                  · refine lv_iconst (v := nI 0) hx hb dX12_four_168 (by decide) ?_
                    subst hQ
                    have hje : j = mk9 := by omega
                    rw [hje, ← hbe] at h hs2 hc2 hcc hcs
                    rw [hc2] at h hs2
                    have hbl : bb.length = mk9 := by rw [hbe, sl_len]
                    have hd9 : decide (bb.length < 3) = false := decide_eq_false (by omega)
                    refine n_top (y := bZ false) rfl ?_
                    exact ret_z C hr hlocks h (b2, g2, E) hs2 (by rw [hd9]) rfl (by omega) (by omega) dX12_four_169
                  · refine lv_iconst (v := nI 1) hx hb dX12_four_164 (by decide) ?_
                    refine lv_goto (tgt := 169) hx hb dX12_four_165 (by decide) ?_
                    subst hQ
                    have hje : j = mk9 := by omega
                    rw [hje, ← hbe] at h hs2 hc2 hcc hcs
                    rw [hc2] at h hs2
                    have hbl : bb.length = mk9 := by rw [hbe, sl_len]
                    have hd9 : decide (bb.length < 3) = true := decide_eq_true (by omega)
                    refine n_top (y := bZ true) rfl ?_
                    exact ret_z C hr hlocks h (b2, g2, E) hs2 (by rw [hd9]) rfl (by omega) (by omega) dX12_four_169
                · have hdv := Nat.div_le_self v (2 ^ (16 - 8 * j))
                  refine lv_aload_n hx hb dX12_four_134 rfl (lv_at hl 4 rfl) ?_
                  refine lv_iload hx hb dX12_four_135 (lv_at hl 1 rfl) ?_
                  refine lv_bipush (v := nI 16) hx hb dX12_four_137 (by decide) ?_
                  refine lv_bipush (v := nI 8) hx hb dX12_four_139 (by decide) ?_
                  refine lv_iload hx hb dX12_four_141 (lv_at hl 0 rfl) ?_
                  refine lv_imul hx hb dX12_four_143 (n_top (y := nI (8 * j)) (pk_mul 8 j) ?_)
                  refine lv_isub hx hb dX12_four_144 (n_top (y := nI (16 - (8 * j))) (pk_sub (by omega)) ?_)
                  refine n_ishr hx hb dX12_four_145 ?_
                  refine n_top (y := nI (v / 2 ^ (16 - 8 * j))) (n_shrN (by omega) (by omega)) ?_
                  refine lv_sipush (v := nI 255) hx hb dX12_four_146 (by decide) ?_
                  refine lv_iand hx hb dX12_four_149 (n_top (y := nI ((v / 2 ^ (16 - 8 * j)) % 256)) (pk_andN (by omega) 8 (by decide)) ?_)
                  have h : Wd D B s ([(r, .inr (1, [.ref b2, .int (nI ((lr ++ sl (byF v) 0 j).length))])), (b2, bar dA c2 g2), (li, .inr (9, [.ref tx, .int (nI lt.length), .int (nI nx), .int (nI fr), .int (nI to)]))] ++ (F ++ E)) H locs := h.perm [1, 2, 0] rfl rfl
                  refine call_VR (As := [.int (nI ((v / 2 ^ (16 - 8 * j)) % 256))]) (rest := []) (n := 1) C h (c2_put l D dA B Z hZ ([(li, .inr (9, [.ref tx, .int (nI lt.length), .int (nI nx), .int (nI fr), .int (nI to)]))] ++ (F ++ E)) r b2 c2 g2 (lr ++ sl (byF v) 0 j) _ (byF v j) hs2 (by omega) (by omega) (by omega) rfl) (lw_V q998 q562 q563 q130 q564) (by decide +kernel) (o_recv C h (RC := RX2) (T := TX2) (N := 2) (List.mem_of_getElem? (i := 0) rfl) rfl) (by decide) (by decide) rfl hl rfl (Nat.le_of_ble_eq_true rfl) dX12_four_150 (by
                    have hcst := rC_add (cap := cap) (m := (lr ++ sl (byF v) 0 j).length) (m' := (lr ++ sl (byF v) 0 j).length + 1) (by omega) (by omega)
                    have hcs2 := rC_add (cap := cap) (m := (lr ++ sl (byF v) 0 j).length + 1) (m' := (lr ++ bb).length) (by omega) (by have z9 := hlb9; omega)
                    rw [← hc2] at hcst
                    omega) (fun u3 H locs hu3 h => ?_)
                  obtain ⟨b3, g3, E3⟩ := u3
                  dsimp only at hu3
                  have hc3 : gro c2 (lr ++ sl (byF v) 0 j ++ [byF v j]).length = gro cap (lr ++ sl (byF v) 0 j ++ [byF v j]).length := by rw [hc2]; exact gro_gro (by omega) (by simp only [List.length_append, List.length_cons, List.length_nil]; omega)
                  rw [hc3] at hu3
                  have h : Wd D B s ([(r, .inr (1, [.ref b3, .int (nI ((lr ++ sl (byF v) 0 j ++ [byF v j]).length))])), (b3, bar dA (gro cap (lr ++ sl (byF v) 0 j ++ [byF v j]).length) g3), (li, .inr (9, [.ref tx, .int (nI lt.length), .int (nI nx), .int (nI fr), .int (nI to)]))] ++ (F ++ (E ++ E3))) H locs := by rw [← hc3, ← List.append_assoc F]; exact h
                  have hcst := rC_add (cap := cap) (m := (lr ++ sl (byF v) 0 j).length) (m' := (lr ++ sl (byF v) 0 j ++ [byF v j]).length) (by omega) (by simp only [List.length_append]; omega)
                  rw [← hc2] at hcst
                  have hle3 : (lr ++ sl (byF v) 0 j ++ [byF v j]).length = (lr ++ sl (byF v) 0 j).length + 1 := by rw [List.length_append]; rfl
                  rw [hle3] at hcst
                  have e5 : lr ++ sl (byF v) 0 j ++ [byF v j] = lr ++ sl (byF v) 0 (j + 1) := by rw [sl_succ, Nat.zero_add, List.append_assoc]
                  rw [e5] at h hu3 hle3
                  have hr1 : rC cap ((lr ++ sl (byF v) 0 j).length + 1) = rC cap (lr ++ sl (byF v) 0 (j + 1)).length ∧ rS cap ((lr ++ sl (byF v) 0 j).length + 1) = rS cap (lr ++ sl (byF v) 0 (j + 1)).length := by rw [hle3]; exact ⟨rfl, rfl⟩
                  refine lv_iinc (v := nI (j + 1)) (lv' := [(5, .int (nI (j + 1))), (4, .int (nI v)), (3, .int (nI mk9)), (0, .ref li), (1, .ref r), (2, .int (nI i))]) hx hb dX12_four_153 hl (k := 0) rfl (nI_add j 1) (by decide) rfl (fun ls hl => ?_)
                  refine lv_goto (tgt := 128) hx hb dX12_four_156 (by decide) ?_
                  have h : Wd D B s ([(li, .inr (9, [.ref tx, .int (nI lt.length), .int (nI nx), .int (nI fr), .int (nI to)])), (r, .inr (1, [.ref b3, .int (nI ((lr ++ sl (byF v) 0 (j + 1)).length))])), (b3, bar dA (gro cap (lr ++ sl (byF v) 0 (j + 1)).length) g3)] ++ (F ++ (E ++ E3))) H locs := h.perm [2, 0, 1] rfl rfl
                  exact ihP (j + 1) b3 _ g3 (E ++ E3) _ _ (by omega) hu3 rfl (by omega) (by omega) (by omega) _ _ h _ (lv_sub hl [0, 1, 2, 3, 4, 5] rfl)
            exact loopP _ 0 b cap g [] _ _ (by omega) hs0 hg0 (by omega) (by omega) (Nat.lt_succ_self _) _ _ h _ (lv_sub hl [0, 1, 2, 3, 4, 5] rfl)
          · have hn9 := fourF_n2 (by rw [← hvs, ← hmk]; exact c113)
            rw [hbb] at hn9; cases hn9
        · refine lv_iload hx hb dX12_four_46 (lv_at hl 0 rfl) ?_
          refine lv_iload_n hx hb dX12_four_48 rfl (lv_at hl 2 rfl) ?_
          refine n_icmp_gt (tgt := 66) hx hb (by omega) (by omega) dX12_four_49 (by decide) (fun c49 => ?_) (fun c49 => ?_)
          · refine lv_iconst (v := nI 0) hx hb dX12_four_66 (by decide) ?_
            refine lv_istore (lv' := [(6, .int (nI 0)), (5, .int (nI k)), (4, .int (nI v)), (3, .int (nI mk9)), (0, .ref li), (1, .ref r), (2, .int (nI i))]) hx hb dX12_four_67 hl (by decide) rfl (fun ls hl => ?_)
            refine lv_iload hx hb dX12_four_69 (lv_at hl 0 rfl) ?_
            refine n_if_ge (tgt := 83) hx hb (by omega) dX12_four_71 (by decide) ?_
            refine lv_iload hx hb dX12_four_83 (lv_at hl 2 rfl) ?_
            refine lv_bipush (v := nI 6) hx hb dX12_four_85 (by decide) ?_
            refine n_ishl hx hb dX12_four_87 (n_top (y := nI (v * 64)) (pk_shlN _ 6 (by decide) (by omega)) ?_)
            refine lv_iload hx hb dX12_four_88 (lv_at hl 0 rfl) ?_
            refine lv_ior hx hb dX12_four_90 ?_
            refine n_top (y := nI (v * 64 + 0)) (by rw [Int32.or_comm]; exact n_orN (k := 6) (by decide) (by omega)) ?_
            refine lv_istore (lv' := [(4, .int (nI (v * 64 + 0))), (6, .int (nI 0)), (5, .int (nI k)), (3, .int (nI mk9)), (0, .ref li), (1, .ref r), (2, .int (nI i))]) hx hb dX12_four_91 hl (by decide) rfl (fun ls hl => ?_)
            have hnx9 := four_B (by omega) (by omega) hk1 hk2
            refine lv_iinc (v := nI (k + 1)) (lv' := [(5, .int (nI (k + 1))), (4, .int (nI (v * 64 + 0))), (6, .int (nI 0)), (3, .int (nI mk9)), (0, .ref li), (1, .ref r), (2, .int (nI i))]) hx hb dX12_four_93 hl (k := 2) rfl (nI_add k 1) (by decide) rfl (fun ls hl => ?_)
            refine lv_goto (tgt := 40) hx hb dX12_four_96 (by decide) ?_
            exact ih (k + 1) _ (by omega) hnx9.1 hnx9.2 (by omega) _ _ h _ (lv_sub hl [0, 1, 3, 4, 5, 6] rfl)
          · refine lv_aload_n hx hb dX12_four_52 rfl (lv_at hl 3 rfl) ?_
            refine lv_iload_n hx hb dX12_four_53 rfl (lv_at hl 5 rfl) ?_
            refine lv_iload hx hb dX12_four_54 (lv_at hl 0 rfl) ?_
            refine lv_iadd hx hb dX12_four_56 (n_top (y := nI (i + k)) (nI_add i k) ?_)
            refine call_VR (As := [.int (nI (i + k))]) (rest := []) (n := 1) C h (c12_at l D dA B Z hZ _ li tx lt.length nx fr to n0 gt (i + k) htx9 (fun j hj => by rw [hsb.2 j hj]; exact byt_gD hbt j) hn0 hsb.1 (by omega) (by omega) (by omega)) (lw_V q987 q988 q989 q149 q990) (by decide +kernel) (o_recv C h (RC := RX12) (T := TX12) (N := 5) (List.mem_of_getElem? (i := 0) rfl) rfl) (by decide) (by decide) rfl hl rfl (Nat.le_of_ble_eq_true rfl) dX12_four_57 (by omega) (fun _ H locs _ h => ?_)
            refine n_top (y := nI (gD lt (fr + i + k))) (congrArg nI ((hsb.2 _ (by omega)).trans (by rw [Nat.add_assoc]))) ?_
            refine call_SN (As := [.int (nI (gD lt (fr + i + k)))]) (rest := []) (n := 1) C h (c1_valueOf l D dA B Z hZ _ (gD lt (fr + i + k)) (by omega)) (lw_meth q997) q995 q996 q129 (by decide +kernel) (by decide) (by decide) rfl hl rfl (Nat.le_of_ble_eq_true rfl) dX12_four_60 (by omega) (fun _ H locs _ h => ?_)
            by_cases hv9 : vOk (gD lt (fr + i + k)) = true
            · obtain ⟨hv1, hv2⟩ := valI_vN (vOk_t hv9)
              refine n_top (y := nI (vN (gD lt (fr + i + k)))) hv1 ?_
              refine lv_goto (tgt := 67) hx hb dX12_four_63 (by decide) ?_
              refine lv_istore (lv' := [(6, .int (nI (vN (gD lt (fr + i + k))))), (5, .int (nI k)), (4, .int (nI v)), (3, .int (nI mk9)), (0, .ref li), (1, .ref r), (2, .int (nI i))]) hx hb dX12_four_67 hl (by decide) rfl (fun ls hl => ?_)
              refine lv_iload hx hb dX12_four_69 (lv_at hl 0 rfl) ?_
              refine n_if_ge (tgt := 83) hx hb (by omega) dX12_four_71 (by decide) ?_
              refine lv_iload hx hb dX12_four_83 (lv_at hl 2 rfl) ?_
              refine lv_bipush (v := nI 6) hx hb dX12_four_85 (by decide) ?_
              refine n_ishl hx hb dX12_four_87 (n_top (y := nI (v * 64)) (pk_shlN _ 6 (by decide) (by omega)) ?_)
              refine lv_iload hx hb dX12_four_88 (lv_at hl 0 rfl) ?_
              refine lv_ior hx hb dX12_four_90 ?_
              refine n_top (y := nI (v * 64 + vN (gD lt (fr + i + k)))) (by rw [Int32.or_comm]; exact n_orN (k := 6) hv2 (by omega)) ?_
              refine lv_istore (lv' := [(4, .int (nI (v * 64 + vN (gD lt (fr + i + k))))), (6, .int (nI (vN (gD lt (fr + i + k))))), (5, .int (nI k)), (3, .int (nI mk9)), (0, .ref li), (1, .ref r), (2, .int (nI i))]) hx hb dX12_four_91 hl (by decide) rfl (fun ls hl => ?_)
              have hnx9 := four_A (by omega) (by omega) hk1 hk2 hv9
              refine lv_iinc (v := nI (k + 1)) (lv' := [(5, .int (nI (k + 1))), (4, .int (nI (v * 64 + vN (gD lt (fr + i + k))))), (6, .int (nI (vN (gD lt (fr + i + k))))), (3, .int (nI mk9)), (0, .ref li), (1, .ref r), (2, .int (nI i))]) hx hb dX12_four_93 hl (k := 2) rfl (nI_add k 1) (by decide) rfl (fun ls hl => ?_)
              refine lv_goto (tgt := 40) hx hb dX12_four_96 (by decide) ?_
              exact ih (k + 1) _ (by omega) hnx9.1 hnx9.2 (by omega) _ _ h _ (lv_sub hl [0, 1, 3, 4, 5, 6] rfl)
            · have hv8 : vOk (gD lt (fr + i + k)) = false := by cases q : vOk (gD lt (fr + i + k)); rfl; exact absurd q hv9
              refine n_top (y := -1) (vOk_f hv8) ?_
              refine lv_goto (tgt := 67) hx hb dX12_four_63 (by decide) ?_
              refine lv_istore (lv' := [(6, .int (-1)), (5, .int (nI k)), (4, .int (nI v)), (3, .int (nI mk9)), (0, .ref li), (1, .ref r), (2, .int (nI i))]) hx hb dX12_four_67 hl (by decide) rfl (fun ls hl => ?_)
              refine lv_iload hx hb dX12_four_69 (lv_at hl 0 rfl) ?_
              refine lv_if_ge (tgt := 83) hx hb dX12_four_71 (by decide) (fun c71 => by exfalso; exact absurd c71 (by decide)) (fun c71 => ?_)
              have hn9 : fourF lt (fr + i) = none := fourF_n (k := k) (by omega) hv8
              rw [hbb] at hn9; cases hn9
    exact loop _ 0 0 (by omega) (by rw [Nat.min_eq_left (Nat.zero_le _)]; rfl) (by rw [Nat.min_eq_left (Nat.zero_le _)]; rfl) (Nat.lt_succ_self _) _ _ h _ (lv_sub hl [0, 1, 2, 3, 4, 5] rfl)
  refine lv_aload_n hx hb dX12_four_0 rfl (lv_at hl 0 rfl) ?_
  refine lv_iload_n hx hb dX12_four_1 rfl (lv_at hl 2 rfl) ?_
  refine lv_iconst (v := nI 3) hx hb dX12_four_2 (by decide) ?_
  refine lv_iadd hx hb dX12_four_3 (n_top (y := nI (i + 3)) (nI_add i 3) ?_)
  refine call_VR (As := [.int (nI (i + 3))]) (rest := []) (n := 1) C h (c12_at l D dA B Z hZ _ li tx lt.length nx fr to n0 gt (i + 3) htx9 (fun j hj => by rw [hsb.2 j hj]; exact byt_gD hbt j) hn0 hsb.1 (by omega) (by omega) (by omega)) (lw_V q987 q988 q989 q149 q990) (by decide +kernel) (o_recv C h (RC := RX12) (T := TX12) (N := 5) (List.mem_of_getElem? (i := 0) rfl) rfl) (by decide) (by decide) rfl hl rfl (Nat.le_of_ble_eq_true rfl) dX12_four_4 (by omega) (fun _ H locs _ h => ?_)
  refine n_top (y := nI (gD lt (fr + i + 3))) (congrArg nI ((hsb.2 _ (by omega)).trans (by rw [Nat.add_assoc]))) ?_
  refine lv_bipush (v := nI 61) hx hb dX12_four_7 (by decide) ?_
  refine n_icmp_eq (tgt := 16) hx hb (by omega) (by omega) dX12_four_9 (by decide) (fun c9 => ?_) (fun c9 => ?_)
  · refine lv_aload_n hx hb dX12_four_16 rfl (lv_at hl 0 rfl) ?_
    refine lv_iload_n hx hb dX12_four_17 rfl (lv_at hl 2 rfl) ?_
    refine lv_iconst (v := nI 2) hx hb dX12_four_18 (by decide) ?_
    refine lv_iadd hx hb dX12_four_19 (n_top (y := nI (i + 2)) (nI_add i 2) ?_)
    refine call_VR (As := [.int (nI (i + 2))]) (rest := []) (n := 1) C h (c12_at l D dA B Z hZ _ li tx lt.length nx fr to n0 gt (i + 2) htx9 (fun j hj => by rw [hsb.2 j hj]; exact byt_gD hbt j) hn0 hsb.1 (by omega) (by omega) (by omega)) (lw_V q987 q988 q989 q149 q990) (by decide +kernel) (o_recv C h (RC := RX12) (T := TX12) (N := 5) (List.mem_of_getElem? (i := 0) rfl) rfl) (by decide) (by decide) rfl hl rfl (Nat.le_of_ble_eq_true rfl) dX12_four_20 (by omega) (fun _ H locs _ h => ?_)
    refine n_top (y := nI (gD lt (fr + i + 2))) (congrArg nI ((hsb.2 _ (by omega)).trans (by rw [Nat.add_assoc]))) ?_
    refine lv_bipush (v := nI 61) hx hb dX12_four_23 (by decide) ?_
    refine n_icmp_eq (tgt := 32) hx hb (by omega) (by omega) dX12_four_25 (by decide) (fun c25 => ?_) (fun c25 => ?_)
    · refine lv_iconst (v := nI 1) hx hb dX12_four_32 (by decide) ?_
      exact jm 1 (by unfold manyF; rw [if_neg (by omega), if_neg (by omega)]) _ _ h _ (lv_sub hl [0, 1, 2] rfl)
    · refine lv_iconst (v := nI 2) hx hb dX12_four_28 (by decide) ?_
      refine lv_goto (tgt := 33) hx hb dX12_four_29 (by decide) ?_
      exact jm 2 (by unfold manyF; rw [if_neg (by omega), if_pos c25]) _ _ h _ (lv_sub hl [0, 1, 2] rfl)
  · refine lv_iconst (v := nI 3) hx hb dX12_four_12 (by decide) ?_
    refine lv_goto (tgt := 33) hx hb dX12_four_13 (by decide) ?_
    exact jm 3 (by unfold manyF; rw [if_pos c9]) _ _ h _ (lv_sub hl [0, 1, 2] rfl)
set_option maxHeartbeats 400000 in
set_option maxRecDepth 100000 in
theorem c12_fourX (l : Launch) (D : va_G) (dA : Nat → ClassId) (B : Nat) (Z : State → Prop) (hZ : Stab B Z) (F : va_W) (li tx n0 : Nat) (gt : Nat → Nat) (lt : List Nat) (nx fr to i r b cap : Nat) (g : Nat → Nat) (lr : List Nat) (hlt : l.stackTraces = false) (hzx : ZX B Z) (htx : (tx, bar dA n0 gt) ∈ F) (hsb : SBis gt n0 lt) (hbt : byt lt) (hn0 : n0 < 1000000) (hl4 : lt.length ≤ 4096) (hi4 : fr + i + 4 ≤ to) (hto : to ≤ lt.length) (hsr : SBis g cap lr) (hcap : 64 ≤ cap) (hlr : lr.length < 200000) (hcm : cap < 500000) (hbb : fourF lt (fr + i) = none) :
    CtX (S := Unit) (SX := Nat × (Nat → Value)) l D dA B Z yX12_four cX12_four 7 (some .boolean) 8 1 7 [.ref li, .ref r, .int (nI i)] ([(li, .inr (9, [.ref tx, .int (nI lt.length), .int (nI nx), .int (nI fr), .int (nI to)])), (r, .inr (1, [.ref b, .int (nI lr.length)])), (b, bar dA cap g)] ++ F) (fun _ => False) (fun _ => none) (fun _ => [(li, .inr (9, [.ref tx, .int (nI lt.length), .int (nI nx), .int (nI fr), .int (nI to)])), (r, .inr (1, [.ref b, .int (nI lr.length)])), (b, bar dA cap g)] ++ F) (fun _ => True) (fun u => u.1) (fun _ => "SignetRing$Fault") (fun u => [(li, .inr (9, [.ref tx, .int (nI lt.length), .int (nI nx), .int (nI fr), .int (nI to)])), (r, .inr (1, [.ref b, .int (nI lr.length)])), (b, bar dA cap g)] ++ (F ++ [(u.1, .inr (10, fts u.2 (-100000 - nI fr)))])) := by
  refine CtX.mk2 (by decide) (Nat.le_of_ble_eq_true rfl) hZ ?_
  intro p e R s m args below meth c ls Q C hr hlocks hin hex hQ hl h
  have C0 := C
  obtain ⟨hx, hb, hml, hown, hts, -⟩ := C0
  have hl : lv_has ls 7 [(0, .ref li), (1, .ref r), (2, .int (nI i))] := hl
  have hsl := hsb.1
  have hby0 := byt_gD hbt (fr + i + 0)
  have hby1 := byt_gD hbt (fr + i + 1)
  have hby2 := byt_gD hbt (fr + i + 2)
  have hby3 := byt_gD hbt (fr + i + 3)
  have htx9 : (tx, bar dA n0 gt) ∈ [(r, .inr (1, [.ref b, .int (nI lr.length)])), (b, bar dA cap g)] ++ F := List.mem_append_right _ htx
  have jm : ∀ (mk9 : Nat), (mk9 = manyF lt (fr + i)) → ∀ (H : Heap) (locs : List Loc), Wd D B s ([(li, .inr (9, [.ref tx, .int (nI lt.length), .int (nI nx), .int (nI fr), .int (nI to)])), (r, .inr (1, [.ref b, .int (nI lr.length)])), (b, bar dA cap g)] ++ F) H locs → ∀ (ls : Array Slot), lv_has ls 7 [(0, .ref li), (1, .ref r), (2, .int (nI i))] → W p l e R s m args below meth c H locs 0 0 Q (F0 m 33 ls [.int (nI mk9)]) := by
    intro mk9  hmk H locs h ls hl
    have hmk2 := manyF_le lt (fr + i)
    rw [← hmk] at hmk2
    have hpw := Nat.two_pow_pos (24 - 8 * mk9)
    have hpw2 : 2 ^ (24 - 8 * mk9) ≤ 2 ^ 16 := Nat.pow_le_pow_right (by decide) (by omega)
    refine lv_istore_n (lv' := [(3, .int (nI mk9)), (0, .ref li), (1, .ref r), (2, .int (nI i))]) hx hb dX12_four_33 rfl hl (by decide) rfl (fun ls hl => ?_)
    refine lv_iconst (v := nI 0) hx hb dX12_four_34 (by decide) ?_
    refine lv_istore (lv' := [(4, .int (nI 0)), (3, .int (nI mk9)), (0, .ref li), (1, .ref r), (2, .int (nI i))]) hx hb dX12_four_35 hl (by decide) rfl (fun ls hl => ?_)
    refine lv_iconst (v := nI 0) hx hb dX12_four_37 (by decide) ?_
    refine lv_istore (lv' := [(5, .int (nI 0)), (4, .int (nI 0)), (3, .int (nI mk9)), (0, .ref li), (1, .ref r), (2, .int (nI i))]) hx hb dX12_four_38 hl (by decide) rfl (fun ls hl => ?_)
    have loop : ∀ (nn : Nat) (k v : Nat), (k ≤ 4) → (okF lt (fr + i) (min k (mk9 + 1)) = true) → (v * 2 ^ (24 - 6 * k) = sumF lt (fr + i) (min k (mk9 + 1))) → 4 - k < nn → ∀ (H : Heap) (locs : List Loc), Wd D B s ([(li, .inr (9, [.ref tx, .int (nI lt.length), .int (nI nx), .int (nI fr), .int (nI to)])), (r, .inr (1, [.ref b, .int (nI lr.length)])), (b, bar dA cap g)] ++ F) H locs → ∀ (ls : Array Slot), lv_has ls 7 [(5, .int (nI k)), (4, .int (nI v)), (3, .int (nI mk9)), (0, .ref li), (1, .ref r), (2, .int (nI i))] → W p l e R s m args below meth c H locs 0 0 Q (F0 m 40 ls []) := by
      intro nn
      induction nn with
      | zero => intro k v  hk0 hk1 hk2 hme; exact absurd hme (Nat.not_lt_zero _)
      | succ nn ih =>
        intro k v  hk0 hk1 hk2 hme H locs h ls hl
        have hvb := four_v hk0 (by omega) hk1 hk2
        have hbk := byt_gD hbt (fr + i + k)
        refine lv_iload hx hb dX12_four_40 (lv_at hl 0 rfl) ?_
        refine lv_iconst (v := nI 4) hx hb dX12_four_42 (by decide) ?_
        refine n_icmp_ge (tgt := 99) hx hb (by omega) (by omega) dX12_four_43 (by decide) (fun c43 => ?_) (fun c43 => ?_)
        · have hk4 : k = 4 := by omega
          have hvs : v = sumF lt (fr + i) (manyF lt (fr + i) + 1) := by rw [hk4, Nat.min_eq_right (by omega)] at hk2; rw [← hmk, ← hk2]; omega
          have hok9 : okF lt (fr + i) (manyF lt (fr + i) + 1) = true := by rw [hk4, Nat.min_eq_right (by omega)] at hk1; rw [← hmk]; exact hk1
          have hvm := Nat.mod_le v (2 ^ (24 - 8 * mk9))
          have hone : 1 * 2 ^ (24 - 8 * mk9) < 4294967296 := by omega
          refine lv_iload hx hb dX12_four_99 (lv_at hl 1 rfl) ?_
          refine lv_iconst (v := nI 1) hx hb dX12_four_101 (by decide) ?_
          refine lv_bipush (v := nI 24) hx hb dX12_four_102 (by decide) ?_
          refine lv_bipush (v := nI 8) hx hb dX12_four_104 (by decide) ?_
          refine lv_iload_n hx hb dX12_four_106 rfl (lv_at hl 2 rfl) ?_
          refine lv_imul hx hb dX12_four_107 (n_top (y := nI (8 * mk9)) (pk_mul 8 mk9) ?_)
          refine lv_isub hx hb dX12_four_108 (n_top (y := nI (24 - (8 * mk9))) (pk_sub (by omega)) ?_)
          refine n_ishl hx hb dX12_four_109 ?_
          refine n_top (y := nI (2 ^ (24 - 8 * mk9))) (by rw [n_shlN (by omega) (by omega), Nat.one_mul]) ?_
          refine lv_iconst (v := nI 1) hx hb dX12_four_110 (by decide) ?_
          refine lv_isub hx hb dX12_four_111 (n_top (y := nI ((2 ^ (24 - 8 * mk9)) - 1)) (pk_sub (by omega)) ?_)
          refine lv_iand hx hb dX12_four_112 ?_
          refine n_top (y := nI (v % 2 ^ (24 - 8 * mk9))) (pk_andN (by omega) (24 - 8 * mk9) (pk_tn (by omega))) ?_
          refine n_if_eq (tgt := 125) hx hb (by omega) dX12_four_113 (by decide) (fun c113 => ?_) (fun c113 => ?_)
          · have hs9 := fourF_s hok9 (by rw [← hvs, ← hmk]; exact c113)
            rw [hbb] at hs9
            cases hs9
          · have hn9 := fourF_n2 (by rw [← hvs, ← hmk]; exact c113)
            refine lv_aload_n hx hb dX12_four_116 rfl (lv_at hl 3 rfl) ?_
            refine lv_aload_n hx hb dX12_four_117 rfl (lv_at hl 3 rfl) ?_
            refine o_get C h (RC := RX12) (T := TX12) (N := 5) (List.mem_of_getElem? (i := 0) rfl) rfl in_X12 3 (by decide) q593 rfl (v := .int (nI fr)) rfl dX12_four_118 ?_
            refine call_VR (As := [.int (nI fr)]) (rest := []) (n := 1) C h (c12_fault l D dA B Z hZ _ li fr hlt hzx) (lw_V q612 q613 q614 q149 q615) (by decide +kernel) (o_recv C h (RC := RX12) (T := TX12) (N := 5) (List.mem_of_getElem? (i := 0) rfl) rfl) (by decide) (by decide) rfl hl rfl (Nat.le_of_ble_eq_true rfl) dX12_four_121 (by omega) (fun u9 H locs _ h => ?_)
            obtain ⟨q9, x9⟩ := u9
            have h : Wd D B s ([(q9, .inr (10, fts x9 (-100000 - nI fr)))] ++ ([(li, .inr (9, [.ref tx, .int (nI lt.length), .int (nI nx), .int (nI fr), .int (nI to)])), (r, .inr (1, [.ref b, .int (nI lr.length)])), (b, bar dA cap g)] ++ F)) H locs := h
            have h : Wd D B s ([(q9, .inr (10, fts x9 (-100000 - nI fr))), (li, .inr (9, [.ref tx, .int (nI lt.length), .int (nI nx), .int (nI fr), .int (nI to)])), (r, .inr (1, [.ref b, .int (nI lr.length)])), (b, bar dA cap g)] ++ F) H locs := h
            subst hQ
            have h : Wd D B s ([(li, .inr (9, [.ref tx, .int (nI lt.length), .int (nI nx), .int (nI fr), .int (nI to)])), (r, .inr (1, [.ref b, .int (nI lr.length)])), (b, bar dA cap g)] ++ (F ++ [(q9, .inr (10, fts x9 (-100000 - nI fr)))])) H locs := Wd.toLast h
            exact x_athrow C hex hlocks h (List.mem_append_right _ (List.mem_append_right _ List.mem_cons_self)) rfl (q9, x9) rfl rfl trivial rfl (by omega) (by omega) dX12_four_124
        · refine lv_iload hx hb dX12_four_46 (lv_at hl 0 rfl) ?_
          refine lv_iload_n hx hb dX12_four_48 rfl (lv_at hl 2 rfl) ?_
          refine n_icmp_gt (tgt := 66) hx hb (by omega) (by omega) dX12_four_49 (by decide) (fun c49 => ?_) (fun c49 => ?_)
          · refine lv_iconst (v := nI 0) hx hb dX12_four_66 (by decide) ?_
            refine lv_istore (lv' := [(6, .int (nI 0)), (5, .int (nI k)), (4, .int (nI v)), (3, .int (nI mk9)), (0, .ref li), (1, .ref r), (2, .int (nI i))]) hx hb dX12_four_67 hl (by decide) rfl (fun ls hl => ?_)
            refine lv_iload hx hb dX12_four_69 (lv_at hl 0 rfl) ?_
            refine n_if_ge (tgt := 83) hx hb (by omega) dX12_four_71 (by decide) ?_
            refine lv_iload hx hb dX12_four_83 (lv_at hl 2 rfl) ?_
            refine lv_bipush (v := nI 6) hx hb dX12_four_85 (by decide) ?_
            refine n_ishl hx hb dX12_four_87 (n_top (y := nI (v * 64)) (pk_shlN _ 6 (by decide) (by omega)) ?_)
            refine lv_iload hx hb dX12_four_88 (lv_at hl 0 rfl) ?_
            refine lv_ior hx hb dX12_four_90 ?_
            refine n_top (y := nI (v * 64 + 0)) (by rw [Int32.or_comm]; exact n_orN (k := 6) (by decide) (by omega)) ?_
            refine lv_istore (lv' := [(4, .int (nI (v * 64 + 0))), (6, .int (nI 0)), (5, .int (nI k)), (3, .int (nI mk9)), (0, .ref li), (1, .ref r), (2, .int (nI i))]) hx hb dX12_four_91 hl (by decide) rfl (fun ls hl => ?_)
            have hnx9 := four_B (by omega) (by omega) hk1 hk2
            refine lv_iinc (v := nI (k + 1)) (lv' := [(5, .int (nI (k + 1))), (4, .int (nI (v * 64 + 0))), (6, .int (nI 0)), (3, .int (nI mk9)), (0, .ref li), (1, .ref r), (2, .int (nI i))]) hx hb dX12_four_93 hl (k := 2) rfl (nI_add k 1) (by decide) rfl (fun ls hl => ?_)
            refine lv_goto (tgt := 40) hx hb dX12_four_96 (by decide) ?_
            exact ih (k + 1) _ (by omega) hnx9.1 hnx9.2 (by omega) _ _ h _ (lv_sub hl [0, 1, 3, 4, 5, 6] rfl)
          · refine lv_aload_n hx hb dX12_four_52 rfl (lv_at hl 3 rfl) ?_
            refine lv_iload_n hx hb dX12_four_53 rfl (lv_at hl 5 rfl) ?_
            refine lv_iload hx hb dX12_four_54 (lv_at hl 0 rfl) ?_
            refine lv_iadd hx hb dX12_four_56 (n_top (y := nI (i + k)) (nI_add i k) ?_)
            refine call_VR (As := [.int (nI (i + k))]) (rest := []) (n := 1) C h (c12_at l D dA B Z hZ _ li tx lt.length nx fr to n0 gt (i + k) htx9 (fun j hj => by rw [hsb.2 j hj]; exact byt_gD hbt j) hn0 hsb.1 (by omega) (by omega) (by omega)) (lw_V q987 q988 q989 q149 q990) (by decide +kernel) (o_recv C h (RC := RX12) (T := TX12) (N := 5) (List.mem_of_getElem? (i := 0) rfl) rfl) (by decide) (by decide) rfl hl rfl (Nat.le_of_ble_eq_true rfl) dX12_four_57 (by omega) (fun _ H locs _ h => ?_)
            refine n_top (y := nI (gD lt (fr + i + k))) (congrArg nI ((hsb.2 _ (by omega)).trans (by rw [Nat.add_assoc]))) ?_
            refine call_SN (As := [.int (nI (gD lt (fr + i + k)))]) (rest := []) (n := 1) C h (c1_valueOf l D dA B Z hZ _ (gD lt (fr + i + k)) (by omega)) (lw_meth q997) q995 q996 q129 (by decide +kernel) (by decide) (by decide) rfl hl rfl (Nat.le_of_ble_eq_true rfl) dX12_four_60 (by omega) (fun _ H locs _ h => ?_)
            by_cases hv9 : vOk (gD lt (fr + i + k)) = true
            · obtain ⟨hv1, hv2⟩ := valI_vN (vOk_t hv9)
              refine n_top (y := nI (vN (gD lt (fr + i + k)))) hv1 ?_
              refine lv_goto (tgt := 67) hx hb dX12_four_63 (by decide) ?_
              refine lv_istore (lv' := [(6, .int (nI (vN (gD lt (fr + i + k))))), (5, .int (nI k)), (4, .int (nI v)), (3, .int (nI mk9)), (0, .ref li), (1, .ref r), (2, .int (nI i))]) hx hb dX12_four_67 hl (by decide) rfl (fun ls hl => ?_)
              refine lv_iload hx hb dX12_four_69 (lv_at hl 0 rfl) ?_
              refine n_if_ge (tgt := 83) hx hb (by omega) dX12_four_71 (by decide) ?_
              refine lv_iload hx hb dX12_four_83 (lv_at hl 2 rfl) ?_
              refine lv_bipush (v := nI 6) hx hb dX12_four_85 (by decide) ?_
              refine n_ishl hx hb dX12_four_87 (n_top (y := nI (v * 64)) (pk_shlN _ 6 (by decide) (by omega)) ?_)
              refine lv_iload hx hb dX12_four_88 (lv_at hl 0 rfl) ?_
              refine lv_ior hx hb dX12_four_90 ?_
              refine n_top (y := nI (v * 64 + vN (gD lt (fr + i + k)))) (by rw [Int32.or_comm]; exact n_orN (k := 6) hv2 (by omega)) ?_
              refine lv_istore (lv' := [(4, .int (nI (v * 64 + vN (gD lt (fr + i + k))))), (6, .int (nI (vN (gD lt (fr + i + k))))), (5, .int (nI k)), (3, .int (nI mk9)), (0, .ref li), (1, .ref r), (2, .int (nI i))]) hx hb dX12_four_91 hl (by decide) rfl (fun ls hl => ?_)
              have hnx9 := four_A (by omega) (by omega) hk1 hk2 hv9
              refine lv_iinc (v := nI (k + 1)) (lv' := [(5, .int (nI (k + 1))), (4, .int (nI (v * 64 + vN (gD lt (fr + i + k))))), (6, .int (nI (vN (gD lt (fr + i + k))))), (3, .int (nI mk9)), (0, .ref li), (1, .ref r), (2, .int (nI i))]) hx hb dX12_four_93 hl (k := 2) rfl (nI_add k 1) (by decide) rfl (fun ls hl => ?_)
              refine lv_goto (tgt := 40) hx hb dX12_four_96 (by decide) ?_
              exact ih (k + 1) _ (by omega) hnx9.1 hnx9.2 (by omega) _ _ h _ (lv_sub hl [0, 1, 3, 4, 5, 6] rfl)
            · have hv8 : vOk (gD lt (fr + i + k)) = false := by cases q : vOk (gD lt (fr + i + k)); rfl; exact absurd q hv9
              refine n_top (y := -1) (vOk_f hv8) ?_
              refine lv_goto (tgt := 67) hx hb dX12_four_63 (by decide) ?_
              refine lv_istore (lv' := [(6, .int (-1)), (5, .int (nI k)), (4, .int (nI v)), (3, .int (nI mk9)), (0, .ref li), (1, .ref r), (2, .int (nI i))]) hx hb dX12_four_67 hl (by decide) rfl (fun ls hl => ?_)
              refine lv_iload hx hb dX12_four_69 (lv_at hl 0 rfl) ?_
              refine lv_if_ge (tgt := 83) hx hb dX12_four_71 (by decide) (fun c71 => by exfalso; exact absurd c71 (by decide)) (fun c71 => ?_)
              have hn9 : fourF lt (fr + i) = none := fourF_n (k := k) (by omega) hv8
              refine lv_aload_n hx hb dX12_four_74 rfl (lv_at hl 4 rfl) ?_
              refine lv_aload_n hx hb dX12_four_75 rfl (lv_at hl 4 rfl) ?_
              refine o_get C h (RC := RX12) (T := TX12) (N := 5) (List.mem_of_getElem? (i := 0) rfl) rfl in_X12 3 (by decide) q593 rfl (v := .int (nI fr)) rfl dX12_four_76 ?_
              refine call_VR (As := [.int (nI fr)]) (rest := []) (n := 1) C h (c12_fault l D dA B Z hZ _ li fr hlt hzx) (lw_V q612 q613 q614 q149 q615) (by decide +kernel) (o_recv C h (RC := RX12) (T := TX12) (N := 5) (List.mem_of_getElem? (i := 0) rfl) rfl) (by decide) (by decide) rfl hl rfl (Nat.le_of_ble_eq_true rfl) dX12_four_79 (by omega) (fun u9 H locs _ h => ?_)
              obtain ⟨q9, x9⟩ := u9
              have h : Wd D B s ([(q9, .inr (10, fts x9 (-100000 - nI fr)))] ++ ([(li, .inr (9, [.ref tx, .int (nI lt.length), .int (nI nx), .int (nI fr), .int (nI to)])), (r, .inr (1, [.ref b, .int (nI lr.length)])), (b, bar dA cap g)] ++ F)) H locs := h
              have h : Wd D B s ([(q9, .inr (10, fts x9 (-100000 - nI fr))), (li, .inr (9, [.ref tx, .int (nI lt.length), .int (nI nx), .int (nI fr), .int (nI to)])), (r, .inr (1, [.ref b, .int (nI lr.length)])), (b, bar dA cap g)] ++ F) H locs := h
              subst hQ
              have h : Wd D B s ([(li, .inr (9, [.ref tx, .int (nI lt.length), .int (nI nx), .int (nI fr), .int (nI to)])), (r, .inr (1, [.ref b, .int (nI lr.length)])), (b, bar dA cap g)] ++ (F ++ [(q9, .inr (10, fts x9 (-100000 - nI fr)))])) H locs := Wd.toLast h
              exact x_athrow C hex hlocks h (List.mem_append_right _ (List.mem_append_right _ List.mem_cons_self)) rfl (q9, x9) rfl rfl trivial rfl (by omega) (by omega) dX12_four_82
    exact loop _ 0 0 (by omega) (by rw [Nat.min_eq_left (Nat.zero_le _)]; rfl) (by rw [Nat.min_eq_left (Nat.zero_le _)]; rfl) (Nat.lt_succ_self _) _ _ h _ (lv_sub hl [0, 1, 2, 3, 4, 5] rfl)
  refine lv_aload_n hx hb dX12_four_0 rfl (lv_at hl 0 rfl) ?_
  refine lv_iload_n hx hb dX12_four_1 rfl (lv_at hl 2 rfl) ?_
  refine lv_iconst (v := nI 3) hx hb dX12_four_2 (by decide) ?_
  refine lv_iadd hx hb dX12_four_3 (n_top (y := nI (i + 3)) (nI_add i 3) ?_)
  refine call_VR (As := [.int (nI (i + 3))]) (rest := []) (n := 1) C h (c12_at l D dA B Z hZ _ li tx lt.length nx fr to n0 gt (i + 3) htx9 (fun j hj => by rw [hsb.2 j hj]; exact byt_gD hbt j) hn0 hsb.1 (by omega) (by omega) (by omega)) (lw_V q987 q988 q989 q149 q990) (by decide +kernel) (o_recv C h (RC := RX12) (T := TX12) (N := 5) (List.mem_of_getElem? (i := 0) rfl) rfl) (by decide) (by decide) rfl hl rfl (Nat.le_of_ble_eq_true rfl) dX12_four_4 (by omega) (fun _ H locs _ h => ?_)
  refine n_top (y := nI (gD lt (fr + i + 3))) (congrArg nI ((hsb.2 _ (by omega)).trans (by rw [Nat.add_assoc]))) ?_
  refine lv_bipush (v := nI 61) hx hb dX12_four_7 (by decide) ?_
  refine n_icmp_eq (tgt := 16) hx hb (by omega) (by omega) dX12_four_9 (by decide) (fun c9 => ?_) (fun c9 => ?_)
  · refine lv_aload_n hx hb dX12_four_16 rfl (lv_at hl 0 rfl) ?_
    refine lv_iload_n hx hb dX12_four_17 rfl (lv_at hl 2 rfl) ?_
    refine lv_iconst (v := nI 2) hx hb dX12_four_18 (by decide) ?_
    refine lv_iadd hx hb dX12_four_19 (n_top (y := nI (i + 2)) (nI_add i 2) ?_)
    refine call_VR (As := [.int (nI (i + 2))]) (rest := []) (n := 1) C h (c12_at l D dA B Z hZ _ li tx lt.length nx fr to n0 gt (i + 2) htx9 (fun j hj => by rw [hsb.2 j hj]; exact byt_gD hbt j) hn0 hsb.1 (by omega) (by omega) (by omega)) (lw_V q987 q988 q989 q149 q990) (by decide +kernel) (o_recv C h (RC := RX12) (T := TX12) (N := 5) (List.mem_of_getElem? (i := 0) rfl) rfl) (by decide) (by decide) rfl hl rfl (Nat.le_of_ble_eq_true rfl) dX12_four_20 (by omega) (fun _ H locs _ h => ?_)
    refine n_top (y := nI (gD lt (fr + i + 2))) (congrArg nI ((hsb.2 _ (by omega)).trans (by rw [Nat.add_assoc]))) ?_
    refine lv_bipush (v := nI 61) hx hb dX12_four_23 (by decide) ?_
    refine n_icmp_eq (tgt := 32) hx hb (by omega) (by omega) dX12_four_25 (by decide) (fun c25 => ?_) (fun c25 => ?_)
    · refine lv_iconst (v := nI 1) hx hb dX12_four_32 (by decide) ?_
      exact jm 1 (by unfold manyF; rw [if_neg (by omega), if_neg (by omega)]) _ _ h _ (lv_sub hl [0, 1, 2] rfl)
    · refine lv_iconst (v := nI 2) hx hb dX12_four_28 (by decide) ?_
      refine lv_goto (tgt := 33) hx hb dX12_four_29 (by decide) ?_
      exact jm 2 (by unfold manyF; rw [if_neg (by omega), if_pos c25]) _ _ h _ (lv_sub hl [0, 1, 2] rfl)
  · refine lv_iconst (v := nI 3) hx hb dX12_four_12 (by decide) ?_
    refine lv_goto (tgt := 33) hx hb dX12_four_13 (by decide) ?_
    exact jm 3 (by unfold manyF; rw [if_pos c9]) _ _ h _ (lv_sub hl [0, 1, 2] rfl)
