set_option maxRecDepth 100000

/-- how great a row's array is when it must hold m -/
def gro (cap m : Nat) : Nat := if h : 0 < cap ∧ cap < m then gro (2 * cap) m else cap
termination_by m - cap
decreasing_by omega
theorem gro_le {cap m : Nat} (h : m ≤ cap) : gro cap m = cap := by rw [gro, dif_neg (by omega)]
theorem gro_s {cap m : Nat} (h0 : 0 < cap) (h : cap < m) : gro cap m = gro (2 * cap) m := by rw [gro, dif_pos ⟨h0, h⟩]
theorem gro_ge : ∀ (n cap m : Nat), m - cap < n → 0 < cap → m ≤ gro cap m ∧ cap ≤ gro cap m ∧ gro cap m ≤ max cap (2 * m) := by
  intro n
  induction n with
  | zero => intro cap m h; omega
  | succ n ih =>
    intro cap m h h0
    by_cases q : cap < m
    · rw [gro_s h0 q]
      have := ih (2 * cap) m (by omega) (by omega)
      omega
    · rw [gro_le (by omega)]; omega
theorem gro_b {cap m : Nat} (h0 : 0 < cap) : m ≤ gro cap m ∧ cap ≤ gro cap m ∧ gro cap m ≤ max cap (2 * m) := gro_ge _ cap m (Nat.lt_succ_self _) h0
theorem gro_gr : ∀ (n cap m m' : Nat), m - cap < n → 0 < cap → m ≤ m' → gro (gro cap m) m' = gro cap m' := by
  intro n
  induction n with
  | zero => intro cap m m' h; omega
  | succ n ih =>
    intro cap m m' h h0 hm
    by_cases q : cap < m
    · rw [gro_s h0 q, gro_s (m := m') h0 (by omega)]
      exact ih (2 * cap) m m' (by omega) (by omega) hm
    · rw [gro_le (cap := cap) (m := m) (by omega)]
theorem gro_gro {cap m m' : Nat} (h0 : 0 < cap) (h : m ≤ m') : gro (gro cap m) m' = gro cap m' := gro_gr _ cap m m' (Nat.lt_succ_self _) h0 h
theorem gro_1 {cap n : Nat} (h0 : 0 < cap) (h : n = cap) : gro cap (n + 1) = 2 * cap := by rw [gro_s h0 (by omega), gro_le (by omega)]
abbrev rC (cap m : Nat) : Nat := (gro cap m - cap) / 64
abbrev rS (cap m : Nat) : Nat := 2 * (gro cap m - cap)
theorem rC_add {cap m m' : Nat} (h0 : 0 < cap) (h : m ≤ m') : rC cap m + rC (gro cap m) m' ≤ rC cap m' ∧ rS cap m + rS (gro cap m) m' ≤ rS cap m' := by
  have h1 := gro_b (m := m) h0
  have h2 := gro_b (cap := gro cap m) (m := m') (by omega)
  unfold rC rS
  rw [gro_gro h0 h] at h2 ⊢
  omega
theorem sb_mod (m : Nat) : (nI m).toInt8.toInt32 = sb_b (m % 256) := by
  unfold sb_b
  congr 1
  apply Int8.toBitVec_inj.mp
  rw [Int32.toBitVec_toInt8, Int32.toBitVec_toInt8, BitVec.signExtend_eq_setWidth_of_le _ (by decide), BitVec.signExtend_eq_setWidth_of_le _ (by decide)]
  apply BitVec.eq_of_toNat_eq
  rw [BitVec.toNat_setWidth, BitVec.toNat_setWidth]
  show (BitVec.ofNat 32 m).toNat % 2 ^ 8 = (BitVec.ofNat 32 (m % 256)).toNat % 2 ^ 8
  rw [BitVec.toNat_ofNat, BitVec.toNat_ofNat]
  omega
theorem SBis.one {g : Nat → Nat} {n : Nat} {l : List Nat} (h : SBis g n l) (v : Nat) (h1 : l.length < n) : SBis (upN g l.length v) n (l ++ [v]) := by
  refine ⟨by rw [List.length_append]; exact h1, fun j hj => ?_⟩
  rw [List.length_append] at hj
  have hj : j < l.length + 1 := hj
  rw [upN_if]
  by_cases q : j = l.length
  · rw [if_pos q, q, gD_appR (Nat.le_refl _), Nat.sub_self]; rfl
  · rw [if_neg q, gD_appL (by omega)]; exact h.2 j (by omega)
theorem SBis.cut {g : Nat → Nat} {n k : Nat} {l : List Nat} (h : SBis g n l) (h1 : l.length ≤ k) : SBis (cutF n g) k l := ⟨h1, fun j hj => by unfold cutF; rw [if_pos (Nat.lt_of_lt_of_le hj h.1)]; exact h.2 j hj⟩

theorem n_m8 (x : Int32) : x + (-8) = x - nI 8 := by rw [Int32.sub_eq_add_neg]; rfl
set_option maxHeartbeats 400000 in
set_option maxRecDepth 100000 in
theorem c2_put (l : Launch) (D : va_G) (dA : Nat → ClassId) (B : Nat) (Z : State → Prop) (hZ : Stab B Z) (F : va_W) (r b cap : Nat) (g : Nat → Nat) (lt : List Nat) (x : Int32) (v : Nat) (hsb : SBis g cap lt) (hcap : 64 ≤ cap) (hll : lt.length < 400000) (hcm : cap < 1000000) (h3 : x.toInt8.toInt32 = sb_b v) :
    Ct (S := Nat × (Nat → Nat) × va_W) l D dA B Z yX2_put_2 cX2_put_2 2 none 3 (rC cap (lt.length + 1)) (rS cap (lt.length + 1)) [.ref r, .int x] ([(r, .inr (1, [.ref b, .int (nI lt.length)])), (b, bar dA cap g)] ++ F) (fun u => SBis u.2.1 (gro cap (lt ++ [v]).length) (lt ++ [v])) (fun _ => none) (fun u => [(r, .inr (1, [.ref u.1, .int (nI ((lt ++ [v]).length))])), (u.1, bar dA (gro cap (lt ++ [v]).length) u.2.1)] ++ (F ++ u.2.2)) := by
  refine Ct.mk2 (by decide) (Nat.le_of_ble_eq_true rfl) hZ ?_
  intro p e R s m args below meth c ls Q C hr hlocks hin hQ hl h
  have C0 := C
  obtain ⟨hx, hb, hml, hown, hts, -⟩ := C0
  have hl : lv_has ls 2 [(0, .ref r), (1, .int x)] := hl
  have hsl := hsb.1
  have jr : ∀ (b2 c2 : Nat) (g2 : Nat → Nat) (E : va_W) (cc cs : Nat), (SBis g2 c2 lt) → (lt.length < c2) → (c2 = gro cap (lt.length + 1)) → (c2 < 1000000) → (cc ≤ rC cap (lt.length + 1)) → (cs ≤ rS cap (lt.length + 1)) → ∀ (H : Heap) (locs : List Loc), Wd D B s ([(r, .inr (1, [.ref b2, .int (nI lt.length)])), (b2, bar dA c2 g2)] ++ (F ++ E)) H locs → ∀ (ls : Array Slot), lv_has ls 2 [(0, .ref r), (1, .int x)] → W p l e R s m args below meth c H locs cc cs Q (F0 m 29 ls []) := by
    intro b2 c2  g2  E  cc cs  hs2 hl2 hc2 hcb hcc hcs H locs h ls hl
    refine lv_aload_n hx hb dX2_put_2_29 rfl (lv_at hl 0 rfl) ?_
    refine o_get C h (RC := RX2) (T := TX2) (N := 2) (List.mem_of_getElem? (i := 0) rfl) rfl in_X2 0 (by decide) q186 rfl (v := .ref b2) rfl dX2_put_2_30 ?_
    refine lv_aload_n hx hb dX2_put_2_33 rfl (lv_at hl 0 rfl) ?_
    refine lv_dup hx hb dX2_put_2_34 rfl ?_
    refine o_get C h (RC := RX2) (T := TX2) (N := 2) (List.mem_of_getElem? (i := 0) rfl) rfl in_X2 1 (by decide) q190 rfl (v := .int (nI lt.length)) rfl dX2_put_2_35 ?_
    refine lv_dup_x1 hx hb dX2_put_2_38 rfl rfl ?_
    refine lv_iconst (v := nI 1) hx hb dX2_put_2_39 (by decide) ?_
    refine lv_iadd hx hb dX2_put_2_40 (n_top (y := nI (lt.length + 1)) (nI_add lt.length 1) ?_)
    refine o_put C h 0 (RC := RX2) (T := TX2) (N := 2) (ws' := [(r, .inr (1, [.ref b2, .int (nI (lt.length + 1))])), (b2, bar dA c2 g2)] ++ (F ++ E)) rfl rfl in_X2 tyX2_ok nmX2 1 (by decide) q190 rfl rfl (v := .int (nI (lt.length + 1))) rfl rfl (Nat.le_of_ble_eq_true rfl) rfl dX2_put_2_41 (fun H locs h => ?_)
    refine lv_iload_n hx hb dX2_put_2_44 rfl (lv_at hl 1 rfl) ?_
    refine lv_i2b (v := x.toInt8.toInt32) hx hb dX2_put_2_45 rfl ?_
    refine x_bast C h 1 (v := v) (ws' := [(r, .inr (1, [.ref b2, .int (nI (lt.length + 1))])), (b2, bar dA c2 (upN g2 lt.length v))] ++ (F ++ E)) rfl (by omega) (by omega) (by rw [h3, sb_idem]) rfl dX2_put_2_46 (fun H locs h => ?_)
    subst hQ
    have hfin : SBis (upN g2 lt.length v) (gro cap (lt ++ [v]).length) (lt ++ [v]) := by rw [List.length_append]; rw [hc2] at hs2 hl2; exact hs2.one v hl2
    have h : Wd D B s ([(r, .inr (1, [.ref b2, .int (nI ((lt ++ [v]).length))])), (b2, bar dA (gro cap (lt ++ [v]).length) (upN g2 lt.length v))] ++ (F ++ E)) H locs := by rw [List.length_append]; rw [hc2] at h; exact h
    exact ret_v C hr hlocks h (b2, upN g2 lt.length v, E) hfin rfl rfl (by omega) (by omega) dX2_put_2_47
  refine lv_aload_n hx hb dX2_put_2_0 rfl (lv_at hl 0 rfl) ?_
  refine o_get C h (RC := RX2) (T := TX2) (N := 2) (List.mem_of_getElem? (i := 0) rfl) rfl in_X2 1 (by decide) q190 rfl (v := .int (nI lt.length)) rfl dX2_put_2_1 ?_
  refine lv_aload_n hx hb dX2_put_2_4 rfl (lv_at hl 0 rfl) ?_
  refine o_get C h (RC := RX2) (T := TX2) (N := 2) (List.mem_of_getElem? (i := 0) rfl) rfl in_X2 0 (by decide) q186 rfl (v := .ref b) rfl dX2_put_2_5 ?_
  refine n_balen C h (List.mem_of_getElem? (i := 1) rfl) dX2_put_2_8 ?_
  refine n_icmp_ne (tgt := 29) hx hb (by omega) (by omega) dX2_put_2_9 (by decide) (fun c9 => ?_) (fun c9 => ?_)
  · have h : Wd D B s ([(r, .inr (1, [.ref b, .int (nI lt.length)])), (b, bar dA cap g)] ++ (F ++ [])) s.heap [] := by rw [List.append_nil]; exact h
    exact jr b cap g [] _ _ hsb (by omega) (by rw [gro_le (by omega)]) (by omega) (by omega) (by omega) _ _ h _ (lv_sub hl [0, 1] rfl)
  · refine lv_aload_n hx hb dX2_put_2_12 rfl (lv_at hl 0 rfl) ?_
    refine lv_aload_n hx hb dX2_put_2_13 rfl (lv_at hl 0 rfl) ?_
    refine o_get C h (RC := RX2) (T := TX2) (N := 2) (List.mem_of_getElem? (i := 0) rfl) rfl in_X2 0 (by decide) q186 rfl (v := .ref b) rfl dX2_put_2_14 ?_
    refine lv_iconst (v := nI 2) hx hb dX2_put_2_17 (by decide) ?_
    refine lv_aload_n hx hb dX2_put_2_18 rfl (lv_at hl 0 rfl) ?_
    refine o_get C h (RC := RX2) (T := TX2) (N := 2) (List.mem_of_getElem? (i := 0) rfl) rfl in_X2 1 (by decide) q190 rfl (v := .int (nI lt.length)) rfl dX2_put_2_19 ?_
    refine lv_imul hx hb dX2_put_2_22 (n_top (y := nI (2 * lt.length)) (pk_mul 2 lt.length) ?_)
    refine call_S (As := [.ref b, .int (nI (2 * lt.length))]) (rest := [.ref r]) (n := 2) C h (cJ_copyOf l D dA B Z hZ _ b cap (2 * lt.length) g (List.mem_of_getElem? (i := 1) rfl) (by omega) (by omega)) (lw_S q565 q566 q143 q567) (by decide +kernel) (by decide) (by decide) rfl hl rfl (Nat.le_of_ble_eq_true rfl) dX2_put_2_23 (by unfold rC rS; rw [gro_1 (by omega) c9]; omega) (fun q2 H locs _ h => ?_)
    have h : Wd D B s ([(q2, bar dA (2 * lt.length) (cutF cap g)), (r, .inr (1, [.ref b, .int (nI lt.length)])), (b, bar dA cap g)] ++ F) H locs := h.permL (perm_add (fun g f p0 p1 p2 => by (try simp only [p0, p1, p2]) <;> omega))
    refine o_put C h 1 (RC := RX2) (T := TX2) (N := 2) (ws' := [(q2, bar dA (2 * lt.length) (cutF cap g)), (r, .inr (1, [.ref q2, .int (nI lt.length)])), (b, bar dA cap g)] ++ F) rfl rfl in_X2 tyX2_ok nmX2 0 (by decide) q186 rfl rfl (v := .ref q2) rfl rfl (Nat.le_of_ble_eq_true rfl) rfl dX2_put_2_26 (fun H locs h => ?_)
    have h : Wd D B s ([(r, .inr (1, [.ref q2, .int (nI lt.length)])), (q2, bar dA (2 * lt.length) (cutF cap g))] ++ (F ++ [(b, bar dA cap g)])) H locs := h.permL (perm_add (fun g f p0 p1 p2 => by (try simp only [p0, p1, p2]) <;> omega))
    exact jr q2 (2 * lt.length) (cutF cap g) [(b, bar dA cap g)] _ _ (hsb.cut (by omega)) (by omega) (by rw [gro_1 (by omega) c9, c9]) (by omega) (by unfold rC; rw [gro_1 (by omega) c9]; omega) (by unfold rS; rw [gro_1 (by omega) c9]; omega) _ _ h _ (lv_sub hl [0, 1] rfl)
set_option maxHeartbeats 400000 in
set_option maxRecDepth 100000 in
theorem c2_putA (l : Launch) (D : va_G) (dA : Nat → ClassId) (B : Nat) (Z : State → Prop) (hZ : Stab B Z) (F : va_W) (r b cap : Nat) (g : Nat → Nat) (lt : List Nat) (a n0 fr to : Nat) (ga : Nat → Nat) (hsb : SBis g cap lt) (hcap : 64 ≤ cap) (hm : (a, bar dA n0 ga) ∈ F) (hfr : fr ≤ to) (hto : to ≤ n0) (hn0 : n0 < 400000) (hll : lt.length + (to - fr) < 300000) (hcm : cap < 1000000) (hgb : ∀ j, j < to → ga j < 256) :
    Ct (S := Nat × (Nat → Nat) × va_W) l D dA B Z yX2_put cX2_put 5 none 4 (rC cap (lt ++ sl ga fr (to - fr)).length) (rS cap (lt ++ sl ga fr (to - fr)).length) [.ref r, .ref a, .int (nI fr), .int (nI to)] ([(r, .inr (1, [.ref b, .int (nI lt.length)])), (b, bar dA cap g)] ++ F) (fun u => SBis u.2.1 (gro cap (lt ++ sl ga fr (to - fr)).length) (lt ++ sl ga fr (to - fr))) (fun _ => none) (fun u => [(r, .inr (1, [.ref u.1, .int (nI ((lt ++ sl ga fr (to - fr)).length))])), (u.1, bar dA (gro cap (lt ++ sl ga fr (to - fr)).length) u.2.1)] ++ (F ++ u.2.2)) := by
  refine Ct.mk2 (by decide) (Nat.le_of_ble_eq_true rfl) hZ ?_
  intro p e R s m args below meth c ls Q C hr hlocks hin hQ hl h
  have C0 := C
  obtain ⟨hx, hb, hml, hown, hts, -⟩ := C0
  have hl : lv_has ls 5 [(0, .ref r), (1, .ref a), (2, .int (nI fr)), (3, .int (nI to))] := hl
  refine lv_iload_n hx hb dX2_put_0 rfl (lv_at hl 2 rfl) ?_
  refine lv_istore (lv' := [(4, .int (nI fr)), (0, .ref r), (1, .ref a), (2, .int (nI fr)), (3, .int (nI to))]) hx hb dX2_put_1 hl (by decide) rfl (fun ls hl => ?_)
  have h : Wd D B s ([(r, .inr (1, [.ref b, .int (nI lt.length)])), (b, bar dA cap g)] ++ (F ++ [])) s.heap [] := by rw [List.append_nil]; exact h
  have hl : lv_has ls 5 [(4, .int (nI (fr + 0))), (0, .ref r), (1, .ref a), (2, .int (nI fr)), (3, .int (nI to))] := hl
  have h : Wd D B s ([(r, .inr (1, [.ref b, .int (nI ((lt ++ sl ga fr 0).length))])), (b, bar dA cap g)] ++ (F ++ [])) s.heap [] := by rw [sl_0, List.append_nil]; exact h
  have hs0 : SBis g cap (lt ++ sl ga fr 0) := by rw [sl_0, List.append_nil]; exact hsb
  have hg0 : cap = gro cap (lt ++ sl ga fr 0).length := by rw [sl_0, List.append_nil, gro_le hsb.1]
  have loop : ∀ (nn : Nat) (i : Nat) (b2 c2 : Nat) (g2 : Nat → Nat) (E : va_W) (cc cs : Nat), (fr + i ≤ to) → (SBis g2 c2 (lt ++ sl ga fr i)) → (c2 = gro cap (lt ++ sl ga fr i).length) → (cc ≤ rC cap (lt ++ sl ga fr i).length) → (cs ≤ rS cap (lt ++ sl ga fr i).length) → to - (fr + i) < nn → ∀ (H : Heap) (locs : List Loc), Wd D B s ([(r, .inr (1, [.ref b2, .int (nI ((lt ++ sl ga fr i).length))])), (b2, bar dA c2 g2)] ++ (F ++ E)) H locs → ∀ (ls : Array Slot), lv_has ls 5 [(4, .int (nI (fr + i))), (0, .ref r), (1, .ref a), (2, .int (nI fr)), (3, .int (nI to))] → W p l e R s m args below meth c H locs cc cs Q (F0 m 3 ls []) := by
    intro nn
    induction nn with
    | zero => intro i  b2 c2  g2  E  cc cs  hi hs2 hc2 hcc hcs hme; exact absurd hme (Nat.not_lt_zero _)
    | succ nn ih =>
      intro i  b2 c2  g2  E  cc cs  hi hs2 hc2 hcc hcs hme H locs h ls hl
      have hlen : (lt ++ sl ga fr i).length = lt.length + i := by rw [List.length_append, sl_len]
      have hgb9 := gro_b (cap := cap) (m := (lt ++ sl ga fr i).length) (by omega)
      refine lv_iload hx hb dX2_put_3 (lv_at hl 0 rfl) ?_
      refine lv_iload_n hx hb dX2_put_5 rfl (lv_at hl 4 rfl) ?_
      refine n_icmp_ge (tgt := 23) hx hb (by omega) (by omega) dX2_put_6 (by decide) (fun c6 => ?_) (fun c6 => ?_)
      · subst hQ
        have hie : i = to - fr := by omega
        rw [hie] at h hs2 hc2 hcc hcs
        rw [hc2] at h hs2
        exact ret_v C hr hlocks h (b2, g2, E) hs2 rfl rfl (by omega) (by omega) dX2_put_23
      · refine lv_aload_n hx hb dX2_put_9 rfl (lv_at hl 1 rfl) ?_
        refine lv_aload_n hx hb dX2_put_10 rfl (lv_at hl 2 rfl) ?_
        refine lv_iload hx hb dX2_put_11 (lv_at hl 0 rfl) ?_
        refine n_bald C h (v := ga (fr + i)) (List.mem_append_right _ (List.mem_append_left _ hm)) (show fr + i < n0 by omega) (by omega) rfl dX2_put_13 ?_
        refine call_VR (As := [.int (sb_b (ga (fr + i)))]) (rest := []) (n := 1) C h (c2_put l D dA B Z hZ (F ++ E) r b2 c2 g2 (lt ++ sl ga fr i) _ (ga (fr + i)) hs2 (by omega) (by omega) (by omega) (sb_idem _)) (lw_V q561 q562 q563 q130 q564) (by decide +kernel) (o_recv C h (RC := RX2) (T := TX2) (N := 2) (List.mem_of_getElem? (i := 0) rfl) rfl) (by decide) (by decide) rfl hl rfl (Nat.le_of_ble_eq_true rfl) dX2_put_14 (by
          have hcst := rC_add (cap := cap) (m := (lt ++ sl ga fr i).length) (m' := (lt ++ sl ga fr i).length + 1) (by omega) (by omega)
          have hcs2 := rC_add (cap := cap) (m := (lt ++ sl ga fr i).length + 1) (m' := (lt ++ sl ga fr (to - fr)).length) (by omega) (by rw [hlen, List.length_append, sl_len]; omega)
          rw [← hc2] at hcst
          omega) (fun u3 H locs hu3 h => ?_)
        obtain ⟨b3, g3, E3⟩ := u3
        dsimp only at hu3
        have hc3 : gro c2 (lt ++ sl ga fr i ++ [ga (fr + i)]).length = gro cap (lt ++ sl ga fr i ++ [ga (fr + i)]).length := by rw [hc2]; exact gro_gro (by omega) (by simp only [List.length_append, List.length_cons, List.length_nil]; omega)
        rw [hc3] at hu3
        have h : Wd D B s ([(r, .inr (1, [.ref b3, .int (nI ((lt ++ sl ga fr i ++ [ga (fr + i)]).length))])), (b3, bar dA (gro cap (lt ++ sl ga fr i ++ [ga (fr + i)]).length) g3)] ++ (F ++ (E ++ E3))) H locs := by rw [← hc3, ← List.append_assoc F]; exact h
        have hcst := rC_add (cap := cap) (m := (lt ++ sl ga fr i).length) (m' := (lt ++ sl ga fr i ++ [ga (fr + i)]).length) (by omega) (by simp only [List.length_append]; omega)
        rw [← hc2] at hcst
        have hle3 : (lt ++ sl ga fr i ++ [ga (fr + i)]).length = (lt ++ sl ga fr i).length + 1 := by rw [List.length_append]; rfl
        rw [hle3] at hcst
        have e5 : lt ++ sl ga fr i ++ [ga (fr + i)] = lt ++ sl ga fr (i + 1) := by rw [sl_succ, List.append_assoc]
        rw [e5] at h hu3 hle3
        have hu3b := hu3
        have hr1 : rC cap ((lt ++ sl ga fr i).length + 1) = rC cap (lt ++ sl ga fr (i + 1)).length ∧ rS cap ((lt ++ sl ga fr i).length + 1) = rS cap (lt ++ sl ga fr (i + 1)).length := by rw [hle3]; exact ⟨rfl, rfl⟩
        refine lv_iinc (v := nI (fr + i + 1)) (lv' := [(4, .int (nI (fr + i + 1))), (0, .ref r), (1, .ref a), (2, .int (nI fr)), (3, .int (nI to))]) hx hb dX2_put_17 hl (k := 0) rfl (nI_add (fr + i) 1) (by decide) rfl (fun ls hl => ?_)
        refine lv_goto (tgt := 3) hx hb dX2_put_20 (by decide) ?_
        exact ih (i + 1) b3 _ g3 (E ++ E3) _ _ (by omega) hu3b rfl (by omega) (by omega) (by omega) _ _ h _ (lv_sub hl [0, 1, 2, 3, 4] rfl)
  exact loop _ 0 b cap g [] _ _ (by omega) hs0 hg0 (by omega) (by omega) (Nat.lt_succ_self _) _ _ h _ (lv_sub hl [0, 1, 2, 3, 4] rfl)
set_option maxHeartbeats 400000 in
set_option maxRecDepth 100000 in
theorem c2_number (l : Launch) (D : va_G) (dA : Nat → ClassId) (B : Nat) (Z : State → Prop) (hZ : Stab B Z) (F : va_W) (r b cap : Nat) (g : Nat → Nat) (lt : List Nat) (v kn : Nat) (hsb : SBis g cap lt) (hcap : 64 ≤ cap) (h2 : v < 4611686018427387904) (h3 : kn ≤ 8) (hll : lt.length < 200000) (hcm : cap < 1000000) :
    Ct (S := Nat × (Nat → Nat) × va_W) l D dA B Z yX2_number cX2_number 5 none 4 (rC cap (lt ++ be kn v).length) (rS cap (lt ++ be kn v).length) [.ref r, .long (lN v), .int (nI kn)] ([(r, .inr (1, [.ref b, .int (nI lt.length)])), (b, bar dA cap g)] ++ F) (fun u => SBis u.2.1 (gro cap (lt ++ be kn v).length) (lt ++ be kn v)) (fun _ => none) (fun u => [(r, .inr (1, [.ref u.1, .int (nI ((lt ++ be kn v).length))])), (u.1, bar dA (gro cap (lt ++ be kn v).length) u.2.1)] ++ (F ++ u.2.2)) := by
  refine Ct.mk2 (by decide) (Nat.le_of_ble_eq_true rfl) hZ ?_
  intro p e R s m args below meth c ls Q C hr hlocks hin hQ hl h
  have C0 := C
  obtain ⟨hx, hb, hml, hown, hts, -⟩ := C0
  have hl : lv_has ls 5 [(0, .ref r), (1, .long (lN v)), (3, .int (nI kn))] := hl
  refine lv_bipush (v := nI 8) hx hb dX2_number_0 (by decide) ?_
  refine lv_iload_n hx hb dX2_number_2 rfl (lv_at hl 2 rfl) ?_
  refine lv_imul hx hb dX2_number_3 (n_top (y := nI (8 * kn)) (pk_mul 8 kn) ?_)
  refine lv_bipush (v := nI 8) hx hb dX2_number_4 (by decide) ?_
  refine lv_isub hx hb dX2_number_6 ?_
  refine n_top (y := nI (8 * kn) - nI 8) rfl ?_
  refine lv_istore (lv' := [(4, .int (nI (8 * kn) - nI 8)), (0, .ref r), (1, .long (lN v)), (3, .int (nI kn))]) hx hb dX2_number_7 hl (by decide) rfl (fun ls hl => ?_)
  have h : Wd D B s ([(r, .inr (1, [.ref b, .int (nI lt.length)])), (b, bar dA cap g)] ++ (F ++ [])) s.heap [] := by rw [List.append_nil]; exact h
  have e0 : lt ++ sl (fun j => v / 2 ^ (8 * (kn - 1 - j)) % 256) 0 0 = lt := by rw [sl_0, List.append_nil]
  have h : Wd D B s ([(r, .inr (1, [.ref b, .int (nI ((lt ++ sl (fun j => v / 2 ^ (8 * (kn - 1 - j)) % 256) 0 0).length))])), (b, bar dA cap g)] ++ (F ++ [])) s.heap [] := by rw [e0]; exact h
  have hs0 : SBis g cap (lt ++ sl (fun j => v / 2 ^ (8 * (kn - 1 - j)) % 256) 0 0) := by rw [e0]; exact hsb
  have hg0 : cap = gro cap (lt ++ sl (fun j => v / 2 ^ (8 * (kn - 1 - j)) % 256) 0 0).length := by rw [e0, gro_le hsb.1]
  have hl : lv_has ls 5 [(4, .int (nI (8 * (kn - 0)) - nI 8)), (0, .ref r), (1, .long (lN v)), (3, .int (nI kn))] := hl
  have loop : ∀ (nn : Nat) (i : Nat) (b2 c2 : Nat) (g2 : Nat → Nat) (E : va_W) (cc cs : Nat), (i ≤ kn) → (SBis g2 c2 (lt ++ sl (fun j => v / 2 ^ (8 * (kn - 1 - j)) % 256) 0 i)) → (c2 = gro cap (lt ++ sl (fun j => v / 2 ^ (8 * (kn - 1 - j)) % 256) 0 i).length) → (cc ≤ rC cap (lt ++ sl (fun j => v / 2 ^ (8 * (kn - 1 - j)) % 256) 0 i).length) → (cs ≤ rS cap (lt ++ sl (fun j => v / 2 ^ (8 * (kn - 1 - j)) % 256) 0 i).length) → kn - i < nn → ∀ (H : Heap) (locs : List Loc), Wd D B s ([(r, .inr (1, [.ref b2, .int (nI ((lt ++ sl (fun j => v / 2 ^ (8 * (kn - 1 - j)) % 256) 0 i).length))])), (b2, bar dA c2 g2)] ++ (F ++ E)) H locs → ∀ (ls : Array Slot), lv_has ls 5 [(4, .int (nI (8 * (kn - i)) - nI 8)), (0, .ref r), (1, .long (lN v)), (3, .int (nI kn))] → W p l e R s m args below meth c H locs cc cs Q (F0 m 9 ls []) := by
    intro nn
    induction nn with
    | zero => intro i  b2 c2  g2  E  cc cs  hi hs2 hc2 hcc hcs hme; exact absurd hme (Nat.not_lt_zero _)
    | succ nn ih =>
      intro i  b2 c2  g2  E  cc cs  hi hs2 hc2 hcc hcs hme H locs h ls hl
      have hlen : (lt ++ sl (fun j => v / 2 ^ (8 * (kn - 1 - j)) % 256) 0 i).length = lt.length + i := by rw [List.length_append, sl_len]
      have hgb9 := gro_b (cap := cap) (m := (lt ++ sl (fun j => v / 2 ^ (8 * (kn - 1 - j)) % 256) 0 i).length) (by omega)
      refine lv_iload hx hb dX2_number_9 (lv_at hl 0 rfl) ?_
      refine lv_if_lt (tgt := 29) hx hb dX2_number_11 (by decide) (fun c11 => ?_) (fun c11 => ?_)
      · have hic : i = kn := by
          rcases Nat.lt_or_ge i kn with q | q
          · exact absurd c11 (by rw [pk_sub (by omega)]; exact nI_pos (by omega))
          · omega
        subst hQ
        have hie : sl (fun j => v / 2 ^ (8 * (kn - 1 - j)) % 256) 0 i = be kn v := by rw [hic]; rfl
        rw [hie] at h hs2 hc2 hcc hcs
        rw [hc2] at h hs2
        exact ret_v C hr hlocks h (b2, g2, E) hs2 rfl rfl (by omega) (by omega) dX2_number_29
      · have hlt : i < kn := by
          rcases Nat.lt_or_ge i kn with q | q
          · exact q
          · exact absurd (by rw [show kn - i = 0 by omega]; decide) c11
        have hk : nI (8 * (kn - i)) - nI 8 = nI (8 * (kn - 1 - i)) := by rw [pk_sub (by omega)]; congr 1; omega
        rw [hk] at hl
        refine lv_aload_n hx hb dX2_number_14 rfl (lv_at hl 1 rfl) ?_
        refine lv_lload_n hx hb dX2_number_15 rfl (lv_at hl 2 rfl) ?_
        refine lv_iload hx hb dX2_number_16 (lv_at hl 0 rfl) ?_
        refine n_lshr hx hb dX2_number_18 ?_
        refine n_topl (y := lN (v / 2 ^ (8 * (kn - 1 - i)))) (l_shrN h2 (by omega)) ?_
        refine lv_l2i (v := nI (v / 2 ^ (8 * (kn - 1 - i)))) hx hb dX2_number_19 (lN_i _) ?_
        refine call_VR (As := [.int (nI (v / 2 ^ (8 * (kn - 1 - i))))]) (rest := []) (n := 1) C h (c2_put l D dA B Z hZ (F ++ E) r b2 c2 g2 (lt ++ sl (fun j => v / 2 ^ (8 * (kn - 1 - j)) % 256) 0 i) _ (v / 2 ^ (8 * (kn - 1 - i)) % 256) hs2 (by omega) (by omega) (by omega) (sb_mod _)) (lw_V q561 q562 q563 q130 q564) (by decide +kernel) (o_recv C h (RC := RX2) (T := TX2) (N := 2) (List.mem_of_getElem? (i := 0) rfl) rfl) (by decide) (by decide) rfl hl rfl (Nat.le_of_ble_eq_true rfl) dX2_number_20 (by
          have hcst := rC_add (cap := cap) (m := (lt ++ sl (fun j => v / 2 ^ (8 * (kn - 1 - j)) % 256) 0 i).length) (m' := (lt ++ sl (fun j => v / 2 ^ (8 * (kn - 1 - j)) % 256) 0 i).length + 1) (by omega) (by omega)
          have hcs2 := rC_add (cap := cap) (m := (lt ++ sl (fun j => v / 2 ^ (8 * (kn - 1 - j)) % 256) 0 i).length + 1) (m' := (lt ++ be kn v).length) (by omega) (by have z9 := (show (lt ++ be kn v).length = lt.length + kn by rw [List.length_append, be_len]); omega)
          rw [← hc2] at hcst
          omega) (fun u3 H locs hu3 h => ?_)
        obtain ⟨b3, g3, E3⟩ := u3
        dsimp only at hu3
        have hc3 : gro c2 (lt ++ sl (fun j => v / 2 ^ (8 * (kn - 1 - j)) % 256) 0 i ++ [v / 2 ^ (8 * (kn - 1 - i)) % 256]).length = gro cap (lt ++ sl (fun j => v / 2 ^ (8 * (kn - 1 - j)) % 256) 0 i ++ [v / 2 ^ (8 * (kn - 1 - i)) % 256]).length := by rw [hc2]; exact gro_gro (by omega) (by simp only [List.length_append, List.length_cons, List.length_nil]; omega)
        rw [hc3] at hu3
        have h : Wd D B s ([(r, .inr (1, [.ref b3, .int (nI ((lt ++ sl (fun j => v / 2 ^ (8 * (kn - 1 - j)) % 256) 0 i ++ [v / 2 ^ (8 * (kn - 1 - i)) % 256]).length))])), (b3, bar dA (gro cap (lt ++ sl (fun j => v / 2 ^ (8 * (kn - 1 - j)) % 256) 0 i ++ [v / 2 ^ (8 * (kn - 1 - i)) % 256]).length) g3)] ++ (F ++ (E ++ E3))) H locs := by rw [← hc3, ← List.append_assoc F]; exact h
        have hcst := rC_add (cap := cap) (m := (lt ++ sl (fun j => v / 2 ^ (8 * (kn - 1 - j)) % 256) 0 i).length) (m' := (lt ++ sl (fun j => v / 2 ^ (8 * (kn - 1 - j)) % 256) 0 i ++ [v / 2 ^ (8 * (kn - 1 - i)) % 256]).length) (by omega) (by simp only [List.length_append]; omega)
        rw [← hc2] at hcst
        have hle3 : (lt ++ sl (fun j => v / 2 ^ (8 * (kn - 1 - j)) % 256) 0 i ++ [v / 2 ^ (8 * (kn - 1 - i)) % 256]).length = (lt ++ sl (fun j => v / 2 ^ (8 * (kn - 1 - j)) % 256) 0 i).length + 1 := by rw [List.length_append]; rfl
        rw [hle3] at hcst
        have e5 : lt ++ sl (fun j => v / 2 ^ (8 * (kn - 1 - j)) % 256) 0 i ++ [v / 2 ^ (8 * (kn - 1 - i)) % 256] = lt ++ sl (fun j => v / 2 ^ (8 * (kn - 1 - j)) % 256) 0 (i + 1) := by rw [sl_succ, Nat.zero_add, List.append_assoc]
        rw [e5] at h hu3 hle3
        have hr1 : rC cap ((lt ++ sl (fun j => v / 2 ^ (8 * (kn - 1 - j)) % 256) 0 i).length + 1) = rC cap (lt ++ sl (fun j => v / 2 ^ (8 * (kn - 1 - j)) % 256) 0 (i + 1)).length ∧ rS cap ((lt ++ sl (fun j => v / 2 ^ (8 * (kn - 1 - j)) % 256) 0 i).length + 1) = rS cap (lt ++ sl (fun j => v / 2 ^ (8 * (kn - 1 - j)) % 256) 0 (i + 1)).length := by rw [hle3]; exact ⟨rfl, rfl⟩
        refine lv_iinc (v := nI (8 * (kn - (i + 1))) - nI 8) (lv' := [(4, .int (nI (8 * (kn - (i + 1))) - nI 8)), (0, .ref r), (1, .long (lN v)), (3, .int (nI kn))]) hx hb dX2_number_23 hl (k := 0) rfl (by rw [show kn - (i + 1) = kn - 1 - i by omega]; exact n_m8 _) (by decide) rfl (fun ls hl => ?_)
        refine lv_goto (tgt := 9) hx hb dX2_number_26 (by decide) ?_
        exact ih (i + 1) b3 _ g3 (E ++ E3) _ _ (by omega) hu3 rfl (by omega) (by omega) (by omega) _ _ h _ (lv_sub hl [0, 1, 2, 3] rfl)
  exact loop _ 0 b cap g [] _ _ (by omega) hs0 hg0 (by omega) (by omega) (Nat.lt_succ_self _) _ _ h _ (lv_sub hl [0, 1, 2, 3] rfl)
set_option maxHeartbeats 400000 in
set_option maxRecDepth 100000 in
theorem c2_say (l : Launch) (D : va_G) (dA : Nat → ClassId) (B : Nat) (Z : State → Prop) (hZ : Stab B Z) (F : va_W) (r b cap : Nat) (g : Nat → Nat) (lt : List Nat) (sa sv : Nat) (ls9 : List Nat) (hzs : ZS dA B Z) (hsb : SBis g cap lt) (hcap : 64 ≤ cap) (hs : StrV dA B Z F sa sv ls9) (hlb : byt ls9) (hls : ls9.length < 1000) (hll : lt.length < 200000) (hcm : cap < 1000000) :
    Ct (S := Nat × (Nat → Nat) × va_W) l D dA B Z yX2_say cX2_say 3 none 6 (rC cap (lt ++ ls9).length) (rS cap (lt ++ ls9).length) [.ref r, .ref sa] ([(r, .inr (1, [.ref b, .int (nI lt.length)])), (b, bar dA cap g)] ++ F) (fun u => SBis u.2.1 (gro cap (lt ++ ls9).length) (lt ++ ls9)) (fun _ => none) (fun u => [(r, .inr (1, [.ref u.1, .int (nI ((lt ++ ls9).length))])), (u.1, bar dA (gro cap (lt ++ ls9).length) u.2.1)] ++ (F ++ u.2.2)) := by
  refine Ct.mk2 (by decide) (Nat.le_of_ble_eq_true rfl) hZ ?_
  intro p e R s m args below meth c ls Q C hr hlocks hin hQ hl h
  have C0 := C
  obtain ⟨hx, hb, hml, hown, hts, -⟩ := C0
  have hl : lv_has ls 3 [(0, .ref r), (1, .ref sa)] := hl
  refine lv_iconst (v := nI 0) hx hb dX2_say_0 (by decide) ?_
  refine lv_istore_n (lv' := [(2, .int (nI 0)), (0, .ref r), (1, .ref sa)]) hx hb dX2_say_1 rfl hl (by decide) rfl (fun ls hl => ?_)
  have h : Wd D B s ([(r, .inr (1, [.ref b, .int (nI lt.length)])), (b, bar dA cap g)] ++ (F ++ [])) s.heap [] := by rw [List.append_nil]; exact h
  have e0 : lt ++ sl (gD ls9) 0 0 = lt := by rw [sl_0, List.append_nil]
  have h : Wd D B s ([(r, .inr (1, [.ref b, .int (nI ((lt ++ sl (gD ls9) 0 0).length))])), (b, bar dA cap g)] ++ (F ++ [])) s.heap [] := by rw [e0]; exact h
  have hs0 : SBis g cap (lt ++ sl (gD ls9) 0 0) := by rw [e0]; exact hsb
  have hg0 : cap = gro cap (lt ++ sl (gD ls9) 0 0).length := by rw [e0, gro_le hsb.1]
  have loop : ∀ (nn : Nat) (i : Nat) (b2 c2 : Nat) (g2 : Nat → Nat) (E : va_W) (cc cs : Nat), (i ≤ ls9.length) → (SBis g2 c2 (lt ++ sl (gD ls9) 0 i)) → (c2 = gro cap (lt ++ sl (gD ls9) 0 i).length) → (cc ≤ rC cap (lt ++ sl (gD ls9) 0 i).length) → (cs ≤ rS cap (lt ++ sl (gD ls9) 0 i).length) → ls9.length - i < nn → ∀ (H : Heap) (locs : List Loc), Wd D B s ([(r, .inr (1, [.ref b2, .int (nI ((lt ++ sl (gD ls9) 0 i).length))])), (b2, bar dA c2 g2)] ++ (F ++ E)) H locs → ∀ (ls : Array Slot), lv_has ls 3 [(2, .int (nI i)), (0, .ref r), (1, .ref sa)] → W p l e R s m args below meth c H locs cc cs Q (F0 m 2 ls []) := by
    intro nn
    induction nn with
    | zero => intro i  b2 c2  g2  E  cc cs  hi hs2 hc2 hcc hcs hme; exact absurd hme (Nat.not_lt_zero _)
    | succ nn ih =>
      intro i  b2 c2  g2  E  cc cs  hi hs2 hc2 hcc hcs hme H locs h ls hl
      have hlen : (lt ++ sl (gD ls9) 0 i).length = lt.length + i := by rw [List.length_append, sl_len]
      have hgb9 := gro_b (cap := cap) (m := (lt ++ sl (gD ls9) 0 i).length) (by omega)
      have hmon := rC_add (cap := cap) (m := (lt ++ sl (gD ls9) 0 i).length) (m' := (lt ++ ls9).length) (by omega) (by rw [hlen, List.length_append]; omega)
      refine lv_iload_n hx hb dX2_say_2 rfl (lv_at hl 0 rfl) ?_
      refine lv_aload_n hx hb dX2_say_3 rfl (lv_at hl 2 rfl) ?_
      refine call_VR (As := []) (rest := [.int (nI i)]) (n := 0) C h (cJ_len l D dA B Z hZ _ sa sv ls9 (hs.up (fun x hx => List.mem_append_right _ (List.mem_append_left _ hx))) hlb (by omega) hzs) (lw_V q1752 q785 q786 q156 q787) (by decide +kernel) (s_recv C h (hs.up (fun x hx => List.mem_append_right _ (List.mem_append_left _ hx)))) (by decide) (by decide) rfl hl rfl (Nat.le_of_ble_eq_true rfl) dX2_say_4 (by omega) (fun _ H locs _ h => ?_)
      refine n_icmp_ge (tgt := 25) hx hb (by omega) (by omega) dX2_say_7 (by decide) (fun c7 => ?_) (fun c7 => ?_)
      · subst hQ
        have hie : sl (gD ls9) 0 i = ls9 := by rw [show i = ls9.length by omega]; exact sl_gD ls9
        rw [hie] at h hs2 hc2 hcc hcs
        rw [hc2] at h hs2
        exact ret_v C hr hlocks h (b2, g2, E) hs2 rfl rfl (by omega) (by omega) dX2_say_25
      · refine lv_aload_n hx hb dX2_say_10 rfl (lv_at hl 1 rfl) ?_
        refine lv_aload_n hx hb dX2_say_11 rfl (lv_at hl 2 rfl) ?_
        refine lv_iload_n hx hb dX2_say_12 rfl (lv_at hl 0 rfl) ?_
        refine call_VR (As := [.int (nI i)]) (rest := [.ref r]) (n := 1) C h (cJ_charAt l D dA B Z hZ _ i sa sv ls9 (hs.up (fun x hx => List.mem_append_right _ (List.mem_append_left _ hx))) hlb (by omega) hzs (by omega)) (lw_V q1753 q951 q952 q156 q953) (by decide +kernel) (s_recv C h (hs.up (fun x hx => List.mem_append_right _ (List.mem_append_left _ hx)))) (by decide) (by decide) rfl hl rfl (Nat.le_of_ble_eq_true rfl) dX2_say_13 (by omega) (fun _ H locs _ h => ?_)
        refine call_VR (As := [.int (nI (gD ls9 i))]) (rest := []) (n := 1) C h (c2_put l D dA B Z hZ (F ++ E) r b2 c2 g2 (lt ++ sl (gD ls9) 0 i) _ (gD ls9 i) hs2 (by omega) (by omega) (by omega) rfl) (lw_V q561 q562 q563 q130 q564) (by decide +kernel) (o_recv C h (RC := RX2) (T := TX2) (N := 2) (List.mem_of_getElem? (i := 0) rfl) rfl) (by decide) (by decide) rfl hl rfl (Nat.le_of_ble_eq_true rfl) dX2_say_16 (by
          have hcst := rC_add (cap := cap) (m := (lt ++ sl (gD ls9) 0 i).length) (m' := (lt ++ sl (gD ls9) 0 i).length + 1) (by omega) (by omega)
          have hcs2 := rC_add (cap := cap) (m := (lt ++ sl (gD ls9) 0 i).length + 1) (m' := (lt ++ ls9).length) (by omega) (by have z9 := (show (lt ++ ls9).length = lt.length + ls9.length from List.length_append); omega)
          rw [← hc2] at hcst
          omega) (fun u3 H locs hu3 h => ?_)
        obtain ⟨b3, g3, E3⟩ := u3
        dsimp only at hu3
        have hc3 : gro c2 (lt ++ sl (gD ls9) 0 i ++ [gD ls9 i]).length = gro cap (lt ++ sl (gD ls9) 0 i ++ [gD ls9 i]).length := by rw [hc2]; exact gro_gro (by omega) (by simp only [List.length_append, List.length_cons, List.length_nil]; omega)
        rw [hc3] at hu3
        have h : Wd D B s ([(r, .inr (1, [.ref b3, .int (nI ((lt ++ sl (gD ls9) 0 i ++ [gD ls9 i]).length))])), (b3, bar dA (gro cap (lt ++ sl (gD ls9) 0 i ++ [gD ls9 i]).length) g3)] ++ (F ++ (E ++ E3))) H locs := by rw [← hc3, ← List.append_assoc F]; exact h
        have hcst := rC_add (cap := cap) (m := (lt ++ sl (gD ls9) 0 i).length) (m' := (lt ++ sl (gD ls9) 0 i ++ [gD ls9 i]).length) (by omega) (by simp only [List.length_append]; omega)
        rw [← hc2] at hcst
        have hle3 : (lt ++ sl (gD ls9) 0 i ++ [gD ls9 i]).length = (lt ++ sl (gD ls9) 0 i).length + 1 := by rw [List.length_append]; rfl
        rw [hle3] at hcst
        have e5 : lt ++ sl (gD ls9) 0 i ++ [gD ls9 i] = lt ++ sl (gD ls9) 0 (i + 1) := by rw [sl_succ, Nat.zero_add, List.append_assoc]
        rw [e5] at h hu3 hle3
        have hr1 : rC cap ((lt ++ sl (gD ls9) 0 i).length + 1) = rC cap (lt ++ sl (gD ls9) 0 (i + 1)).length ∧ rS cap ((lt ++ sl (gD ls9) 0 i).length + 1) = rS cap (lt ++ sl (gD ls9) 0 (i + 1)).length := by rw [hle3]; exact ⟨rfl, rfl⟩
        refine lv_iinc (v := nI (i + 1)) (lv' := [(2, .int (nI (i + 1))), (0, .ref r), (1, .ref sa)]) hx hb dX2_say_19 hl (k := 0) rfl (nI_add i 1) (by decide) rfl (fun ls hl => ?_)
        refine lv_goto (tgt := 2) hx hb dX2_say_22 (by decide) ?_
        exact ih (i + 1) b3 _ g3 (E ++ E3) _ _ (by omega) hu3 rfl (by omega) (by omega) (by omega) _ _ h _ (lv_sub hl [0, 1, 2] rfl)
  exact loop _ 0 b cap g [] _ _ (by omega) hs0 hg0 (by omega) (by omega) (Nat.lt_succ_self _) _ _ h _ (lv_sub hl [0, 1, 2] rfl)
set_option maxHeartbeats 400000 in
set_option maxRecDepth 100000 in
theorem c2_at (l : Launch) (D : va_G) (dA : Nat → ClassId) (B : Nat) (Z : State → Prop) (hZ : Stab B Z) (F : va_W) (r b cap : Nat) (g : Nat → Nat) (lt : List Nat) (i : Nat) (hi : i < cap) (hcm : cap < 1000000) (hgb : g i < 256) :
    Ct (S := Unit) l D dA B Z yX2_at cX2_at 2 (some .int) 1 0 0 [.ref r, .int (nI i)] ([(r, .inr (1, [.ref b, .int (nI lt.length)])), (b, bar dA cap g)] ++ F) (fun _ => True) (fun _ => some (.int (nI (g i)))) (fun _ => [(r, .inr (1, [.ref b, .int (nI lt.length)])), (b, bar dA cap g)] ++ F) := by
  refine Ct.mk2 (by decide) (Nat.le_of_ble_eq_true rfl) hZ ?_
  intro p e R s m args below meth c ls Q C hr hlocks hin hQ hl h
  have C0 := C
  obtain ⟨hx, hb, hml, hown, hts, -⟩ := C0
  have hl : lv_has ls 2 [(0, .ref r), (1, .int (nI i))] := hl
  refine lv_aload_n hx hb dX2_at_0 rfl (lv_at hl 0 rfl) ?_
  refine o_get C h (RC := RX2) (T := TX2) (N := 2) (List.mem_of_getElem? (i := 0) rfl) rfl in_X2 0 (by decide) q186 rfl (v := .ref b) rfl dX2_at_1 ?_
  refine lv_iload_n hx hb dX2_at_4 rfl (lv_at hl 1 rfl) ?_
  refine n_bald C h (v := g i) (List.mem_of_getElem? (i := 1) rfl) (show i < cap by omega) (by omega) rfl dX2_at_5 ?_
  refine lv_sipush (v := nI 255) hx hb dX2_at_6 (by decide) ?_
  refine lv_iand hx hb dX2_at_9 ?_
  refine n_top (y := nI (g i)) ((sb_byte _ hgb).1) ?_
  subst hQ
  exact ret_i C hr hlocks h () trivial rfl rfl (by omega) (by omega) dX2_at_10
set_option maxHeartbeats 400000 in
set_option maxRecDepth 100000 in
theorem c2_clear (l : Launch) (D : va_G) (dA : Nat → ClassId) (B : Nat) (Z : State → Prop) (hZ : Stab B Z) (F : va_W) (r b cap : Nat) (g : Nat → Nat) (lt : List Nat)  :
    Ct (S := Unit) l D dA B Z yX2_clear cX2_clear 1 none 1 0 0 [.ref r] ([(r, .inr (1, [.ref b, .int (nI lt.length)])), (b, bar dA cap g)] ++ F) (fun _ => True) (fun _ => none) (fun _ => [(r, .inr (1, [.ref b, .int (nI (([] : List Nat).length))])), (b, bar dA cap g)] ++ F) := by
  refine Ct.mk2 (by decide) (Nat.le_of_ble_eq_true rfl) hZ ?_
  intro p e R s m args below meth c ls Q C hr hlocks hin hQ hl h
  have C0 := C
  obtain ⟨hx, hb, hml, hown, hts, -⟩ := C0
  have hl : lv_has ls 1 [(0, .ref r)] := hl
  refine lv_aload_n hx hb dX2_clear_0 rfl (lv_at hl 0 rfl) ?_
  refine lv_iconst (v := nI 0) hx hb dX2_clear_1 (by decide) ?_
  refine o_put C h 0 (RC := RX2) (T := TX2) (N := 2) (ws' := [(r, .inr (1, [.ref b, .int (nI 0)])), (b, bar dA cap g)] ++ F) rfl rfl in_X2 tyX2_ok nmX2 1 (by decide) q190 rfl rfl (v := .int (nI 0)) rfl rfl (Nat.le_of_ble_eq_true rfl) rfl dX2_clear_2 (fun H locs h => ?_)
  subst hQ
  exact ret_v C hr hlocks h () trivial rfl rfl (by omega) (by omega) dX2_clear_5
set_option maxHeartbeats 400000 in
set_option maxRecDepth 100000 in
theorem c2_all (l : Launch) (D : va_G) (dA : Nat → ClassId) (B : Nat) (Z : State → Prop) (hZ : Stab B Z) (F : va_W) (r b cap : Nat) (g : Nat → Nat) (lt : List Nat) (hsb : SBis g cap lt) (hcap : 64 ≤ cap) (hcm : cap < 1000000) :
    Ct (S := Nat) l D dA B Z yX2_all cX2_all 1 (some ((.array .byte))) 3 1 lt.length [.ref r] ([(r, .inr (1, [.ref b, .int (nI lt.length)])), (b, bar dA cap g)] ++ F) (fun _ => True) (fun q => some (.ref q)) (fun q => [(r, .inr (1, [.ref b, .int (nI lt.length)])), (b, bar dA cap g)] ++ (F ++ [(q, bal dA lt)])) := by
  refine Ct.mk2 (by decide) (Nat.le_of_ble_eq_true rfl) hZ ?_
  intro p e R s m args below meth c ls Q C hr hlocks hin hQ hl h
  have C0 := C
  obtain ⟨hx, hb, hml, hown, hts, -⟩ := C0
  have hl : lv_has ls 1 [(0, .ref r)] := hl
  have hsl := hsb.1
  refine lv_aload_n hx hb dX2_all_0 rfl (lv_at hl 0 rfl) ?_
  refine o_get C h (RC := RX2) (T := TX2) (N := 2) (List.mem_of_getElem? (i := 0) rfl) rfl in_X2 0 (by decide) q186 rfl (v := .ref b) rfl dX2_all_1 ?_
  refine lv_aload_n hx hb dX2_all_4 rfl (lv_at hl 0 rfl) ?_
  refine o_get C h (RC := RX2) (T := TX2) (N := 2) (List.mem_of_getElem? (i := 0) rfl) rfl in_X2 1 (by decide) q190 rfl (v := .int (nI lt.length)) rfl dX2_all_5 ?_
  refine call_S (As := [.ref b, .int (nI lt.length)]) (rest := []) (n := 2) C h (cJ_copyOf l D dA B Z hZ _ b cap lt.length g (List.mem_of_getElem? (i := 1) rfl) (by omega) (by omega)) (lw_S q565 q566 q143 q567) (by decide +kernel) (by decide) (by decide) rfl hl rfl (Nat.le_of_ble_eq_true rfl) dX2_all_8 (by omega) (fun q2 H locs _ h => ?_)
  have h : Wd D B s ([(q2, bar dA lt.length (cutF cap g)), (r, .inr (1, [.ref b, .int (nI lt.length)])), (b, bar dA cap g)] ++ F) H locs := h.permL (perm_add (fun g f p0 p1 p2 => by (try simp only [p0, p1, p2]) <;> omega))
  have h : Wd D B s ([(q2, bal dA lt), (r, .inr (1, [.ref b, .int (nI lt.length)])), (b, bar dA cap g)] ++ F) H locs := Wd.same h 0 rfl (bar_same (fun j hj => by unfold cutF; rw [if_pos (by omega)]; exact hsb.2 j hj)) rfl
  have h : Wd D B s ([(r, .inr (1, [.ref b, .int (nI lt.length)])), (b, bar dA cap g)] ++ (F ++ [(q2, bal dA lt)])) H locs := h.permL (perm_add (fun g f p0 p1 p2 => by (try simp only [p0, p1, p2]) <;> omega))
  subst hQ
  exact ret_a C hr (Or.inr ⟨_, rfl⟩) hlocks h q2 trivial (Or.inr ⟨_, rfl⟩) rfl rfl (by omega) (by omega) dX2_all_11
set_option maxHeartbeats 400000 in
set_option maxRecDepth 100000 in
theorem c2_init (l : Launch) (D : va_G) (dA : Nat → ClassId) (B : Nat) (Z : State → Prop) (hZ : Stab B Z) (F : va_W) (r : Nat)  :
    Ct (S := Nat) l D dA B Z yX2_init cX2_init 1 none 2 1 64 [.ref r] ([(r, .inr (1, [.null, .int 0]))] ++ F) (fun _ => True) (fun _ => none) (fun q => [(r, .inr (1, [.ref q, .int (nI (([] : List Nat).length))])), (q, bar dA 64 (fun _ => 0))] ++ F) := by
  refine Ct.mk2 (by decide) (Nat.le_of_ble_eq_true rfl) hZ ?_
  intro p e R s m args below meth c ls Q C hr hlocks hin hQ hl h
  have C0 := C
  obtain ⟨hx, hb, hml, hown, hts, -⟩ := C0
  have hl : lv_has ls 1 [(0, .ref r)] := hl
  refine lv_aload_n hx hb dX2_init_0 rfl (lv_at hl 0 rfl) ?_
  refine o_init C h q184 hl.1 (by decide) (Nat.le_of_ble_eq_true rfl) dX2_init_1 ?_
  refine lv_aload_n hx hb dX2_init_4 rfl (lv_at hl 0 rfl) ?_
  refine lv_bipush (v := nI 64) hx hb dX2_init_5 (by decide) ?_
  refine n_newb C h (n := 64) q198 (by omega) (by omega) (by omega) dX2_init_7 (fun o1 H h => ?_)
  have h : Wd D B s ([(o1, bar dA 64 (fun _ => 0)), (r, .inr (1, [.null, .int 0]))] ++ F) H [] := h.permL (perm_add (fun g f p0 p1 p2 => by (try simp only [p0, p1, p2]) <;> omega))
  refine o_put C h 1 (RC := RX2) (T := TX2) (N := 2) (ws' := [(o1, bar dA 64 (fun _ => 0)), (r, .inr (1, [.ref o1, .int 0]))] ++ F) rfl rfl in_X2 tyX2_ok nmX2 0 (by decide) q186 rfl rfl (v := .ref o1) rfl rfl (Nat.le_of_ble_eq_true rfl) rfl dX2_init_9 (fun H locs h => ?_)
  subst hQ
  have h : Wd D B s ([(r, .inr (1, [.ref o1, .int 0])), (o1, bar dA 64 (fun _ => 0))] ++ F) H locs := h.permL (perm_add (fun g f p0 p1 p2 => by (try simp only [p0, p1, p2]) <;> omega))
  have h : Wd D B s ([(r, .inr (1, [.ref o1, .int (nI (([] : List Nat).length))])), (o1, bar dA 64 (fun _ => 0))] ++ F) H locs := h
  exact ret_v C hr hlocks h o1 trivial rfl rfl (by omega) (by omega) dX2_init_12
