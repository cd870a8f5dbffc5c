set_option maxRecDepth 100000

theorem Wd.freshL {D : va_G} {B : Nat} {s : State} {X F : va_W} {H : Heap} {locs : List Loc} {a : Nat} {x y : va_E} (h : Wd D B s (X ++ (F ++ [(a, x)])) H locs) (hb : (a, y) ∈ F) : False := by
  have h2 : Wd D B s ((a, x) :: (X ++ F)) H locs := h.permL (perm_add (fun g f p0 p1 p2 => by (try simp only [p0, p1, p2]) <;> omega))
  obtain ⟨j, hj⟩ := List.getElem?_of_mem (List.mem_append_right X hb)
  have := h2.2.1.1 0 (j + 1) (a, x) (a, y) rfl hj rfl
  omega


theorem pktS_x0 {l : List Nat} {nx : Nat} (h : l.length ≤ nx) : pktS l nx = none := by unfold pktS; rw [if_neg (by omega)]
theorem pktS_x1 {l : List Nat} {nx : Nat} (h : gD l nx < 128) : pktS l nx = none := by
  unfold pktS
  by_cases q : nx < l.length
  · rw [if_pos q, if_pos h]
  · rw [if_neg q]
def oldN (l : List Nat) (nx : Nat) : Nat := num (sl (gD l) (nx + 1) (2 ^ (gD l nx % 4)))
theorem pktS_o3 {l : List Nat} {nx : Nat} (h : gD l nx < 192) (h3 : gD l nx % 4 = 3) : pktS l nx = none := by
  by_cases q2 : gD l nx < 128
  · exact pktS_x1 q2
  · unfold pktS
    by_cases q : nx < l.length
    · rw [if_pos q, if_neg q2, if_pos h, if_pos h3]
    · rw [if_neg q]
theorem pktS_o {l : List Nat} {nx : Nat} (h0 : nx < l.length) (h1 : ¬ gD l nx < 128) (h : gD l nx < 192) (h3 : ¬ gD l nx % 4 = 3) (hA : nx + 1 + 2 ^ (gD l nx % 4) ≤ l.length) (hB : nx + 1 + 2 ^ (gD l nx % 4) + oldN l nx ≤ l.length) : pktS l nx = some (gD l nx / 4 % 16, sliceL l (nx + 1 + 2 ^ (gD l nx % 4)) (oldN l nx), nx + 1 + 2 ^ (gD l nx % 4) + oldN l nx) := by
  have e : num (sliceL l (nx + 1) (2 ^ (gD l nx % 4))) = oldN l nx := by unfold oldN; rw [sliceL_sl hA]
  unfold pktS
  rw [if_pos h0, if_neg h1, if_pos h, if_neg h3, e, if_pos ⟨hA, hB⟩]
theorem pktS_oN {l : List Nat} {nx : Nat} (h : gD l nx < 192) (hA : ¬ (nx + 1 + 2 ^ (gD l nx % 4) ≤ l.length ∧ nx + 1 + 2 ^ (gD l nx % 4) + oldN l nx ≤ l.length)) : pktS l nx = none := by
  by_cases q2 : gD l nx < 128
  · exact pktS_x1 q2
  · by_cases q3 : gD l nx % 4 = 3
    · exact pktS_o3 h q3
    · unfold pktS
      by_cases q : nx < l.length
      · rw [if_pos q, if_neg q2, if_pos h, if_neg q3, if_neg]
        rintro ⟨z1, z2⟩
        have e : num (sliceL l (nx + 1) (2 ^ (gD l nx % 4))) = oldN l nx := by unfold oldN; rw [sliceL_sl z1]
        rw [e] at z2
        exact hA ⟨z1, z2⟩
      · rw [if_neg q]
theorem pktS_w {l : List Nat} {nx : Nat} (h0 : nx < l.length) (h : ¬ gD l nx < 192) : pktS l nx = (match pktN l (gD l nx - 192) (nx + 1) [] with | none => none | some q => some (gD l nx - 192, q.1, q.2)) := by
  unfold pktS
  rw [if_pos h0, if_neg (by omega), if_neg h]
  cases pktN l (gD l nx - 192) (nx + 1) [] <;> rfl
theorem pktN_x0 {l acc : List Nat} {kd p : Nat} (h : l.length ≤ p) : pktN l kd p acc = none := by rw [pktN, dif_neg (by omega)]
theorem pktN_pk {l acc : List Nat} {kd p : Nat} (h2 : 223 < gD l p ∧ gD l p < 255) (hk : kd ≠ 11) : pktN l kd p acc = none := by
  by_cases q : p < l.length
  · rw [pktN, dif_pos q, dif_pos h2, if_pos hk]
  · exact pktN_x0 (by omega)
theorem pktN_pg {l acc : List Nat} {kd p : Nat} (h2 : 223 < gD l p ∧ gD l p < 255) (hg : 240 < gD l p ∨ l.length < p + 1 + 2 ^ (gD l p - 224)) : pktN l kd p acc = none := by
  by_cases q : p < l.length
  · by_cases hk : kd = 11
    · rw [pktN, dif_pos q, dif_pos h2, if_neg (by omega)]
      by_cases q2 : 240 < gD l p
      · rw [if_pos q2]
      · rw [if_neg q2, dif_neg (by omega)]
    · exact pktN_pk h2 hk
  · exact pktN_x0 (by omega)
theorem pktN_p {l acc : List Nat} {kd p : Nat} (h : p < l.length) (h2 : 223 < gD l p ∧ gD l p < 255) (hk : kd = 11) (hg : gD l p ≤ 240) (h3 : p + 1 + 2 ^ (gD l p - 224) ≤ l.length) : pktN l kd p acc = pktN l kd (p + 1 + 2 ^ (gD l p - 224)) (acc ++ sliceL l (p + 1) (2 ^ (gD l p - 224))) := by
  rw [pktN, dif_pos h, dif_pos h2, if_neg (by omega), if_neg (by omega), dif_pos h3]
theorem pktN_1 {l acc : List Nat} {kd p : Nat} (h : p < l.length) (h2 : gD l p < 192) : pktN l kd p acc = if p + 1 + gD l p ≤ l.length then some (acc ++ sliceL l (p + 1) (gD l p), p + 1 + gD l p) else none := by
  rw [pktN, dif_pos h, dif_neg (by omega), if_pos h2]
def mid (l : List Nat) (p : Nat) : Nat := (gD l p - 192) * 256 + gD l (p + 1) + 192
theorem pktN_2 {l acc : List Nat} {kd p : Nat} (h : p < l.length) (h1 : ¬ gD l p < 192) (h2 : gD l p < 224) : pktN l kd p acc = if p + 1 < l.length ∧ p + 2 + mid l p ≤ l.length then some (acc ++ sliceL l (p + 2) (mid l p), p + 2 + mid l p) else none := by
  rw [pktN, dif_pos h, dif_neg (by omega), if_neg h1, if_pos h2]; rfl
def bigN (l : List Nat) (p : Nat) : Nat := num (sl (gD l) (p + 1) 4)
theorem pktN_3 {l acc : List Nat} {kd p : Nat} (h : p < l.length) (h1 : ¬ gD l p < 224) (h2 : ¬ (223 < gD l p ∧ gD l p < 255)) : pktN l kd p acc = if p + 5 ≤ l.length ∧ p + 5 + bigN l p ≤ l.length then some (acc ++ sliceL l (p + 5) (bigN l p), p + 5 + bigN l p) else none := by
  rw [pktN, dif_pos h, dif_neg h2, if_neg (by omega), if_neg h1]
  by_cases q : p + 5 ≤ l.length
  · have e : num (sliceL l (p + 1) 4) = bigN l p := by unfold bigN; rw [sliceL_sl (by omega)]
    rw [e]
  · rw [if_neg (fun z => q z.1), if_neg (fun z => q z.1)]


theorem pktN_ge (l : List Nat) (kd : Nat) : ∀ (n pos : Nat) (acc : List Nat) (q : List Nat × Nat), l.length - pos < n → pktN l kd pos acc = some q → acc.length ≤ q.1.length := by
  intro n
  induction n with
  | zero => intro pos acc q h; omega
  | succ n ih =>
    intro pos acc q h hq
    have fin : ∀ (z : List Nat) (m : Nat) (P : Prop) [Decidable P], (if P then some (acc ++ z, m) else none) = some q → acc.length ≤ q.1.length := by
      intro z m P hP e9
      by_cases c9 : P
      · rw [if_pos c9] at e9
        cases e9
        show acc.length ≤ (acc ++ z).length
        rw [List.length_append]; omega
      · rw [if_neg c9] at e9; cases e9
    by_cases h0 : pos < l.length
    · by_cases h2 : 223 < gD l pos ∧ gD l pos < 255
      · by_cases hk : kd = 11
        · by_cases hg : 240 < gD l pos ∨ l.length < pos + 1 + 2 ^ (gD l pos - 224)
          · rw [pktN_pg h2 hg] at hq; cases hq
          · rw [pktN_p h0 h2 hk (by omega) (by omega)] at hq
            have := Nat.two_pow_pos (gD l pos - 224)
            have := ih _ _ _ (by omega) hq
            rw [List.length_append] at this
            omega
        · rw [pktN_pk h2 hk] at hq; cases hq
      · by_cases a1 : gD l pos < 192
        · rw [pktN_1 h0 a1] at hq; exact fin _ _ _ hq
        · by_cases a2 : gD l pos < 224
          · rw [pktN_2 h0 a1 a2] at hq; exact fin _ _ _ hq
          · rw [pktN_3 h0 a2 h2] at hq; exact fin _ _ _ hq
    · rw [pktN_x0 (by omega)] at hq; cases hq

set_option maxHeartbeats 400000 in
set_option maxRecDepth 100000 in
theorem c14_next (l : Launch) (D : va_G) (dA : Nat → ClassId) (B : Nat) (Z : State → Prop) (hZ : Stab B Z) (F : va_W) (pk ba n0 r : Nat) (gb : Nat → Nat) (lw : List Nat) (nx pl kd : Nat) (bo : Option Nat) (b cap : Nat) (g : Nat → Nat) (lr : List Nat) (k2 n2 : Nat) (bd : List Nat) (hba : (ba, bar dA n0 gb) ∈ F) (hsb : SBis gb n0 lw) (hbt : byt lw) (hn0 : n0 < 400000) (hl4 : lw.length ≤ 4096) (hnx : nx ≤ lw.length) (hsr : SBis g cap lr) (hcap : 64 ≤ cap) (hcm : cap < 400000) (hp : pktS lw nx = some (k2, bd, n2)) :
    Ct (S := Option Nat × Nat × (Nat → Nat) × va_W) l D dA B Z yX14_next cX14_next 3 none 10 (rC cap bd.length + 1) (rS cap bd.length + bd.length) [.ref pk] ([(pk, .inr (11, [.ref ba, .int (nI lw.length), .int (nI nx), .int (nI pl), .int (nI kd), va_rf bo, .ref r])), (r, .inr (1, [.ref b, .int (nI lr.length)])), (b, bar dA cap g)] ++ F) (fun u => SBis u.2.2.1 (gro cap bd.length) bd ∧ (if k2 = 11 then u.1 = none else ∃ q, u.1 = some q ∧ (q, bal dA bd) ∈ u.2.2.2 ∧ ∀ y, (q, y) ∈ F → False) ∧ ∀ x ∈ F, x ∈ u.2.2.2) (fun _ => none) (fun u => [(pk, .inr (11, [.ref ba, .int (nI lw.length), .int (nI n2), .int (nI nx), .int (nI k2), va_rf u.1, .ref r])), (r, .inr (1, [.ref u.2.1, .int (nI bd.length)])), (u.2.1, bar dA (gro cap bd.length) u.2.2.1)] ++ u.2.2.2) := by
  refine Ct.mk2 (by decide) (Nat.le_of_ble_eq_true rfl) hZ ?_
  intro p e R s m args below meth c ls Q C hr hlocks hin hQ hl h
  have C0 := C
  obtain ⟨hx, hb, hml, hown, hts, -⟩ := C0
  have hl : lv_has ls 3 [(0, .ref pk)] := hl
  have hsl := hsb.1
  have hgm := gro_b (cap := cap) (m := lw.length) (by omega)
  have hbx := byt_gD hbt nx
  have hnil : ([] : List Nat).length = 0 := rfl
  have hnl : nx < lw.length := by
    rcases Nat.lt_or_ge nx lw.length with q | q
    · exact q
    · rw [pktS_x0 q] at hp; cases hp
  have h128 : ¬ gD lw nx < 128 := fun q => by rw [pktS_x1 q] at hp; cases hp
  have hbl := pktS_adv hbt hp
  dsimp only at hbl
  have j214 : ∀ (b2 : Nat) (g2 : Nat → Nat) (F2 : va_W) (cc cs : Nat), (SBis g2 (gro cap bd.length) bd) → (∀ x ∈ F, x ∈ F2) → (cc ≤ rC cap bd.length) → (cs ≤ rS cap bd.length) → ∀ (H : Heap) (locs : List Loc), Wd D B s ([(pk, .inr (11, [.ref ba, .int (nI lw.length), .int (nI n2), .int (nI nx), .int (nI k2), va_rf bo, .ref r])), (r, .inr (1, [.ref b2, .int (nI bd.length)])), (b2, bar dA (gro cap bd.length) g2)] ++ F2) H locs → ∀ (ls : Array Slot), lv_has ls 3 [(0, .ref pk)] → W p l e R s m args below meth c H locs cc cs Q (F0 m 214 ls []) := by
    intro b2  g2  F2  cc cs  hs2 hsub hcc hcs H locs h ls hl
    have hgb9 := gro_b (cap := cap) (m := bd.length) (by omega)
    refine lv_aload_n hx hb dX14_next_214 rfl (lv_at hl 0 rfl) ?_
    refine lv_aload_n hx hb dX14_next_215 rfl (lv_at hl 0 rfl) ?_
    refine o_get C h (RC := RX14) (T := TX14) (N := 7) (List.mem_of_getElem? (i := 0) rfl) rfl in_X14 4 (by decide) q1030 rfl (v := .int (nI k2)) rfl dX14_next_216 ?_
    refine lv_bipush (v := nI 11) hx hb dX14_next_219 (by decide) ?_
    refine n_icmp_ne (tgt := 228) hx hb (by omega) (by omega) dX14_next_221 (by decide) (fun c221 => ?_) (fun c221 => ?_)
    · refine lv_aload_n hx hb dX14_next_228 rfl (lv_at hl 0 rfl) ?_
      refine o_get C h (RC := RX14) (T := TX14) (N := 7) (List.mem_of_getElem? (i := 0) rfl) rfl in_X14 6 (by decide) q1034 rfl (v := .ref r) rfl dX14_next_229 ?_
      have h : Wd D B s ([(r, .inr (1, [.ref b2, .int (nI bd.length)])), (b2, bar dA (gro cap bd.length) g2), (pk, .inr (11, [.ref ba, .int (nI lw.length), .int (nI n2), .int (nI nx), .int (nI k2), va_rf bo, .ref r]))] ++ F2) H locs := h.perm [1, 2, 0] rfl rfl
      refine call_VR (As := []) (rest := [.ref pk]) (n := 0) C h (c2_all l D dA B Z hZ ([(pk, .inr (11, [.ref ba, .int (nI lw.length), .int (nI n2), .int (nI nx), .int (nI k2), va_rf bo, .ref r]))] ++ F2) r b2 (gro cap bd.length) g2 bd hs2 (by omega) (by omega)) (lw_V q1080 q1081 q1082 q130 q1083) (by decide +kernel) (o_recv C h (RC := RX2) (T := TX2) (N := 2) (List.mem_of_getElem? (i := 0) rfl) rfl) (by decide) (by decide) rfl hl rfl (Nat.le_of_ble_eq_true rfl) dX14_next_232 (by omega) (fun q2 H locs _ h => ?_)
      have h : Wd D B s ([(r, .inr (1, [.ref b2, .int (nI bd.length)])), (b2, bar dA (gro cap bd.length) g2), (pk, .inr (11, [.ref ba, .int (nI lw.length), .int (nI n2), .int (nI nx), .int (nI k2), va_rf bo, .ref r]))] ++ (F2 ++ [(q2, bal dA bd)])) H locs := h
      refine o_put C h 2 (RC := RX14) (T := TX14) (N := 7) (ws' := [(r, .inr (1, [.ref b2, .int (nI bd.length)])), (b2, bar dA (gro cap bd.length) g2), (pk, .inr (11, [.ref ba, .int (nI lw.length), .int (nI n2), .int (nI nx), .int (nI k2), .ref q2, .ref r]))] ++ (F2 ++ [(q2, bal dA bd)])) rfl rfl in_X14 tyX14_ok nmX14 5 (by decide) q1032 rfl rfl (v := .ref q2) rfl rfl (Nat.le_of_ble_eq_true rfl) rfl dX14_next_235 (fun H locs h => ?_)
      subst hQ
      have h : Wd D B s ([(pk, .inr (11, [.ref ba, .int (nI lw.length), .int (nI n2), .int (nI nx), .int (nI k2), va_rf (some q2), .ref r])), (r, .inr (1, [.ref b2, .int (nI bd.length)])), (b2, bar dA (gro cap bd.length) g2)] ++ (F2 ++ [(q2, bal dA bd)])) H locs := h.perm [2, 0, 1] rfl rfl
      exact ret_v C hr hlocks h (some q2, b2, g2, F2 ++ [(q2, bal dA bd)]) (⟨hs2, by rw [if_neg c221]; exact ⟨q2, rfl, List.mem_append_right _ List.mem_cons_self, fun y hy => Wd.freshL h (hsub _ hy)⟩, fun z hz => List.mem_append_left _ (hsub z hz)⟩) rfl rfl (by omega) (by omega) dX14_next_238
    · refine lv_null hx hb dX14_next_224 ?_
      refine lv_goto (tgt := 235) hx hb dX14_next_225 (by decide) ?_
      refine o_put C h 0 (RC := RX14) (T := TX14) (N := 7) (ws' := [(pk, .inr (11, [.ref ba, .int (nI lw.length), .int (nI n2), .int (nI nx), .int (nI k2), .null, .ref r])), (r, .inr (1, [.ref b2, .int (nI bd.length)])), (b2, bar dA (gro cap bd.length) g2)] ++ F2) rfl rfl in_X14 tyX14_ok nmX14 5 (by decide) q1032 rfl rfl (v := .null) rfl rfl (Nat.le_of_ble_eq_true rfl) rfl dX14_next_235 (fun H locs h => ?_)
      subst hQ
      have h : Wd D B s ([(pk, .inr (11, [.ref ba, .int (nI lw.length), .int (nI n2), .int (nI nx), .int (nI k2), va_rf none, .ref r])), (r, .inr (1, [.ref b2, .int (nI bd.length)])), (b2, bar dA (gro cap bd.length) g2)] ++ F2) H locs := h.perm [0, 1, 2] rfl rfl
      exact ret_v C hr hlocks h (none, b2, g2, F2) (⟨hs2, by rw [if_pos c221], hsub⟩) rfl rfl (by omega) (by omega) dX14_next_238
  refine lv_aload_n hx hb dX14_next_0 rfl (lv_at hl 0 rfl) ?_
  refine lv_aload_n hx hb dX14_next_1 rfl (lv_at hl 0 rfl) ?_
  refine o_get C h (RC := RX14) (T := TX14) (N := 7) (List.mem_of_getElem? (i := 0) rfl) rfl in_X14 2 (by decide) q1028 rfl (v := .int (nI nx)) rfl dX14_next_2 ?_
  refine o_put C h 0 (RC := RX14) (T := TX14) (N := 7) (ws' := [(pk, .inr (11, [.ref ba, .int (nI lw.length), .int (nI nx), .int (nI nx), .int (nI kd), va_rf bo, .ref r])), (r, .inr (1, [.ref b, .int (nI lr.length)])), (b, bar dA cap g)] ++ F) rfl rfl in_X14 tyX14_ok nmX14 3 (by decide) q1029 rfl rfl (v := .int (nI nx)) rfl rfl (Nat.le_of_ble_eq_true rfl) rfl dX14_next_5 (fun H locs h => ?_)
  refine lv_aload_n hx hb dX14_next_8 rfl (lv_at hl 0 rfl) ?_
  refine call_VR (As := []) (rest := []) (n := 0) C h (c14_take l D dA B Z hZ ([(r, .inr (1, [.ref b, .int (nI lr.length)])), (b, bar dA cap g)] ++ F) pk ba n0 r gb lw nx nx kd bo (List.mem_append_right _ hba) hsb hbt hn0 hl4 (by omega)) (lw_V q1059 q1061 qs8 q162 q1062) (by decide +kernel) (o_recv C h (RC := RX14) (T := TX14) (N := 7) (List.mem_of_getElem? (i := 0) rfl) rfl) (by decide) (by decide) rfl hl rfl (Nat.le_of_ble_eq_true rfl) dX14_next_9 (by omega) (fun _ H locs _ h => ?_)
  have h : Wd D B s ([(pk, .inr (11, [.ref ba, .int (nI lw.length), .int (nI (nx + 1)), .int (nI nx), .int (nI kd), va_rf bo, .ref r])), (r, .inr (1, [.ref b, .int (nI lr.length)])), (b, bar dA cap g)] ++ F) H locs := h
  refine lv_istore_n (lv' := [(1, .int (nI (gD lw nx))), (0, .ref pk)]) hx hb dX14_next_12 rfl hl (by decide) rfl (fun ls hl => ?_)
  refine lv_iload_n hx hb dX14_next_13 rfl (lv_at hl 0 rfl) ?_
  refine lv_sipush (v := nI 128) hx hb dX14_next_14 (by decide) ?_
  refine n_icmp_ge (tgt := 25) hx hb (by omega) (by omega) dX14_next_17 (by decide) (fun c17 => ?_) (fun c17 => by exfalso; omega)
  refine lv_aload_n hx hb dX14_next_25 rfl (lv_at hl 1 rfl) ?_
  refine o_get C h (RC := RX14) (T := TX14) (N := 7) (List.mem_of_getElem? (i := 0) rfl) rfl in_X14 6 (by decide) q1034 rfl (v := .ref r) rfl dX14_next_26 ?_
  have h : Wd D B s ([(r, .inr (1, [.ref b, .int (nI lr.length)])), (b, bar dA cap g), (pk, .inr (11, [.ref ba, .int (nI lw.length), .int (nI (nx + 1)), .int (nI nx), .int (nI kd), va_rf bo, .ref r]))] ++ F) H locs := h.perm [1, 2, 0] rfl rfl
  refine call_VR (As := []) (rest := []) (n := 0) C h (c2_clear l D dA B Z hZ ([(pk, .inr (11, [.ref ba, .int (nI lw.length), .int (nI (nx + 1)), .int (nI nx), .int (nI kd), va_rf bo, .ref r]))] ++ F) r b cap g lr) (lw_V q1069 q554 q555 q130 q556) (by decide +kernel) (o_recv C h (RC := RX2) (T := TX2) (N := 2) (List.mem_of_getElem? (i := 0) rfl) rfl) (by decide) (by decide) rfl hl rfl (Nat.le_of_ble_eq_true rfl) dX14_next_29 (by omega) (fun _ H locs _ h => ?_)
  have h : Wd D B s ([(r, .inr (1, [.ref b, .int (nI (([] : List Nat).length))])), (b, bar dA cap g), (pk, .inr (11, [.ref ba, .int (nI lw.length), .int (nI (nx + 1)), .int (nI nx), .int (nI kd), va_rf bo, .ref r]))] ++ F) H locs := h
  refine lv_iload_n hx hb dX14_next_32 rfl (lv_at hl 0 rfl) ?_
  refine lv_sipush (v := nI 192) hx hb dX14_next_33 (by decide) ?_
  refine n_icmp_ge (tgt := 81) hx hb (by omega) (by omega) dX14_next_36 (by decide) (fun c36 => ?_) (fun c36 => ?_)
  · refine lv_aload_n hx hb dX14_next_81 rfl (lv_at hl 1 rfl) ?_
    refine lv_iload_n hx hb dX14_next_82 rfl (lv_at hl 0 rfl) ?_
    refine lv_bipush (v := nI 63) hx hb dX14_next_83 (by decide) ?_
    refine lv_iand hx hb dX14_next_85 ?_
    refine n_top (y := nI (gD lw nx - 192)) ((pk_andN (by omega) 6 (by decide)).trans (congrArg nI (by omega))) ?_
    refine o_put C h 2 (RC := RX14) (T := TX14) (N := 7) (ws' := [(r, .inr (1, [.ref b, .int (nI (([] : List Nat).length))])), (b, bar dA cap g), (pk, .inr (11, [.ref ba, .int (nI lw.length), .int (nI (nx + 1)), .int (nI nx), .int (nI (gD lw nx - 192)), va_rf bo, .ref r]))] ++ F) rfl rfl in_X14 tyX14_ok nmX14 4 (by decide) q1030 rfl rfl (v := .int (nI (gD lw nx - 192))) rfl rfl (Nat.le_of_ble_eq_true rfl) rfl dX14_next_86 (fun H locs h => ?_)
    rw [pktS_w hnl (by omega)] at hp
    obtain ⟨hk2, hN⟩ : gD lw nx - 192 = k2 ∧ pktN lw k2 (nx + 1) [] = some (bd, n2) := by
      cases q : pktN lw (gD lw nx - 192) (nx + 1) [] with
      | none => rw [q] at hp; cases hp
      | some z => rw [q] at hp; cases hp; exact ⟨rfl, q⟩
    rw [hk2] at h
    have h : Wd D B s ([(r, .inr (1, [.ref b, .int (nI (([] : List Nat).length))])), (b, bar dA cap g), (pk, .inr (11, [.ref ba, .int (nI lw.length), .int (nI (nx + 1)), .int (nI nx), .int (nI k2), va_rf bo, .ref r]))] ++ F) H locs := h
    have hn1 : nx + 1 < lw.length := by
      rcases Nat.lt_or_ge (nx + 1) lw.length with q | q
      · exact q
      · rw [pktN_x0 q] at hN; cases hN
    refine lv_aload_n hx hb dX14_next_89 rfl (lv_at hl 1 rfl) ?_
    have h : Wd D B s ([(pk, .inr (11, [.ref ba, .int (nI lw.length), .int (nI (nx + 1)), .int (nI nx), .int (nI k2), va_rf bo, .ref r])), (r, .inr (1, [.ref b, .int (nI (([] : List Nat).length))])), (b, bar dA cap g)] ++ F) H locs := h.perm [2, 0, 1] rfl rfl
    refine call_VR (As := []) (rest := []) (n := 0) C h (c14_take l D dA B Z hZ ([(r, .inr (1, [.ref b, .int (nI (([] : List Nat).length))])), (b, bar dA cap g)] ++ F) pk ba n0 r gb lw (nx + 1) nx k2 bo (List.mem_append_right _ hba) hsb hbt hn0 hl4 (by omega)) (lw_V q1059 q1061 qs8 q162 q1062) (by decide +kernel) (o_recv C h (RC := RX14) (T := TX14) (N := 7) (List.mem_of_getElem? (i := 0) rfl) rfl) (by decide) (by decide) rfl hl rfl (Nat.le_of_ble_eq_true rfl) dX14_next_90 (by omega) (fun _ H locs _ h => ?_)
    have h : Wd D B s ([(pk, .inr (11, [.ref ba, .int (nI lw.length), .int (nI (nx + 1 + 1)), .int (nI nx), .int (nI k2), va_rf bo, .ref r])), (r, .inr (1, [.ref b, .int (nI (([] : List Nat).length))])), (b, bar dA cap g)] ++ F) H locs := h
    refine lv_istore_n (lv' := [(2, .int (nI (gD lw (nx + 1)))), (1, .int (nI (gD lw nx))), (0, .ref pk)]) hx hb dX14_next_93 rfl hl (by decide) rfl (fun ls hl => ?_)
    have h : Wd D B s ([(pk, .inr (11, [.ref ba, .int (nI lw.length), .int (nI ((nx + 1) + 1)), .int (nI nx), .int (nI k2), va_rf bo, .ref r])), (r, .inr (1, [.ref b, .int (nI (([] : List Nat).length))])), (b, bar dA cap g)] ++ F) H locs := h.perm [0, 1, 2] rfl rfl
    have hcn : cap = gro cap ([] : List Nat).length := (gro_le (m := ([] : List Nat).length) (Nat.zero_le _)).symm
    have loop : ∀ (nn : Nat) (po : Nat) (acc : List Nat) (b2 c2 : Nat) (g2 : Nat → Nat) (F2 : va_W) (cc cs : Nat), (pktN lw k2 po acc = some (bd, n2)) → (po < lw.length) → (acc.length ≤ po) → (SBis g2 c2 acc) → (c2 = gro cap acc.length) → (∀ x ∈ F, x ∈ F2) → (cc ≤ rC cap acc.length) → (cs ≤ rS cap acc.length) → lw.length - po < nn → ∀ (H : Heap) (locs : List Loc), Wd D B s ([(pk, .inr (11, [.ref ba, .int (nI lw.length), .int (nI (po + 1)), .int (nI nx), .int (nI k2), va_rf bo, .ref r])), (r, .inr (1, [.ref b2, .int (nI acc.length)])), (b2, bar dA c2 g2)] ++ F2) H locs → ∀ (ls : Array Slot), lv_has ls 3 [(2, .int (nI (gD lw po))), (0, .ref pk)] → W p l e R s m args below meth c H locs cc cs Q (F0 m 94 ls []) := by
      intro nn
      induction nn with
      | zero => intro po  acc  b2 c2  g2  F2  cc cs  hN hpl hal hs2 hc2 hsub hcc hcs hme; exact absurd hme (Nat.not_lt_zero _)
      | succ nn ih =>
        intro po  acc  b2 c2  g2  F2  cc cs  hN hpl hal hs2 hc2 hsub hcc hcs hme H locs h ls hl
        have hbp := byt_gD hbt po
        have hgb9 := gro_b (cap := cap) (m := acc.length) (by omega)
        have hgo := GrOk.of (cap := cap) (m := lw.length) (n := acc.length) hcap (by omega)
        have hlt2 : c2 ≤ gro cap lw.length := by rw [hc2]; exact hgo.2.2
        have hmn := rC_add (cap := cap) (m := acc.length) (m' := bd.length) (by omega) (pktN_ge lw k2 _ _ _ _ (Nat.lt_succ_self _) hN)
        have hge := pktN_ge lw k2 _ _ _ _ (Nat.lt_succ_self _) hN
        dsimp only at hge
        have j162 : (¬ (223 < gD lw po ∧ gD lw po < 255)) → ∀ (H : Heap) (locs : List Loc), Wd D B s ([(pk, .inr (11, [.ref ba, .int (nI lw.length), .int (nI (po + 1)), .int (nI nx), .int (nI k2), va_rf bo, .ref r])), (r, .inr (1, [.ref b2, .int (nI acc.length)])), (b2, bar dA c2 g2)] ++ F2) H locs → ∀ (ls : Array Slot), lv_has ls 3 [(2, .int (nI (gD lw po))), (0, .ref pk)] → W p l e R s m args below meth c H locs cc cs Q (F0 m 162 ls []) := by
          intro  hnp H locs h ls hl
          refine lv_aload_n hx hb dX14_next_162 rfl (lv_at hl 1 rfl) ?_
          refine lv_aload_n hx hb dX14_next_163 rfl (lv_at hl 1 rfl) ?_
          refine o_get C h (RC := RX14) (T := TX14) (N := 7) (List.mem_of_getElem? (i := 0) rfl) rfl in_X14 6 (by decide) q1034 rfl (v := .ref r) rfl dX14_next_164 ?_
          refine lv_iload_n hx hb dX14_next_167 rfl (lv_at hl 0 rfl) ?_
          refine lv_sipush (v := nI 192) hx hb dX14_next_168 (by decide) ?_
          refine n_icmp_ge (tgt := 178) hx hb (by omega) (by omega) dX14_next_171 (by decide) (fun c171 => ?_) (fun c171 => ?_)
          · refine lv_iload_n hx hb dX14_next_178 rfl (lv_at hl 0 rfl) ?_
            refine lv_sipush (v := nI 224) hx hb dX14_next_179 (by decide) ?_
            refine n_icmp_ge (tgt := 206) hx hb (by omega) (by omega) dX14_next_182 (by decide) (fun c182 => ?_) (fun c182 => ?_)
            · have hq5 : po + 5 ≤ lw.length ∧ po + 5 + bigN lw po ≤ lw.length := by
                by_cases q : po + 5 ≤ lw.length ∧ po + 5 + bigN lw po ≤ lw.length
                · exact q
                · rw [pktN_3 hpl (by omega) hnp, if_neg q] at hN; cases hN
              have hbig : num (sl (gD lw) (po + 1) 4) ≤ 65536 := by show bigN lw po ≤ 65536; omega
              refine lv_aload_n hx hb dX14_next_206 rfl (lv_at hl 1 rfl) ?_
              refine lv_iconst (v := nI 4) hx hb dX14_next_207 (by decide) ?_
              refine call_VR (As := [.int (nI 4)]) (rest := [.ref r, .ref pk]) (n := 1) C h (c14_takeN l D dA B Z hZ ([(r, .inr (1, [.ref b2, .int (nI acc.length)])), (b2, bar dA c2 g2)] ++ F2) pk ba n0 r gb lw (po + 1) nx k2 bo 4 (List.mem_append_right _ (hsub _ hba)) hsb hbt hn0 hl4 (by omega) (by omega) hbig) (lw_V q1070 q1072 qs9 q162 q1073) (by decide +kernel) (o_recv C h (RC := RX14) (T := TX14) (N := 7) (List.mem_of_getElem? (i := 0) rfl) rfl) (by decide) (by decide) rfl hl rfl (Nat.le_of_ble_eq_true rfl) dX14_next_208 (by omega) (fun _ H locs _ h => ?_)
              have h : Wd D B s ([(pk, .inr (11, [.ref ba, .int (nI lw.length), .int (nI (po + 1 + 4)), .int (nI nx), .int (nI k2), va_rf bo, .ref r])), (r, .inr (1, [.ref b2, .int (nI acc.length)])), (b2, bar dA c2 g2)] ++ F2) H locs := h
              refine n_top (y := nI (bigN lw po)) rfl ?_
              rw [pktN_3 hpl (by omega) hnp] at hN
              have hq9 : po + 5 ≤ lw.length ∧ po + 5 + bigN lw po ≤ lw.length := by
                by_cases q : po + 5 ≤ lw.length ∧ po + 5 + bigN lw po ≤ lw.length
                · exact q
                · rw [if_neg q] at hN; cases hN
              rw [if_pos hq9] at hN
              obtain ⟨hbe0, hne0⟩ := Prod.mk.inj (Option.some.inj hN)
              have hlq0 := congrArg List.length hbe0
              have hlq := List.length_append (as := acc) (bs := sliceL lw (po + 5) (bigN lw po))
              rw [sliceL_len (by omega)] at hlq
              rw [hlq] at hlq0
              have hne : po + 1 + 4 + bigN lw po = n2 := by omega
              refine call_VR (As := [.ref r, .int (nI (bigN lw po))]) (rest := []) (n := 2) C h (c14_put l D dA B Z hZ F2 pk ba n0 r gb lw (po + 1 + 4) nx k2 bo (bigN lw po) b2 c2 g2 acc (hsub _ hba) hsb hbt hn0 hl4 (by omega) (by omega) hs2 (by omega) (by omega) (by omega) (by omega)) (lw_V q1075 q1077 qs10 q162 q1078) (by decide +kernel) (o_recv C h (RC := RX14) (T := TX14) (N := 7) (List.mem_of_getElem? (i := 0) rfl) rfl) (by decide) (by decide) rfl hl rfl (Nat.le_of_ble_eq_true rfl) dX14_next_211 (by
                have hll9 := sliceL_len (l := lw) (a := po + 1 + 4) (n := bigN lw po) (by omega)
                have hla9 : (acc ++ sliceL lw (po + 1 + 4) (bigN lw po)).length = acc.length + (bigN lw po) := by rw [List.length_append, hll9]
                have z1 := rC_add (cap := cap) (m := acc.length) (m' := (acc ++ sliceL lw (po + 1 + 4) (bigN lw po)).length) (by omega) (by omega)
                have z2 := rC_add (cap := cap) (m := (acc ++ sliceL lw (po + 1 + 4) (bigN lw po)).length) (m' := bd.length) (by omega) (by omega)
                rw [← hc2] at z1
                omega) (fun u3 H locs hu3 h => ?_)
              obtain ⟨b3, g3, E3⟩ := u3
              dsimp only at hu3
              have hll9 := sliceL_len (l := lw) (a := po + 1 + 4) (n := bigN lw po) (by omega)
              have hla9 : (acc ++ sliceL lw (po + 1 + 4) (bigN lw po)).length = acc.length + (bigN lw po) := by rw [List.length_append, hll9]
              have hc3 : gro c2 (acc ++ sliceL lw (po + 1 + 4) (bigN lw po)).length = gro cap (acc ++ sliceL lw (po + 1 + 4) (bigN lw po)).length := by rw [hc2]; exact gro_gro (by omega) (by omega)
              have z1 := rC_add (cap := cap) (m := acc.length) (m' := (acc ++ sliceL lw (po + 1 + 4) (bigN lw po)).length) (by omega) (by omega)
              rw [← hc2] at z1
              have z2 := rC_add (cap := cap) (m := (acc ++ sliceL lw (po + 1 + 4) (bigN lw po)).length) (m' := bd.length) (by omega) (by omega)
              rw [hc3] at hu3 h
              have h : Wd D B s ([(pk, .inr (11, [.ref ba, .int (nI lw.length), .int (nI (po + 1 + 4 + (bigN lw po))), .int (nI nx), .int (nI k2), va_rf bo, .ref r])), (r, .inr (1, [.ref b3, .int (nI ((acc ++ sliceL lw (po + 1 + 4) (bigN lw po)).length))])), (b3, bar dA (gro cap (acc ++ sliceL lw (po + 1 + 4) (bigN lw po)).length) g3)] ++ (F2 ++ E3)) H locs := h
              have hbe : acc ++ sliceL lw (po + 1 + 4) (bigN lw po) = bd := hbe0
              have hr9 : rC cap (acc ++ sliceL lw (po + 1 + 4) (bigN lw po)).length = rC cap bd.length ∧ rS cap (acc ++ sliceL lw (po + 1 + 4) (bigN lw po)).length = rS cap bd.length := by rw [hbe]; exact ⟨rfl, rfl⟩
              rw [hbe] at h hu3
              rw [hne] at h
              have h : Wd D B s ([(pk, .inr (11, [.ref ba, .int (nI lw.length), .int (nI n2), .int (nI nx), .int (nI k2), va_rf bo, .ref r])), (r, .inr (1, [.ref b3, .int (nI bd.length)])), (b3, bar dA (gro cap bd.length) g3)] ++ (F2 ++ E3)) H locs := h
              exact j214 b3 g3 (F2 ++ E3) _ _ hu3 (fun z hz => List.mem_append_left _ (hsub z hz)) (by omega) (by omega) _ _ h _ (lv_sub hl [1] rfl)
            · refine lv_iload_n hx hb dX14_next_185 rfl (lv_at hl 0 rfl) ?_
              refine lv_sipush (v := nI 192) hx hb dX14_next_186 (by decide) ?_
              refine lv_isub hx hb dX14_next_189 (n_top (y := nI (gD lw po - 192)) (pk_sub (by omega)) ?_)
              refine lv_sipush (v := nI 256) hx hb dX14_next_190 (by decide) ?_
              refine lv_imul hx hb dX14_next_193 (n_top (y := nI ((gD lw po - 192) * 256)) (pk_mul (gD lw po - 192) 256) ?_)
              have hc195 : po + 1 < lw.length := by
                rcases Nat.lt_or_ge (po + 1) lw.length with q | q
                · exact q
                · rw [pktN_2 hpl (by omega) c182, if_neg (by omega)] at hN; cases hN
              refine lv_aload_n hx hb dX14_next_194 rfl (lv_at hl 1 rfl) ?_
              refine call_VR (As := []) (rest := [.int (nI ((gD lw po - 192) * 256)), .ref r, .ref pk]) (n := 0) C h (c14_take l D dA B Z hZ ([(r, .inr (1, [.ref b2, .int (nI acc.length)])), (b2, bar dA c2 g2)] ++ F2) pk ba n0 r gb lw (po + 1) nx k2 bo (List.mem_append_right _ (hsub _ hba)) hsb hbt hn0 hl4 (by omega)) (lw_V q1059 q1061 qs8 q162 q1062) (by decide +kernel) (o_recv C h (RC := RX14) (T := TX14) (N := 7) (List.mem_of_getElem? (i := 0) rfl) rfl) (by decide) (by decide) rfl hl rfl (Nat.le_of_ble_eq_true rfl) dX14_next_195 (by omega) (fun _ H locs _ h => ?_)
              have h : Wd D B s ([(pk, .inr (11, [.ref ba, .int (nI lw.length), .int (nI (po + 1 + 1)), .int (nI nx), .int (nI k2), va_rf bo, .ref r])), (r, .inr (1, [.ref b2, .int (nI acc.length)])), (b2, bar dA c2 g2)] ++ F2) H locs := h
              have hby2 := byt_gD hbt (po + 1)
              have hmid : mid lw po < 20000 := by unfold mid; omega
              refine lv_iadd hx hb dX14_next_198 (n_top (y := nI (((gD lw po - 192) * 256) + (gD lw (po + 1)))) (nI_add ((gD lw po - 192) * 256) (gD lw (po + 1))) ?_)
              refine lv_sipush (v := nI 192) hx hb dX14_next_199 (by decide) ?_
              refine lv_iadd hx hb dX14_next_202 ?_
              refine n_top (y := nI (mid lw po)) ((nI_add _ _).trans rfl) ?_
              refine lv_goto (tgt := 211) hx hb dX14_next_203 (by decide) ?_
              rw [pktN_2 hpl (by omega) c182] at hN
              have hq9 : po + 1 < lw.length ∧ po + 2 + mid lw po ≤ lw.length := by
                by_cases q : po + 1 < lw.length ∧ po + 2 + mid lw po ≤ lw.length
                · exact q
                · rw [if_neg q] at hN; cases hN
              rw [if_pos hq9] at hN
              obtain ⟨hbe0, hne0⟩ := Prod.mk.inj (Option.some.inj hN)
              have hlq0 := congrArg List.length hbe0
              have hlq := List.length_append (as := acc) (bs := sliceL lw (po + 2) (mid lw po))
              rw [sliceL_len (by omega)] at hlq
              rw [hlq] at hlq0
              have hne : po + 1 + 1 + mid lw po = n2 := by omega
              refine call_VR (As := [.ref r, .int (nI (mid lw po))]) (rest := []) (n := 2) C h (c14_put l D dA B Z hZ F2 pk ba n0 r gb lw (po + 1 + 1) nx k2 bo (mid lw po) b2 c2 g2 acc (hsub _ hba) hsb hbt hn0 hl4 (by omega) (by omega) hs2 (by omega) (by omega) (by omega) (by omega)) (lw_V q1075 q1077 qs10 q162 q1078) (by decide +kernel) (o_recv C h (RC := RX14) (T := TX14) (N := 7) (List.mem_of_getElem? (i := 0) rfl) rfl) (by decide) (by decide) rfl hl rfl (Nat.le_of_ble_eq_true rfl) dX14_next_211 (by
                have hll9 := sliceL_len (l := lw) (a := po + 1 + 1) (n := mid lw po) (by omega)
                have hla9 : (acc ++ sliceL lw (po + 1 + 1) (mid lw po)).length = acc.length + (mid lw po) := by rw [List.length_append, hll9]
                have z1 := rC_add (cap := cap) (m := acc.length) (m' := (acc ++ sliceL lw (po + 1 + 1) (mid lw po)).length) (by omega) (by omega)
                have z2 := rC_add (cap := cap) (m := (acc ++ sliceL lw (po + 1 + 1) (mid lw po)).length) (m' := bd.length) (by omega) (by omega)
                rw [← hc2] at z1
                omega) (fun u3 H locs hu3 h => ?_)
              obtain ⟨b3, g3, E3⟩ := u3
              dsimp only at hu3
              have hll9 := sliceL_len (l := lw) (a := po + 1 + 1) (n := mid lw po) (by omega)
              have hla9 : (acc ++ sliceL lw (po + 1 + 1) (mid lw po)).length = acc.length + (mid lw po) := by rw [List.length_append, hll9]
              have hc3 : gro c2 (acc ++ sliceL lw (po + 1 + 1) (mid lw po)).length = gro cap (acc ++ sliceL lw (po + 1 + 1) (mid lw po)).length := by rw [hc2]; exact gro_gro (by omega) (by omega)
              have z1 := rC_add (cap := cap) (m := acc.length) (m' := (acc ++ sliceL lw (po + 1 + 1) (mid lw po)).length) (by omega) (by omega)
              rw [← hc2] at z1
              have z2 := rC_add (cap := cap) (m := (acc ++ sliceL lw (po + 1 + 1) (mid lw po)).length) (m' := bd.length) (by omega) (by omega)
              rw [hc3] at hu3 h
              have h : Wd D B s ([(pk, .inr (11, [.ref ba, .int (nI lw.length), .int (nI (po + 1 + 1 + (mid lw po))), .int (nI nx), .int (nI k2), va_rf bo, .ref r])), (r, .inr (1, [.ref b3, .int (nI ((acc ++ sliceL lw (po + 1 + 1) (mid lw po)).length))])), (b3, bar dA (gro cap (acc ++ sliceL lw (po + 1 + 1) (mid lw po)).length) g3)] ++ (F2 ++ E3)) H locs := h
              have hbe : acc ++ sliceL lw (po + 1 + 1) (mid lw po) = bd := hbe0
              have hr9 : rC cap (acc ++ sliceL lw (po + 1 + 1) (mid lw po)).length = rC cap bd.length ∧ rS cap (acc ++ sliceL lw (po + 1 + 1) (mid lw po)).length = rS cap bd.length := by rw [hbe]; exact ⟨rfl, rfl⟩
              rw [hbe] at h hu3
              rw [hne] at h
              have h : Wd D B s ([(pk, .inr (11, [.ref ba, .int (nI lw.length), .int (nI n2), .int (nI nx), .int (nI k2), va_rf bo, .ref r])), (r, .inr (1, [.ref b3, .int (nI bd.length)])), (b3, bar dA (gro cap bd.length) g3)] ++ (F2 ++ E3)) H locs := h
              exact j214 b3 g3 (F2 ++ E3) _ _ hu3 (fun z hz => List.mem_append_left _ (hsub z hz)) (by omega) (by omega) _ _ h _ (lv_sub hl [1] rfl)
          · refine lv_iload_n hx hb dX14_next_174 rfl (lv_at hl 0 rfl) ?_
            refine lv_goto (tgt := 211) hx hb dX14_next_175 (by decide) ?_
            rw [pktN_1 hpl c171] at hN
            have hq9 : po + 1 + gD lw po ≤ lw.length := by
              by_cases q : po + 1 + gD lw po ≤ lw.length
              · exact q
              · rw [if_neg q] at hN; cases hN
            rw [if_pos hq9] at hN
            obtain ⟨hbe0, hne0⟩ := Prod.mk.inj (Option.some.inj hN)
            have hlq0 := congrArg List.length hbe0
            have hlq := List.length_append (as := acc) (bs := sliceL lw (po + 1) (gD lw po))
            rw [sliceL_len (by omega)] at hlq
            rw [hlq] at hlq0
            have hne : po + 1 + gD lw po = n2 := by omega
            refine call_VR (As := [.ref r, .int (nI (gD lw po))]) (rest := []) (n := 2) C h (c14_put l D dA B Z hZ F2 pk ba n0 r gb lw (po + 1) nx k2 bo (gD lw po) b2 c2 g2 acc (hsub _ hba) hsb hbt hn0 hl4 (by omega) (by omega) hs2 (by omega) (by omega) (by omega) (by omega)) (lw_V q1075 q1077 qs10 q162 q1078) (by decide +kernel) (o_recv C h (RC := RX14) (T := TX14) (N := 7) (List.mem_of_getElem? (i := 0) rfl) rfl) (by decide) (by decide) rfl hl rfl (Nat.le_of_ble_eq_true rfl) dX14_next_211 (by
              have hll9 := sliceL_len (l := lw) (a := po + 1) (n := gD lw po) (by omega)
              have hla9 : (acc ++ sliceL lw (po + 1) (gD lw po)).length = acc.length + (gD lw po) := by rw [List.length_append, hll9]
              have z1 := rC_add (cap := cap) (m := acc.length) (m' := (acc ++ sliceL lw (po + 1) (gD lw po)).length) (by omega) (by omega)
              have z2 := rC_add (cap := cap) (m := (acc ++ sliceL lw (po + 1) (gD lw po)).length) (m' := bd.length) (by omega) (by omega)
              rw [← hc2] at z1
              omega) (fun u3 H locs hu3 h => ?_)
            obtain ⟨b3, g3, E3⟩ := u3
            dsimp only at hu3
            have hll9 := sliceL_len (l := lw) (a := po + 1) (n := gD lw po) (by omega)
            have hla9 : (acc ++ sliceL lw (po + 1) (gD lw po)).length = acc.length + (gD lw po) := by rw [List.length_append, hll9]
            have hc3 : gro c2 (acc ++ sliceL lw (po + 1) (gD lw po)).length = gro cap (acc ++ sliceL lw (po + 1) (gD lw po)).length := by rw [hc2]; exact gro_gro (by omega) (by omega)
            have z1 := rC_add (cap := cap) (m := acc.length) (m' := (acc ++ sliceL lw (po + 1) (gD lw po)).length) (by omega) (by omega)
            rw [← hc2] at z1
            have z2 := rC_add (cap := cap) (m := (acc ++ sliceL lw (po + 1) (gD lw po)).length) (m' := bd.length) (by omega) (by omega)
            rw [hc3] at hu3 h
            have h : Wd D B s ([(pk, .inr (11, [.ref ba, .int (nI lw.length), .int (nI (po + 1 + (gD lw po))), .int (nI nx), .int (nI k2), va_rf bo, .ref r])), (r, .inr (1, [.ref b3, .int (nI ((acc ++ sliceL lw (po + 1) (gD lw po)).length))])), (b3, bar dA (gro cap (acc ++ sliceL lw (po + 1) (gD lw po)).length) g3)] ++ (F2 ++ E3)) H locs := h
            have hbe : acc ++ sliceL lw (po + 1) (gD lw po) = bd := hbe0
            have hr9 : rC cap (acc ++ sliceL lw (po + 1) (gD lw po)).length = rC cap bd.length ∧ rS cap (acc ++ sliceL lw (po + 1) (gD lw po)).length = rS cap bd.length := by rw [hbe]; exact ⟨rfl, rfl⟩
            rw [hbe] at h hu3
            rw [hne] at h
            have h : Wd D B s ([(pk, .inr (11, [.ref ba, .int (nI lw.length), .int (nI n2), .int (nI nx), .int (nI k2), va_rf bo, .ref r])), (r, .inr (1, [.ref b3, .int (nI bd.length)])), (b3, bar dA (gro cap bd.length) g3)] ++ (F2 ++ E3)) H locs := h
            exact j214 b3 g3 (F2 ++ E3) _ _ hu3 (fun z hz => List.mem_append_left _ (hsub z hz)) (by omega) (by omega) _ _ h _ (lv_sub hl [1] rfl)
        refine lv_iload_n hx hb dX14_next_94 rfl (lv_at hl 0 rfl) ?_
        refine lv_sipush (v := nI 224) hx hb dX14_next_95 (by decide) ?_
        refine n_icmp_lt (tgt := 162) hx hb (by omega) (by omega) dX14_next_98 (by decide) (fun c98 => ?_) (fun c98 => ?_)
        · exact j162  (by omega) _ _ h _ (lv_sub hl [0, 1] rfl)
        · refine lv_iload_n hx hb dX14_next_101 rfl (lv_at hl 0 rfl) ?_
          refine lv_sipush (v := nI 255) hx hb dX14_next_102 (by decide) ?_
          refine n_icmp_ge (tgt := 162) hx hb (by omega) (by omega) dX14_next_105 (by decide) (fun c105 => ?_) (fun c105 => ?_)
          · exact j162  (by omega) _ _ h _ (lv_sub hl [0, 1] rfl)
          · refine lv_aload_n hx hb dX14_next_108 rfl (lv_at hl 1 rfl) ?_
            refine o_get C h (RC := RX14) (T := TX14) (N := 7) (List.mem_of_getElem? (i := 0) rfl) rfl in_X14 4 (by decide) q1030 rfl (v := .int (nI k2)) rfl dX14_next_109 ?_
            refine lv_bipush (v := nI 11) hx hb dX14_next_112 (by decide) ?_
            refine n_icmp_eq (tgt := 122) hx hb (by omega) (by omega) dX14_next_114 (by decide) (fun c114 => ?_) (fun c114 => by exfalso; rw [pktN_pk ⟨by omega, by omega⟩ (by omega)] at hN; cases hN)
            refine lv_aload_n hx hb dX14_next_122 rfl (lv_at hl 1 rfl) ?_
            refine lv_aload_n hx hb dX14_next_123 rfl (lv_at hl 1 rfl) ?_
            refine o_get C h (RC := RX14) (T := TX14) (N := 7) (List.mem_of_getElem? (i := 0) rfl) rfl in_X14 6 (by decide) q1034 rfl (v := .ref r) rfl dX14_next_124 ?_
            refine lv_iload_n hx hb dX14_next_127 rfl (lv_at hl 0 rfl) ?_
            refine lv_sipush (v := nI 224) hx hb dX14_next_128 (by decide) ?_
            refine lv_isub hx hb dX14_next_131 (n_top (y := nI (gD lw po - 224)) (pk_sub (by omega)) ?_)
            refine lv_bipush (v := nI 16) hx hb dX14_next_132 (by decide) ?_
            refine n_icmp_le (tgt := 144) hx hb (by omega) (by omega) dX14_next_134 (by decide) (fun c134 => ?_) (fun c134 => by exfalso; rw [pktN_pg ⟨by omega, by omega⟩ (Or.inl (by omega))] at hN; cases hN)
            have hpg := Nat.two_pow_pos (gD lw po - 224)
            have hpg2 : 2 ^ (gD lw po - 224) ≤ 2 ^ 16 := Nat.pow_le_pow_right (by decide) (by omega)
            refine lv_iconst (v := nI 1) hx hb dX14_next_144 (by decide) ?_
            refine lv_iload_n hx hb dX14_next_145 rfl (lv_at hl 0 rfl) ?_
            refine lv_sipush (v := nI 224) hx hb dX14_next_146 (by decide) ?_
            refine lv_isub hx hb dX14_next_149 (n_top (y := nI (gD lw po - 224)) (pk_sub (by omega)) ?_)
            refine n_ishl hx hb dX14_next_150 ?_
            refine n_top (y := nI (2 ^ (gD lw po - 224))) (by rw [n_shlN (by omega) (by omega), Nat.one_mul]) ?_
            have hpq : po + 1 + 2 ^ (gD lw po - 224) ≤ lw.length := by
              rcases Nat.lt_or_ge lw.length (po + 1 + 2 ^ (gD lw po - 224)) with q | q
              · rw [pktN_pg ⟨by omega, by omega⟩ (Or.inr q)] at hN; cases hN
              · exact q
            have hN2 : pktN lw k2 (po + 1 + 2 ^ (gD lw po - 224)) (acc ++ sliceL lw (po + 1) (2 ^ (gD lw po - 224))) = some (bd, n2) := by rw [← pktN_p hpl ⟨by omega, by omega⟩ (by omega) (by omega) hpq]; exact hN
            have hbq := pktN_ge lw k2 _ _ _ _ (Nat.lt_succ_self _) hN2
            dsimp only at hbq
            refine call_VR (As := [.ref r, .int (nI (2 ^ (gD lw po - 224)))]) (rest := []) (n := 2) C h (c14_put l D dA B Z hZ F2 pk ba n0 r gb lw (po + 1) nx k2 bo (2 ^ (gD lw po - 224)) b2 c2 g2 acc (hsub _ hba) hsb hbt hn0 hl4 (by omega) (by omega) hs2 (by omega) (by omega) (by omega) (by omega)) (lw_V q1075 q1077 qs10 q162 q1078) (by decide +kernel) (o_recv C h (RC := RX14) (T := TX14) (N := 7) (List.mem_of_getElem? (i := 0) rfl) rfl) (by decide) (by decide) rfl hl rfl (Nat.le_of_ble_eq_true rfl) dX14_next_151 (by
              have hll9 := sliceL_len (l := lw) (a := po + 1) (n := 2 ^ (gD lw po - 224)) (by omega)
              have hla9 : (acc ++ sliceL lw (po + 1) (2 ^ (gD lw po - 224))).length = acc.length + (2 ^ (gD lw po - 224)) := by rw [List.length_append, hll9]
              have z1 := rC_add (cap := cap) (m := acc.length) (m' := (acc ++ sliceL lw (po + 1) (2 ^ (gD lw po - 224))).length) (by omega) (by omega)
              have z2 := rC_add (cap := cap) (m := (acc ++ sliceL lw (po + 1) (2 ^ (gD lw po - 224))).length) (m' := bd.length) (by omega) (by omega)
              rw [← hc2] at z1
              omega) (fun u3 H locs hu3 h => ?_)
            obtain ⟨b3, g3, E3⟩ := u3
            dsimp only at hu3
            have hll9 := sliceL_len (l := lw) (a := po + 1) (n := 2 ^ (gD lw po - 224)) (by omega)
            have hla9 : (acc ++ sliceL lw (po + 1) (2 ^ (gD lw po - 224))).length = acc.length + (2 ^ (gD lw po - 224)) := by rw [List.length_append, hll9]
            have hc3 : gro c2 (acc ++ sliceL lw (po + 1) (2 ^ (gD lw po - 224))).length = gro cap (acc ++ sliceL lw (po + 1) (2 ^ (gD lw po - 224))).length := by rw [hc2]; exact gro_gro (by omega) (by omega)
            have z1 := rC_add (cap := cap) (m := acc.length) (m' := (acc ++ sliceL lw (po + 1) (2 ^ (gD lw po - 224))).length) (by omega) (by omega)
            rw [← hc2] at z1
            have z2 := rC_add (cap := cap) (m := (acc ++ sliceL lw (po + 1) (2 ^ (gD lw po - 224))).length) (m' := bd.length) (by omega) (by omega)
            rw [hc3] at hu3 h
            have h : Wd D B s ([(pk, .inr (11, [.ref ba, .int (nI lw.length), .int (nI (po + 1 + (2 ^ (gD lw po - 224)))), .int (nI nx), .int (nI k2), va_rf bo, .ref r])), (r, .inr (1, [.ref b3, .int (nI ((acc ++ sliceL lw (po + 1) (2 ^ (gD lw po - 224))).length))])), (b3, bar dA (gro cap (acc ++ sliceL lw (po + 1) (2 ^ (gD lw po - 224))).length) g3)] ++ (F2 ++ E3)) H locs := h
            have hp3 : po + 1 + 2 ^ (gD lw po - 224) < lw.length := by
              rcases Nat.lt_or_ge (po + 1 + 2 ^ (gD lw po - 224)) lw.length with q | q
              · exact q
              · rw [pktN_x0 q] at hN2; cases hN2
            refine lv_aload_n hx hb dX14_next_154 rfl (lv_at hl 1 rfl) ?_
            refine call_VR (As := []) (rest := []) (n := 0) C h (c14_take l D dA B Z hZ ([(r, .inr (1, [.ref b3, .int (nI ((acc ++ sliceL lw (po + 1) (2 ^ (gD lw po - 224))).length))])), (b3, bar dA (gro cap (acc ++ sliceL lw (po + 1) (2 ^ (gD lw po - 224))).length) g3)] ++ (F2 ++ E3)) pk ba n0 r gb lw (po + 1 + (2 ^ (gD lw po - 224))) nx k2 bo (List.mem_append_right _ (List.mem_append_left _ (hsub _ hba))) hsb hbt hn0 hl4 (by omega)) (lw_V q1059 q1061 qs8 q162 q1062) (by decide +kernel) (o_recv C h (RC := RX14) (T := TX14) (N := 7) (List.mem_of_getElem? (i := 0) rfl) rfl) (by decide) (by decide) rfl hl rfl (Nat.le_of_ble_eq_true rfl) dX14_next_155 (by omega) (fun _ H locs _ h => ?_)
            have h : Wd D B s ([(pk, .inr (11, [.ref ba, .int (nI lw.length), .int (nI ((po + 1 + (2 ^ (gD lw po - 224))) + 1)), .int (nI nx), .int (nI k2), va_rf bo, .ref r])), (r, .inr (1, [.ref b3, .int (nI ((acc ++ sliceL lw (po + 1) (2 ^ (gD lw po - 224))).length))])), (b3, bar dA (gro cap (acc ++ sliceL lw (po + 1) (2 ^ (gD lw po - 224))).length) g3)] ++ (F2 ++ E3)) H locs := h
            refine lv_istore_n (lv' := [(2, .int (nI (gD lw (po + 1 + (2 ^ (gD lw po - 224)))))), (0, .ref pk)]) hx hb dX14_next_158 rfl hl (by decide) rfl (fun ls hl => ?_)
            refine lv_goto (tgt := 94) hx hb dX14_next_159 (by decide) ?_
            exact ih (po + 1 + 2 ^ (gD lw po - 224)) _ b3 _ g3 (F2 ++ E3) _ _ hN2 (by omega) (by omega) hu3 rfl (fun z hz => List.mem_append_left _ (hsub z hz)) (by omega) (by omega) (by omega) _ _ h _ (lv_sub hl [0, 1] rfl)
    exact loop _ (nx + 1) [] b cap g F _ _ hN (by omega) (Nat.zero_le _) SBis_nil hcn (fun z hz => hz) (by omega) (by omega) (Nat.lt_succ_self _) _ _ h _ (lv_sub hl [0, 2] rfl)
  · refine lv_aload_n hx hb dX14_next_39 rfl (lv_at hl 1 rfl) ?_
    refine lv_iload_n hx hb dX14_next_40 rfl (lv_at hl 0 rfl) ?_
    refine lv_iconst (v := nI 2) hx hb dX14_next_41 (by decide) ?_
    refine n_ishr hx hb dX14_next_42 (n_top (y := nI ((gD lw nx) / 4)) (pk_shrN (by omega) _ 2 (by decide)) ?_)
    refine lv_bipush (v := nI 15) hx hb dX14_next_43 (by decide) ?_
    refine lv_iand hx hb dX14_next_45 (n_top (y := nI (((gD lw nx) / 4) % 16)) (pk_andN (by omega) 4 (by decide)) ?_)
    refine o_put C h 2 (RC := RX14) (T := TX14) (N := 7) (ws' := [(r, .inr (1, [.ref b, .int (nI (([] : List Nat).length))])), (b, bar dA cap g), (pk, .inr (11, [.ref ba, .int (nI lw.length), .int (nI (nx + 1)), .int (nI nx), .int (nI (((gD lw nx) / 4) % 16)), va_rf bo, .ref r]))] ++ F) rfl rfl in_X14 tyX14_ok nmX14 4 (by decide) q1030 rfl rfl (v := .int (nI (((gD lw nx) / 4) % 16))) rfl rfl (Nat.le_of_ble_eq_true rfl) rfl dX14_next_46 (fun H locs h => ?_)
    refine lv_iload_n hx hb dX14_next_49 rfl (lv_at hl 0 rfl) ?_
    refine lv_iconst (v := nI 3) hx hb dX14_next_50 (by decide) ?_
    refine lv_iand hx hb dX14_next_51 (n_top (y := nI ((gD lw nx) % 4)) (pk_andN (by omega) 2 (by decide)) ?_)
    refine lv_iconst (v := nI 3) hx hb dX14_next_52 (by decide) ?_
    refine n_icmp_ne (tgt := 61) hx hb (by omega) (by omega) dX14_next_53 (by decide) (fun c53 => ?_) (fun c53 => by exfalso; rw [pktS_o3 (by omega) c53] at hp; cases hp)
    have hpw := Nat.two_pow_pos (gD lw nx % 4)
    have hpw4 : 2 ^ (gD lw nx % 4) ≤ 2 ^ 2 := Nat.pow_le_pow_right (by decide) (by omega)
    refine lv_aload_n hx hb dX14_next_61 rfl (lv_at hl 1 rfl) ?_
    refine lv_aload_n hx hb dX14_next_62 rfl (lv_at hl 1 rfl) ?_
    refine o_get C h (RC := RX14) (T := TX14) (N := 7) (List.mem_of_getElem? (i := 2) rfl) rfl in_X14 6 (by decide) q1034 rfl (v := .ref r) rfl dX14_next_63 ?_
    have hcn : cap = gro cap ([] : List Nat).length := (gro_le (m := ([] : List Nat).length) (Nat.zero_le _)).symm
    have hAB : nx + 1 + 2 ^ (gD lw nx % 4) ≤ lw.length ∧ nx + 1 + 2 ^ (gD lw nx % 4) + oldN lw nx ≤ lw.length := by
      by_cases q : nx + 1 + 2 ^ (gD lw nx % 4) ≤ lw.length ∧ nx + 1 + 2 ^ (gD lw nx % 4) + oldN lw nx ≤ lw.length
      · exact q
      · rw [pktS_oN (by omega) q] at hp; cases hp
    obtain ⟨hA1, hA2⟩ := hAB
    rw [pktS_o hnl h128 (by omega) c53 hA1 hA2] at hp
    obtain ⟨hk2, hp9⟩ := Prod.mk.inj (Option.some.inj hp)
    obtain ⟨hbe0, hne⟩ := Prod.mk.inj hp9
    have hlq := congrArg List.length hbe0
    rw [sliceL_len hA2] at hlq
    have hbig : num (sl (gD lw) (nx + 1) (2 ^ (gD lw nx % 4))) ≤ 65536 := by show oldN lw nx ≤ 65536; omega
    refine lv_aload_n hx hb dX14_next_66 rfl (lv_at hl 1 rfl) ?_
    refine lv_iconst (v := nI 1) hx hb dX14_next_67 (by decide) ?_
    refine lv_iload_n hx hb dX14_next_68 rfl (lv_at hl 0 rfl) ?_
    refine lv_iconst (v := nI 3) hx hb dX14_next_69 (by decide) ?_
    refine lv_iand hx hb dX14_next_70 (n_top (y := nI ((gD lw nx) % 4)) (pk_andN (by omega) 2 (by decide)) ?_)
    refine n_ishl hx hb dX14_next_71 ?_
    refine n_top (y := nI (2 ^ (gD lw nx % 4))) (by rw [n_shlN (by omega) (by omega), Nat.one_mul]) ?_
    have h : Wd D B s ([(pk, .inr (11, [.ref ba, .int (nI lw.length), .int (nI (nx + 1)), .int (nI nx), .int (nI (((gD lw nx) / 4) % 16)), va_rf bo, .ref r])), (r, .inr (1, [.ref b, .int (nI (([] : List Nat).length))])), (b, bar dA cap g)] ++ F) H locs := h.perm [2, 0, 1] rfl rfl
    refine call_VR (As := [.int (nI (2 ^ (gD lw nx % 4)))]) (rest := [.ref r, .ref pk]) (n := 1) C h (c14_takeN l D dA B Z hZ ([(r, .inr (1, [.ref b, .int (nI (([] : List Nat).length))])), (b, bar dA cap g)] ++ F) pk ba n0 r gb lw (nx + 1) nx (((gD lw nx) / 4) % 16) bo (2 ^ (gD lw nx % 4)) (List.mem_append_right _ hba) hsb hbt hn0 hl4 (by omega) (by omega) hbig) (lw_V q1070 q1072 qs9 q162 q1073) (by decide +kernel) (o_recv C h (RC := RX14) (T := TX14) (N := 7) (List.mem_of_getElem? (i := 0) rfl) rfl) (by decide) (by decide) rfl hl rfl (Nat.le_of_ble_eq_true rfl) dX14_next_72 (by omega) (fun _ H locs _ h => ?_)
    have h : Wd D B s ([(pk, .inr (11, [.ref ba, .int (nI lw.length), .int (nI (nx + 1 + (2 ^ (gD lw nx % 4)))), .int (nI nx), .int (nI (((gD lw nx) / 4) % 16)), va_rf bo, .ref r])), (r, .inr (1, [.ref b, .int (nI (([] : List Nat).length))])), (b, bar dA cap g)] ++ F) H locs := h
    refine n_top (y := nI (oldN lw nx)) rfl ?_
    have hc2 := hcn
    refine call_VR (As := [.ref r, .int (nI (oldN lw nx))]) (rest := []) (n := 2) C h (c14_put l D dA B Z hZ F pk ba n0 r gb lw (nx + 1 + (2 ^ (gD lw nx % 4))) nx (((gD lw nx) / 4) % 16) bo (oldN lw nx) b cap g ([] : List Nat) hba hsb hbt hn0 hl4 (by omega) (by omega) SBis_nil (by omega) (by omega) (by omega) (by omega)) (lw_V q1075 q1077 qs10 q162 q1078) (by decide +kernel) (o_recv C h (RC := RX14) (T := TX14) (N := 7) (List.mem_of_getElem? (i := 0) rfl) rfl) (by decide) (by decide) rfl hl rfl (Nat.le_of_ble_eq_true rfl) dX14_next_75 (by
      have hll9 := sliceL_len (l := lw) (a := nx + 1 + (2 ^ (gD lw nx % 4))) (n := oldN lw nx) (by omega)
      have hla9 : (([] : List Nat) ++ sliceL lw (nx + 1 + (2 ^ (gD lw nx % 4))) (oldN lw nx)).length = ([] : List Nat).length + (oldN lw nx) := by rw [List.length_append, hll9]
      have z1 := rC_add (cap := cap) (m := ([] : List Nat).length) (m' := (([] : List Nat) ++ sliceL lw (nx + 1 + (2 ^ (gD lw nx % 4))) (oldN lw nx)).length) (by omega) (by omega)
      have z2 := rC_add (cap := cap) (m := (([] : List Nat) ++ sliceL lw (nx + 1 + (2 ^ (gD lw nx % 4))) (oldN lw nx)).length) (m' := bd.length) (by omega) (by omega)
      rw [← hc2] at z1
      omega) (fun u3 H locs hu3 h => ?_)
    obtain ⟨b3, g3, E3⟩ := u3
    dsimp only at hu3
    have hll9 := sliceL_len (l := lw) (a := nx + 1 + (2 ^ (gD lw nx % 4))) (n := oldN lw nx) (by omega)
    have hla9 : (([] : List Nat) ++ sliceL lw (nx + 1 + (2 ^ (gD lw nx % 4))) (oldN lw nx)).length = ([] : List Nat).length + (oldN lw nx) := by rw [List.length_append, hll9]
    have hc3 : gro cap (([] : List Nat) ++ sliceL lw (nx + 1 + (2 ^ (gD lw nx % 4))) (oldN lw nx)).length = gro cap (([] : List Nat) ++ sliceL lw (nx + 1 + (2 ^ (gD lw nx % 4))) (oldN lw nx)).length := rfl
    have z1 := rC_add (cap := cap) (m := ([] : List Nat).length) (m' := (([] : List Nat) ++ sliceL lw (nx + 1 + (2 ^ (gD lw nx % 4))) (oldN lw nx)).length) (by omega) (by omega)
    rw [← hc2] at z1
    have z2 := rC_add (cap := cap) (m := (([] : List Nat) ++ sliceL lw (nx + 1 + (2 ^ (gD lw nx % 4))) (oldN lw nx)).length) (m' := bd.length) (by omega) (by omega)
    rw [hc3] at hu3 h
    have h : Wd D B s ([(pk, .inr (11, [.ref ba, .int (nI lw.length), .int (nI ((nx + 1 + (2 ^ (gD lw nx % 4))) + (oldN lw nx))), .int (nI nx), .int (nI (((gD lw nx) / 4) % 16)), va_rf bo, .ref r])), (r, .inr (1, [.ref b3, .int (nI ((([] : List Nat) ++ sliceL lw (nx + 1 + (2 ^ (gD lw nx % 4))) (oldN lw nx)).length))])), (b3, bar dA (gro cap (([] : List Nat) ++ sliceL lw (nx + 1 + (2 ^ (gD lw nx % 4))) (oldN lw nx)).length) g3)] ++ (F ++ E3)) H locs := h
    refine lv_goto (tgt := 214) hx hb dX14_next_78 (by decide) ?_
    have hbe : ([] : List Nat) ++ sliceL lw (nx + 1 + (2 ^ (gD lw nx % 4))) (oldN lw nx) = bd := by rw [List.nil_append]; exact hbe0
    have hr9 : rC cap (([] : List Nat) ++ sliceL lw (nx + 1 + (2 ^ (gD lw nx % 4))) (oldN lw nx)).length = rC cap bd.length ∧ rS cap (([] : List Nat) ++ sliceL lw (nx + 1 + (2 ^ (gD lw nx % 4))) (oldN lw nx)).length = rS cap bd.length := by rw [hbe]; exact ⟨rfl, rfl⟩
    rw [hbe] at h hu3
    rw [hk2, hne] at h
    have h : Wd D B s ([(pk, .inr (11, [.ref ba, .int (nI lw.length), .int (nI n2), .int (nI nx), .int (nI k2), va_rf bo, .ref r])), (r, .inr (1, [.ref b3, .int (nI bd.length)])), (b3, bar dA (gro cap bd.length) g3)] ++ (F ++ E3)) H locs := h
    exact j214 b3 g3 (F ++ E3) _ _ hu3 (fun z hz => List.mem_append_left _ ((fun z hz => hz) z hz)) (by omega) (by omega) _ _ h _ (lv_sub hl [1] rfl)
set_option maxHeartbeats 400000 in
set_option maxRecDepth 100000 in
theorem c14_nextX (l : Launch) (D : va_G) (dA : Nat → ClassId) (B : Nat) (Z : State → Prop) (hZ : Stab B Z) (F : va_W) (pk ba n0 r : Nat) (gb : Nat → Nat) (lw : List Nat) (nx pl kd : Nat) (bo : Option Nat) (b cap : Nat) (g : Nat → Nat) (lr : List Nat) (hlt : l.stackTraces = false) (hzx : ZX B Z) (hba : (ba, bar dA n0 gb) ∈ F) (hsb : SBis gb n0 lw) (hbt : byt lw) (hn0 : n0 < 400000) (hl4 : lw.length ≤ 4096) (hnx : nx ≤ lw.length) (hsr : SBis g cap lr) (hcap : 64 ≤ cap) (hcm : cap < 400000) (hp : pktS lw nx = none) :
    CtX (S := Unit) (SX := Nat × Nat × Nat × Nat × Nat × (Nat → Nat) × List Nat × va_W) l D dA B Z yX14_next cX14_next 3 none 10 (rC cap lw.length + 2) (rS cap lw.length + lw.length + 14) [.ref pk] ([(pk, .inr (11, [.ref ba, .int (nI lw.length), .int (nI nx), .int (nI pl), .int (nI kd), va_rf bo, .ref r])), (r, .inr (1, [.ref b, .int (nI lr.length)])), (b, bar dA cap g)] ++ F) (fun _ => False) (fun _ => none) (fun _ => [(pk, .inr (11, [.ref ba, .int (nI lw.length), .int (nI nx), .int (nI pl), .int (nI kd), va_rf bo, .ref r])), (r, .inr (1, [.ref b, .int (nI lr.length)])), (b, bar dA cap g)] ++ F) (fun u => FaultIn u.2.2.2.2.2.2.2 u.1 (-1 - nI nx) ∧ SBis u.2.2.2.2.2.1 u.2.2.2.2.1 u.2.2.2.2.2.2.1 ∧ GrOk cap lw.length u.2.2.2.2.1 ∧ ∀ x ∈ F, x ∈ u.2.2.2.2.2.2.2) (fun u => u.1) (fun _ => "SignetRing$Fault") (fun u => [(pk, .inr (11, [.ref ba, .int (nI lw.length), .int (nI u.2.1), .int (nI nx), .int (nI u.2.2.1), va_rf bo, .ref r])), (r, .inr (1, [.ref u.2.2.2.1, .int (nI u.2.2.2.2.2.2.1.length)])), (u.2.2.2.1, bar dA u.2.2.2.2.1 u.2.2.2.2.2.1)] ++ u.2.2.2.2.2.2.2) := by
  refine CtX.mk2 (by decide) (Nat.le_of_ble_eq_true rfl) hZ ?_
  intro p e R s m args below meth c ls Q C hr hlocks hin hex hQ hl h
  have C0 := C
  obtain ⟨hx, hb, hml, hown, hts, -⟩ := C0
  have hl : lv_has ls 3 [(0, .ref pk)] := hl
  have hsl := hsb.1
  have hgm := gro_b (cap := cap) (m := lw.length) (by omega)
  have hbx := byt_gD hbt nx
  have hnil : ([] : List Nat).length = 0 := rfl
  refine lv_aload_n hx hb dX14_next_0 rfl (lv_at hl 0 rfl) ?_
  refine lv_aload_n hx hb dX14_next_1 rfl (lv_at hl 0 rfl) ?_
  refine o_get C h (RC := RX14) (T := TX14) (N := 7) (List.mem_of_getElem? (i := 0) rfl) rfl in_X14 2 (by decide) q1028 rfl (v := .int (nI nx)) rfl dX14_next_2 ?_
  refine o_put C h 0 (RC := RX14) (T := TX14) (N := 7) (ws' := [(pk, .inr (11, [.ref ba, .int (nI lw.length), .int (nI nx), .int (nI nx), .int (nI kd), va_rf bo, .ref r])), (r, .inr (1, [.ref b, .int (nI lr.length)])), (b, bar dA cap g)] ++ F) rfl rfl in_X14 tyX14_ok nmX14 3 (by decide) q1029 rfl rfl (v := .int (nI nx)) rfl rfl (Nat.le_of_ble_eq_true rfl) rfl dX14_next_5 (fun H locs h => ?_)
  refine lv_aload_n hx hb dX14_next_8 rfl (lv_at hl 0 rfl) ?_
  by_cases hc9 : nx < lw.length
  · refine call_VR (As := []) (rest := []) (n := 0) C h (c14_take l D dA B Z hZ ([(r, .inr (1, [.ref b, .int (nI lr.length)])), (b, bar dA cap g)] ++ F) pk ba n0 r gb lw nx nx kd bo (List.mem_append_right _ hba) hsb hbt hn0 hl4 (by omega)) (lw_V q1059 q1061 qs8 q162 q1062) (by decide +kernel) (o_recv C h (RC := RX14) (T := TX14) (N := 7) (List.mem_of_getElem? (i := 0) rfl) rfl) (by decide) (by decide) rfl hl rfl (Nat.le_of_ble_eq_true rfl) dX14_next_9 (by omega) (fun _ H locs _ h => ?_)
    have h : Wd D B s ([(pk, .inr (11, [.ref ba, .int (nI lw.length), .int (nI (nx + 1)), .int (nI nx), .int (nI kd), va_rf bo, .ref r])), (r, .inr (1, [.ref b, .int (nI lr.length)])), (b, bar dA cap g)] ++ F) H locs := h
    refine lv_istore_n (lv' := [(1, .int (nI (gD lw nx))), (0, .ref pk)]) hx hb dX14_next_12 rfl hl (by decide) rfl (fun ls hl => ?_)
    refine lv_iload_n hx hb dX14_next_13 rfl (lv_at hl 0 rfl) ?_
    refine lv_sipush (v := nI 128) hx hb dX14_next_14 (by decide) ?_
    refine n_icmp_ge (tgt := 25) hx hb (by omega) (by omega) dX14_next_17 (by decide) (fun c17 => ?_) (fun c17 => ?_)
    · refine lv_aload_n hx hb dX14_next_25 rfl (lv_at hl 1 rfl) ?_
      refine o_get C h (RC := RX14) (T := TX14) (N := 7) (List.mem_of_getElem? (i := 0) rfl) rfl in_X14 6 (by decide) q1034 rfl (v := .ref r) rfl dX14_next_26 ?_
      have h : Wd D B s ([(r, .inr (1, [.ref b, .int (nI lr.length)])), (b, bar dA cap g), (pk, .inr (11, [.ref ba, .int (nI lw.length), .int (nI (nx + 1)), .int (nI nx), .int (nI kd), va_rf bo, .ref r]))] ++ F) H locs := h.perm [1, 2, 0] rfl rfl
      refine call_VR (As := []) (rest := []) (n := 0) C h (c2_clear l D dA B Z hZ ([(pk, .inr (11, [.ref ba, .int (nI lw.length), .int (nI (nx + 1)), .int (nI nx), .int (nI kd), va_rf bo, .ref r]))] ++ F) r b cap g lr) (lw_V q1069 q554 q555 q130 q556) (by decide +kernel) (o_recv C h (RC := RX2) (T := TX2) (N := 2) (List.mem_of_getElem? (i := 0) rfl) rfl) (by decide) (by decide) rfl hl rfl (Nat.le_of_ble_eq_true rfl) dX14_next_29 (by omega) (fun _ H locs _ h => ?_)
      have h : Wd D B s ([(r, .inr (1, [.ref b, .int (nI (([] : List Nat).length))])), (b, bar dA cap g), (pk, .inr (11, [.ref ba, .int (nI lw.length), .int (nI (nx + 1)), .int (nI nx), .int (nI kd), va_rf bo, .ref r]))] ++ F) H locs := h
      refine lv_iload_n hx hb dX14_next_32 rfl (lv_at hl 0 rfl) ?_
      refine lv_sipush (v := nI 192) hx hb dX14_next_33 (by decide) ?_
      refine n_icmp_ge (tgt := 81) hx hb (by omega) (by omega) dX14_next_36 (by decide) (fun c36 => ?_) (fun c36 => ?_)
      · refine lv_aload_n hx hb dX14_next_81 rfl (lv_at hl 1 rfl) ?_
        refine lv_iload_n hx hb dX14_next_82 rfl (lv_at hl 0 rfl) ?_
        refine lv_bipush (v := nI 63) hx hb dX14_next_83 (by decide) ?_
        refine lv_iand hx hb dX14_next_85 ?_
        refine n_top (y := nI (gD lw nx - 192)) ((pk_andN (by omega) 6 (by decide)).trans (congrArg nI (by omega))) ?_
        refine o_put C h 2 (RC := RX14) (T := TX14) (N := 7) (ws' := [(r, .inr (1, [.ref b, .int (nI (([] : List Nat).length))])), (b, bar dA cap g), (pk, .inr (11, [.ref ba, .int (nI lw.length), .int (nI (nx + 1)), .int (nI nx), .int (nI (gD lw nx - 192)), va_rf bo, .ref r]))] ++ F) rfl rfl in_X14 tyX14_ok nmX14 4 (by decide) q1030 rfl rfl (v := .int (nI (gD lw nx - 192))) rfl rfl (Nat.le_of_ble_eq_true rfl) rfl dX14_next_86 (fun H locs h => ?_)
        have hN : pktN lw (gD lw nx - 192) (nx + 1) [] = none := by
          rw [pktS_w (by omega) (by omega)] at hp
          cases q : pktN lw (gD lw nx - 192) (nx + 1) [] with
          | none => rfl
          | some z => rw [q] at hp; cases hp
        refine lv_aload_n hx hb dX14_next_89 rfl (lv_at hl 1 rfl) ?_
        by_cases hc90 : nx + 1 < lw.length
        · have h : Wd D B s ([(pk, .inr (11, [.ref ba, .int (nI lw.length), .int (nI (nx + 1)), .int (nI nx), .int (nI (gD lw nx - 192)), va_rf bo, .ref r])), (r, .inr (1, [.ref b, .int (nI (([] : List Nat).length))])), (b, bar dA cap g)] ++ F) H locs := h.perm [2, 0, 1] rfl rfl
          refine call_VR (As := []) (rest := []) (n := 0) C h (c14_take l D dA B Z hZ ([(r, .inr (1, [.ref b, .int (nI (([] : List Nat).length))])), (b, bar dA cap g)] ++ F) pk ba n0 r gb lw (nx + 1) nx (gD lw nx - 192) bo (List.mem_append_right _ hba) hsb hbt hn0 hl4 (by omega)) (lw_V q1059 q1061 qs8 q162 q1062) (by decide +kernel) (o_recv C h (RC := RX14) (T := TX14) (N := 7) (List.mem_of_getElem? (i := 0) rfl) rfl) (by decide) (by decide) rfl hl rfl (Nat.le_of_ble_eq_true rfl) dX14_next_90 (by omega) (fun _ H locs _ h => ?_)
          have h : Wd D B s ([(pk, .inr (11, [.ref ba, .int (nI lw.length), .int (nI (nx + 1 + 1)), .int (nI nx), .int (nI (gD lw nx - 192)), va_rf bo, .ref r])), (r, .inr (1, [.ref b, .int (nI (([] : List Nat).length))])), (b, bar dA cap g)] ++ F) H locs := h
          refine lv_istore_n (lv' := [(2, .int (nI (gD lw (nx + 1)))), (1, .int (nI (gD lw nx))), (0, .ref pk)]) hx hb dX14_next_93 rfl hl (by decide) rfl (fun ls hl => ?_)
          have h : Wd D B s ([(pk, .inr (11, [.ref ba, .int (nI lw.length), .int (nI ((nx + 1) + 1)), .int (nI nx), .int (nI (gD lw nx - 192)), va_rf bo, .ref r])), (r, .inr (1, [.ref b, .int (nI (([] : List Nat).length))])), (b, bar dA cap g)] ++ F) H locs := h.perm [0, 1, 2] rfl rfl
          have hcn : cap = gro cap ([] : List Nat).length := (gro_le (m := ([] : List Nat).length) (Nat.zero_le _)).symm
          have loop : ∀ (nn : Nat) (po : Nat) (acc : List Nat) (b2 c2 : Nat) (g2 : Nat → Nat) (F2 : va_W) (cc cs : Nat), (pktN lw (gD lw nx - 192) po acc = none) → (po < lw.length) → (acc.length ≤ po) → (SBis g2 c2 acc) → (c2 = gro cap acc.length) → (∀ x ∈ F, x ∈ F2) → (cc ≤ rC cap acc.length) → (cs ≤ rS cap acc.length) → lw.length - po < nn → ∀ (H : Heap) (locs : List Loc), Wd D B s ([(pk, .inr (11, [.ref ba, .int (nI lw.length), .int (nI (po + 1)), .int (nI nx), .int (nI (gD lw nx - 192)), va_rf bo, .ref r])), (r, .inr (1, [.ref b2, .int (nI acc.length)])), (b2, bar dA c2 g2)] ++ F2) H locs → ∀ (ls : Array Slot), lv_has ls 3 [(2, .int (nI (gD lw po))), (0, .ref pk)] → W p l e R s m args below meth c H locs cc cs Q (F0 m 94 ls []) := by
            intro nn
            induction nn with
            | zero => intro po  acc  b2 c2  g2  F2  cc cs  hN hpl hal hs2 hc2 hsub hcc hcs hme; exact absurd hme (Nat.not_lt_zero _)
            | succ nn ih =>
              intro po  acc  b2 c2  g2  F2  cc cs  hN hpl hal hs2 hc2 hsub hcc hcs hme H locs h ls hl
              have hbp := byt_gD hbt po
              have hgb9 := gro_b (cap := cap) (m := acc.length) (by omega)
              have hgo := GrOk.of (cap := cap) (m := lw.length) (n := acc.length) hcap (by omega)
              have hlt2 : c2 ≤ gro cap lw.length := by rw [hc2]; exact hgo.2.2
              have hmn := rC_add (cap := cap) (m := acc.length) (m' := lw.length) (by omega) (by omega)
              have j162 : (¬ (223 < gD lw po ∧ gD lw po < 255)) → ∀ (H : Heap) (locs : List Loc), Wd D B s ([(pk, .inr (11, [.ref ba, .int (nI lw.length), .int (nI (po + 1)), .int (nI nx), .int (nI (gD lw nx - 192)), va_rf bo, .ref r])), (r, .inr (1, [.ref b2, .int (nI acc.length)])), (b2, bar dA c2 g2)] ++ F2) H locs → ∀ (ls : Array Slot), lv_has ls 3 [(2, .int (nI (gD lw po))), (0, .ref pk)] → W p l e R s m args below meth c H locs cc cs Q (F0 m 162 ls []) := by
                intro  hnp H locs h ls hl
                refine lv_aload_n hx hb dX14_next_162 rfl (lv_at hl 1 rfl) ?_
                refine lv_aload_n hx hb dX14_next_163 rfl (lv_at hl 1 rfl) ?_
                refine o_get C h (RC := RX14) (T := TX14) (N := 7) (List.mem_of_getElem? (i := 0) rfl) rfl in_X14 6 (by decide) q1034 rfl (v := .ref r) rfl dX14_next_164 ?_
                refine lv_iload_n hx hb dX14_next_167 rfl (lv_at hl 0 rfl) ?_
                refine lv_sipush (v := nI 192) hx hb dX14_next_168 (by decide) ?_
                refine n_icmp_ge (tgt := 178) hx hb (by omega) (by omega) dX14_next_171 (by decide) (fun c171 => ?_) (fun c171 => ?_)
                · refine lv_iload_n hx hb dX14_next_178 rfl (lv_at hl 0 rfl) ?_
                  refine lv_sipush (v := nI 224) hx hb dX14_next_179 (by decide) ?_
                  refine n_icmp_ge (tgt := 206) hx hb (by omega) (by omega) dX14_next_182 (by decide) (fun c182 => ?_) (fun c182 => ?_)
                  · refine lv_aload_n hx hb dX14_next_206 rfl (lv_at hl 1 rfl) ?_
                    refine lv_iconst (v := nI 4) hx hb dX14_next_207 (by decide) ?_
                    by_cases hc208 : po + 1 + 4 ≤ lw.length ∧ bigN lw po ≤ 65536
                    · have hbig : num (sl (gD lw) (po + 1) 4) ≤ 65536 := hc208.2
                      refine call_VR (As := [.int (nI 4)]) (rest := [.ref r, .ref pk]) (n := 1) C h (c14_takeN l D dA B Z hZ ([(r, .inr (1, [.ref b2, .int (nI acc.length)])), (b2, bar dA c2 g2)] ++ F2) pk ba n0 r gb lw (po + 1) nx (gD lw nx - 192) bo 4 (List.mem_append_right _ (hsub _ hba)) hsb hbt hn0 hl4 (by omega) (by omega) hbig) (lw_V q1070 q1072 qs9 q162 q1073) (by decide +kernel) (o_recv C h (RC := RX14) (T := TX14) (N := 7) (List.mem_of_getElem? (i := 0) rfl) rfl) (by decide) (by decide) rfl hl rfl (Nat.le_of_ble_eq_true rfl) dX14_next_208 (by omega) (fun _ H locs _ h => ?_)
                      have h : Wd D B s ([(pk, .inr (11, [.ref ba, .int (nI lw.length), .int (nI (po + 1 + 4)), .int (nI nx), .int (nI (gD lw nx - 192)), va_rf bo, .ref r])), (r, .inr (1, [.ref b2, .int (nI acc.length)])), (b2, bar dA c2 g2)] ++ F2) H locs := h
                      refine n_top (y := nI (bigN lw po)) rfl ?_
                      by_cases hq9 : po + 1 + 4 + (bigN lw po) ≤ lw.length
                      · refine call_VR (As := [.ref r, .int (nI (bigN lw po))]) (rest := []) (n := 2) C h (c14_put l D dA B Z hZ F2 pk ba n0 r gb lw (po + 1 + 4) nx (gD lw nx - 192) bo (bigN lw po) b2 c2 g2 acc (hsub _ hba) hsb hbt hn0 hl4 (by omega) (by omega) hs2 (by omega) (by omega) (by omega) (by omega)) (lw_V q1075 q1077 qs10 q162 q1078) (by decide +kernel) (o_recv C h (RC := RX14) (T := TX14) (N := 7) (List.mem_of_getElem? (i := 0) rfl) rfl) (by decide) (by decide) rfl hl rfl (Nat.le_of_ble_eq_true rfl) dX14_next_211 (by
                          have hll9 := sliceL_len (l := lw) (a := po + 1 + 4) (n := bigN lw po) (by omega)
                          have hla9 : (acc ++ sliceL lw (po + 1 + 4) (bigN lw po)).length = acc.length + (bigN lw po) := by rw [List.length_append, hll9]
                          have z1 := rC_add (cap := cap) (m := acc.length) (m' := (acc ++ sliceL lw (po + 1 + 4) (bigN lw po)).length) (by omega) (by omega)
                          have z2 := rC_add (cap := cap) (m := (acc ++ sliceL lw (po + 1 + 4) (bigN lw po)).length) (m' := lw.length) (by omega) (by omega)
                          rw [← hc2] at z1
                          omega) (fun u3 H locs hu3 h => ?_)
                        obtain ⟨b3, g3, E3⟩ := u3
                        dsimp only at hu3
                        have hll9 := sliceL_len (l := lw) (a := po + 1 + 4) (n := bigN lw po) (by omega)
                        have hla9 : (acc ++ sliceL lw (po + 1 + 4) (bigN lw po)).length = acc.length + (bigN lw po) := by rw [List.length_append, hll9]
                        have hc3 : gro c2 (acc ++ sliceL lw (po + 1 + 4) (bigN lw po)).length = gro cap (acc ++ sliceL lw (po + 1 + 4) (bigN lw po)).length := by rw [hc2]; exact gro_gro (by omega) (by omega)
                        have z1 := rC_add (cap := cap) (m := acc.length) (m' := (acc ++ sliceL lw (po + 1 + 4) (bigN lw po)).length) (by omega) (by omega)
                        rw [← hc2] at z1
                        have z2 := rC_add (cap := cap) (m := (acc ++ sliceL lw (po + 1 + 4) (bigN lw po)).length) (m' := lw.length) (by omega) (by omega)
                        rw [hc3] at hu3 h
                        have h : Wd D B s ([(pk, .inr (11, [.ref ba, .int (nI lw.length), .int (nI (po + 1 + 4 + (bigN lw po))), .int (nI nx), .int (nI (gD lw nx - 192)), va_rf bo, .ref r])), (r, .inr (1, [.ref b3, .int (nI ((acc ++ sliceL lw (po + 1 + 4) (bigN lw po)).length))])), (b3, bar dA (gro cap (acc ++ sliceL lw (po + 1 + 4) (bigN lw po)).length) g3)] ++ (F2 ++ E3)) H locs := h
                        rw [pktN_3 hpl (by omega) hnp, if_pos ⟨by omega, by omega⟩] at hN; cases hN
                      · refine call_VX (As := [.ref r, .int (nI (bigN lw po))]) (rest := []) (n := 2) C h (c14_putX l D dA B Z hZ F2 pk ba n0 r gb lw (po + 1 + 4) nx (gD lw nx - 192) bo (bigN lw po) b2 c2 g2 acc hlt hzx (hsub _ hba) hsb hbt hn0 hl4 (by omega) (by omega) hs2 (by omega) (by omega) (by omega) (by omega)) (lw_V q1075 q1077 qs10 q162 q1078) (by decide +kernel) (o_recv C h (RC := RX14) (T := TX14) (N := 7) (List.mem_of_getElem? (i := 0) rfl) rfl) (by decide) (by decide) rfl hl rfl (Nat.le_of_ble_eq_true rfl) dX14_next_211 (by omega) (fun ux ce9 H locs hux h hce9 hcv9 hcl9 => ?_) (fun _ H locs hu h => ?_)
                        · obtain ⟨q9, x9⟩ := ux
                          have h : Wd D B s ([(pk, .inr (11, [.ref ba, .int (nI lw.length), .int (nI (po + 1 + 4)), .int (nI nx), .int (nI (gD lw nx - 192)), va_rf bo, .ref r])), (r, .inr (1, [.ref b2, .int (nI acc.length)])), (b2, bar dA c2 g2)] ++ (F2 ++ [(q9, .inr (10, fts x9 (-1 - nI nx)))])) H locs := h
                          have h : Wd D B s ([(pk, .inr (11, [.ref ba, .int (nI lw.length), .int (nI (po + 1 + 4)), .int (nI nx), .int (nI (gD lw nx - 192)), va_rf bo, .ref r])), (r, .inr (1, [.ref b2, .int (nI acc.length)])), (b2, bar dA c2 g2)] ++ (F2 ++ [(q9, .inr (10, fts x9 (-1 - nI nx)))])) H locs := h
                          subst hQ
                          exact thr_out C hex hlocks h (q9, po + 1 + 4, (gD lw nx - 192), b2, c2, g2, acc, (F2 ++ [(q9, .inr (10, fts x9 (-1 - nI nx)))])) rfl rfl (⟨⟨x9, List.mem_append_right _ List.mem_cons_self⟩, hs2, (by rw [hc2]; exact hgo), fun z hz => List.mem_append_left _ (hsub z hz)⟩) rfl hce9 hcv9 hcl9 (by omega) (by omega)
                        exact hu.elim
                    · have hbig : lw.length < po + 1 + 4 ∨ 65536 < num (sl (gD lw) (po + 1) 4) := by
                        rcases Nat.lt_or_ge lw.length (po + 1 + 4) with q | q
                        · exact Or.inl q
                        · exact Or.inr (by
                            rcases Nat.lt_or_ge 65536 (bigN lw po) with q2 | q2
                            · exact q2
                            · exact absurd ⟨q, q2⟩ hc208)
                      refine call_VX (As := [.int (nI 4)]) (rest := [.ref r, .ref pk]) (n := 1) C h (c14_takeNX l D dA B Z hZ ([(r, .inr (1, [.ref b2, .int (nI acc.length)])), (b2, bar dA c2 g2)] ++ F2) pk ba n0 r gb lw (po + 1) nx (gD lw nx - 192) bo 4 hlt hzx (List.mem_append_right _ (hsub _ hba)) hsb hbt hn0 hl4 (by omega) (by omega) hbig) (lw_V q1070 q1072 qs9 q162 q1073) (by decide +kernel) (o_recv C h (RC := RX14) (T := TX14) (N := 7) (List.mem_of_getElem? (i := 0) rfl) rfl) (by decide) (by decide) rfl hl rfl (Nat.le_of_ble_eq_true rfl) dX14_next_208 (by omega) (fun ux ce9 H locs hux h hce9 hcv9 hcl9 => ?_) (fun _ H locs hu h => ?_)
                      · obtain ⟨q9, x9, n9⟩ := ux
                        have h : Wd D B s ([(pk, .inr (11, [.ref ba, .int (nI lw.length), .int (nI n9), .int (nI nx), .int (nI (gD lw nx - 192)), va_rf bo, .ref r])), (r, .inr (1, [.ref b2, .int (nI acc.length)])), (b2, bar dA c2 g2)] ++ (F2 ++ [(q9, .inr (10, fts x9 (-1 - nI nx)))])) H locs := h
                        have h : Wd D B s ([(pk, .inr (11, [.ref ba, .int (nI lw.length), .int (nI n9), .int (nI nx), .int (nI (gD lw nx - 192)), va_rf bo, .ref r])), (r, .inr (1, [.ref b2, .int (nI acc.length)])), (b2, bar dA c2 g2)] ++ (F2 ++ [(q9, .inr (10, fts x9 (-1 - nI nx)))])) H locs := h
                        subst hQ
                        exact thr_out C hex hlocks h (q9, n9, (gD lw nx - 192), b2, c2, g2, acc, (F2 ++ [(q9, .inr (10, fts x9 (-1 - nI nx)))])) rfl rfl (⟨⟨x9, List.mem_append_right _ List.mem_cons_self⟩, hs2, (by rw [hc2]; exact hgo), fun z hz => List.mem_append_left _ (hsub z hz)⟩) rfl hce9 hcv9 hcl9 (by omega) (by omega)
                      exact hu.elim
                  · refine lv_iload_n hx hb dX14_next_185 rfl (lv_at hl 0 rfl) ?_
                    refine lv_sipush (v := nI 192) hx hb dX14_next_186 (by decide) ?_
                    refine lv_isub hx hb dX14_next_189 (n_top (y := nI (gD lw po - 192)) (pk_sub (by omega)) ?_)
                    refine lv_sipush (v := nI 256) hx hb dX14_next_190 (by decide) ?_
                    refine lv_imul hx hb dX14_next_193 (n_top (y := nI ((gD lw po - 192) * 256)) (pk_mul (gD lw po - 192) 256) ?_)
                    refine lv_aload_n hx hb dX14_next_194 rfl (lv_at hl 1 rfl) ?_
                    by_cases hc195 : po + 1 < lw.length
                    · refine call_VR (As := []) (rest := [.int (nI ((gD lw po - 192) * 256)), .ref r, .ref pk]) (n := 0) C h (c14_take l D dA B Z hZ ([(r, .inr (1, [.ref b2, .int (nI acc.length)])), (b2, bar dA c2 g2)] ++ F2) pk ba n0 r gb lw (po + 1) nx (gD lw nx - 192) bo (List.mem_append_right _ (hsub _ hba)) hsb hbt hn0 hl4 (by omega)) (lw_V q1059 q1061 qs8 q162 q1062) (by decide +kernel) (o_recv C h (RC := RX14) (T := TX14) (N := 7) (List.mem_of_getElem? (i := 0) rfl) rfl) (by decide) (by decide) rfl hl rfl (Nat.le_of_ble_eq_true rfl) dX14_next_195 (by omega) (fun _ H locs _ h => ?_)
                      have h : Wd D B s ([(pk, .inr (11, [.ref ba, .int (nI lw.length), .int (nI (po + 1 + 1)), .int (nI nx), .int (nI (gD lw nx - 192)), va_rf bo, .ref r])), (r, .inr (1, [.ref b2, .int (nI acc.length)])), (b2, bar dA c2 g2)] ++ F2) H locs := h
                      have hby2 := byt_gD hbt (po + 1)
                      have hmid : mid lw po < 20000 := by unfold mid; omega
                      refine lv_iadd hx hb dX14_next_198 (n_top (y := nI (((gD lw po - 192) * 256) + (gD lw (po + 1)))) (nI_add ((gD lw po - 192) * 256) (gD lw (po + 1))) ?_)
                      refine lv_sipush (v := nI 192) hx hb dX14_next_199 (by decide) ?_
                      refine lv_iadd hx hb dX14_next_202 ?_
                      refine n_top (y := nI (mid lw po)) ((nI_add _ _).trans rfl) ?_
                      refine lv_goto (tgt := 211) hx hb dX14_next_203 (by decide) ?_
                      by_cases hq9 : po + 1 + 1 + (mid lw po) ≤ lw.length
                      · refine call_VR (As := [.ref r, .int (nI (mid lw po))]) (rest := []) (n := 2) C h (c14_put l D dA B Z hZ F2 pk ba n0 r gb lw (po + 1 + 1) nx (gD lw nx - 192) bo (mid lw po) b2 c2 g2 acc (hsub _ hba) hsb hbt hn0 hl4 (by omega) (by omega) hs2 (by omega) (by omega) (by omega) (by omega)) (lw_V q1075 q1077 qs10 q162 q1078) (by decide +kernel) (o_recv C h (RC := RX14) (T := TX14) (N := 7) (List.mem_of_getElem? (i := 0) rfl) rfl) (by decide) (by decide) rfl hl rfl (Nat.le_of_ble_eq_true rfl) dX14_next_211 (by
                          have hll9 := sliceL_len (l := lw) (a := po + 1 + 1) (n := mid lw po) (by omega)
                          have hla9 : (acc ++ sliceL lw (po + 1 + 1) (mid lw po)).length = acc.length + (mid lw po) := by rw [List.length_append, hll9]
                          have z1 := rC_add (cap := cap) (m := acc.length) (m' := (acc ++ sliceL lw (po + 1 + 1) (mid lw po)).length) (by omega) (by omega)
                          have z2 := rC_add (cap := cap) (m := (acc ++ sliceL lw (po + 1 + 1) (mid lw po)).length) (m' := lw.length) (by omega) (by omega)
                          rw [← hc2] at z1
                          omega) (fun u3 H locs hu3 h => ?_)
                        obtain ⟨b3, g3, E3⟩ := u3
                        dsimp only at hu3
                        have hll9 := sliceL_len (l := lw) (a := po + 1 + 1) (n := mid lw po) (by omega)
                        have hla9 : (acc ++ sliceL lw (po + 1 + 1) (mid lw po)).length = acc.length + (mid lw po) := by rw [List.length_append, hll9]
                        have hc3 : gro c2 (acc ++ sliceL lw (po + 1 + 1) (mid lw po)).length = gro cap (acc ++ sliceL lw (po + 1 + 1) (mid lw po)).length := by rw [hc2]; exact gro_gro (by omega) (by omega)
                        have z1 := rC_add (cap := cap) (m := acc.length) (m' := (acc ++ sliceL lw (po + 1 + 1) (mid lw po)).length) (by omega) (by omega)
                        rw [← hc2] at z1
                        have z2 := rC_add (cap := cap) (m := (acc ++ sliceL lw (po + 1 + 1) (mid lw po)).length) (m' := lw.length) (by omega) (by omega)
                        rw [hc3] at hu3 h
                        have h : Wd D B s ([(pk, .inr (11, [.ref ba, .int (nI lw.length), .int (nI (po + 1 + 1 + (mid lw po))), .int (nI nx), .int (nI (gD lw nx - 192)), va_rf bo, .ref r])), (r, .inr (1, [.ref b3, .int (nI ((acc ++ sliceL lw (po + 1 + 1) (mid lw po)).length))])), (b3, bar dA (gro cap (acc ++ sliceL lw (po + 1 + 1) (mid lw po)).length) g3)] ++ (F2 ++ E3)) H locs := h
                        rw [pktN_2 hpl (by omega) c182, if_pos ⟨hc195, by omega⟩] at hN; cases hN
                      · refine call_VX (As := [.ref r, .int (nI (mid lw po))]) (rest := []) (n := 2) C h (c14_putX l D dA B Z hZ F2 pk ba n0 r gb lw (po + 1 + 1) nx (gD lw nx - 192) bo (mid lw po) b2 c2 g2 acc hlt hzx (hsub _ hba) hsb hbt hn0 hl4 (by omega) (by omega) hs2 (by omega) (by omega) (by omega) (by omega)) (lw_V q1075 q1077 qs10 q162 q1078) (by decide +kernel) (o_recv C h (RC := RX14) (T := TX14) (N := 7) (List.mem_of_getElem? (i := 0) rfl) rfl) (by decide) (by decide) rfl hl rfl (Nat.le_of_ble_eq_true rfl) dX14_next_211 (by omega) (fun ux ce9 H locs hux h hce9 hcv9 hcl9 => ?_) (fun _ H locs hu h => ?_)
                        · obtain ⟨q9, x9⟩ := ux
                          have h : Wd D B s ([(pk, .inr (11, [.ref ba, .int (nI lw.length), .int (nI (po + 1 + 1)), .int (nI nx), .int (nI (gD lw nx - 192)), va_rf bo, .ref r])), (r, .inr (1, [.ref b2, .int (nI acc.length)])), (b2, bar dA c2 g2)] ++ (F2 ++ [(q9, .inr (10, fts x9 (-1 - nI nx)))])) H locs := h
                          have h : Wd D B s ([(pk, .inr (11, [.ref ba, .int (nI lw.length), .int (nI (po + 1 + 1)), .int (nI nx), .int (nI (gD lw nx - 192)), va_rf bo, .ref r])), (r, .inr (1, [.ref b2, .int (nI acc.length)])), (b2, bar dA c2 g2)] ++ (F2 ++ [(q9, .inr (10, fts x9 (-1 - nI nx)))])) H locs := h
                          subst hQ
                          exact thr_out C hex hlocks h (q9, po + 1 + 1, (gD lw nx - 192), b2, c2, g2, acc, (F2 ++ [(q9, .inr (10, fts x9 (-1 - nI nx)))])) rfl rfl (⟨⟨x9, List.mem_append_right _ List.mem_cons_self⟩, hs2, (by rw [hc2]; exact hgo), fun z hz => List.mem_append_left _ (hsub z hz)⟩) rfl hce9 hcv9 hcl9 (by omega) (by omega)
                        exact hu.elim
                    · refine call_VX (As := []) (rest := [.int (nI ((gD lw po - 192) * 256)), .ref r, .ref pk]) (n := 0) C h (c14_takeX l D dA B Z hZ ([(r, .inr (1, [.ref b2, .int (nI acc.length)])), (b2, bar dA c2 g2)] ++ F2) pk ba n0 r gb lw (po + 1) nx (gD lw nx - 192) bo hlt hzx (List.mem_append_right _ (hsub _ hba)) hsb hbt hn0 hl4 (by omega) (by omega)) (lw_V q1059 q1061 qs8 q162 q1062) (by decide +kernel) (o_recv C h (RC := RX14) (T := TX14) (N := 7) (List.mem_of_getElem? (i := 0) rfl) rfl) (by decide) (by decide) rfl hl rfl (Nat.le_of_ble_eq_true rfl) dX14_next_195 (by omega) (fun ux ce9 H locs hux h hce9 hcv9 hcl9 => ?_) (fun _ H locs hu h => ?_)
                      · obtain ⟨q9, x9⟩ := ux
                        have h : Wd D B s ([(pk, .inr (11, [.ref ba, .int (nI lw.length), .int (nI (po + 1)), .int (nI nx), .int (nI (gD lw nx - 192)), va_rf bo, .ref r])), (r, .inr (1, [.ref b2, .int (nI acc.length)])), (b2, bar dA c2 g2)] ++ (F2 ++ [(q9, .inr (10, fts x9 (-1 - nI nx)))])) H locs := h
                        have h : Wd D B s ([(pk, .inr (11, [.ref ba, .int (nI lw.length), .int (nI (po + 1)), .int (nI nx), .int (nI (gD lw nx - 192)), va_rf bo, .ref r])), (r, .inr (1, [.ref b2, .int (nI acc.length)])), (b2, bar dA c2 g2)] ++ (F2 ++ [(q9, .inr (10, fts x9 (-1 - nI nx)))])) H locs := h
                        subst hQ
                        exact thr_out C hex hlocks h (q9, po + 1, (gD lw nx - 192), b2, c2, g2, acc, (F2 ++ [(q9, .inr (10, fts x9 (-1 - nI nx)))])) rfl rfl (⟨⟨x9, List.mem_append_right _ List.mem_cons_self⟩, hs2, (by rw [hc2]; exact hgo), fun z hz => List.mem_append_left _ (hsub z hz)⟩) rfl hce9 hcv9 hcl9 (by omega) (by omega)
                      exact hu.elim
                · refine lv_iload_n hx hb dX14_next_174 rfl (lv_at hl 0 rfl) ?_
                  refine lv_goto (tgt := 211) hx hb dX14_next_175 (by decide) ?_
                  by_cases hq9 : po + 1 + (gD lw po) ≤ lw.length
                  · refine call_VR (As := [.ref r, .int (nI (gD lw po))]) (rest := []) (n := 2) C h (c14_put l D dA B Z hZ F2 pk ba n0 r gb lw (po + 1) nx (gD lw nx - 192) bo (gD lw po) b2 c2 g2 acc (hsub _ hba) hsb hbt hn0 hl4 (by omega) (by omega) hs2 (by omega) (by omega) (by omega) (by omega)) (lw_V q1075 q1077 qs10 q162 q1078) (by decide +kernel) (o_recv C h (RC := RX14) (T := TX14) (N := 7) (List.mem_of_getElem? (i := 0) rfl) rfl) (by decide) (by decide) rfl hl rfl (Nat.le_of_ble_eq_true rfl) dX14_next_211 (by
                      have hll9 := sliceL_len (l := lw) (a := po + 1) (n := gD lw po) (by omega)
                      have hla9 : (acc ++ sliceL lw (po + 1) (gD lw po)).length = acc.length + (gD lw po) := by rw [List.length_append, hll9]
                      have z1 := rC_add (cap := cap) (m := acc.length) (m' := (acc ++ sliceL lw (po + 1) (gD lw po)).length) (by omega) (by omega)
                      have z2 := rC_add (cap := cap) (m := (acc ++ sliceL lw (po + 1) (gD lw po)).length) (m' := lw.length) (by omega) (by omega)
                      rw [← hc2] at z1
                      omega) (fun u3 H locs hu3 h => ?_)
                    obtain ⟨b3, g3, E3⟩ := u3
                    dsimp only at hu3
                    have hll9 := sliceL_len (l := lw) (a := po + 1) (n := gD lw po) (by omega)
                    have hla9 : (acc ++ sliceL lw (po + 1) (gD lw po)).length = acc.length + (gD lw po) := by rw [List.length_append, hll9]
                    have hc3 : gro c2 (acc ++ sliceL lw (po + 1) (gD lw po)).length = gro cap (acc ++ sliceL lw (po + 1) (gD lw po)).length := by rw [hc2]; exact gro_gro (by omega) (by omega)
                    have z1 := rC_add (cap := cap) (m := acc.length) (m' := (acc ++ sliceL lw (po + 1) (gD lw po)).length) (by omega) (by omega)
                    rw [← hc2] at z1
                    have z2 := rC_add (cap := cap) (m := (acc ++ sliceL lw (po + 1) (gD lw po)).length) (m' := lw.length) (by omega) (by omega)
                    rw [hc3] at hu3 h
                    have h : Wd D B s ([(pk, .inr (11, [.ref ba, .int (nI lw.length), .int (nI (po + 1 + (gD lw po))), .int (nI nx), .int (nI (gD lw nx - 192)), va_rf bo, .ref r])), (r, .inr (1, [.ref b3, .int (nI ((acc ++ sliceL lw (po + 1) (gD lw po)).length))])), (b3, bar dA (gro cap (acc ++ sliceL lw (po + 1) (gD lw po)).length) g3)] ++ (F2 ++ E3)) H locs := h
                    rw [pktN_1 hpl c171, if_pos hq9] at hN; cases hN
                  · refine call_VX (As := [.ref r, .int (nI (gD lw po))]) (rest := []) (n := 2) C h (c14_putX l D dA B Z hZ F2 pk ba n0 r gb lw (po + 1) nx (gD lw nx - 192) bo (gD lw po) b2 c2 g2 acc hlt hzx (hsub _ hba) hsb hbt hn0 hl4 (by omega) (by omega) hs2 (by omega) (by omega) (by omega) (by omega)) (lw_V q1075 q1077 qs10 q162 q1078) (by decide +kernel) (o_recv C h (RC := RX14) (T := TX14) (N := 7) (List.mem_of_getElem? (i := 0) rfl) rfl) (by decide) (by decide) rfl hl rfl (Nat.le_of_ble_eq_true rfl) dX14_next_211 (by omega) (fun ux ce9 H locs hux h hce9 hcv9 hcl9 => ?_) (fun _ H locs hu h => ?_)
                    · obtain ⟨q9, x9⟩ := ux
                      have h : Wd D B s ([(pk, .inr (11, [.ref ba, .int (nI lw.length), .int (nI (po + 1)), .int (nI nx), .int (nI (gD lw nx - 192)), va_rf bo, .ref r])), (r, .inr (1, [.ref b2, .int (nI acc.length)])), (b2, bar dA c2 g2)] ++ (F2 ++ [(q9, .inr (10, fts x9 (-1 - nI nx)))])) H locs := h
                      have h : Wd D B s ([(pk, .inr (11, [.ref ba, .int (nI lw.length), .int (nI (po + 1)), .int (nI nx), .int (nI (gD lw nx - 192)), va_rf bo, .ref r])), (r, .inr (1, [.ref b2, .int (nI acc.length)])), (b2, bar dA c2 g2)] ++ (F2 ++ [(q9, .inr (10, fts x9 (-1 - nI nx)))])) H locs := h
                      subst hQ
                      exact thr_out C hex hlocks h (q9, po + 1, (gD lw nx - 192), b2, c2, g2, acc, (F2 ++ [(q9, .inr (10, fts x9 (-1 - nI nx)))])) rfl rfl (⟨⟨x9, List.mem_append_right _ List.mem_cons_self⟩, hs2, (by rw [hc2]; exact hgo), fun z hz => List.mem_append_left _ (hsub z hz)⟩) rfl hce9 hcv9 hcl9 (by omega) (by omega)
                    exact hu.elim
              refine lv_iload_n hx hb dX14_next_94 rfl (lv_at hl 0 rfl) ?_
              refine lv_sipush (v := nI 224) hx hb dX14_next_95 (by decide) ?_
              refine n_icmp_lt (tgt := 162) hx hb (by omega) (by omega) dX14_next_98 (by decide) (fun c98 => ?_) (fun c98 => ?_)
              · exact j162  (by omega) _ _ h _ (lv_sub hl [0, 1] rfl)
              · refine lv_iload_n hx hb dX14_next_101 rfl (lv_at hl 0 rfl) ?_
                refine lv_sipush (v := nI 255) hx hb dX14_next_102 (by decide) ?_
                refine n_icmp_ge (tgt := 162) hx hb (by omega) (by omega) dX14_next_105 (by decide) (fun c105 => ?_) (fun c105 => ?_)
                · exact j162  (by omega) _ _ h _ (lv_sub hl [0, 1] rfl)
                · refine lv_aload_n hx hb dX14_next_108 rfl (lv_at hl 1 rfl) ?_
                  refine o_get C h (RC := RX14) (T := TX14) (N := 7) (List.mem_of_getElem? (i := 0) rfl) rfl in_X14 4 (by decide) q1030 rfl (v := .int (nI (gD lw nx - 192))) rfl dX14_next_109 ?_
                  refine lv_bipush (v := nI 11) hx hb dX14_next_112 (by decide) ?_
                  refine n_icmp_eq (tgt := 122) hx hb (by omega) (by omega) dX14_next_114 (by decide) (fun c114 => ?_) (fun c114 => ?_)
                  · refine lv_aload_n hx hb dX14_next_122 rfl (lv_at hl 1 rfl) ?_
                    refine lv_aload_n hx hb dX14_next_123 rfl (lv_at hl 1 rfl) ?_
                    refine o_get C h (RC := RX14) (T := TX14) (N := 7) (List.mem_of_getElem? (i := 0) rfl) rfl in_X14 6 (by decide) q1034 rfl (v := .ref r) rfl dX14_next_124 ?_
                    refine lv_iload_n hx hb dX14_next_127 rfl (lv_at hl 0 rfl) ?_
                    refine lv_sipush (v := nI 224) hx hb dX14_next_128 (by decide) ?_
                    refine lv_isub hx hb dX14_next_131 (n_top (y := nI (gD lw po - 224)) (pk_sub (by omega)) ?_)
                    refine lv_bipush (v := nI 16) hx hb dX14_next_132 (by decide) ?_
                    refine n_icmp_le (tgt := 144) hx hb (by omega) (by omega) dX14_next_134 (by decide) (fun c134 => ?_) (fun c134 => ?_)
                    · have hpg := Nat.two_pow_pos (gD lw po - 224)
                      have hpg2 : 2 ^ (gD lw po - 224) ≤ 2 ^ 16 := Nat.pow_le_pow_right (by decide) (by omega)
                      refine lv_iconst (v := nI 1) hx hb dX14_next_144 (by decide) ?_
                      refine lv_iload_n hx hb dX14_next_145 rfl (lv_at hl 0 rfl) ?_
                      refine lv_sipush (v := nI 224) hx hb dX14_next_146 (by decide) ?_
                      refine lv_isub hx hb dX14_next_149 (n_top (y := nI (gD lw po - 224)) (pk_sub (by omega)) ?_)
                      refine n_ishl hx hb dX14_next_150 ?_
                      refine n_top (y := nI (2 ^ (gD lw po - 224))) (by rw [n_shlN (by omega) (by omega), Nat.one_mul]) ?_
                      by_cases hpq : po + 1 + 2 ^ (gD lw po - 224) ≤ lw.length
                      · refine call_VR (As := [.ref r, .int (nI (2 ^ (gD lw po - 224)))]) (rest := []) (n := 2) C h (c14_put l D dA B Z hZ F2 pk ba n0 r gb lw (po + 1) nx (gD lw nx - 192) bo (2 ^ (gD lw po - 224)) b2 c2 g2 acc (hsub _ hba) hsb hbt hn0 hl4 (by omega) (by omega) hs2 (by omega) (by omega) (by omega) (by omega)) (lw_V q1075 q1077 qs10 q162 q1078) (by decide +kernel) (o_recv C h (RC := RX14) (T := TX14) (N := 7) (List.mem_of_getElem? (i := 0) rfl) rfl) (by decide) (by decide) rfl hl rfl (Nat.le_of_ble_eq_true rfl) dX14_next_151 (by
                          have hll9 := sliceL_len (l := lw) (a := po + 1) (n := 2 ^ (gD lw po - 224)) (by omega)
                          have hla9 : (acc ++ sliceL lw (po + 1) (2 ^ (gD lw po - 224))).length = acc.length + (2 ^ (gD lw po - 224)) := by rw [List.length_append, hll9]
                          have z1 := rC_add (cap := cap) (m := acc.length) (m' := (acc ++ sliceL lw (po + 1) (2 ^ (gD lw po - 224))).length) (by omega) (by omega)
                          have z2 := rC_add (cap := cap) (m := (acc ++ sliceL lw (po + 1) (2 ^ (gD lw po - 224))).length) (m' := lw.length) (by omega) (by omega)
                          rw [← hc2] at z1
                          omega) (fun u3 H locs hu3 h => ?_)
                        obtain ⟨b3, g3, E3⟩ := u3
                        dsimp only at hu3
                        have hll9 := sliceL_len (l := lw) (a := po + 1) (n := 2 ^ (gD lw po - 224)) (by omega)
                        have hla9 : (acc ++ sliceL lw (po + 1) (2 ^ (gD lw po - 224))).length = acc.length + (2 ^ (gD lw po - 224)) := by rw [List.length_append, hll9]
                        have hc3 : gro c2 (acc ++ sliceL lw (po + 1) (2 ^ (gD lw po - 224))).length = gro cap (acc ++ sliceL lw (po + 1) (2 ^ (gD lw po - 224))).length := by rw [hc2]; exact gro_gro (by omega) (by omega)
                        have z1 := rC_add (cap := cap) (m := acc.length) (m' := (acc ++ sliceL lw (po + 1) (2 ^ (gD lw po - 224))).length) (by omega) (by omega)
                        rw [← hc2] at z1
                        have z2 := rC_add (cap := cap) (m := (acc ++ sliceL lw (po + 1) (2 ^ (gD lw po - 224))).length) (m' := lw.length) (by omega) (by omega)
                        rw [hc3] at hu3 h
                        have h : Wd D B s ([(pk, .inr (11, [.ref ba, .int (nI lw.length), .int (nI (po + 1 + (2 ^ (gD lw po - 224)))), .int (nI nx), .int (nI (gD lw nx - 192)), va_rf bo, .ref r])), (r, .inr (1, [.ref b3, .int (nI ((acc ++ sliceL lw (po + 1) (2 ^ (gD lw po - 224))).length))])), (b3, bar dA (gro cap (acc ++ sliceL lw (po + 1) (2 ^ (gD lw po - 224))).length) g3)] ++ (F2 ++ E3)) H locs := h
                        have hN2 : pktN lw (gD lw nx - 192) (po + 1 + 2 ^ (gD lw po - 224)) (acc ++ sliceL lw (po + 1) (2 ^ (gD lw po - 224))) = none := by rw [← pktN_p hpl ⟨by omega, by omega⟩ (by omega) (by omega) (by omega)]; exact hN
                        refine lv_aload_n hx hb dX14_next_154 rfl (lv_at hl 1 rfl) ?_
                        by_cases hc155 : po + 1 + 2 ^ (gD lw po - 224) < lw.length
                        · refine call_VR (As := []) (rest := []) (n := 0) C h (c14_take l D dA B Z hZ ([(r, .inr (1, [.ref b3, .int (nI ((acc ++ sliceL lw (po + 1) (2 ^ (gD lw po - 224))).length))])), (b3, bar dA (gro cap (acc ++ sliceL lw (po + 1) (2 ^ (gD lw po - 224))).length) g3)] ++ (F2 ++ E3)) pk ba n0 r gb lw (po + 1 + (2 ^ (gD lw po - 224))) nx (gD lw nx - 192) bo (List.mem_append_right _ (List.mem_append_left _ (hsub _ hba))) hsb hbt hn0 hl4 (by omega)) (lw_V q1059 q1061 qs8 q162 q1062) (by decide +kernel) (o_recv C h (RC := RX14) (T := TX14) (N := 7) (List.mem_of_getElem? (i := 0) rfl) rfl) (by decide) (by decide) rfl hl rfl (Nat.le_of_ble_eq_true rfl) dX14_next_155 (by omega) (fun _ H locs _ h => ?_)
                          have h : Wd D B s ([(pk, .inr (11, [.ref ba, .int (nI lw.length), .int (nI ((po + 1 + (2 ^ (gD lw po - 224))) + 1)), .int (nI nx), .int (nI (gD lw nx - 192)), va_rf bo, .ref r])), (r, .inr (1, [.ref b3, .int (nI ((acc ++ sliceL lw (po + 1) (2 ^ (gD lw po - 224))).length))])), (b3, bar dA (gro cap (acc ++ sliceL lw (po + 1) (2 ^ (gD lw po - 224))).length) g3)] ++ (F2 ++ E3)) H locs := h
                          refine lv_istore_n (lv' := [(2, .int (nI (gD lw (po + 1 + (2 ^ (gD lw po - 224)))))), (0, .ref pk)]) hx hb dX14_next_158 rfl hl (by decide) rfl (fun ls hl => ?_)
                          refine lv_goto (tgt := 94) hx hb dX14_next_159 (by decide) ?_
                          exact ih (po + 1 + 2 ^ (gD lw po - 224)) _ b3 _ g3 (F2 ++ E3) _ _ hN2 (by omega) (by omega) hu3 rfl (fun z hz => List.mem_append_left _ (hsub z hz)) (by omega) (by omega) (by omega) _ _ h _ (lv_sub hl [0, 1] rfl)
                        · refine call_VX (As := []) (rest := []) (n := 0) C h (c14_takeX l D dA B Z hZ ([(r, .inr (1, [.ref b3, .int (nI ((acc ++ sliceL lw (po + 1) (2 ^ (gD lw po - 224))).length))])), (b3, bar dA (gro cap (acc ++ sliceL lw (po + 1) (2 ^ (gD lw po - 224))).length) g3)] ++ (F2 ++ E3)) pk ba n0 r gb lw (po + 1 + (2 ^ (gD lw po - 224))) nx (gD lw nx - 192) bo hlt hzx (List.mem_append_right _ (List.mem_append_left _ (hsub _ hba))) hsb hbt hn0 hl4 (by omega) (by omega)) (lw_V q1059 q1061 qs8 q162 q1062) (by decide +kernel) (o_recv C h (RC := RX14) (T := TX14) (N := 7) (List.mem_of_getElem? (i := 0) rfl) rfl) (by decide) (by decide) rfl hl rfl (Nat.le_of_ble_eq_true rfl) dX14_next_155 (by omega) (fun ux ce9 H locs hux h hce9 hcv9 hcl9 => ?_) (fun _ H locs hu h => ?_)
                          · obtain ⟨q9, x9⟩ := ux
                            have h : Wd D B s ([(pk, .inr (11, [.ref ba, .int (nI lw.length), .int (nI (po + 1 + (2 ^ (gD lw po - 224)))), .int (nI nx), .int (nI (gD lw nx - 192)), va_rf bo, .ref r])), (r, .inr (1, [.ref b3, .int (nI ((acc ++ sliceL lw (po + 1) (2 ^ (gD lw po - 224))).length))])), (b3, bar dA (gro cap (acc ++ sliceL lw (po + 1) (2 ^ (gD lw po - 224))).length) g3)] ++ ((F2 ++ E3) ++ [(q9, .inr (10, fts x9 (-1 - nI nx)))])) H locs := h
                            have h : Wd D B s ([(pk, .inr (11, [.ref ba, .int (nI lw.length), .int (nI (po + 1 + (2 ^ (gD lw po - 224)))), .int (nI nx), .int (nI (gD lw nx - 192)), va_rf bo, .ref r])), (r, .inr (1, [.ref b3, .int (nI ((acc ++ sliceL lw (po + 1) (2 ^ (gD lw po - 224))).length))])), (b3, bar dA (gro cap (acc ++ sliceL lw (po + 1) (2 ^ (gD lw po - 224))).length) g3)] ++ ((F2 ++ E3) ++ [(q9, .inr (10, fts x9 (-1 - nI nx)))])) H locs := h
                            subst hQ
                            exact thr_out C hex hlocks h (q9, po + 1 + (2 ^ (gD lw po - 224)), (gD lw nx - 192), b3, gro cap (acc ++ sliceL lw (po + 1) (2 ^ (gD lw po - 224))).length, g3, acc ++ sliceL lw (po + 1) (2 ^ (gD lw po - 224)), ((F2 ++ E3) ++ [(q9, .inr (10, fts x9 (-1 - nI nx)))])) rfl rfl (⟨⟨x9, List.mem_append_right _ List.mem_cons_self⟩, hu3, (GrOk.of hcap (by omega)), fun z hz => List.mem_append_left _ ((fun z hz => List.mem_append_left _ (hsub z hz)) z hz)⟩) rfl hce9 hcv9 hcl9 (by omega) (by omega)
                          exact hu.elim
                      · refine call_VX (As := [.ref r, .int (nI (2 ^ (gD lw po - 224)))]) (rest := []) (n := 2) C h (c14_putX l D dA B Z hZ F2 pk ba n0 r gb lw (po + 1) nx (gD lw nx - 192) bo (2 ^ (gD lw po - 224)) b2 c2 g2 acc hlt hzx (hsub _ hba) hsb hbt hn0 hl4 (by omega) (by omega) hs2 (by omega) (by omega) (by omega) (by omega)) (lw_V q1075 q1077 qs10 q162 q1078) (by decide +kernel) (o_recv C h (RC := RX14) (T := TX14) (N := 7) (List.mem_of_getElem? (i := 0) rfl) rfl) (by decide) (by decide) rfl hl rfl (Nat.le_of_ble_eq_true rfl) dX14_next_151 (by omega) (fun ux ce9 H locs hux h hce9 hcv9 hcl9 => ?_) (fun _ H locs hu h => ?_)
                        · obtain ⟨q9, x9⟩ := ux
                          have h : Wd D B s ([(pk, .inr (11, [.ref ba, .int (nI lw.length), .int (nI (po + 1)), .int (nI nx), .int (nI (gD lw nx - 192)), va_rf bo, .ref r])), (r, .inr (1, [.ref b2, .int (nI acc.length)])), (b2, bar dA c2 g2)] ++ (F2 ++ [(q9, .inr (10, fts x9 (-1 - nI nx)))])) H locs := h
                          have h : Wd D B s ([(pk, .inr (11, [.ref ba, .int (nI lw.length), .int (nI (po + 1)), .int (nI nx), .int (nI (gD lw nx - 192)), va_rf bo, .ref r])), (r, .inr (1, [.ref b2, .int (nI acc.length)])), (b2, bar dA c2 g2)] ++ (F2 ++ [(q9, .inr (10, fts x9 (-1 - nI nx)))])) H locs := h
                          subst hQ
                          exact thr_out C hex hlocks h (q9, po + 1, (gD lw nx - 192), b2, c2, g2, acc, (F2 ++ [(q9, .inr (10, fts x9 (-1 - nI nx)))])) rfl rfl (⟨⟨x9, List.mem_append_right _ List.mem_cons_self⟩, hs2, (by rw [hc2]; exact hgo), fun z hz => List.mem_append_left _ (hsub z hz)⟩) rfl hce9 hcv9 hcl9 (by omega) (by omega)
                        exact hu.elim
                    · refine lv_aload_n hx hb dX14_next_137 rfl (lv_at hl 1 rfl) ?_
                      refine o_get C h (RC := RX14) (T := TX14) (N := 7) (List.mem_of_getElem? (i := 0) rfl) rfl in_X14 1 (by decide) q1027 rfl (v := .int (nI lw.length)) rfl dX14_next_138 ?_
                      refine lv_goto (tgt := 151) hx hb dX14_next_141 (by decide) ?_
                      refine call_VX (As := [.ref r, .int (nI lw.length)]) (rest := []) (n := 2) C h (c14_putX l D dA B Z hZ F2 pk ba n0 r gb lw (po + 1) nx (gD lw nx - 192) bo lw.length b2 c2 g2 acc hlt hzx (hsub _ hba) hsb hbt hn0 hl4 (by omega) (by omega) hs2 (by omega) (by omega) (by omega) (by omega)) (lw_V q1075 q1077 qs10 q162 q1078) (by decide +kernel) (o_recv C h (RC := RX14) (T := TX14) (N := 7) (List.mem_of_getElem? (i := 0) rfl) rfl) (by decide) (by decide) rfl hl rfl (Nat.le_of_ble_eq_true rfl) dX14_next_151 (by omega) (fun ux ce9 H locs hux h hce9 hcv9 hcl9 => ?_) (fun _ H locs hu h => ?_)
                      · obtain ⟨q9, x9⟩ := ux
                        have h : Wd D B s ([(pk, .inr (11, [.ref ba, .int (nI lw.length), .int (nI (po + 1)), .int (nI nx), .int (nI (gD lw nx - 192)), va_rf bo, .ref r])), (r, .inr (1, [.ref b2, .int (nI acc.length)])), (b2, bar dA c2 g2)] ++ (F2 ++ [(q9, .inr (10, fts x9 (-1 - nI nx)))])) H locs := h
                        have h : Wd D B s ([(pk, .inr (11, [.ref ba, .int (nI lw.length), .int (nI (po + 1)), .int (nI nx), .int (nI (gD lw nx - 192)), va_rf bo, .ref r])), (r, .inr (1, [.ref b2, .int (nI acc.length)])), (b2, bar dA c2 g2)] ++ (F2 ++ [(q9, .inr (10, fts x9 (-1 - nI nx)))])) H locs := h
                        subst hQ
                        exact thr_out C hex hlocks h (q9, po + 1, (gD lw nx - 192), b2, c2, g2, acc, (F2 ++ [(q9, .inr (10, fts x9 (-1 - nI nx)))])) rfl rfl (⟨⟨x9, List.mem_append_right _ List.mem_cons_self⟩, hs2, (by rw [hc2]; exact hgo), fun z hz => List.mem_append_left _ (hsub z hz)⟩) rfl hce9 hcv9 hcl9 (by omega) (by omega)
                      exact hu.elim
                  · refine lv_aload_n hx hb dX14_next_117 rfl (lv_at hl 1 rfl) ?_
                    refine call_VR (As := []) (rest := []) (n := 0) C h (c14_fault l D dA B Z hZ _ pk ba lw.length (po + 1) nx (gD lw nx - 192) r bo hlt hzx (List.mem_of_getElem? (i := 0) rfl)) (lw_V q1063 q1064 q1065 q162 q1066) (by decide +kernel) (o_recv C h (RC := RX14) (T := TX14) (N := 7) (List.mem_of_getElem? (i := 0) rfl) rfl) (by decide) (by decide) rfl hl rfl (Nat.le_of_ble_eq_true rfl) dX14_next_118 (by omega) (fun u9 H locs _ h => ?_)
                    obtain ⟨q9, x9⟩ := u9
                    have h : Wd D B s ([(q9, .inr (10, fts x9 (-1 - nI nx)))] ++ ([(pk, .inr (11, [.ref ba, .int (nI lw.length), .int (nI (po + 1)), .int (nI nx), .int (nI (gD lw nx - 192)), va_rf bo, .ref r])), (r, .inr (1, [.ref b2, .int (nI acc.length)])), (b2, bar dA c2 g2)] ++ F2)) H locs := h
                    have h : Wd D B s ([(q9, .inr (10, fts x9 (-1 - nI nx))), (pk, .inr (11, [.ref ba, .int (nI lw.length), .int (nI (po + 1)), .int (nI nx), .int (nI (gD lw nx - 192)), va_rf bo, .ref r])), (r, .inr (1, [.ref b2, .int (nI acc.length)])), (b2, bar dA c2 g2)] ++ F2) H locs := h
                    subst hQ
                    have h : Wd D B s ([(pk, .inr (11, [.ref ba, .int (nI lw.length), .int (nI (po + 1)), .int (nI nx), .int (nI (gD lw nx - 192)), va_rf bo, .ref r])), (r, .inr (1, [.ref b2, .int (nI acc.length)])), (b2, bar dA c2 g2)] ++ (F2 ++ [(q9, .inr (10, fts x9 (-1 - nI nx)))])) H locs := Wd.toLast h
                    exact x_athrow C hex hlocks h (List.mem_append_right _ (List.mem_append_right _ List.mem_cons_self)) rfl (q9, po + 1, (gD lw nx - 192), b2, c2, g2, acc, (F2 ++ [(q9, .inr (10, fts x9 (-1 - nI nx)))])) rfl rfl (⟨⟨x9, List.mem_append_right _ List.mem_cons_self⟩, hs2, (by rw [hc2]; exact hgo), fun z hz => List.mem_append_left _ (hsub z hz)⟩) rfl (by omega) (by omega) dX14_next_121
          exact loop _ (nx + 1) [] b cap g F _ _ hN (by omega) (Nat.zero_le _) SBis_nil hcn (fun z hz => hz) (by omega) (by omega) (Nat.lt_succ_self _) _ _ h _ (lv_sub hl [0, 2] rfl)
        · have h : Wd D B s ([(pk, .inr (11, [.ref ba, .int (nI lw.length), .int (nI (nx + 1)), .int (nI nx), .int (nI (gD lw nx - 192)), va_rf bo, .ref r])), (r, .inr (1, [.ref b, .int (nI (([] : List Nat).length))])), (b, bar dA cap g)] ++ F) H locs := h.perm [2, 0, 1] rfl rfl
          refine call_VX (As := []) (rest := []) (n := 0) C h (c14_takeX l D dA B Z hZ ([(r, .inr (1, [.ref b, .int (nI (([] : List Nat).length))])), (b, bar dA cap g)] ++ F) pk ba n0 r gb lw (nx + 1) nx (gD lw nx - 192) bo hlt hzx (List.mem_append_right _ hba) hsb hbt hn0 hl4 (by omega) (by omega)) (lw_V q1059 q1061 qs8 q162 q1062) (by decide +kernel) (o_recv C h (RC := RX14) (T := TX14) (N := 7) (List.mem_of_getElem? (i := 0) rfl) rfl) (by decide) (by decide) rfl hl rfl (Nat.le_of_ble_eq_true rfl) dX14_next_90 (by omega) (fun ux ce9 H locs hux h hce9 hcv9 hcl9 => ?_) (fun _ H locs hu h => ?_)
          · obtain ⟨q9, x9⟩ := ux
            have h : Wd D B s ([(pk, .inr (11, [.ref ba, .int (nI lw.length), .int (nI (nx + 1)), .int (nI nx), .int (nI (gD lw nx - 192)), va_rf bo, .ref r])), (r, .inr (1, [.ref b, .int (nI (([] : List Nat).length))])), (b, bar dA cap g)] ++ (F ++ [(q9, .inr (10, fts x9 (-1 - nI nx)))])) H locs := h
            have h : Wd D B s ([(pk, .inr (11, [.ref ba, .int (nI lw.length), .int (nI (nx + 1)), .int (nI nx), .int (nI (gD lw nx - 192)), va_rf bo, .ref r])), (r, .inr (1, [.ref b, .int (nI (([] : List Nat).length))])), (b, bar dA cap g)] ++ (F ++ [(q9, .inr (10, fts x9 (-1 - nI nx)))])) H locs := h
            subst hQ
            exact thr_out C hex hlocks h (q9, nx + 1, gD lw nx - 192, b, cap, g, ([] : List Nat), (F ++ [(q9, .inr (10, fts x9 (-1 - nI nx)))])) rfl rfl (⟨⟨x9, List.mem_append_right _ List.mem_cons_self⟩, SBis_nil, (GrOk.rf hcap), fun z hz => List.mem_append_left _ ((fun z hz => hz) z hz)⟩) rfl hce9 hcv9 hcl9 (by omega) (by omega)
          exact hu.elim
      · refine lv_aload_n hx hb dX14_next_39 rfl (lv_at hl 1 rfl) ?_
        refine lv_iload_n hx hb dX14_next_40 rfl (lv_at hl 0 rfl) ?_
        refine lv_iconst (v := nI 2) hx hb dX14_next_41 (by decide) ?_
        refine n_ishr hx hb dX14_next_42 (n_top (y := nI ((gD lw nx) / 4)) (pk_shrN (by omega) _ 2 (by decide)) ?_)
        refine lv_bipush (v := nI 15) hx hb dX14_next_43 (by decide) ?_
        refine lv_iand hx hb dX14_next_45 (n_top (y := nI (((gD lw nx) / 4) % 16)) (pk_andN (by omega) 4 (by decide)) ?_)
        refine o_put C h 2 (RC := RX14) (T := TX14) (N := 7) (ws' := [(r, .inr (1, [.ref b, .int (nI (([] : List Nat).length))])), (b, bar dA cap g), (pk, .inr (11, [.ref ba, .int (nI lw.length), .int (nI (nx + 1)), .int (nI nx), .int (nI (((gD lw nx) / 4) % 16)), va_rf bo, .ref r]))] ++ F) rfl rfl in_X14 tyX14_ok nmX14 4 (by decide) q1030 rfl rfl (v := .int (nI (((gD lw nx) / 4) % 16))) rfl rfl (Nat.le_of_ble_eq_true rfl) rfl dX14_next_46 (fun H locs h => ?_)
        refine lv_iload_n hx hb dX14_next_49 rfl (lv_at hl 0 rfl) ?_
        refine lv_iconst (v := nI 3) hx hb dX14_next_50 (by decide) ?_
        refine lv_iand hx hb dX14_next_51 (n_top (y := nI ((gD lw nx) % 4)) (pk_andN (by omega) 2 (by decide)) ?_)
        refine lv_iconst (v := nI 3) hx hb dX14_next_52 (by decide) ?_
        refine n_icmp_ne (tgt := 61) hx hb (by omega) (by omega) dX14_next_53 (by decide) (fun c53 => ?_) (fun c53 => ?_)
        · have hpw := Nat.two_pow_pos (gD lw nx % 4)
          have hpw4 : 2 ^ (gD lw nx % 4) ≤ 2 ^ 2 := Nat.pow_le_pow_right (by decide) (by omega)
          refine lv_aload_n hx hb dX14_next_61 rfl (lv_at hl 1 rfl) ?_
          refine lv_aload_n hx hb dX14_next_62 rfl (lv_at hl 1 rfl) ?_
          refine o_get C h (RC := RX14) (T := TX14) (N := 7) (List.mem_of_getElem? (i := 2) rfl) rfl in_X14 6 (by decide) q1034 rfl (v := .ref r) rfl dX14_next_63 ?_
          have hcn : cap = gro cap ([] : List Nat).length := (gro_le (m := ([] : List Nat).length) (Nat.zero_le _)).symm
          refine lv_aload_n hx hb dX14_next_66 rfl (lv_at hl 1 rfl) ?_
          refine lv_iconst (v := nI 1) hx hb dX14_next_67 (by decide) ?_
          refine lv_iload_n hx hb dX14_next_68 rfl (lv_at hl 0 rfl) ?_
          refine lv_iconst (v := nI 3) hx hb dX14_next_69 (by decide) ?_
          refine lv_iand hx hb dX14_next_70 (n_top (y := nI ((gD lw nx) % 4)) (pk_andN (by omega) 2 (by decide)) ?_)
          refine n_ishl hx hb dX14_next_71 ?_
          refine n_top (y := nI (2 ^ (gD lw nx % 4))) (by rw [n_shlN (by omega) (by omega), Nat.one_mul]) ?_
          by_cases hc72 : nx + 1 + 2 ^ (gD lw nx % 4) ≤ lw.length ∧ oldN lw nx ≤ 65536
          · have hbig : num (sl (gD lw) (nx + 1) (2 ^ (gD lw nx % 4))) ≤ 65536 := hc72.2
            have h : Wd D B s ([(pk, .inr (11, [.ref ba, .int (nI lw.length), .int (nI (nx + 1)), .int (nI nx), .int (nI (((gD lw nx) / 4) % 16)), va_rf bo, .ref r])), (r, .inr (1, [.ref b, .int (nI (([] : List Nat).length))])), (b, bar dA cap g)] ++ F) H locs := h.perm [2, 0, 1] rfl rfl
            refine call_VR (As := [.int (nI (2 ^ (gD lw nx % 4)))]) (rest := [.ref r, .ref pk]) (n := 1) C h (c14_takeN l D dA B Z hZ ([(r, .inr (1, [.ref b, .int (nI (([] : List Nat).length))])), (b, bar dA cap g)] ++ F) pk ba n0 r gb lw (nx + 1) nx (((gD lw nx) / 4) % 16) bo (2 ^ (gD lw nx % 4)) (List.mem_append_right _ hba) hsb hbt hn0 hl4 (by omega) (by omega) hbig) (lw_V q1070 q1072 qs9 q162 q1073) (by decide +kernel) (o_recv C h (RC := RX14) (T := TX14) (N := 7) (List.mem_of_getElem? (i := 0) rfl) rfl) (by decide) (by decide) rfl hl rfl (Nat.le_of_ble_eq_true rfl) dX14_next_72 (by omega) (fun _ H locs _ h => ?_)
            have h : Wd D B s ([(pk, .inr (11, [.ref ba, .int (nI lw.length), .int (nI (nx + 1 + (2 ^ (gD lw nx % 4)))), .int (nI nx), .int (nI (((gD lw nx) / 4) % 16)), va_rf bo, .ref r])), (r, .inr (1, [.ref b, .int (nI (([] : List Nat).length))])), (b, bar dA cap g)] ++ F) H locs := h
            refine n_top (y := nI (oldN lw nx)) rfl ?_
            by_cases hc75 : nx + 1 + 2 ^ (gD lw nx % 4) + oldN lw nx ≤ lw.length
            · have hc2 := hcn
              refine call_VR (As := [.ref r, .int (nI (oldN lw nx))]) (rest := []) (n := 2) C h (c14_put l D dA B Z hZ F pk ba n0 r gb lw (nx + 1 + (2 ^ (gD lw nx % 4))) nx (((gD lw nx) / 4) % 16) bo (oldN lw nx) b cap g ([] : List Nat) hba hsb hbt hn0 hl4 (by omega) (by omega) SBis_nil (by omega) (by omega) (by omega) (by omega)) (lw_V q1075 q1077 qs10 q162 q1078) (by decide +kernel) (o_recv C h (RC := RX14) (T := TX14) (N := 7) (List.mem_of_getElem? (i := 0) rfl) rfl) (by decide) (by decide) rfl hl rfl (Nat.le_of_ble_eq_true rfl) dX14_next_75 (by
                have hll9 := sliceL_len (l := lw) (a := nx + 1 + (2 ^ (gD lw nx % 4))) (n := oldN lw nx) (by omega)
                have hla9 : (([] : List Nat) ++ sliceL lw (nx + 1 + (2 ^ (gD lw nx % 4))) (oldN lw nx)).length = ([] : List Nat).length + (oldN lw nx) := by rw [List.length_append, hll9]
                have z1 := rC_add (cap := cap) (m := ([] : List Nat).length) (m' := (([] : List Nat) ++ sliceL lw (nx + 1 + (2 ^ (gD lw nx % 4))) (oldN lw nx)).length) (by omega) (by omega)
                have z2 := rC_add (cap := cap) (m := (([] : List Nat) ++ sliceL lw (nx + 1 + (2 ^ (gD lw nx % 4))) (oldN lw nx)).length) (m' := lw.length) (by omega) (by omega)
                rw [← hc2] at z1
                omega) (fun u3 H locs hu3 h => ?_)
              obtain ⟨b3, g3, E3⟩ := u3
              dsimp only at hu3
              have hll9 := sliceL_len (l := lw) (a := nx + 1 + (2 ^ (gD lw nx % 4))) (n := oldN lw nx) (by omega)
              have hla9 : (([] : List Nat) ++ sliceL lw (nx + 1 + (2 ^ (gD lw nx % 4))) (oldN lw nx)).length = ([] : List Nat).length + (oldN lw nx) := by rw [List.length_append, hll9]
              have hc3 : gro cap (([] : List Nat) ++ sliceL lw (nx + 1 + (2 ^ (gD lw nx % 4))) (oldN lw nx)).length = gro cap (([] : List Nat) ++ sliceL lw (nx + 1 + (2 ^ (gD lw nx % 4))) (oldN lw nx)).length := rfl
              have z1 := rC_add (cap := cap) (m := ([] : List Nat).length) (m' := (([] : List Nat) ++ sliceL lw (nx + 1 + (2 ^ (gD lw nx % 4))) (oldN lw nx)).length) (by omega) (by omega)
              rw [← hc2] at z1
              have z2 := rC_add (cap := cap) (m := (([] : List Nat) ++ sliceL lw (nx + 1 + (2 ^ (gD lw nx % 4))) (oldN lw nx)).length) (m' := lw.length) (by omega) (by omega)
              rw [hc3] at hu3 h
              have h : Wd D B s ([(pk, .inr (11, [.ref ba, .int (nI lw.length), .int (nI ((nx + 1 + (2 ^ (gD lw nx % 4))) + (oldN lw nx))), .int (nI nx), .int (nI (((gD lw nx) / 4) % 16)), va_rf bo, .ref r])), (r, .inr (1, [.ref b3, .int (nI ((([] : List Nat) ++ sliceL lw (nx + 1 + (2 ^ (gD lw nx % 4))) (oldN lw nx)).length))])), (b3, bar dA (gro cap (([] : List Nat) ++ sliceL lw (nx + 1 + (2 ^ (gD lw nx % 4))) (oldN lw nx)).length) g3)] ++ (F ++ E3)) H locs := h
              refine lv_goto (tgt := 214) hx hb dX14_next_78 (by decide) ?_
              have hno := pktS_o (by omega) (by omega) (by omega) c53 hc72.1 hc75
              rw [hp] at hno; cases hno
            · refine call_VX (As := [.ref r, .int (nI (oldN lw nx))]) (rest := []) (n := 2) C h (c14_putX l D dA B Z hZ F pk ba n0 r gb lw (nx + 1 + (2 ^ (gD lw nx % 4))) nx (((gD lw nx) / 4) % 16) bo (oldN lw nx) b cap g ([] : List Nat) hlt hzx hba hsb hbt hn0 hl4 (by omega) (by omega) SBis_nil (by omega) (by omega) (by omega) (by omega)) (lw_V q1075 q1077 qs10 q162 q1078) (by decide +kernel) (o_recv C h (RC := RX14) (T := TX14) (N := 7) (List.mem_of_getElem? (i := 0) rfl) rfl) (by decide) (by decide) rfl hl rfl (Nat.le_of_ble_eq_true rfl) dX14_next_75 (by omega) (fun ux ce9 H locs hux h hce9 hcv9 hcl9 => ?_) (fun _ H locs hu h => ?_)
              · obtain ⟨q9, x9⟩ := ux
                have h : Wd D B s ([(pk, .inr (11, [.ref ba, .int (nI lw.length), .int (nI (nx + 1 + (2 ^ (gD lw nx % 4)))), .int (nI nx), .int (nI (((gD lw nx) / 4) % 16)), va_rf bo, .ref r])), (r, .inr (1, [.ref b, .int (nI (([] : List Nat).length))])), (b, bar dA cap g)] ++ (F ++ [(q9, .inr (10, fts x9 (-1 - nI nx)))])) H locs := h
                have h : Wd D B s ([(pk, .inr (11, [.ref ba, .int (nI lw.length), .int (nI (nx + 1 + (2 ^ (gD lw nx % 4)))), .int (nI nx), .int (nI (((gD lw nx) / 4) % 16)), va_rf bo, .ref r])), (r, .inr (1, [.ref b, .int (nI (([] : List Nat).length))])), (b, bar dA cap g)] ++ (F ++ [(q9, .inr (10, fts x9 (-1 - nI nx)))])) H locs := h
                subst hQ
                exact thr_out C hex hlocks h (q9, nx + 1 + (2 ^ (gD lw nx % 4)), ((gD lw nx) / 4) % 16, b, cap, g, ([] : List Nat), (F ++ [(q9, .inr (10, fts x9 (-1 - nI nx)))])) rfl rfl (⟨⟨x9, List.mem_append_right _ List.mem_cons_self⟩, SBis_nil, (GrOk.rf hcap), fun z hz => List.mem_append_left _ ((fun z hz => hz) z hz)⟩) rfl hce9 hcv9 hcl9 (by omega) (by omega)
              exact hu.elim
          · have hbig : lw.length < nx + 1 + 2 ^ (gD lw nx % 4) ∨ 65536 < num (sl (gD lw) (nx + 1) (2 ^ (gD lw nx % 4))) := by
              rcases Nat.lt_or_ge lw.length (nx + 1 + 2 ^ (gD lw nx % 4)) with q | q
              · exact Or.inl q
              · exact Or.inr (by
                  rcases Nat.lt_or_ge 65536 (oldN lw nx) with q2 | q2
                  · exact q2
                  · exact absurd ⟨q, q2⟩ hc72)
            have h : Wd D B s ([(pk, .inr (11, [.ref ba, .int (nI lw.length), .int (nI (nx + 1)), .int (nI nx), .int (nI (((gD lw nx) / 4) % 16)), va_rf bo, .ref r])), (r, .inr (1, [.ref b, .int (nI (([] : List Nat).length))])), (b, bar dA cap g)] ++ F) H locs := h.perm [2, 0, 1] rfl rfl
            refine call_VX (As := [.int (nI (2 ^ (gD lw nx % 4)))]) (rest := [.ref r, .ref pk]) (n := 1) C h (c14_takeNX l D dA B Z hZ ([(r, .inr (1, [.ref b, .int (nI (([] : List Nat).length))])), (b, bar dA cap g)] ++ F) pk ba n0 r gb lw (nx + 1) nx (((gD lw nx) / 4) % 16) bo (2 ^ (gD lw nx % 4)) hlt hzx (List.mem_append_right _ hba) hsb hbt hn0 hl4 (by omega) (by omega) hbig) (lw_V q1070 q1072 qs9 q162 q1073) (by decide +kernel) (o_recv C h (RC := RX14) (T := TX14) (N := 7) (List.mem_of_getElem? (i := 0) rfl) rfl) (by decide) (by decide) rfl hl rfl (Nat.le_of_ble_eq_true rfl) dX14_next_72 (by omega) (fun ux ce9 H locs hux h hce9 hcv9 hcl9 => ?_) (fun _ H locs hu h => ?_)
            · obtain ⟨q9, x9, n9⟩ := ux
              have h : Wd D B s ([(pk, .inr (11, [.ref ba, .int (nI lw.length), .int (nI n9), .int (nI nx), .int (nI (((gD lw nx) / 4) % 16)), va_rf bo, .ref r])), (r, .inr (1, [.ref b, .int (nI (([] : List Nat).length))])), (b, bar dA cap g)] ++ (F ++ [(q9, .inr (10, fts x9 (-1 - nI nx)))])) H locs := h
              have h : Wd D B s ([(pk, .inr (11, [.ref ba, .int (nI lw.length), .int (nI n9), .int (nI nx), .int (nI (((gD lw nx) / 4) % 16)), va_rf bo, .ref r])), (r, .inr (1, [.ref b, .int (nI (([] : List Nat).length))])), (b, bar dA cap g)] ++ (F ++ [(q9, .inr (10, fts x9 (-1 - nI nx)))])) H locs := h
              subst hQ
              exact thr_out C hex hlocks h (q9, n9, ((gD lw nx) / 4) % 16, b, cap, g, ([] : List Nat), (F ++ [(q9, .inr (10, fts x9 (-1 - nI nx)))])) rfl rfl (⟨⟨x9, List.mem_append_right _ List.mem_cons_self⟩, SBis_nil, (GrOk.rf hcap), fun z hz => List.mem_append_left _ ((fun z hz => hz) z hz)⟩) rfl hce9 hcv9 hcl9 (by omega) (by omega)
            exact hu.elim
        · refine lv_aload_n hx hb dX14_next_56 rfl (lv_at hl 1 rfl) ?_
          refine call_VR (As := []) (rest := []) (n := 0) C h (c14_fault l D dA B Z hZ _ pk ba lw.length (nx + 1) nx (((gD lw nx) / 4) % 16) r bo hlt hzx (List.mem_of_getElem? (i := 2) rfl)) (lw_V q1063 q1064 q1065 q162 q1066) (by decide +kernel) (o_recv C h (RC := RX14) (T := TX14) (N := 7) (List.mem_of_getElem? (i := 2) rfl) rfl) (by decide) (by decide) rfl hl rfl (Nat.le_of_ble_eq_true rfl) dX14_next_57 (by omega) (fun u9 H locs _ h => ?_)
          obtain ⟨q9, x9⟩ := u9
          have h : Wd D B s ([(q9, .inr (10, fts x9 (-1 - nI nx)))] ++ ([(r, .inr (1, [.ref b, .int (nI (([] : List Nat).length))])), (b, bar dA cap g), (pk, .inr (11, [.ref ba, .int (nI lw.length), .int (nI (nx + 1)), .int (nI nx), .int (nI (((gD lw nx) / 4) % 16)), va_rf bo, .ref r]))] ++ F)) H locs := h
          have h : Wd D B s ([(q9, .inr (10, fts x9 (-1 - nI nx))), (r, .inr (1, [.ref b, .int (nI (([] : List Nat).length))])), (b, bar dA cap g), (pk, .inr (11, [.ref ba, .int (nI lw.length), .int (nI (nx + 1)), .int (nI nx), .int (nI (((gD lw nx) / 4) % 16)), va_rf bo, .ref r]))] ++ F) H locs := h
          subst hQ
          have h : Wd D B s ([(q9, .inr (10, fts x9 (-1 - nI nx))), (pk, .inr (11, [.ref ba, .int (nI lw.length), .int (nI (nx + 1)), .int (nI nx), .int (nI (((gD lw nx) / 4) % 16)), va_rf bo, .ref r])), (r, .inr (1, [.ref b, .int (nI (([] : List Nat).length))])), (b, bar dA cap g)] ++ F) H locs := h.perm [0, 3, 1, 2] rfl rfl
          have h : Wd D B s ([(pk, .inr (11, [.ref ba, .int (nI lw.length), .int (nI (nx + 1)), .int (nI nx), .int (nI (((gD lw nx) / 4) % 16)), va_rf bo, .ref r])), (r, .inr (1, [.ref b, .int (nI (([] : List Nat).length))])), (b, bar dA cap g)] ++ (F ++ [(q9, .inr (10, fts x9 (-1 - nI nx)))])) H locs := Wd.toLast h
          exact x_athrow C hex hlocks h (List.mem_append_right _ (List.mem_append_right _ List.mem_cons_self)) rfl (q9, nx + 1, ((gD lw nx) / 4) % 16, b, cap, g, ([] : List Nat), (F ++ [(q9, .inr (10, fts x9 (-1 - nI nx)))])) rfl rfl (⟨⟨x9, List.mem_append_right _ List.mem_cons_self⟩, SBis_nil, (GrOk.rf hcap), fun z hz => List.mem_append_left _ ((fun z hz => hz) z hz)⟩) rfl (by omega) (by omega) dX14_next_60
    · refine lv_aload_n hx hb dX14_next_20 rfl (lv_at hl 1 rfl) ?_
      refine call_VR (As := []) (rest := []) (n := 0) C h (c14_fault l D dA B Z hZ _ pk ba lw.length (nx + 1) nx kd r bo hlt hzx (List.mem_of_getElem? (i := 0) rfl)) (lw_V q1063 q1064 q1065 q162 q1066) (by decide +kernel) (o_recv C h (RC := RX14) (T := TX14) (N := 7) (List.mem_of_getElem? (i := 0) rfl) rfl) (by decide) (by decide) rfl hl rfl (Nat.le_of_ble_eq_true rfl) dX14_next_21 (by omega) (fun u9 H locs _ h => ?_)
      obtain ⟨q9, x9⟩ := u9
      have h : Wd D B s ([(q9, .inr (10, fts x9 (-1 - nI nx)))] ++ ([(pk, .inr (11, [.ref ba, .int (nI lw.length), .int (nI (nx + 1)), .int (nI nx), .int (nI kd), va_rf bo, .ref r])), (r, .inr (1, [.ref b, .int (nI lr.length)])), (b, bar dA cap g)] ++ F)) H locs := h
      have h : Wd D B s ([(q9, .inr (10, fts x9 (-1 - nI nx))), (pk, .inr (11, [.ref ba, .int (nI lw.length), .int (nI (nx + 1)), .int (nI nx), .int (nI kd), va_rf bo, .ref r])), (r, .inr (1, [.ref b, .int (nI lr.length)])), (b, bar dA cap g)] ++ F) H locs := h
      subst hQ
      have h : Wd D B s ([(pk, .inr (11, [.ref ba, .int (nI lw.length), .int (nI (nx + 1)), .int (nI nx), .int (nI kd), va_rf bo, .ref r])), (r, .inr (1, [.ref b, .int (nI lr.length)])), (b, bar dA cap g)] ++ (F ++ [(q9, .inr (10, fts x9 (-1 - nI nx)))])) H locs := Wd.toLast h
      exact x_athrow C hex hlocks h (List.mem_append_right _ (List.mem_append_right _ List.mem_cons_self)) rfl (q9, nx + 1, kd, b, cap, g, lr, (F ++ [(q9, .inr (10, fts x9 (-1 - nI nx)))])) rfl rfl (⟨⟨x9, List.mem_append_right _ List.mem_cons_self⟩, hsr, (GrOk.rf hcap), fun z hz => List.mem_append_left _ ((fun z hz => hz) z hz)⟩) rfl (by omega) (by omega) dX14_next_24
  · refine call_VX (As := []) (rest := []) (n := 0) C h (c14_takeX l D dA B Z hZ ([(r, .inr (1, [.ref b, .int (nI lr.length)])), (b, bar dA cap g)] ++ F) pk ba n0 r gb lw nx nx kd bo hlt hzx (List.mem_append_right _ hba) hsb hbt hn0 hl4 (by omega) (by omega)) (lw_V q1059 q1061 qs8 q162 q1062) (by decide +kernel) (o_recv C h (RC := RX14) (T := TX14) (N := 7) (List.mem_of_getElem? (i := 0) rfl) rfl) (by decide) (by decide) rfl hl rfl (Nat.le_of_ble_eq_true rfl) dX14_next_9 (by omega) (fun ux ce9 H locs hux h hce9 hcv9 hcl9 => ?_) (fun _ H locs hu h => ?_)
    · obtain ⟨q9, x9⟩ := ux
      have h : Wd D B s ([(pk, .inr (11, [.ref ba, .int (nI lw.length), .int (nI nx), .int (nI nx), .int (nI kd), va_rf bo, .ref r])), (r, .inr (1, [.ref b, .int (nI lr.length)])), (b, bar dA cap g)] ++ (F ++ [(q9, .inr (10, fts x9 (-1 - nI nx)))])) H locs := h
      have h : Wd D B s ([(pk, .inr (11, [.ref ba, .int (nI lw.length), .int (nI nx), .int (nI nx), .int (nI kd), va_rf bo, .ref r])), (r, .inr (1, [.ref b, .int (nI lr.length)])), (b, bar dA cap g)] ++ (F ++ [(q9, .inr (10, fts x9 (-1 - nI nx)))])) H locs := h
      subst hQ
      exact thr_out C hex hlocks h (q9, nx, kd, b, cap, g, lr, (F ++ [(q9, .inr (10, fts x9 (-1 - nI nx)))])) rfl rfl (⟨⟨x9, List.mem_append_right _ List.mem_cons_self⟩, hsr, (GrOk.rf hcap), fun z hz => List.mem_append_left _ ((fun z hz => hz) z hz)⟩) rfl hce9 hcv9 hcl9 (by omega) (by omega)
    exact hu.elim
