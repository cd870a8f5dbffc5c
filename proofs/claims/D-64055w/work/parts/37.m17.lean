set_option maxRecDepth 100000

def cutF (n : Nat) (g : Nat → Nat) : Nat → Nat := fun j => if j < n then g j else 0

set_option maxHeartbeats 400000 in
set_option maxRecDepth 100000 in
theorem cJ_copyOf (l : Launch) (D : va_G) (dA : Nat → ClassId) (B : Nat) (Z : State → Prop) (hZ : Stab B Z) (ws : va_W) (a n k : Nat) (g : Nat → Nat) (hm : (a, bar dA n g) ∈ ws) (hn : n < 1000000) (hk : k < 1000000) :
    Ct (S := Nat) l D dA B Z yJ5_copyOf_3 cJ5_copyOf_3 3 (some ((.array .byte))) 2 1 k [.ref a, .int (nI k)] (ws) (fun _ => True) (fun q => some (.ref q)) (fun q => ws ++ [(q, bar dA k (cutF n g))]) := by
  refine Ct.mk2 (by decide) (Nat.le_of_ble_eq_true rfl) hZ ?_
  intro p e R s m args below meth c ls Q C hr hlocks hin hQ hl h
  have C0 := C
  obtain ⟨hx, hb, hml, hown, hts, -⟩ := C0
  have hl : lv_has ls 3 [(0, .ref a), (1, .int (nI k))] := hl
  refine lv_iload_n hx hb dJ5_copyOf_3_0 rfl (lv_at hl 1 rfl) ?_
  refine lv_aload_n hx hb dJ5_copyOf_3_1 rfl (lv_at hl 0 rfl) ?_
  refine n_balen C h (hm) dJ5_copyOf_3_2 ?_
  refine n_icmp_ne (tgt := 14) hx hb (by omega) (by omega) dJ5_copyOf_3_3 (by decide) (fun c3 => ?_) (fun c3 => ?_)
  · refine lv_iload_n hx hb dJ5_copyOf_3_14 rfl (lv_at hl 1 rfl) ?_
    refine n_newb C h (n := k) q198 (by omega) (by omega) (by omega) dJ5_copyOf_3_15 (fun o1 H h => ?_)
    have h : Wd D B s ([(o1, bar dA k (fun _ => 0))] ++ ws) H [] := h.permL (perm_add (fun g f p0 p1 p2 => by (try simp only [p0, p1, p2]) <;> omega))
    refine lv_astore_n (lv' := [(2, .ref o1), (0, .ref a), (1, .int (nI k))]) hx hb dJ5_copyOf_3_17 rfl hl (by decide) rfl (fun ls hl => ?_)
    refine lv_aload_n hx hb dJ5_copyOf_3_18 rfl (lv_at hl 1 rfl) ?_
    refine lv_iconst (v := nI 0) hx hb dJ5_copyOf_3_19 (by decide) ?_
    refine lv_aload_n hx hb dJ5_copyOf_3_20 rfl (lv_at hl 0 rfl) ?_
    refine lv_iconst (v := nI 0) hx hb dJ5_copyOf_3_21 (by decide) ?_
    refine lv_aload_n hx hb dJ5_copyOf_3_22 rfl (lv_at hl 1 rfl) ?_
    refine n_balen C h (List.mem_append_right _ hm) dJ5_copyOf_3_23 ?_
    refine lv_iload_n hx hb dJ5_copyOf_3_24 rfl (lv_at hl 2 rfl) ?_
    refine n_mmin C h (a := n) (b := k) (by omega) (by omega) q473 q474 q144 q475 hl.1 (by decide) (Nat.le_of_ble_eq_true rfl) (by omega) (by omega) dJ5_copyOf_3_25 ?_
    refine x_copyb C h 0 (n := min n k) (dp := 0) (sp := 0) (ws' := [(o1, bar dA k (va_cpy g (fun _ => 0) 0 0 (min n k)))] ++ ws) (List.mem_append_right _ hm) rfl q476 q478 q477 q145 (by omega) (by omega) (by omega) (by omega) hl.1 (by decide) (Nat.le_of_ble_eq_true rfl) rfl dJ5_copyOf_3_28 (fun H locs h => ?_)
    refine lv_aload_n hx hb dJ5_copyOf_3_31 rfl (lv_at hl 0 rfl) ?_
    subst hQ
    have h : Wd D B s ([(o1, bar dA k (cutF n g))] ++ ws) H locs := Wd.same h 0 rfl (bar_same (fun j hj => by unfold cutF va_cpy; by_cases q9 : j < n; rw [if_pos (by omega), if_pos q9]; (try (congr 1; omega)); rw [if_neg (by omega), if_neg q9])) rfl
    have h : Wd D B s (ws ++ [(o1, bar dA k (cutF n g))]) H locs := h.permL (perm_add (fun g f p0 p1 p2 => by (try simp only [p0, p1, p2]) <;> omega))
    exact ret_a C hr (Or.inr ⟨_, rfl⟩) hlocks h o1 trivial (Or.inr ⟨_, rfl⟩) rfl rfl (by omega) (by omega) dJ5_copyOf_3_32
  · refine lv_aload_n hx hb dJ5_copyOf_3_6 rfl (lv_at hl 0 rfl) ?_
    refine b_clone C h (hm) q568 hl.1 (by decide) (Nat.le_of_ble_eq_true rfl) (by omega) (by omega) dJ5_copyOf_3_7 (fun o2 H h => ?_)
    have h : Wd D B s ([(o2, bar dA n g)] ++ ws) H [] := h.permL (perm_add (fun g f p0 p1 p2 => by (try simp only [p0, p1, p2]) <;> omega))
    refine b_cast C h (List.mem_of_getElem? (i := 0) rfl) q574 dJ5_copyOf_3_10 ?_
    subst hQ
    have ckn : n = k := c3.symm
    subst ckn
    have h : Wd D B s ([(o2, bar dA n (cutF n g))] ++ ws) H [] := Wd.same h 0 rfl (bar_same (fun j hj => (if_pos hj).symm)) rfl
    have h : Wd D B s (ws ++ [(o2, bar dA n (cutF n g))]) H [] := h.permL (perm_add (fun g f p0 p1 p2 => by (try simp only [p0, p1, p2]) <;> omega))
    exact ret_a C hr (Or.inr ⟨_, rfl⟩) hlocks h o2 trivial (Or.inr ⟨_, rfl⟩) rfl rfl (by omega) (by omega) dJ5_copyOf_3_13
set_option maxHeartbeats 400000 in
set_option maxRecDepth 100000 in
theorem cJ_checkLength (l : Launch) (D : va_G) (dA : Nat → ClassId) (B : Nat) (Z : State → Prop) (hZ : Stab B Z) (ws : va_W) (a b : Nat) (h1 : a ≤ b) (h2 : b < 1000000) :
    Ct (S := Unit) l D dA B Z yJ5_checkLength cJ5_checkLength 2 none 1 0 0 [.int (nI a), .int (nI b)] (ws) (fun _ => True) (fun _ => none) (fun _ => ws) := by
  refine Ct.mk2 (by decide) (Nat.le_of_ble_eq_true rfl) hZ ?_
  intro p e R s m args below meth c ls Q C hr hlocks hin hQ hl h
  have C0 := C
  obtain ⟨hx, hb, hml, hown, hts, -⟩ := C0
  have hl : lv_has ls 2 [(0, .int (nI a)), (1, .int (nI b))] := hl
  refine lv_iload_n hx hb dJ5_checkLength_0 rfl (lv_at hl 1 rfl) ?_
  refine lv_iload_n hx hb dJ5_checkLength_1 rfl (lv_at hl 0 rfl) ?_
  refine n_icmp_ge (tgt := 37) hx hb (by omega) (by omega) dJ5_checkLength_2 (by decide) (fun c2 => ?_) (fun c2 => by exfalso; omega)
  subst hQ
  exact ret_v C hr hlocks h () trivial rfl rfl (by omega) (by omega) dJ5_checkLength_37
set_option maxHeartbeats 400000 in
set_option maxRecDepth 100000 in
theorem cJ_copyRB (l : Launch) (D : va_G) (dA : Nat → ClassId) (B : Nat) (Z : State → Prop) (hZ : Stab B Z) (ws : va_W) (a n fr to : Nat) (g : Nat → Nat) (hm : (a, bar dA n g) ∈ ws) (hn : n < 1000000) (h1 : fr ≤ to) (h2 : to ≤ n) :
    Ct (S := Nat) l D dA B Z yJ5_copyOfRangeByte cJ5_copyOfRangeByte 5 (some ((.array .byte))) 2 1 (to - fr) [.ref a, .int (nI fr), .int (nI to)] (ws) (fun _ => True) (fun q => some (.ref q)) (fun q => ws ++ [(q, bal dA (sl g fr (to - fr)))]) := by
  refine Ct.mk2 (by decide) (Nat.le_of_ble_eq_true rfl) hZ ?_
  intro p e R s m args below meth c ls Q C hr hlocks hin hQ hl h
  have C0 := C
  obtain ⟨hx, hb, hml, hown, hts, -⟩ := C0
  have hl : lv_has ls 5 [(0, .ref a), (1, .int (nI fr)), (2, .int (nI to))] := hl
  refine lv_iload_n hx hb dJ5_copyOfRangeByte_0 rfl (lv_at hl 1 rfl) ?_
  refine lv_iload_n hx hb dJ5_copyOfRangeByte_1 rfl (lv_at hl 2 rfl) ?_
  refine call_S (As := [.int (nI fr), .int (nI to)]) (rest := []) (n := 2) C h (cJ_checkLength l D dA B Z hZ _ fr to (by omega) (by omega)) (lw_S q861 q862 q143 q863) (by decide +kernel) (by decide) (by decide) rfl hl rfl (Nat.le_of_ble_eq_true rfl) dJ5_copyOfRangeByte_2 (by omega) (fun _ H locs _ h => ?_)
  refine lv_iload_n hx hb dJ5_copyOfRangeByte_5 rfl (lv_at hl 2 rfl) ?_
  refine lv_iload_n hx hb dJ5_copyOfRangeByte_6 rfl (lv_at hl 1 rfl) ?_
  refine lv_isub hx hb dJ5_copyOfRangeByte_7 (n_top (y := nI (to - fr)) (pk_sub (by omega)) ?_)
  refine lv_istore_n (lv' := [(3, .int (nI (to - fr))), (0, .ref a), (1, .int (nI fr)), (2, .int (nI to))]) hx hb dJ5_copyOfRangeByte_8 rfl hl (by decide) rfl (fun ls hl => ?_)
  refine lv_iload_n hx hb dJ5_copyOfRangeByte_9 rfl (lv_at hl 0 rfl) ?_
  refine n_newb C h (n := (to - fr)) q198 (by omega) (by omega) (by omega) dJ5_copyOfRangeByte_10 (fun o1 H h => ?_)
  have h : Wd D B s ([(o1, bar dA (to - fr) (fun _ => 0))] ++ ws) H locs := h.permL (perm_add (fun g f p0 p1 p2 => by (try simp only [p0, p1, p2]) <;> omega))
  refine lv_astore (lv' := [(4, .ref o1), (3, .int (nI (to - fr))), (0, .ref a), (1, .int (nI fr)), (2, .int (nI to))]) hx hb dJ5_copyOfRangeByte_12 hl (by decide) rfl (fun ls hl => ?_)
  refine lv_aload_n hx hb dJ5_copyOfRangeByte_14 rfl (lv_at hl 2 rfl) ?_
  refine lv_iload_n hx hb dJ5_copyOfRangeByte_15 rfl (lv_at hl 3 rfl) ?_
  refine lv_aload hx hb dJ5_copyOfRangeByte_16 (lv_at hl 0 rfl) ?_
  refine lv_iconst (v := nI 0) hx hb dJ5_copyOfRangeByte_18 (by decide) ?_
  refine lv_aload_n hx hb dJ5_copyOfRangeByte_19 rfl (lv_at hl 2 rfl) ?_
  refine n_balen C h (List.mem_append_right _ hm) dJ5_copyOfRangeByte_20 ?_
  refine lv_iload_n hx hb dJ5_copyOfRangeByte_21 rfl (lv_at hl 3 rfl) ?_
  refine lv_isub hx hb dJ5_copyOfRangeByte_22 (n_top (y := nI (n - fr)) (pk_sub (by omega)) ?_)
  refine lv_iload_n hx hb dJ5_copyOfRangeByte_23 rfl (lv_at hl 1 rfl) ?_
  refine n_mmin C h (a := n - fr) (b := to - fr) (by omega) (by omega) q473 q474 q144 q475 hl.1 (by decide) (Nat.le_of_ble_eq_true rfl) (by omega) (by omega) dJ5_copyOfRangeByte_24 ?_
  refine n_top (y := nI (to - fr)) (congrArg nI (Nat.min_eq_right (by omega))) ?_
  refine x_copyb C h 0 (n := to - fr) (dp := 0) (sp := fr) (ws' := [(o1, bar dA (to - fr) (va_cpy g (fun _ => 0) fr 0 (to - fr)))] ++ ws) (List.mem_append_right _ hm) rfl q476 q478 q477 q145 (by omega) (by omega) (by omega) (by omega) hl.1 (by decide) (Nat.le_of_ble_eq_true rfl) rfl dJ5_copyOfRangeByte_27 (fun H locs h => ?_)
  refine lv_aload hx hb dJ5_copyOfRangeByte_30 (lv_at hl 0 rfl) ?_
  subst hQ
  have h : Wd D B s ([(o1, bar dA (to - fr) (gD (sl g fr (to - fr))))] ++ ws) H locs := Wd.same h 0 rfl (bar_same (fun j hj => by unfold va_cpy gD; rw [if_pos (by omega), sl_getD hj]; rfl)) rfl
  have h : Wd D B s (ws ++ [(o1, bal dA (sl g fr (to - fr)))]) H locs := by
    show Wd D B s (ws ++ [(o1, bar dA (sl g fr (to - fr)).length (gD (sl g fr (to - fr))))]) H locs
    rw [sl_len]; exact h.permL (perm_add (fun g f p0 p1 p2 => by (try simp only [p0, p1, p2]) <;> omega))
  exact ret_a C hr (Or.inr ⟨_, rfl⟩) hlocks h o1 trivial (Or.inr ⟨_, rfl⟩) rfl rfl (by omega) (by omega) dJ5_copyOfRangeByte_32
set_option maxHeartbeats 400000 in
set_option maxRecDepth 100000 in
theorem cJ_copyRange (l : Launch) (D : va_G) (dA : Nat → ClassId) (B : Nat) (Z : State → Prop) (hZ : Stab B Z) (ws : va_W) (a n fr to : Nat) (g : Nat → Nat) (hm : (a, bar dA n g) ∈ ws) (hn : n < 1000000) (h1 : fr ≤ to) (h2 : to ≤ n) :
    Ct (S := Nat) l D dA B Z yJ5_copyOfRange cJ5_copyOfRange 3 (some ((.array .byte))) 3 1 (to - fr) [.ref a, .int (nI fr), .int (nI to)] (ws) (fun _ => True) (fun q => some (.ref q)) (fun q => ws ++ [(q, bal dA (sl g fr (to - fr)))]) := by
  refine Ct.mk2 (by decide) (Nat.le_of_ble_eq_true rfl) hZ ?_
  intro p e R s m args below meth c ls Q C hr hlocks hin hQ hl h
  have C0 := C
  obtain ⟨hx, hb, hml, hown, hts, -⟩ := C0
  have hl : lv_has ls 3 [(0, .ref a), (1, .int (nI fr)), (2, .int (nI to))] := hl
  refine lv_iload_n hx hb dJ5_copyOfRange_0 rfl (lv_at hl 1 rfl) ?_
  refine n_if_ne (tgt := 10) hx hb (by omega) dJ5_copyOfRange_1 (by decide) (fun c1 => ?_) (fun c1 => ?_)
  · refine lv_aload_n hx hb dJ5_copyOfRange_10 rfl (lv_at hl 0 rfl) ?_
    refine lv_iload_n hx hb dJ5_copyOfRange_11 rfl (lv_at hl 1 rfl) ?_
    refine lv_iload_n hx hb dJ5_copyOfRange_12 rfl (lv_at hl 2 rfl) ?_
    refine call_S (As := [.ref a, .int (nI fr), .int (nI to)]) (rest := []) (n := 3) C h (cJ_copyRB l D dA B Z hZ _ a n fr to g hm hn h1 h2) (lw_S q858 q859 q143 q860) (by decide +kernel) (by decide) (by decide) rfl hl rfl (Nat.le_of_ble_eq_true rfl) dJ5_copyOfRange_13 (by omega) (fun q9 H locs _ h => ?_)
    have h : Wd D B s (ws ++ [(q9, bal dA (sl g fr (to - fr)))]) H locs := h
    subst hQ
    exact ret_a C hr (Or.inr ⟨_, rfl⟩) hlocks h q9 trivial (Or.inr ⟨_, rfl⟩) rfl rfl (by omega) (by omega) dJ5_copyOfRange_16
  · refine lv_iload_n hx hb dJ5_copyOfRange_4 rfl (lv_at hl 2 rfl) ?_
    refine lv_aload_n hx hb dJ5_copyOfRange_5 rfl (lv_at hl 0 rfl) ?_
    refine n_balen C h (hm) dJ5_copyOfRange_6 ?_
    refine n_icmp_eq (tgt := 17) hx hb (by omega) (by omega) dJ5_copyOfRange_7 (by decide) (fun c7 => ?_) (fun c7 => ?_)
    · refine lv_aload_n hx hb dJ5_copyOfRange_17 rfl (lv_at hl 0 rfl) ?_
      refine b_clone C h (hm) q568 hl.1 (by decide) (Nat.le_of_ble_eq_true rfl) (by omega) (by omega) dJ5_copyOfRange_18 (fun o1 H h => ?_)
      have h : Wd D B s ([(o1, bar dA n g)] ++ ws) H [] := h.permL (perm_add (fun g f p0 p1 p2 => by (try simp only [p0, p1, p2]) <;> omega))
      refine b_cast C h (List.mem_of_getElem? (i := 0) rfl) q574 dJ5_copyOfRange_21 ?_
      subst hQ
      have e1 : to = n := by omega
      subst e1
      have e2 : fr = 0 := by omega
      subst e2
      have h : Wd D B s (ws ++ [(o1, bal dA (sl g 0 (to - 0)))]) H [] := by
        rw [Nat.sub_zero]
        show Wd D B s (ws ++ [(o1, bar dA (sl g 0 to).length (gD (sl g 0 to)))]) H []
        rw [sl_len]
        refine Wd.permL (perm_add (fun g f p0 p1 p2 => by (try simp only [p0, p1, p2]) <;> omega)) (Wd.same (ws' := [(o1, bar dA to (gD (sl g 0 to)))] ++ ws) h 0 rfl (bar_same (fun j hj => ?_)) rfl)
        unfold gD; rw [sl_getD hj]; congr 1; omega
      exact ret_a C hr (Or.inr ⟨_, rfl⟩) hlocks h o1 trivial (Or.inr ⟨_, rfl⟩) rfl rfl (by omega) (by omega) dJ5_copyOfRange_24
    · refine lv_aload_n hx hb dJ5_copyOfRange_10 rfl (lv_at hl 0 rfl) ?_
      refine lv_iload_n hx hb dJ5_copyOfRange_11 rfl (lv_at hl 1 rfl) ?_
      refine lv_iload_n hx hb dJ5_copyOfRange_12 rfl (lv_at hl 2 rfl) ?_
      refine call_S (As := [.ref a, .int (nI fr), .int (nI to)]) (rest := []) (n := 3) C h (cJ_copyRB l D dA B Z hZ _ a n fr to g hm hn h1 h2) (lw_S q858 q859 q143 q860) (by decide +kernel) (by decide) (by decide) rfl hl rfl (Nat.le_of_ble_eq_true rfl) dJ5_copyOfRange_13 (by omega) (fun q9 H locs _ h => ?_)
      have h : Wd D B s (ws ++ [(q9, bal dA (sl g fr (to - fr)))]) H locs := h
      subst hQ
      exact ret_a C hr (Or.inr ⟨_, rfl⟩) hlocks h q9 trivial (Or.inr ⟨_, rfl⟩) rfl rfl (by omega) (by omega) dJ5_copyOfRange_16
set_option maxHeartbeats 400000 in
set_option maxRecDepth 100000 in
theorem cJ_asbInit (l : Launch) (D : va_G) (dA : Nat → ClassId) (B : Nat) (Z : State → Prop) (hZ : Stab B Z) (F : va_W) (sb n : Nat) (hzs : ZS dA B Z) (hn : n < 1000) :
    Ct (S := Nat) l D dA B Z yJ11_init cJ11_init 2 none 2 1 n [.ref sb, .int (nI n)] ([(sb, .inr (18, [.null, .int 0, .int (bZ false), .int 0]))] ++ F) (fun _ => True) (fun _ => none) (fun v => [(sb, .inr (18, [.ref v, .int (nI 0), .int (bZ false), .int 0])), (v, bar dA n (fun _ => 0))] ++ F) := by
  refine Ct.mk2 (by decide) (Nat.le_of_ble_eq_true rfl) hZ ?_
  intro p e R s m args below meth c ls Q C hr hlocks hin hQ hl h
  have C0 := C
  obtain ⟨hx, hb, hml, hown, hts, -⟩ := C0
  have hl : lv_has ls 2 [(0, .ref sb), (1, .int (nI n))] := hl
  refine lv_aload_n hx hb dJ11_init_0 rfl (lv_at hl 0 rfl) ?_
  refine o_init C h q707 hl.1 (by decide) (Nat.le_of_ble_eq_true rfl) dJ11_init_1 ?_
  refine z_gets C h hzs.1 q708 rfl dJ11_init_4 ?_
  refine z_if_eq (tgt := 25) hx hb dJ11_init_7 (by decide) (fun q => by cases q) (fun _ => ?_)
  refine lv_aload_n hx hb dJ11_init_10 rfl (lv_at hl 0 rfl) ?_
  refine lv_iload_n hx hb dJ11_init_11 rfl (lv_at hl 1 rfl) ?_
  refine n_newb C h (n := n) q198 (by omega) (by omega) (by omega) dJ11_init_12 (fun o1 H h => ?_)
  have h : Wd D B s ([(o1, bar dA n (fun _ => 0)), (sb, .inr (18, [.null, .int 0, .int (bZ false), .int 0]))] ++ F) H [] := h.permL (perm_add (fun g f p0 p1 p2 => by (try simp only [p0, p1, p2]) <;> omega))
  refine o_put C h 1 (RC := RJ12) (T := TJ12) (N := 4) (ws' := [(o1, bar dA n (fun _ => 0)), (sb, .inr (18, [.ref o1, .int 0, .int (bZ false), .int 0]))] ++ F) rfl rfl in_J12 tyJ12_ok nmJ12 0 (by decide) q717 rfl rfl (v := .ref o1) rfl rfl (Nat.le_of_ble_eq_true rfl) rfl dJ11_init_14 (fun H locs h => ?_)
  refine lv_aload_n hx hb dJ11_init_17 rfl (lv_at hl 0 rfl) ?_
  refine lv_iconst (v := nI 0) hx hb dJ11_init_18 (by decide) ?_
  refine o_put C h 1 (RC := RJ12) (T := TJ12) (N := 4) (ws' := [(o1, bar dA n (fun _ => 0)), (sb, .inr (18, [.ref o1, .int (nI 0), .int (bZ false), .int 0]))] ++ F) rfl rfl in_J12 tyJ12_ok nmJ12 1 (by decide) q718 rfl rfl (v := .int (nI 0)) rfl rfl (Nat.le_of_ble_eq_true rfl) rfl dJ11_init_19 (fun H locs h => ?_)
  refine lv_goto (tgt := 38) hx hb dJ11_init_22 (by decide) ?_
  subst hQ
  have h : Wd D B s ([(sb, .inr (18, [.ref o1, .int (nI 0), .int (bZ false), .int 0])), (o1, bar dA n (fun _ => 0))] ++ F) H locs := h.permL (perm_add (fun g f p0 p1 p2 => by (try simp only [p0, p1, p2]) <;> omega))
  exact ret_v C hr hlocks h o1 trivial rfl rfl (by omega) (by omega) dJ11_init_38
set_option maxHeartbeats 400000 in
set_option maxRecDepth 100000 in
theorem cJ_sbInit (l : Launch) (D : va_G) (dA : Nat → ClassId) (B : Nat) (Z : State → Prop) (hZ : Stab B Z) (F : va_W) (sb : Nat) (hzs : ZS dA B Z) :
    Ct (S := Nat) l D dA B Z yJ12_init cJ12_init 1 none 3 1 16 [.ref sb] ([(sb, .inr (18, [.null, .int 0, .int (bZ false), .int 0]))] ++ F) (fun _ => True) (fun _ => none) (fun v => [(sb, .inr (18, [.ref v, .int (nI 0), .int (bZ false), .int (nI ([] : List Nat).length)])), (v, bar dA 16 (fun _ => 0))] ++ F) := by
  refine Ct.mk2 (by decide) (Nat.le_of_ble_eq_true rfl) hZ ?_
  intro p e R s m args below meth c ls Q C hr hlocks hin hQ hl h
  have C0 := C
  obtain ⟨hx, hb, hml, hown, hts, -⟩ := C0
  have hl : lv_has ls 1 [(0, .ref sb)] := hl
  refine lv_aload_n hx hb dJ12_init_0 rfl (lv_at hl 0 rfl) ?_
  refine lv_bipush (v := nI 16) hx hb dJ12_init_1 (by decide) ?_
  refine call_I (As := [.int (nI 16)]) (rest := []) (n := 1) C h (cJ_asbInit l D dA B Z hZ F sb 16 hzs (by decide)) (lw_meth q706) q154 q704 q705 rfl (by decide +kernel) (by decide) (by decide) rfl hl rfl (Nat.le_of_ble_eq_true rfl) dJ12_init_3 (by omega) (fun v H locs _ h => ?_)
  have h : Wd D B s ([(sb, .inr (18, [.ref v, .int (nI 0), .int (bZ false), .int 0])), (v, bar dA 16 (fun _ => 0))] ++ F) H locs := h.permL (perm_add (fun g f p0 p1 p2 => by (try simp only [p0, p1, p2]) <;> omega))
  subst hQ
  exact ret_v C hr hlocks h v trivial rfl rfl (by omega) (by omega) dJ12_init_6
set_option maxHeartbeats 400000 in
set_option maxRecDepth 100000 in
theorem cJ_newLength (l : Launch) (D : va_G) (dA : Nat → ClassId) (B : Nat) (Z : State → Prop) (hZ : Stab B Z) (ws : va_W) (a b k : Nat) (h1 : a < 1000000) (h2 : b < 1000000) (h3 : k < 1000000) (h4 : 0 < a + max b k) :
    Ct (S := Unit) l D dA B Z yJ7_newLength cJ7_newLength 4 (some .int) 2 0 0 [.int (nI a), .int (nI b), .int (nI k)] (ws) (fun _ => True) (fun _ => some (.int (nI (a + max b k)))) (fun _ => ws) := by
  refine Ct.mk2 (by decide) (Nat.le_of_ble_eq_true rfl) hZ ?_
  intro p e R s m args below meth c ls Q C hr hlocks hin hQ hl h
  have C0 := C
  obtain ⟨hx, hb, hml, hown, hts, -⟩ := C0
  have hl : lv_has ls 4 [(0, .int (nI a)), (1, .int (nI b)), (2, .int (nI k))] := hl
  refine lv_iload_n hx hb dJ7_newLength_0 rfl (lv_at hl 0 rfl) ?_
  refine lv_iload_n hx hb dJ7_newLength_1 rfl (lv_at hl 1 rfl) ?_
  refine lv_iload_n hx hb dJ7_newLength_2 rfl (lv_at hl 2 rfl) ?_
  refine n_mmax C h (a := b) (b := k) (by omega) (by omega) q486 q487 q144 q488 hl.1 (by decide) (Nat.le_of_ble_eq_true rfl) (by omega) (by omega) dJ7_newLength_3 ?_
  refine lv_iadd hx hb dJ7_newLength_6 (n_top (y := nI (a + max b k)) (nI_add a (max b k)) ?_)
  refine lv_istore_n (lv' := [(3, .int (nI (a + max b k))), (0, .int (nI a)), (1, .int (nI b)), (2, .int (nI k))]) hx hb dJ7_newLength_7 rfl hl (by decide) rfl (fun ls hl => ?_)
  refine lv_iconst (v := nI 0) hx hb dJ7_newLength_8 (by decide) ?_
  refine lv_iload_n hx hb dJ7_newLength_9 rfl (lv_at hl 0 rfl) ?_
  refine n_icmp_ge (tgt := 21) hx hb (by omega) (by omega) dJ7_newLength_10 (by decide) (fun c10 => by exfalso; omega) (fun c10 => ?_)
  refine lv_iload_n hx hb dJ7_newLength_13 rfl (lv_at hl 0 rfl) ?_
  refine lv_ldc hx hb hown (hts _ q489) dJ7_newLength_14 ?_
  refine n_top (y := nI 2147483639) (by decide) ?_
  refine n_icmp_gt (tgt := 21) hx hb (by omega) (by omega) dJ7_newLength_16 (by decide) (fun c16 => by exfalso; omega) (fun c16 => ?_)
  refine lv_iload_n hx hb dJ7_newLength_19 rfl (lv_at hl 0 rfl) ?_
  subst hQ
  exact ret_i C hr hlocks h () trivial rfl rfl (by omega) (by omega) dJ7_newLength_20
set_option maxHeartbeats 400000 in
set_option maxRecDepth 100000 in
theorem cJ_newCap (l : Launch) (D : va_G) (dA : Nat → ClassId) (B : Nat) (Z : State → Prop) (hZ : Stab B Z) (F : va_W) (sb v n : Nat) (g : Nat → Nat) (ml : Bool) (k0 mn : Nat) (h1 : n < mn) (h2 : mn < 1000) :
    Ct (S := Unit) l D dA B Z yJ11_newCapacity cJ11_newCapacity 6 (some .int) 3 0 0 [.ref sb, .int (nI mn)] ([(sb, .inr (18, [.ref v, .int (nI 0), .int (bZ ml), .int (nI k0)])), (v, bar dA n g)] ++ F) (fun _ => True) (fun _ => some (.int (nI (n + max (mn - n) (n + 2))))) (fun _ => [(sb, .inr (18, [.ref v, .int (nI 0), .int (bZ ml), .int (nI k0)])), (v, bar dA n g)] ++ F) := by
  refine Ct.mk2 (by decide) (Nat.le_of_ble_eq_true rfl) hZ ?_
  intro p e R s m args below meth c ls Q C hr hlocks hin hQ hl h
  have C0 := C
  obtain ⟨hx, hb, hml, hown, hts, -⟩ := C0
  have hl : lv_has ls 6 [(0, .ref sb), (1, .int (nI mn))] := hl
  refine lv_aload_n hx hb dJ11_newCapacity_0 rfl (lv_at hl 0 rfl) ?_
  refine o_get C h (RC := RJ12) (T := TJ12) (N := 4) (List.mem_of_getElem? (i := 0) rfl) rfl in_J12 0 (by decide) q717 rfl (v := .ref v) rfl dJ11_newCapacity_1 ?_
  refine n_balen C h (List.mem_of_getElem? (i := 1) rfl) dJ11_newCapacity_4 ?_
  refine lv_istore_n (lv' := [(2, .int (nI n)), (0, .ref sb), (1, .int (nI mn))]) hx hb dJ11_newCapacity_5 rfl hl (by decide) rfl (fun ls hl => ?_)
  refine lv_iload_n hx hb dJ11_newCapacity_6 rfl (lv_at hl 2 rfl) ?_
  refine lv_aload_n hx hb dJ11_newCapacity_7 rfl (lv_at hl 1 rfl) ?_
  refine o_get C h (RC := RJ12) (T := TJ12) (N := 4) (List.mem_of_getElem? (i := 0) rfl) rfl in_J12 1 (by decide) q718 rfl (v := .int (nI 0)) rfl dJ11_newCapacity_8 ?_
  refine n_ishl hx hb dJ11_newCapacity_11 ?_
  refine n_top (y := nI mn) (shl_z _ (by omega)) ?_
  refine lv_istore_n (lv' := [(3, .int (nI mn)), (2, .int (nI n)), (0, .ref sb), (1, .int (nI mn))]) hx hb dJ11_newCapacity_12 rfl hl (by decide) rfl (fun ls hl => ?_)
  refine lv_iload_n hx hb dJ11_newCapacity_13 rfl (lv_at hl 0 rfl) ?_
  refine lv_iload_n hx hb dJ11_newCapacity_14 rfl (lv_at hl 1 rfl) ?_
  refine lv_isub hx hb dJ11_newCapacity_15 (n_top (y := nI (mn - n)) (pk_sub (by omega)) ?_)
  refine lv_istore (lv' := [(4, .int (nI (mn - n))), (3, .int (nI mn)), (2, .int (nI n)), (0, .ref sb), (1, .int (nI mn))]) hx hb dJ11_newCapacity_16 hl (by decide) rfl (fun ls hl => ?_)
  refine lv_iload_n hx hb dJ11_newCapacity_18 rfl (lv_at hl 2 rfl) ?_
  refine lv_iload hx hb dJ11_newCapacity_19 (lv_at hl 0 rfl) ?_
  refine lv_iload_n hx hb dJ11_newCapacity_21 rfl (lv_at hl 2 rfl) ?_
  refine lv_iconst (v := nI 2) hx hb dJ11_newCapacity_22 (by decide) ?_
  refine lv_aload_n hx hb dJ11_newCapacity_23 rfl (lv_at hl 3 rfl) ?_
  refine o_get C h (RC := RJ12) (T := TJ12) (N := 4) (List.mem_of_getElem? (i := 0) rfl) rfl in_J12 1 (by decide) q718 rfl (v := .int (nI 0)) rfl dJ11_newCapacity_24 ?_
  refine n_ishl hx hb dJ11_newCapacity_27 ?_
  refine n_top (y := nI 2) (shl_z _ (by omega)) ?_
  refine lv_iadd hx hb dJ11_newCapacity_28 (n_top (y := nI (n + 2)) (nI_add n 2) ?_)
  refine call_S (As := [.int (nI n), .int (nI (mn - n)), .int (nI (n + 2))]) (rest := []) (n := 3) C h (cJ_newLength l D dA B Z hZ _ n (mn - n) (n + 2) (by omega) (by omega) (by omega) (by omega)) (lw_S q750 q484 q146 q485) (by decide +kernel) (by decide) (by decide) rfl hl rfl (Nat.le_of_ble_eq_true rfl) dJ11_newCapacity_29 (by omega) (fun _ H locs _ h => ?_)
  refine lv_istore (lv' := [(5, .int (nI (n + max (mn - n) (n + 2)))), (4, .int (nI (mn - n))), (3, .int (nI mn)), (2, .int (nI n)), (0, .ref sb), (1, .int (nI mn))]) hx hb dJ11_newCapacity_32 hl (by decide) rfl (fun ls hl => ?_)
  refine lv_iload hx hb dJ11_newCapacity_34 (lv_at hl 0 rfl) ?_
  refine lv_ldc hx hb hown (hts _ q751) dJ11_newCapacity_36 ?_
  refine n_top (y := nI 2147483647) (by decide) ?_
  refine n_icmp_ne (tgt := 51) hx hb (by omega) (by omega) dJ11_newCapacity_38 (by decide) (fun c38 => ?_) (fun c38 => by exfalso; omega)
  refine lv_iload hx hb dJ11_newCapacity_51 (lv_at hl 0 rfl) ?_
  refine lv_aload_n hx hb dJ11_newCapacity_53 rfl (lv_at hl 4 rfl) ?_
  refine o_get C h (RC := RJ12) (T := TJ12) (N := 4) (List.mem_of_getElem? (i := 0) rfl) rfl in_J12 1 (by decide) q718 rfl (v := .int (nI 0)) rfl dJ11_newCapacity_54 ?_
  refine n_ishr hx hb dJ11_newCapacity_57 ?_
  refine n_top (y := nI (n + max (mn - n) (n + 2))) (shr_z _ (by omega)) ?_
  subst hQ
  exact ret_i C hr hlocks h () trivial rfl rfl (by omega) (by omega) dJ11_newCapacity_58
set_option maxHeartbeats 400000 in
set_option maxRecDepth 100000 in
theorem cJ_ensure (l : Launch) (D : va_G) (dA : Nat → ClassId) (B : Nat) (Z : State → Prop) (hZ : Stab B Z) (F : va_W) (sb v n : Nat) (g : Nat → Nat) (ml : Bool) (k0 mn : Nat) (h1 : n < 1000) (h2 : mn < 1000) :
    Ct (S := Nat × Nat × (Nat → Nat) × va_W) l D dA B Z yJ11_ensureCapacityInternal cJ11_ensureCapacityInternal 3 none 4 1 (2 * n + 2 + mn) [.ref sb, .int (nI mn)] ([(sb, .inr (18, [.ref v, .int (nI 0), .int (bZ ml), .int (nI k0)])), (v, bar dA n g)] ++ F) (fun u => mn ≤ u.2.1 ∧ n ≤ u.2.1 ∧ u.2.1 ≤ 2 * n + 2 + mn ∧ ∀ j, j < n → u.2.2.1 j = g j) (fun _ => none) (fun u => [(sb, .inr (18, [.ref u.1, .int (nI 0), .int (bZ ml), .int (nI k0)])), (u.1, bar dA u.2.1 u.2.2.1)] ++ (F ++ u.2.2.2)) := by
  refine Ct.mk2 (by decide) (Nat.le_of_ble_eq_true rfl) hZ ?_
  intro p e R s m args below meth c ls Q C hr hlocks hin hQ hl h
  have C0 := C
  obtain ⟨hx, hb, hml, hown, hts, -⟩ := C0
  have hl : lv_has ls 3 [(0, .ref sb), (1, .int (nI mn))] := hl
  refine lv_aload_n hx hb dJ11_ensureCapacityInternal_0 rfl (lv_at hl 0 rfl) ?_
  refine o_get C h (RC := RJ12) (T := TJ12) (N := 4) (List.mem_of_getElem? (i := 0) rfl) rfl in_J12 0 (by decide) q717 rfl (v := .ref v) rfl dJ11_ensureCapacityInternal_1 ?_
  refine n_balen C h (List.mem_of_getElem? (i := 1) rfl) dJ11_ensureCapacityInternal_4 ?_
  refine lv_aload_n hx hb dJ11_ensureCapacityInternal_5 rfl (lv_at hl 0 rfl) ?_
  refine o_get C h (RC := RJ12) (T := TJ12) (N := 4) (List.mem_of_getElem? (i := 0) rfl) rfl in_J12 1 (by decide) q718 rfl (v := .int (nI 0)) rfl dJ11_ensureCapacityInternal_6 ?_
  refine n_ishr hx hb dJ11_ensureCapacityInternal_9 ?_
  refine n_top (y := nI n) (shr_z _ (by omega)) ?_
  refine lv_istore_n (lv' := [(2, .int (nI n)), (0, .ref sb), (1, .int (nI mn))]) hx hb dJ11_ensureCapacityInternal_10 rfl hl (by decide) rfl (fun ls hl => ?_)
  refine lv_iload_n hx hb dJ11_ensureCapacityInternal_11 rfl (lv_at hl 2 rfl) ?_
  refine lv_iload_n hx hb dJ11_ensureCapacityInternal_12 rfl (lv_at hl 0 rfl) ?_
  by_cases hle : n ≤ mn
  · refine lv_isub hx hb dJ11_ensureCapacityInternal_13 (n_top (y := nI (mn - n)) (pk_sub hle) ?_)
    refine n_if_le (tgt := 38) hx hb (by omega) dJ11_ensureCapacityInternal_14 (by decide) (fun c14 => ?_) (fun c14 => ?_)
    · subst hQ
      have h : Wd D B s ([(sb, .inr (18, [.ref v, .int (nI 0), .int (bZ ml), .int (nI k0)])), (v, bar dA n g)] ++ (F ++ [])) s.heap [] := h.permL (perm_add (fun g f p0 p1 p2 => by (try simp only [p0, p1, p2]) <;> omega))
      exact ret_v C hr hlocks h (v, n, g, []) (⟨by show mn ≤ n; omega, Nat.le_refl _, by show n ≤ _; omega, fun _ _ => rfl⟩) rfl rfl (by omega) (by omega) dJ11_ensureCapacityInternal_38
    · refine lv_aload_n hx hb dJ11_ensureCapacityInternal_17 rfl (lv_at hl 1 rfl) ?_
      refine lv_aload_n hx hb dJ11_ensureCapacityInternal_18 rfl (lv_at hl 1 rfl) ?_
      refine o_get C h (RC := RJ12) (T := TJ12) (N := 4) (List.mem_of_getElem? (i := 0) rfl) rfl in_J12 0 (by decide) q717 rfl (v := .ref v) rfl dJ11_ensureCapacityInternal_19 ?_
      refine lv_aload_n hx hb dJ11_ensureCapacityInternal_22 rfl (lv_at hl 1 rfl) ?_
      refine lv_iload_n hx hb dJ11_ensureCapacityInternal_23 rfl (lv_at hl 2 rfl) ?_
      refine call_VS (As := [.int (nI mn)]) (rest := [.ref v, .ref sb]) (n := 1) (CN := RJ12) C h (cJ_newCap l D dA B Z hZ F sb v n g ml k0 mn (by omega) (by omega)) q746 q748 (sel_priv (by decide +kernel) (hts _ q844) rfl (hts _ q700) ((C.2.2.2.2.2.2.1 _ q747 rfl).use rfl) (hts _ q748)) q154 q749 (by decide +kernel) (o_recv C h (RC := RJ12) (T := TJ12) (N := 4) (List.mem_of_getElem? (i := 0) rfl) rfl) (by decide) (by decide) rfl hl rfl (Nat.le_of_ble_eq_true rfl) dJ11_ensureCapacityInternal_24 (by omega) (fun _ H locs _ h => ?_)
      have h : Wd D B s ([(sb, .inr (18, [.ref v, .int (nI 0), .int (bZ ml), .int (nI k0)])), (v, bar dA n g)] ++ F) H locs := h.permL (perm_add (fun g f p0 p1 p2 => by (try simp only [p0, p1, p2]) <;> omega))
      refine lv_aload_n hx hb dJ11_ensureCapacityInternal_27 rfl (lv_at hl 1 rfl) ?_
      refine o_get C h (RC := RJ12) (T := TJ12) (N := 4) (List.mem_of_getElem? (i := 0) rfl) rfl in_J12 1 (by decide) q718 rfl (v := .int (nI 0)) rfl dJ11_ensureCapacityInternal_28 ?_
      refine n_ishl hx hb dJ11_ensureCapacityInternal_31 ?_
      refine n_top (y := nI (n + max (mn - n) (n + 2))) (shl_z _ (by omega)) ?_
      refine call_S (As := [.ref v, .int (nI (n + max (mn - n) (n + 2)))]) (rest := [.ref sb]) (n := 2) C h (cJ_copyOf l D dA B Z hZ _ v n (n + max (mn - n) (n + 2)) g (List.mem_of_getElem? (i := 1) rfl) (by omega) (by omega)) (lw_S q752 q566 q143 q567) (by decide +kernel) (by decide) (by decide) rfl hl rfl (Nat.le_of_ble_eq_true rfl) dJ11_ensureCapacityInternal_32 (by omega) (fun q9 H locs _ h => ?_)
      have h : Wd D B s ([(q9, bar dA (n + max (mn - n) (n + 2)) (cutF n g)), (sb, .inr (18, [.ref v, .int (nI 0), .int (bZ ml), .int (nI k0)])), (v, bar dA n g)] ++ F) H locs := h.permL (perm_add (fun g f p0 p1 p2 => by (try simp only [p0, p1, p2]) <;> omega))
      refine o_put C h 1 (RC := RJ12) (T := TJ12) (N := 4) (ws' := [(q9, bar dA (n + max (mn - n) (n + 2)) (cutF n g)), (sb, .inr (18, [.ref q9, .int (nI 0), .int (bZ ml), .int (nI k0)])), (v, bar dA n g)] ++ F) rfl rfl in_J12 tyJ12_ok nmJ12 0 (by decide) q717 rfl rfl (v := .ref q9) rfl rfl (Nat.le_of_ble_eq_true rfl) rfl dJ11_ensureCapacityInternal_35 (fun H locs h => ?_)
      subst hQ
      have h : Wd D B s ([(sb, .inr (18, [.ref q9, .int (nI 0), .int (bZ ml), .int (nI k0)])), (q9, bar dA (n + max (mn - n) (n + 2)) (cutF n g))] ++ (F ++ [(v, bar dA n g)])) H locs := h.permL (perm_add (fun g f p0 p1 p2 => by (try simp only [p0, p1, p2]) <;> omega))
      exact ret_v C hr hlocks h (q9, n + max (mn - n) (n + 2), cutF n g, [(v, bar dA n g)]) (⟨by show mn ≤ n + max (mn - n) (n + 2); omega, by show n ≤ n + max (mn - n) (n + 2); omega, by show n + max (mn - n) (n + 2) ≤ _; omega, fun j hj => if_pos hj⟩) rfl rfl (by omega) (by omega) dJ11_ensureCapacityInternal_38
  · refine lv_isub hx hb dJ11_ensureCapacityInternal_13 ?_
    refine lv_if_le (tgt := 38) hx hb dJ11_ensureCapacityInternal_14 (by decide) (fun _ => ?_) (fun q => absurd (Int32.le_of_lt (pk_sneg (by omega) (by omega))) q)
    subst hQ
    have h : Wd D B s ([(sb, .inr (18, [.ref v, .int (nI 0), .int (bZ ml), .int (nI k0)])), (v, bar dA n g)] ++ (F ++ [])) s.heap [] := h.permL (perm_add (fun g f p0 p1 p2 => by (try simp only [p0, p1, p2]) <;> omega))
    exact ret_v C hr hlocks h (v, n, g, []) (⟨by show mn ≤ n; omega, Nat.le_refl _, by show n ≤ _; omega, fun _ _ => rfl⟩) rfl rfl (by omega) (by omega) dJ11_ensureCapacityInternal_38
set_option maxHeartbeats 400000 in
set_option maxRecDepth 100000 in
theorem cJ_inflate (l : Launch) (D : va_G) (dA : Nat → ClassId) (B : Nat) (Z : State → Prop) (hZ : Stab B Z) (F : va_W) (sb v n : Nat) (g : Nat → Nat) (ml : Bool) (k0 : Nat) (sa sv : Nat) (lt : List Nat) (hs : StrV dA B Z F sa sv lt) (hlb : byt lt) (hll : lt.length < 1000) (hzs : ZS dA B Z) :
    Ct (S := Unit) l D dA B Z yJ11_inflateIfNeededFor cJ11_inflateIfNeededFor 2 none 2 0 0 [.ref sb, .ref sa] ([(sb, .inr (18, [.ref v, .int (nI 0), .int (bZ ml), .int (nI k0)])), (v, bar dA n g)] ++ F) (fun _ => True) (fun _ => none) (fun _ => [(sb, .inr (18, [.ref v, .int (nI 0), .int (bZ ml), .int (nI k0)])), (v, bar dA n g)] ++ F) := by
  refine Ct.mk2 (by decide) (Nat.le_of_ble_eq_true rfl) hZ ?_
  intro p e R s m args below meth c ls Q C hr hlocks hin hQ hl h
  have C0 := C
  obtain ⟨hx, hb, hml, hown, hts, -⟩ := C0
  have hl : lv_has ls 2 [(0, .ref sb), (1, .ref sa)] := hl
  refine z_gets C h hzs.1 q708 rfl dJ11_inflateIfNeededFor_0 ?_
  refine z_if_eq (tgt := 21) hx hb dJ11_inflateIfNeededFor_3 (by decide) (fun q => by cases q) (fun _ => ?_)
  refine lv_aload_n hx hb dJ11_inflateIfNeededFor_6 rfl (lv_at hl 0 rfl) ?_
  refine o_get C h (RC := RJ12) (T := TJ12) (N := 4) (List.mem_of_getElem? (i := 0) rfl) rfl in_J12 1 (by decide) q718 rfl (v := .int (nI 0)) rfl dJ11_inflateIfNeededFor_7 ?_
  refine lv_aload_n hx hb dJ11_inflateIfNeededFor_10 rfl (lv_at hl 1 rfl) ?_
  refine call_VR (As := []) (rest := [.int (nI 0)]) (n := 0) C h (cJ_coder l D dA B Z hZ _ sa sv lt (hs.up (fun x hx => List.mem_append_right _ hx)) hlb (by omega) hzs) (lw_V q801 q789 q790 q156 q791) (by decide +kernel) (s_recv C h (hs.up (fun x hx => List.mem_append_right _ hx))) (by decide) (by decide) rfl hl rfl (Nat.le_of_ble_eq_true rfl) dJ11_inflateIfNeededFor_11 (by omega) (fun _ H locs _ h => ?_)
  refine n_icmp_eq (tgt := 21) hx hb (by omega) (by omega) dJ11_inflateIfNeededFor_14 (by decide) (fun c14 => ?_) (fun c14 => by exfalso; omega)
  subst hQ
  exact ret_v C hr hlocks h () trivial rfl rfl (by omega) (by omega) dJ11_inflateIfNeededFor_21
set_option maxHeartbeats 400000 in
set_option maxRecDepth 100000 in
theorem cJ_getBytes (l : Launch) (D : va_G) (dA : Nat → ClassId) (B : Nat) (Z : State → Prop) (hZ : Stab B Z) (F : va_W) (v n k : Nat) (g : Nat → Nat) (sa sv : Nat) (lt : List Nat) (hs : StrV dA B Z F sa sv lt) (hlb : byt lt) (hll : lt.length < 1000) (hzs : ZS dA B Z) (hn : n < 1000000) (hk : k + lt.length ≤ n) :
    Ct (S := Unit) l D dA B Z yJ13_getBytes cJ13_getBytes 4 none 2 0 0 [.ref sa, .ref v, .int (nI k), .int (nI 0)] ([(v, bar dA n g)] ++ F) (fun _ => True) (fun _ => none) (fun _ => [(v, bar dA n (va_cpy (gD lt) g 0 k lt.length))] ++ F) := by
  refine Ct.mk2 (by decide) (Nat.le_of_ble_eq_true rfl) hZ ?_
  intro p e R s m args below meth c ls Q C hr hlocks hin hQ hl h
  have C0 := C
  obtain ⟨hx, hb, hml, hown, hts, -⟩ := C0
  have hl : lv_has ls 4 [(0, .ref sa), (1, .ref v), (2, .int (nI k)), (3, .int (nI 0))] := hl
  refine lv_aload_n hx hb dJ13_getBytes_0 rfl (lv_at hl 0 rfl) ?_
  refine call_VR (As := []) (rest := []) (n := 0) C h (cJ_coder l D dA B Z hZ _ sa sv lt (hs.up (fun x hx => List.mem_append_right _ hx)) hlb (by omega) hzs) (lw_V q788 q789 q790 q156 q791) (by decide +kernel) (s_recv C h (hs.up (fun x hx => List.mem_append_right _ hx))) (by decide) (by decide) rfl hl rfl (Nat.le_of_ble_eq_true rfl) dJ13_getBytes_1 (by omega) (fun _ H locs _ h => ?_)
  refine lv_iload_n hx hb dJ13_getBytes_4 rfl (lv_at hl 3 rfl) ?_
  refine n_icmp_ne (tgt := 28) hx hb (by omega) (by omega) dJ13_getBytes_5 (by decide) (fun c5 => by exfalso; omega) (fun c5 => ?_)
  refine lv_aload_n hx hb dJ13_getBytes_8 rfl (lv_at hl 0 rfl) ?_
  refine s_gv C h (hs.up (fun x hx => List.mem_append_right _ hx)) q930 dJ13_getBytes_9 ?_
  refine lv_iconst (v := nI 0) hx hb dJ13_getBytes_12 (by decide) ?_
  refine lv_aload_n hx hb dJ13_getBytes_13 rfl (lv_at hl 1 rfl) ?_
  refine lv_iload_n hx hb dJ13_getBytes_14 rfl (lv_at hl 2 rfl) ?_
  refine lv_iload_n hx hb dJ13_getBytes_15 rfl (lv_at hl 3 rfl) ?_
  refine n_ishl hx hb dJ13_getBytes_16 ?_
  refine n_top (y := nI k) (shl_z _ (by omega)) ?_
  refine lv_aload_n hx hb dJ13_getBytes_17 rfl (lv_at hl 0 rfl) ?_
  refine s_gv C h (hs.up (fun x hx => List.mem_append_right _ hx)) q930 dJ13_getBytes_18 ?_
  refine s_len C h (hs.up (fun x hx => List.mem_append_right _ hx)) dJ13_getBytes_21 ?_
  refine s_copy C h 0 (n := lt.length) (dp := k) (ws' := [(v, bar dA n (va_cpy (gD lt) g 0 k lt.length))] ++ F) (hs.up (fun x hx => List.mem_append_right _ hx)) rfl q825 q478 q477 q145 rfl (by omega) (by omega) (by omega) hl.1 (by decide) (Nat.le_of_ble_eq_true rfl) rfl dJ13_getBytes_22 (fun H locs h => ?_)
  refine lv_goto (tgt := 43) hx hb dJ13_getBytes_25 (by decide) ?_
  subst hQ
  exact ret_v C hr hlocks h () trivial rfl rfl (by omega) (by omega) dJ13_getBytes_43
set_option maxHeartbeats 400000 in
set_option maxRecDepth 100000 in
theorem cJ_putStr (l : Launch) (D : va_G) (dA : Nat → ClassId) (B : Nat) (Z : State → Prop) (hZ : Stab B Z) (F : va_W) (sb v n : Nat) (g : Nat → Nat) (ml : Bool) (k0 k : Nat) (sa sv : Nat) (lt : List Nat) (hs : StrV dA B Z F sa sv lt) (hlb : byt lt) (hll : lt.length < 1000) (hzs : ZS dA B Z) (hn : n < 1000000) (hk : k + lt.length ≤ n) :
    Ct (S := Unit) l D dA B Z yJ11_putStringAt cJ11_putStringAt 3 none 3 0 0 [.ref sb, .int (nI k), .ref sa] ([(sb, .inr (18, [.ref v, .int (nI 0), .int (bZ ml), .int (nI k0)])), (v, bar dA n g)] ++ F) (fun _ => True) (fun _ => none) (fun _ => [(sb, .inr (18, [.ref v, .int (nI 0), .int (bZ ml), .int (nI k0)])), (v, bar dA n (va_cpy (gD lt) g 0 k lt.length))] ++ F) := by
  refine Ct.mk2 (by decide) (Nat.le_of_ble_eq_true rfl) hZ ?_
  intro p e R s m args below meth c ls Q C hr hlocks hin hQ hl h
  have C0 := C
  obtain ⟨hx, hb, hml, hown, hts, -⟩ := C0
  have hl : lv_has ls 3 [(0, .ref sb), (1, .int (nI k)), (2, .ref sa)] := hl
  refine lv_aload_n hx hb dJ11_putStringAt_0 rfl (lv_at hl 0 rfl) ?_
  refine lv_aload_n hx hb dJ11_putStringAt_1 rfl (lv_at hl 2 rfl) ?_
  refine call_VS (As := [.ref sa]) (rest := []) (n := 1) (CN := RJ12) C h (cJ_inflate l D dA B Z hZ F sb v n g ml k0 sa sv lt hs hlb hll hzs) q797 q799 (sel_priv (by decide +kernel) (hts _ q844) rfl (hts _ q700) ((C.2.2.2.2.2.2.1 _ q798 rfl).use rfl) (hts _ q799)) q154 q800 (by decide +kernel) (o_recv C h (RC := RJ12) (T := TJ12) (N := 4) (List.mem_of_getElem? (i := 0) rfl) rfl) (by decide) (by decide) rfl hl rfl (Nat.le_of_ble_eq_true rfl) dJ11_putStringAt_2 (by omega) (fun _ H locs _ h => ?_)
  have h : Wd D B s ([(sb, .inr (18, [.ref v, .int (nI 0), .int (bZ ml), .int (nI k0)])), (v, bar dA n g)] ++ F) H locs := h.permL (perm_add (fun g f p0 p1 p2 => by (try simp only [p0, p1, p2]) <;> omega))
  refine lv_aload_n hx hb dJ11_putStringAt_5 rfl (lv_at hl 2 rfl) ?_
  refine lv_aload_n hx hb dJ11_putStringAt_6 rfl (lv_at hl 0 rfl) ?_
  refine o_get C h (RC := RJ12) (T := TJ12) (N := 4) (List.mem_of_getElem? (i := 0) rfl) rfl in_J12 0 (by decide) q717 rfl (v := .ref v) rfl dJ11_putStringAt_7 ?_
  refine lv_iload_n hx hb dJ11_putStringAt_10 rfl (lv_at hl 1 rfl) ?_
  refine lv_aload_n hx hb dJ11_putStringAt_11 rfl (lv_at hl 0 rfl) ?_
  refine o_get C h (RC := RJ12) (T := TJ12) (N := 4) (List.mem_of_getElem? (i := 0) rfl) rfl in_J12 1 (by decide) q718 rfl (v := .int (nI 0)) rfl dJ11_putStringAt_12 ?_
  have h : Wd D B s ([(v, bar dA n g)] ++ ([(sb, .inr (18, [.ref v, .int (nI 0), .int (bZ ml), .int (nI k0)]))] ++ F)) H locs := h.permL (perm_add (fun g f p0 p1 p2 => by (try simp only [p0, p1, p2]) <;> omega))
  refine call_VR (As := [.ref v, .int (nI k), .int (nI 0)]) (rest := []) (n := 3) C h (cJ_getBytes l D dA B Z hZ ([(sb, .inr (18, [.ref v, .int (nI 0), .int (bZ ml), .int (nI k0)]))] ++ F) v n k g sa sv lt (hs.up (fun x hx => List.mem_append_right _ hx)) hlb hll hzs hn hk) (lw_V q821 q822 q823 q156 q824) (by decide +kernel) (s_recv C h (hs.up (fun x hx => List.mem_append_right _ (List.mem_append_right _ hx)))) (by decide) (by decide) rfl hl rfl (Nat.le_of_ble_eq_true rfl) dJ11_putStringAt_15 (by omega) (fun _ H locs _ h => ?_)
  have h : Wd D B s ([(v, bar dA n (va_cpy (gD lt) g 0 k lt.length)), (sb, .inr (18, [.ref v, .int (nI 0), .int (bZ ml), .int (nI k0)]))] ++ F) H locs := h.permL (perm_add (fun g f p0 p1 p2 => by (try simp only [p0, p1, p2]) <;> omega))
  subst hQ
  have h : Wd D B s ([(sb, .inr (18, [.ref v, .int (nI 0), .int (bZ ml), .int (nI k0)])), (v, bar dA n (va_cpy (gD lt) g 0 k lt.length))] ++ F) H locs := h.permL (perm_add (fun g f p0 p1 p2 => by (try simp only [p0, p1, p2]) <;> omega))
  exact ret_v C hr hlocks h () trivial rfl rfl (by omega) (by omega) dJ11_putStringAt_18

def SBis (g : Nat → Nat) (n : Nat) (l : List Nat) : Prop := l.length ≤ n ∧ ∀ j, j < l.length → g j = gD l j
theorem gD_appL {l k : List Nat} {j : Nat} (h : j < l.length) : gD (l ++ k) j = gD l j := by unfold gD; rw [List.getD_eq_getElem?_getD, List.getElem?_append_left h, ← List.getD_eq_getElem?_getD]
theorem gD_appR {l k : List Nat} {j : Nat} (h : l.length ≤ j) : gD (l ++ k) j = gD k (j - l.length) := by unfold gD; rw [List.getD_eq_getElem?_getD, List.getElem?_append_right h, ← List.getD_eq_getElem?_getD]
theorem SBis.add {g g2 : Nat → Nat} {n n2 : Nat} {l lt : List Nat} (h : SBis g n l) (h1 : ∀ j, j < n → g2 j = g j) (h2 : l.length + lt.length ≤ n2) : SBis (va_cpy (gD lt) g2 0 l.length lt.length) n2 (l ++ lt) := by
  refine ⟨by rw [List.length_append]; exact h2, fun j hj => ?_⟩
  rw [List.length_append] at hj
  unfold va_cpy
  by_cases q : l.length ≤ j
  · rw [if_pos ⟨q, hj⟩, gD_appR q, Nat.zero_add]
  · rw [if_neg (by omega), gD_appL (by omega), h1 j (Nat.lt_of_lt_of_le (by omega) h.1), h.2 j (by omega)]

set_option maxHeartbeats 400000 in
set_option maxRecDepth 100000 in
theorem cJ_asbAppend (l : Launch) (D : va_G) (dA : Nat → ClassId) (B : Nat) (Z : State → Prop) (hZ : Stab B Z) (F : va_W) (sb v n : Nat) (g : Nat → Nat) (ml : Bool) (l0 : List Nat) (sa sv : Nat) (lt : List Nat) (hs : StrV dA B Z F sa sv lt) (hlb : byt lt) (hll : lt.length < 1000) (hzs : ZS dA B Z) (hsb : SBis g n l0) (h1 : n < 400) (h2 : l0.length + lt.length < 400) :
    Ct (S := Nat × Nat × (Nat → Nat) × va_W) l D dA B Z yJ11_append cJ11_append 3 (some ((.object "java/lang/AbstractStringBuilder"))) 5 1 (2 * n + 2 + (l0.length + lt.length)) [.ref sb, .ref sa] ([(sb, .inr (18, [.ref v, .int (nI 0), .int (bZ ml), .int (nI l0.length)])), (v, bar dA n g)] ++ F) (fun u => SBis u.2.2.1 u.2.1 (l0 ++ lt) ∧ u.2.1 ≤ 2 * n + 2 + (l0.length + lt.length)) (fun _ => some (.ref sb)) (fun u => [(sb, .inr (18, [.ref u.1, .int (nI 0), .int (bZ ml), .int (nI (l0 ++ lt).length)])), (u.1, bar dA u.2.1 u.2.2.1)] ++ (F ++ u.2.2.2)) := by
  refine Ct.mk2 (by decide) (Nat.le_of_ble_eq_true rfl) hZ ?_
  intro p e R s m args below meth c ls Q C hr hlocks hin hQ hl h
  have C0 := C
  obtain ⟨hx, hb, hml, hown, hts, -⟩ := C0
  have hl : lv_has ls 3 [(0, .ref sb), (1, .ref sa)] := hl
  have hsb1 := hsb.1
  refine lv_aload_n hx hb dJ11_append_0 rfl (lv_at hl 1 rfl) ?_
  refine lv_ifnonnull (tgt := 9) hx hb dJ11_append_1 (by decide) ?_
  refine lv_aload_n hx hb dJ11_append_9 rfl (lv_at hl 1 rfl) ?_
  refine call_VR (As := []) (rest := []) (n := 0) C h (cJ_len l D dA B Z hZ _ sa sv lt (hs.up (fun x hx => List.mem_append_right _ hx)) hlb (by omega) hzs) (lw_V q784 q785 q786 q156 q787) (by decide +kernel) (s_recv C h (hs.up (fun x hx => List.mem_append_right _ hx))) (by decide) (by decide) rfl hl rfl (Nat.le_of_ble_eq_true rfl) dJ11_append_10 (by omega) (fun _ H locs _ h => ?_)
  refine lv_istore_n (lv' := [(2, .int (nI lt.length)), (0, .ref sb), (1, .ref sa)]) hx hb dJ11_append_13 rfl hl (by decide) rfl (fun ls hl => ?_)
  refine lv_aload_n hx hb dJ11_append_14 rfl (lv_at hl 1 rfl) ?_
  refine lv_aload_n hx hb dJ11_append_15 rfl (lv_at hl 1 rfl) ?_
  refine o_get C h (RC := RJ12) (T := TJ12) (N := 4) (List.mem_of_getElem? (i := 0) rfl) rfl in_J12 3 (by decide) q720 rfl (v := .int (nI l0.length)) rfl dJ11_append_16 ?_
  refine lv_iload_n hx hb dJ11_append_19 rfl (lv_at hl 0 rfl) ?_
  refine lv_iadd hx hb dJ11_append_20 (n_top (y := nI (l0.length + lt.length)) (nI_add l0.length lt.length) ?_)
  refine call_VS (As := [.int (nI (l0.length + lt.length))]) (rest := []) (n := 1) (CN := RJ12) C h (cJ_ensure l D dA B Z hZ F sb v n g ml l0.length (l0.length + lt.length) (by omega) (by omega)) q742 q744 (sel_priv (by decide +kernel) (hts _ q844) rfl (hts _ q700) ((C.2.2.2.2.2.2.1 _ q743 rfl).use rfl) (hts _ q744)) q154 q745 (by decide +kernel) (o_recv C h (RC := RJ12) (T := TJ12) (N := 4) (List.mem_of_getElem? (i := 0) rfl) rfl) (by decide) (by decide) rfl hl rfl (Nat.le_of_ble_eq_true rfl) dJ11_append_21 (by omega) (fun u9 H locs hu9 h => ?_)
  obtain ⟨v2, n2, g2, E2⟩ := u9
  obtain ⟨hu1, hu2, hu3, hu4⟩ := hu9
  have hu1 : l0.length + lt.length ≤ n2 := hu1
  have hu3 : n2 ≤ 2 * n + 2 + (l0.length + lt.length) := hu3
  have h : Wd D B s ([(sb, .inr (18, [.ref v2, .int (nI 0), .int (bZ ml), .int (nI l0.length)])), (v2, bar dA n2 g2)] ++ (F ++ E2)) H locs := h.permL (perm_add (fun g f p0 p1 p2 => by (try simp only [p0, p1, p2]) <;> omega))
  refine lv_aload_n hx hb dJ11_append_24 rfl (lv_at hl 1 rfl) ?_
  refine lv_aload_n hx hb dJ11_append_25 rfl (lv_at hl 1 rfl) ?_
  refine o_get C h (RC := RJ12) (T := TJ12) (N := 4) (List.mem_of_getElem? (i := 0) rfl) rfl in_J12 3 (by decide) q720 rfl (v := .int (nI l0.length)) rfl dJ11_append_26 ?_
  refine lv_aload_n hx hb dJ11_append_29 rfl (lv_at hl 2 rfl) ?_
  refine call_VS (As := [.int (nI l0.length), .ref sa]) (rest := []) (n := 2) (CN := RJ12) C h (cJ_putStr l D dA B Z hZ (F ++ E2) sb v2 n2 g2 ml l0.length l0.length sa sv lt (hs.up (fun x hx => List.mem_append_left _ hx)) hlb hll hzs (by omega) hu1) q793 q795 (sel_priv (by decide +kernel) (hts _ q844) rfl (hts _ q700) ((C.2.2.2.2.2.2.1 _ q794 rfl).use rfl) (hts _ q795)) q154 q796 (by decide +kernel) (o_recv C h (RC := RJ12) (T := TJ12) (N := 4) (List.mem_of_getElem? (i := 0) rfl) rfl) (by decide) (by decide) rfl hl rfl (Nat.le_of_ble_eq_true rfl) dJ11_append_30 (by omega) (fun _ H locs _ h => ?_)
  have h : Wd D B s ([(sb, .inr (18, [.ref v2, .int (nI 0), .int (bZ ml), .int (nI l0.length)])), (v2, bar dA n2 (va_cpy (gD lt) g2 0 l0.length lt.length))] ++ (F ++ E2)) H locs := h.permL (perm_add (fun g f p0 p1 p2 => by (try simp only [p0, p1, p2]) <;> omega))
  refine lv_aload_n hx hb dJ11_append_33 rfl (lv_at hl 1 rfl) ?_
  refine lv_dup hx hb dJ11_append_34 rfl ?_
  refine o_get C h (RC := RJ12) (T := TJ12) (N := 4) (List.mem_of_getElem? (i := 0) rfl) rfl in_J12 3 (by decide) q720 rfl (v := .int (nI l0.length)) rfl dJ11_append_35 ?_
  refine lv_iload_n hx hb dJ11_append_38 rfl (lv_at hl 0 rfl) ?_
  refine lv_iadd hx hb dJ11_append_39 (n_top (y := nI (l0.length + lt.length)) (nI_add l0.length lt.length) ?_)
  refine o_put C h 0 (RC := RJ12) (T := TJ12) (N := 4) (ws' := [(sb, .inr (18, [.ref v2, .int (nI 0), .int (bZ ml), .int (nI (l0.length + lt.length))])), (v2, bar dA n2 (va_cpy (gD lt) g2 0 l0.length lt.length))] ++ (F ++ E2)) rfl rfl in_J12 tyJ12_ok nmJ12 3 (by decide) q720 rfl rfl (v := .int (nI (l0.length + lt.length))) rfl rfl (Nat.le_of_ble_eq_true rfl) rfl dJ11_append_40 (fun H locs h => ?_)
  refine lv_aload_n hx hb dJ11_append_43 rfl (lv_at hl 1 rfl) ?_
  subst hQ
  exact ret_a C hr (Or.inl ⟨_, rfl⟩) hlocks h (v2, n2, va_cpy (gD lt) g2 0 l0.length lt.length, E2) (⟨hsb.add hu4 hu1, hu3⟩) (Or.inr ⟨_, rfl⟩) rfl (by rw [List.length_append]) (by omega) (by omega) dJ11_append_44
set_option maxHeartbeats 400000 in
set_option maxRecDepth 100000 in
theorem cJ_append (l : Launch) (D : va_G) (dA : Nat → ClassId) (B : Nat) (Z : State → Prop) (hZ : Stab B Z) (F : va_W) (sb v n : Nat) (g : Nat → Nat) (ml : Bool) (l0 : List Nat) (sa sv : Nat) (lt : List Nat) (hs : StrV dA B Z F sa sv lt) (hlb : byt lt) (hll : lt.length < 1000) (hzs : ZS dA B Z) (hsb : SBis g n l0) (h1 : n < 400) (h2 : l0.length + lt.length < 400) :
    Ct (S := Nat × Nat × (Nat → Nat) × va_W) l D dA B Z yJ12_append cJ12_append 2 (some ((.object "java/lang/StringBuilder"))) 6 1 (2 * n + 2 + (l0.length + lt.length)) [.ref sb, .ref sa] ([(sb, .inr (18, [.ref v, .int (nI 0), .int (bZ ml), .int (nI l0.length)])), (v, bar dA n g)] ++ F) (fun u => SBis u.2.2.1 u.2.1 (l0 ++ lt) ∧ u.2.1 ≤ 2 * n + 2 + (l0.length + lt.length)) (fun _ => some (.ref sb)) (fun u => [(sb, .inr (18, [.ref u.1, .int (nI 0), .int (bZ ml), .int (nI (l0 ++ lt).length)])), (u.1, bar dA u.2.1 u.2.2.1)] ++ (F ++ u.2.2.2)) := by
  refine Ct.mk2 (by decide) (Nat.le_of_ble_eq_true rfl) hZ ?_
  intro p e R s m args below meth c ls Q C hr hlocks hin hQ hl h
  have C0 := C
  obtain ⟨hx, hb, hml, hown, hts, -⟩ := C0
  have hl : lv_has ls 2 [(0, .ref sb), (1, .ref sa)] := hl
  refine lv_aload_n hx hb dJ12_append_0 rfl (lv_at hl 0 rfl) ?_
  refine lv_aload_n hx hb dJ12_append_1 rfl (lv_at hl 1 rfl) ?_
  refine call_SU (As := [.ref sa]) (rest := []) (n := 1) (ci := 18) C h (cJ_asbAppend l D dA B Z hZ F sb v n g ml l0 sa sv lt hs hlb hll hzs hsb h1 h2) (lw_SU q735 q2605 q729 q736 q154 q737) (by decide +kernel) rfl (o_recv C h (RC := RJ12) (T := TJ12) (N := 4) (List.mem_of_getElem? (i := 0) rfl) rfl) (by decide) (by decide) rfl hl rfl (Nat.le_of_ble_eq_true rfl) dJ12_append_2 (by omega) (fun u9 H locs hu9 h => ?_)
  obtain ⟨v2, n2, g2, E2⟩ := u9
  have h : Wd D B s ([(sb, .inr (18, [.ref v2, .int (nI 0), .int (bZ ml), .int (nI ((l0 ++ lt).length))])), (v2, bar dA n2 g2)] ++ (F ++ E2)) H locs := h.permL (perm_add (fun g f p0 p1 p2 => by (try simp only [p0, p1, p2]) <;> omega))
  refine lv_pop hx hb dJ12_append_5 rfl ?_
  refine lv_aload_n hx hb dJ12_append_6 rfl (lv_at hl 0 rfl) ?_
  subst hQ
  exact ret_a C hr (Or.inl ⟨_, rfl⟩) hlocks h (v2, n2, g2, E2) hu9 (Or.inr ⟨_, rfl⟩) rfl rfl (by omega) (by omega) dJ12_append_7
set_option maxHeartbeats 400000 in
set_option maxRecDepth 100000 in
theorem cJ_getValue (l : Launch) (D : va_G) (dA : Nat → ClassId) (B : Nat) (Z : State → Prop) (hZ : Stab B Z) (F : va_W) (sb v n : Nat) (g : Nat → Nat) (ml : Bool) (k0 : Nat)  :
    Ct (S := Unit) l D dA B Z yJ11_getValue cJ11_getValue 1 (some ((.array .byte))) 1 0 0 [.ref sb] ([(sb, .inr (18, [.ref v, .int (nI 0), .int (bZ ml), .int (nI k0)])), (v, bar dA n g)] ++ F) (fun _ => True) (fun _ => some (.ref v)) (fun _ => [(sb, .inr (18, [.ref v, .int (nI 0), .int (bZ ml), .int (nI k0)])), (v, bar dA n g)] ++ F) := by
  refine Ct.mk2 (by decide) (Nat.le_of_ble_eq_true rfl) hZ ?_
  intro p e R s m args below meth c ls Q C hr hlocks hin hQ hl h
  have C0 := C
  obtain ⟨hx, hb, hml, hown, hts, -⟩ := C0
  have hl : lv_has ls 1 [(0, .ref sb)] := hl
  refine lv_aload_n hx hb dJ11_getValue_0 rfl (lv_at hl 0 rfl) ?_
  refine o_get C h (RC := RJ12) (T := TJ12) (N := 4) (List.mem_of_getElem? (i := 0) rfl) rfl in_J12 0 (by decide) q717 rfl (v := .ref v) rfl dJ11_getValue_1 ?_
  subst hQ
  exact ret_a C hr (Or.inr ⟨_, rfl⟩) hlocks h () trivial (Or.inr ⟨_, rfl⟩) rfl rfl (by omega) (by omega) dJ11_getValue_4
set_option maxHeartbeats 400000 in
set_option maxRecDepth 100000 in
theorem cJ_asbLen (l : Launch) (D : va_G) (dA : Nat → ClassId) (B : Nat) (Z : State → Prop) (hZ : Stab B Z) (F : va_W) (sb v n : Nat) (g : Nat → Nat) (ml : Bool) (k0 : Nat)  :
    Ct (S := Unit) l D dA B Z yJ11_length cJ11_length 1 (some .int) 1 0 0 [.ref sb] ([(sb, .inr (18, [.ref v, .int (nI 0), .int (bZ ml), .int (nI k0)])), (v, bar dA n g)] ++ F) (fun _ => True) (fun _ => some (.int (nI k0))) (fun _ => [(sb, .inr (18, [.ref v, .int (nI 0), .int (bZ ml), .int (nI k0)])), (v, bar dA n g)] ++ F) := by
  refine Ct.mk2 (by decide) (Nat.le_of_ble_eq_true rfl) hZ ?_
  intro p e R s m args below meth c ls Q C hr hlocks hin hQ hl h
  have C0 := C
  obtain ⟨hx, hb, hml, hown, hts, -⟩ := C0
  have hl : lv_has ls 1 [(0, .ref sb)] := hl
  refine lv_aload_n hx hb dJ11_length_0 rfl (lv_at hl 0 rfl) ?_
  refine o_get C h (RC := RJ12) (T := TJ12) (N := 4) (List.mem_of_getElem? (i := 0) rfl) rfl in_J12 3 (by decide) q720 rfl (v := .int (nI k0)) rfl dJ11_length_1 ?_
  subst hQ
  exact ret_i C hr hlocks h () trivial rfl rfl (by omega) (by omega) dJ11_length_4
set_option maxHeartbeats 400000 in
set_option maxRecDepth 100000 in
theorem cJ_sbLen (l : Launch) (D : va_G) (dA : Nat → ClassId) (B : Nat) (Z : State → Prop) (hZ : Stab B Z) (F : va_W) (sb v n : Nat) (g : Nat → Nat) (ml : Bool) (k0 : Nat)  :
    Ct (S := Unit) l D dA B Z yJ12_length cJ12_length 1 (some .int) 2 0 0 [.ref sb] ([(sb, .inr (18, [.ref v, .int (nI 0), .int (bZ ml), .int (nI k0)])), (v, bar dA n g)] ++ F) (fun _ => True) (fun _ => some (.int (nI k0))) (fun _ => [(sb, .inr (18, [.ref v, .int (nI 0), .int (bZ ml), .int (nI k0)])), (v, bar dA n g)] ++ F) := by
  refine Ct.mk2 (by decide) (Nat.le_of_ble_eq_true rfl) hZ ?_
  intro p e R s m args below meth c ls Q C hr hlocks hin hQ hl h
  have C0 := C
  obtain ⟨hx, hb, hml, hown, hts, -⟩ := C0
  have hl : lv_has ls 1 [(0, .ref sb)] := hl
  refine lv_aload_n hx hb dJ12_length_0 rfl (lv_at hl 0 rfl) ?_
  refine call_SU (As := []) (rest := []) (n := 0) (ci := 18) C h (cJ_asbLen l D dA B Z hZ F sb v n g ml k0) (lw_SU q852 q848 q729 q847 q154 q853) (by decide +kernel) rfl (o_recv C h (RC := RJ12) (T := TJ12) (N := 4) (List.mem_of_getElem? (i := 0) rfl) rfl) (by decide) (by decide) rfl hl rfl (Nat.le_of_ble_eq_true rfl) dJ12_length_1 (by omega) (fun _ H locs _ h => ?_)
  have h : Wd D B s ([(sb, .inr (18, [.ref v, .int (nI 0), .int (bZ ml), .int (nI k0)])), (v, bar dA n g)] ++ F) H locs := h.permL (perm_add (fun g f p0 p1 p2 => by (try simp only [p0, p1, p2]) <;> omega))
  subst hQ
  exact ret_i C hr hlocks h () trivial rfl rfl (by omega) (by omega) dJ12_length_4
set_option maxHeartbeats 400000 in
set_option maxRecDepth 100000 in
theorem cJ_asbIsL (l : Launch) (D : va_G) (dA : Nat → ClassId) (B : Nat) (Z : State → Prop) (hZ : Stab B Z) (F : va_W) (sb v n : Nat) (g : Nat → Nat) (ml : Bool) (k0 : Nat) (hzs : ZS dA B Z) :
    Ct (S := Unit) l D dA B Z yJ11_isLatin1 cJ11_isLatin1 1 (some .boolean) 1 0 0 [.ref sb] ([(sb, .inr (18, [.ref v, .int (nI 0), .int (bZ ml), .int (nI k0)])), (v, bar dA n g)] ++ F) (fun _ => True) (fun _ => some (.int (bZ true))) (fun _ => [(sb, .inr (18, [.ref v, .int (nI 0), .int (bZ ml), .int (nI k0)])), (v, bar dA n g)] ++ F) := by
  refine Ct.mk2 (by decide) (Nat.le_of_ble_eq_true rfl) hZ ?_
  intro p e R s m args below meth c ls Q C hr hlocks hin hQ hl h
  have C0 := C
  obtain ⟨hx, hb, hml, hown, hts, -⟩ := C0
  have hl : lv_has ls 1 [(0, .ref sb)] := hl
  refine z_gets C h hzs.1 q708 rfl dJ11_isLatin1_0 ?_
  refine z_if_eq (tgt := 17) hx hb dJ11_isLatin1_3 (by decide) (fun q => by cases q) (fun _ => ?_)
  refine lv_aload_n hx hb dJ11_isLatin1_6 rfl (lv_at hl 0 rfl) ?_
  refine o_get C h (RC := RJ12) (T := TJ12) (N := 4) (List.mem_of_getElem? (i := 0) rfl) rfl in_J12 1 (by decide) q718 rfl (v := .int (nI 0)) rfl dJ11_isLatin1_7 ?_
  refine n_if_ne (tgt := 17) hx hb (by omega) dJ11_isLatin1_10 (by decide) (fun c10 => by exfalso; exact absurd rfl c10) (fun c10 => ?_)
  refine lv_iconst (v := nI 1) hx hb dJ11_isLatin1_13 (by decide) ?_
  refine lv_goto (tgt := 18) hx hb dJ11_isLatin1_14 (by decide) ?_
  subst hQ
  refine n_top (y := bZ true) rfl ?_
  exact ret_z C hr hlocks h () trivial rfl rfl (by omega) (by omega) dJ11_isLatin1_18
set_option maxHeartbeats 400000 in
set_option maxRecDepth 100000 in
theorem cJ_strInit2 (l : Launch) (D : va_G) (dA : Nat → ClassId) (B : Nat) (Z : State → Prop) (hZ : Stab B Z) (F : va_W) (sb v n : Nat) (g : Nat → Nat) (ml : Bool) (st : Nat) (l0 : List Nat) (hzs : ZS dA B Z) (hsb : SBis g n l0) (h1 : n < 100000) :
    Ct (S := Nat) l D dA B Z yJ13_init_2 cJ13_init_2 5 none 4 1 l0.length [.ref st, .ref sb, .null] ([(st, .inr (17, [.null, .int 0, .int 0, .int (bZ false)])), (sb, .inr (18, [.ref v, .int (nI 0), .int (bZ ml), .int (nI l0.length)])), (v, bar dA n g)] ++ F) (fun _ => True) (fun _ => none) (fun q9 => [(st, .inr (17, [.ref q9, .int (nI 0), .int 0, .int (bZ false)])), (q9, bal dA l0)] ++ ([(sb, .inr (18, [.ref v, .int (nI 0), .int (bZ ml), .int (nI l0.length)])), (v, bar dA n g)] ++ F)) := by
  refine Ct.mk2 (by decide) (Nat.le_of_ble_eq_true rfl) hZ ?_
  intro p e R s m args below meth c ls Q C hr hlocks hin hQ hl h
  have C0 := C
  obtain ⟨hx, hb, hml, hown, hts, -⟩ := C0
  have hl : lv_has ls 5 [(0, .ref st), (1, .ref sb), (2, .null)] := hl
  have hsb1 := hsb.1
  refine lv_aload_n hx hb dJ13_init_2_0 rfl (lv_at hl 0 rfl) ?_
  refine o_init C h q840 hl.1 (by decide) (Nat.le_of_ble_eq_true rfl) dJ13_init_2_1 ?_
  refine lv_aload_n hx hb dJ13_init_2_4 rfl (lv_at hl 1 rfl) ?_
  have h : Wd D B s ([(sb, .inr (18, [.ref v, .int (nI 0), .int (bZ ml), .int (nI l0.length)])), (v, bar dA n g)] ++ ([(st, .inr (17, [.null, .int 0, .int 0, .int (bZ false)]))] ++ F)) s.heap [] := h.permL (perm_add (fun g f p0 p1 p2 => by (try simp only [p0, p1, p2]) <;> omega))
  refine call_U (As := []) (rest := []) (n := 0) C h (cJ_getValue l D dA B Z hZ ([(st, .inr (17, [.null, .int 0, .int 0, .int (bZ false)]))] ++ F) sb v n g ml l0.length) (lw_U q841 q843 q844 q842 q154 q845) rfl (by decide +kernel) (o_recv C h (RC := RJ12) (T := TJ12) (N := 4) (List.mem_of_getElem? (i := 0) rfl) rfl) (by decide) (by decide) rfl hl rfl (Nat.le_of_ble_eq_true rfl) dJ13_init_2_5 (by omega) (fun _ H locs _ h => ?_)
  have h : Wd D B s ([(sb, .inr (18, [.ref v, .int (nI 0), .int (bZ ml), .int (nI l0.length)])), (v, bar dA n g), (st, .inr (17, [.null, .int 0, .int 0, .int (bZ false)]))] ++ F) H locs := h.permL (perm_add (fun g f p0 p1 p2 => by (try simp only [p0, p1, p2]) <;> omega))
  refine lv_astore_n (lv' := [(3, .ref v), (0, .ref st), (1, .ref sb), (2, .null)]) hx hb dJ13_init_2_8 rfl hl (by decide) rfl (fun ls hl => ?_)
  refine lv_aload_n hx hb dJ13_init_2_9 rfl (lv_at hl 2 rfl) ?_
  have h : Wd D B s ([(sb, .inr (18, [.ref v, .int (nI 0), .int (bZ ml), .int (nI l0.length)])), (v, bar dA n g)] ++ ([(st, .inr (17, [.null, .int 0, .int 0, .int (bZ false)]))] ++ F)) H locs := h.permL (perm_add (fun g f p0 p1 p2 => by (try simp only [p0, p1, p2]) <;> omega))
  refine call_O (As := []) (rest := []) (n := 0) C h (cJ_sbLen l D dA B Z hZ ([(st, .inr (17, [.null, .int 0, .int 0, .int (bZ false)]))] ++ F) sb v n g ml l0.length) (lw_O q846 q848 q847 q849 q850 q155 q851) q853 (by decide +kernel) (o_recv C h (RC := RJ12) (T := TJ12) (N := 4) (List.mem_of_getElem? (i := 0) rfl) rfl) (by decide) (by decide) rfl hl rfl (Nat.le_of_ble_eq_true rfl) dJ13_init_2_10 (by omega) (fun _ H locs _ h => ?_)
  have h : Wd D B s ([(sb, .inr (18, [.ref v, .int (nI 0), .int (bZ ml), .int (nI l0.length)])), (v, bar dA n g), (st, .inr (17, [.null, .int 0, .int 0, .int (bZ false)]))] ++ F) H locs := h.permL (perm_add (fun g f p0 p1 p2 => by (try simp only [p0, p1, p2]) <;> omega))
  refine lv_istore (lv' := [(4, .int (nI l0.length)), (3, .ref v), (0, .ref st), (1, .ref sb), (2, .null)]) hx hb dJ13_init_2_13 hl (by decide) rfl (fun ls hl => ?_)
  refine lv_aload_n hx hb dJ13_init_2_15 rfl (lv_at hl 3 rfl) ?_
  have h : Wd D B s ([(sb, .inr (18, [.ref v, .int (nI 0), .int (bZ ml), .int (nI l0.length)])), (v, bar dA n g)] ++ ([(st, .inr (17, [.null, .int 0, .int 0, .int (bZ false)]))] ++ F)) H locs := h.permL (perm_add (fun g f p0 p1 p2 => by (try simp only [p0, p1, p2]) <;> omega))
  refine call_U (As := []) (rest := []) (n := 0) C h (cJ_asbIsL l D dA B Z hZ ([(st, .inr (17, [.null, .int 0, .int 0, .int (bZ false)]))] ++ F) sb v n g ml l0.length hzs) (lw_U q854 q755 q756 q754 q154 q757) rfl (by decide +kernel) (o_recv C h (RC := RJ12) (T := TJ12) (N := 4) (List.mem_of_getElem? (i := 0) rfl) rfl) (by decide) (by decide) rfl hl rfl (Nat.le_of_ble_eq_true rfl) dJ13_init_2_16 (by omega) (fun _ H locs _ h => ?_)
  have h : Wd D B s ([(sb, .inr (18, [.ref v, .int (nI 0), .int (bZ ml), .int (nI l0.length)])), (v, bar dA n g), (st, .inr (17, [.null, .int 0, .int 0, .int (bZ false)]))] ++ F) H locs := h.permL (perm_add (fun g f p0 p1 p2 => by (try simp only [p0, p1, p2]) <;> omega))
  refine z_if_eq (tgt := 41) hx hb dJ13_init_2_19 (by decide) (fun q => by cases q) (fun _ => ?_)
  refine lv_aload_n hx hb dJ13_init_2_22 rfl (lv_at hl 2 rfl) ?_
  refine lv_iconst (v := nI 0) hx hb dJ13_init_2_23 (by decide) ?_
  refine o_putF C h 2 (RC := RJ13) (T := TJ13) (N := 4) (ws' := [(sb, .inr (18, [.ref v, .int (nI 0), .int (bZ ml), .int (nI l0.length)])), (v, bar dA n g), (st, .inr (17, [.null, .int (nI 0), .int 0, .int (bZ false)]))] ++ F) rfl rfl in_J13 tyJ13_ok nmJ13 1 (by decide) q931 rfl rfl (hin rfl) rfl (v := .int (nI 0)) rfl rfl (Nat.le_of_ble_eq_true rfl) rfl dJ13_init_2_24 (fun H locs h => ?_)
  refine lv_aload_n hx hb dJ13_init_2_27 rfl (lv_at hl 2 rfl) ?_
  refine lv_aload_n hx hb dJ13_init_2_28 rfl (lv_at hl 1 rfl) ?_
  refine lv_iconst (v := nI 0) hx hb dJ13_init_2_29 (by decide) ?_
  refine lv_iload hx hb dJ13_init_2_30 (lv_at hl 0 rfl) ?_
  refine call_S (As := [.ref v, .int (nI 0), .int (nI l0.length)]) (rest := [.ref st]) (n := 3) C h (cJ_copyRange l D dA B Z hZ _ v n 0 l0.length g (List.mem_of_getElem? (i := 1) rfl) (by omega) (by omega) (by omega)) (lw_S q855 q856 q143 q857) (by decide +kernel) (by decide) (by decide) rfl hl rfl (Nat.le_of_ble_eq_true rfl) dJ13_init_2_32 (by omega) (fun q9 H locs _ h => ?_)
  have hq9 : sl g 0 (l0.length - 0) = l0 := by
    rw [Nat.sub_zero, ← sl_gD l0, sl_len]
    exact sl_congr (fun j hj => by rw [Nat.zero_add]; exact hsb.2 j hj)
  rw [hq9] at h
  have h : Wd D B s ([(q9, bal dA l0), (sb, .inr (18, [.ref v, .int (nI 0), .int (bZ ml), .int (nI l0.length)])), (v, bar dA n g), (st, .inr (17, [.null, .int (nI 0), .int 0, .int (bZ false)]))] ++ F) H locs := h.permL (perm_add (fun g f p0 p1 p2 => by (try simp only [p0, p1, p2]) <;> omega))
  refine o_putF C h 3 (RC := RJ13) (T := TJ13) (N := 4) (ws' := [(q9, bal dA l0), (sb, .inr (18, [.ref v, .int (nI 0), .int (bZ ml), .int (nI l0.length)])), (v, bar dA n g), (st, .inr (17, [.ref q9, .int (nI 0), .int 0, .int (bZ false)]))] ++ F) rfl rfl in_J13 tyJ13_ok nmJ13 0 (by decide) q930 rfl rfl (hin rfl) rfl (v := .ref q9) rfl rfl (Nat.le_of_ble_eq_true rfl) rfl dJ13_init_2_35 (fun H locs h => ?_)
  refine lv_goto (tgt := 97) hx hb dJ13_init_2_38 (by decide) ?_
  subst hQ
  have h : Wd D B s ([(st, .inr (17, [.ref q9, .int (nI 0), .int 0, .int (bZ false)])), (q9, bal dA l0)] ++ ([(sb, .inr (18, [.ref v, .int (nI 0), .int (bZ ml), .int (nI l0.length)])), (v, bar dA n g)] ++ F)) H locs := h.permL (perm_add (fun g f p0 p1 p2 => by (try simp only [p0, p1, p2]) <;> omega))
  exact ret_v C hr hlocks h q9 trivial rfl rfl (by omega) (by omega) dJ13_init_2_97
set_option maxHeartbeats 400000 in
set_option maxRecDepth 100000 in
theorem cJ_strInit1 (l : Launch) (D : va_G) (dA : Nat → ClassId) (B : Nat) (Z : State → Prop) (hZ : Stab B Z) (F : va_W) (sb v n : Nat) (g : Nat → Nat) (ml : Bool) (st : Nat) (l0 : List Nat) (hzs : ZS dA B Z) (hsb : SBis g n l0) (h1 : n < 100000) :
    Ct (S := Nat) l D dA B Z yJ13_init cJ13_init 2 none 5 1 l0.length [.ref st, .ref sb] ([(st, .inr (17, [.null, .int 0, .int 0, .int (bZ false)])), (sb, .inr (18, [.ref v, .int (nI 0), .int (bZ ml), .int (nI l0.length)])), (v, bar dA n g)] ++ F) (fun _ => True) (fun _ => none) (fun q9 => [(st, .inr (17, [.ref q9, .int (nI 0), .int 0, .int (bZ false)])), (q9, bal dA l0)] ++ ([(sb, .inr (18, [.ref v, .int (nI 0), .int (bZ ml), .int (nI l0.length)])), (v, bar dA n g)] ++ F)) := by
  refine Ct.mk2 (by decide) (Nat.le_of_ble_eq_true rfl) hZ ?_
  intro p e R s m args below meth c ls Q C hr hlocks hin hQ hl h
  have C0 := C
  obtain ⟨hx, hb, hml, hown, hts, -⟩ := C0
  have hl : lv_has ls 2 [(0, .ref st), (1, .ref sb)] := hl
  refine lv_aload_n hx hb dJ13_init_0 rfl (lv_at hl 0 rfl) ?_
  refine lv_aload_n hx hb dJ13_init_1 rfl (lv_at hl 1 rfl) ?_
  refine lv_null hx hb dJ13_init_2 ?_
  refine call_I (As := [.ref sb, .null]) (rest := []) (n := 2) C h (cJ_strInit2 l D dA B Z hZ F sb v n g ml st l0 hzs hsb h1) (lw_meth q839) q156 q837 q838 rfl (by decide +kernel) (by decide) (by decide) rfl hl rfl (Nat.le_of_ble_eq_true rfl) dJ13_init_3 (by omega) (fun q9 H locs _ h => ?_)
  have h : Wd D B s ([(st, .inr (17, [.ref q9, .int (nI 0), .int 0, .int (bZ false)])), (q9, bal dA l0), (sb, .inr (18, [.ref v, .int (nI 0), .int (bZ ml), .int (nI l0.length)])), (v, bar dA n g)] ++ F) H locs := h.permL (perm_add (fun g f p0 p1 p2 => by (try simp only [p0, p1, p2]) <;> omega))
  subst hQ
  have h : Wd D B s ([(st, .inr (17, [.ref q9, .int (nI 0), .int 0, .int (bZ false)])), (q9, bal dA l0)] ++ ([(sb, .inr (18, [.ref v, .int (nI 0), .int (bZ ml), .int (nI l0.length)])), (v, bar dA n g)] ++ F)) H locs := h.permL (perm_add (fun g f p0 p1 p2 => by (try simp only [p0, p1, p2]) <;> omega))
  exact ret_v C hr hlocks h q9 trivial rfl rfl (by omega) (by omega) dJ13_init_6
set_option maxHeartbeats 400000 in
set_option maxRecDepth 100000 in
theorem cJ_toString (l : Launch) (D : va_G) (dA : Nat → ClassId) (B : Nat) (Z : State → Prop) (hZ : Stab B Z) (F : va_W) (sb v n : Nat) (g : Nat → Nat) (ml : Bool) (l0 : List Nat) (hzs : ZS dA B Z) (hsb : SBis g n l0) (h1 : n < 100000) :
    Ct (S := Nat × Nat) l D dA B Z yJ12_toString cJ12_toString 1 (some ((.object "java/lang/String"))) 6 2 (4 + l0.length) [.ref sb] ([(sb, .inr (18, [.ref v, .int (nI 0), .int (bZ ml), .int (nI l0.length)])), (v, bar dA n g)] ++ F) (fun _ => True) (fun u => some (.ref u.1)) (fun u => [(u.1, .inr (17, [.ref u.2, .int (nI 0), .int 0, .int (bZ false)])), (u.2, bal dA l0)] ++ ([(sb, .inr (18, [.ref v, .int (nI 0), .int (bZ ml), .int (nI l0.length)])), (v, bar dA n g)] ++ F)) := by
  refine Ct.mk2 (by decide) (Nat.le_of_ble_eq_true rfl) hZ ?_
  intro p e R s m args below meth c ls Q C hr hlocks hin hQ hl h
  have C0 := C
  obtain ⟨hx, hb, hml, hown, hts, -⟩ := C0
  have hl : lv_has ls 1 [(0, .ref sb)] := hl
  refine o_new C h (RC := RJ13) (T := TJ13) (N := 4) (ci := 17) (fs := [.null, .int 0, .int 0, .int (bZ false)]) rfl in_J13 tyJ13_ok q832 q833 q156 dv_J13 (by omega) (by omega) dJ12_toString_0 (fun o1 H h => ?_)
  have h : Wd D B s ([(o1, .inr (17, [.null, .int 0, .int 0, .int (bZ false)])), (sb, .inr (18, [.ref v, .int (nI 0), .int (bZ ml), .int (nI l0.length)])), (v, bar dA n g)] ++ F) H [] := h.permL (perm_add (fun g f p0 p1 p2 => by (try simp only [p0, p1, p2]) <;> omega))
  refine lv_dup hx hb dJ12_toString_3 rfl ?_
  refine lv_aload_n hx hb dJ12_toString_4 rfl (lv_at hl 0 rfl) ?_
  refine call_I (As := [.ref sb]) (rest := [.ref o1]) (n := 1) C h (cJ_strInit1 l D dA B Z hZ F sb v n g ml o1 l0 hzs hsb h1) (lw_meth q836) q156 q834 q835 rfl (by decide +kernel) (by decide) (by decide) rfl hl rfl (Nat.le_of_ble_eq_true rfl) dJ12_toString_5 (by omega) (fun q9 H locs _ h => ?_)
  have h : Wd D B s ([(o1, .inr (17, [.ref q9, .int (nI 0), .int 0, .int (bZ false)])), (q9, bal dA l0), (sb, .inr (18, [.ref v, .int (nI 0), .int (bZ ml), .int (nI l0.length)])), (v, bar dA n g)] ++ F) H locs := h.permL (perm_add (fun g f p0 p1 p2 => by (try simp only [p0, p1, p2]) <;> omega))
  subst hQ
  have h : Wd D B s ([(o1, .inr (17, [.ref q9, .int (nI 0), .int 0, .int (bZ false)])), (q9, bal dA l0)] ++ ([(sb, .inr (18, [.ref v, .int (nI 0), .int (bZ ml), .int (nI l0.length)])), (v, bar dA n g)] ++ F)) H locs := h.permL (perm_add (fun g f p0 p1 p2 => by (try simp only [p0, p1, p2]) <;> omega))
  exact ret_a C hr (Or.inl ⟨_, rfl⟩) hlocks h (o1, q9) trivial (Or.inr ⟨_, rfl⟩) rfl rfl (by omega) (by omega) dJ12_toString_8
