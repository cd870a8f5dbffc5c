set_option maxRecDepth 100000

theorem and255m (b : Nat) (h : b < 2147483648) : nI b &&& nI 255 = nI (b % 256) := by
  rw [show nI 255 = 255 from rfl, pk_andN (Nat.lt_trans h (by decide)) 8 (by decide)]
/-- a packet's length, a packet -/
def lenB (n : Nat) : List Nat := if n < 192 then [n] else [(n - 192) / 256 + 192, (n - 192) % 256]
def pktB (k : Nat) (l : List Nat) : List Nat := [192 + k] ++ lenB l.length ++ l
theorem lenB_len (n : Nat) : (lenB n).length ≤ 2 ∧ 1 ≤ (lenB n).length := by
  unfold lenB
  split <;> exact ⟨Nat.le_of_ble_eq_true rfl, Nat.le_of_ble_eq_true rfl⟩
theorem lenB_byt {n : Nat} (h : n < 8384) : byt (lenB n) := by
  intro x hx
  unfold lenB at hx
  split at hx
  · simp only [List.mem_cons, List.not_mem_nil, or_false] at hx; omega
  · simp only [List.mem_cons, List.not_mem_nil, or_false] at hx; omega
theorem pktB_len (k : Nat) (l : List Nat) : (pktB k l).length ≤ 3 + l.length ∧ 2 + l.length ≤ (pktB k l).length := by
  have := lenB_len l.length
  unfold pktB
  simp only [List.length_append, List.length_cons, List.length_nil]
  omega
theorem pktB_byt {k : Nat} {l : List Nat} (hk : k < 64) (hl : byt l) (h : l.length < 8384) : byt (pktB k l) := by
  refine byt_app (byt_app (fun x hx => ?_) (lenB_byt h)) hl
  simp only [List.mem_cons, List.not_mem_nil, or_false] at hx
  omega
/-- a text as it is hashed: lines end with 13, 10 -/
def txC (ln : Bool) (l : List Nat) (k : Nat) : Bool := ln && (decide (gD l k = 10) && (decide (k = 0) || !decide (gD l (k - 1) = 13)))
def txS (ln : Bool) (l : List Nat) : Nat → List Nat
  | 0 => []
  | k + 1 => txS ln l k ++ ((if txC ln l k = true then [13] else []) ++ [gD l k])
theorem txS_len (ln : Bool) (l : List Nat) (n : Nat) : (txS ln l n).length ≤ 2 * n := by
  induction n with
  | zero => exact Nat.le_refl _
  | succ n ih =>
    rw [txS, List.length_append, List.length_append]
    have : (if txC ln l n = true then [13] else [] : List Nat).length ≤ 1 := by split <;> decide
    have e : [gD l n].length = 1 := rfl
    omega
theorem txS_byt {ln : Bool} {l : List Nat} (hl : byt l) (n : Nat) : byt (txS ln l n) := by
  induction n with
  | zero => intro x hx; cases hx
  | succ n ih =>
    refine byt_app ih (byt_app ?_ ?_)
    · intro x hx
      split at hx
      · simp only [List.mem_cons, List.not_mem_nil, or_false] at hx; omega
      · cases hx
    · intro x hx
      simp only [List.mem_cons, List.not_mem_nil, or_false] at hx
      rw [hx]; exact byt_gD hl n

set_option maxHeartbeats 400000 in
set_option maxRecDepth 100000 in
theorem c7_put (l : Launch) (D : va_G) (dA : Nat → ClassId) (B : Nat) (Z : State → Prop) (hZ : Stab B Z) (h0 : Nat) (ad : Nat → Nat) (M : MS) (F : va_W) (x : Int32) (n b : Nat) (h1 : mI M 10 = nI n) (h2 : n < 60000) (h3 : x &&& nI 255 = nI b) :
    Ct (S := Unit) l D dA B Z yX7_put cX7_put 2 none 1 0 0 [.ref h0, .int x] (mw dA h0 ad M ++ F) (fun _ => True) (fun _ => none) (fun _ => mw dA h0 ad (apM M 11 10 n [b]) ++ F) := by
  refine Ct.mk2 (by decide) (Nat.le_of_ble_eq_true rfl) hZ ?_
  intro p e R s m args below meth c ls Q C hr hlocks hin hQ hl h
  have C0 := C
  obtain ⟨hx, hb, hml, hown, hts, -⟩ := C0
  have hl : lv_has ls 2 [(0, .ref h0), (1, .int x)] := hl
  refine lv_aload_n hx hb dX7_put_0 rfl (lv_at hl 0 rfl) ?_
  refine m_gc C h 11 (by decide) rfl rfl q1881 dX7_put_1 ?_
  refine lv_aload_n hx hb dX7_put_4 rfl (lv_at hl 0 rfl) ?_
  refine m_gi C h 10 (by decide) rfl rfl q1880 (v := nI n) h1 dX7_put_5 ?_
  refine lv_iload_n hx hb dX7_put_8 rfl (lv_at hl 1 rfl) ?_
  refine lv_sipush (v := nI 255) hx hb dX7_put_9 (by decide) ?_
  refine lv_iand hx hb dX7_put_12 ?_
  refine n_top (y := nI b) h3 ?_
  refine m_iast C h 11 (v := b) (by decide) (n := 60000) rfl (by omega) dX7_put_13 (fun H locs h => ?_)
  refine lv_aload_n hx hb dX7_put_14 rfl (lv_at hl 0 rfl) ?_
  refine lv_dup hx hb dX7_put_15 rfl ?_
  refine m_gi C h 10 (by decide) rfl rfl q1880 (v := nI n) h1 dX7_put_16 ?_
  refine lv_iconst (v := nI 1) hx hb dX7_put_19 (by decide) ?_
  refine lv_iadd hx hb dX7_put_20 (n_top (y := nI (n + 1)) (nI_add n 1) ?_)
  refine m_pi C h 10 (v := nI (n + 1)) (by decide) rfl rfl rfl q1880 rfl rfl dX7_put_21 (fun H locs h => ?_)
  subst hQ
  exact ret_v C hr hlocks h () trivial rfl (by rw [apM_one]) (by omega) (by omega) dX7_put_24
set_option maxHeartbeats 400000 in
set_option maxRecDepth 100000 in
theorem c7_putRow (l : Launch) (D : va_G) (dA : Nat → ClassId) (B : Nat) (Z : State → Prop) (hZ : Stab B Z) (h0 : Nat) (ad : Nat → Nat) (M : MS) (F : va_W) (a : Nat) (lb : List Nat) (n : Nat) (h1 : mI M 10 = nI n) (hm : (a, ial dA lb) ∈ F) (hby : byt lb) (h4 : lb.length < 100000) (h5 : n + lb.length ≤ 60000) :
    Ct (S := Unit) l D dA B Z yX7_putRow cX7_putRow 3 none 2 0 0 [.ref h0, .ref a] (mw dA h0 ad M ++ F) (fun _ => True) (fun _ => none) (fun _ => mw dA h0 ad (apM M 11 10 n lb) ++ F) := by
  refine Ct.mk2 (by decide) (Nat.le_of_ble_eq_true rfl) hZ ?_
  intro p e R s m args below meth c ls Q C hr hlocks hin hQ hl h
  have C0 := C
  obtain ⟨hx, hb, hml, hown, hts, -⟩ := C0
  have hl : lv_has ls 3 [(0, .ref h0), (1, .ref a)] := hl
  refine lv_iconst (v := nI 0) hx hb dX7_putRow_0 (by decide) ?_
  refine lv_istore_n (lv' := [(2, .int (nI 0)), (0, .ref h0), (1, .ref a)]) hx hb dX7_putRow_1 rfl hl (by decide) rfl (fun ls hl => ?_)
  have h : Wd D B s (mw dA h0 ad (apM M 11 10 n (sl (gD lb) 0 0)) ++ F) s.heap [] := by rw [sl_0, apM_nil h1]; exact h
  have loop : ∀ (nn : Nat) (i : Nat), (i ≤ lb.length) → lb.length - i < nn → ∀ (H : Heap) (locs : List Loc), Wd D B s (mw dA h0 ad (apM M 11 10 n (sl (gD lb) 0 i)) ++ F) H locs → ∀ (ls : Array Slot), lv_has ls 3 [(2, .int (nI i)), (0, .ref h0), (1, .ref a)] → W p l e R s m args below meth c H locs 0 0 Q (F0 m 2 ls []) := by
    intro nn
    induction nn with
    | zero => intro i  hi0 hme; exact absurd hme (Nat.not_lt_zero _)
    | succ nn ih =>
      intro i  hi0 hme H locs h ls hl
      refine lv_iload_n hx hb dX7_putRow_2 rfl (lv_at hl 0 rfl) ?_
      refine lv_aload_n hx hb dX7_putRow_3 rfl (lv_at hl 2 rfl) ?_
      refine n_alen C h (List.mem_append_right _ hm) dX7_putRow_4 ?_
      refine n_icmp_ge (tgt := 21) hx hb (by omega) (by omega) dX7_putRow_5 (by decide) (fun c5 => ?_) (fun c5 => ?_)
      · subst hQ
        exact ret_v C hr hlocks h () trivial rfl (by rw [show i = lb.length by omega, sl_gD]) (by omega) (by omega) dX7_putRow_21
      · refine lv_aload_n hx hb dX7_putRow_8 rfl (lv_at hl 1 rfl) ?_
        refine lv_aload_n hx hb dX7_putRow_9 rfl (lv_at hl 2 rfl) ?_
        refine lv_iload_n hx hb dX7_putRow_10 rfl (lv_at hl 0 rfl) ?_
        refine n_iald C h (v := (gD lb) i) (List.mem_append_right _ hm) (show i < lb.length by omega) (by omega) rfl dX7_putRow_11 ?_
        refine call_V (As := [.int (nI ((gD lb) i))]) (rest := []) (n := 1) C h (c7_put l D dA B Z hZ h0 ad (apM M 11 10 n (sl (gD lb) 0 i)) F _ (n + (sl (gD lb) 0 i).length) (gD lb i) rfl (by rw [sl_len]; omega) (and255 (byt_gD hby _))) (lw_V q2540 q2542 qs121 q138 q2543) (by decide +kernel) (ci := 5) rfl rfl mw_mem0 (by decide) (by decide) rfl hl rfl (Nat.le_of_ble_eq_true rfl) dX7_putRow_12 (by omega) (fun _ H locs _ h => ?_)
        rw [apM_app, show gD lb i = gD lb (0 + i) by rw [Nat.zero_add], ← sl_succ] at h
        refine lv_iinc (v := nI (i + 1)) (lv' := [(2, .int (nI (i + 1))), (0, .ref h0), (1, .ref a)]) hx hb dX7_putRow_15 hl (k := 0) rfl (nI_add i 1) (by decide) rfl (fun ls hl => ?_)
        refine lv_goto (tgt := 2) hx hb dX7_putRow_18 (by decide) ?_
        exact ih (i + 1) (by omega) (by omega) _ _ h _ (lv_sub hl [0, 1, 2] rfl)
  exact loop _ 0 (by omega) (Nat.lt_succ_self _) _ _ h _ (lv_sub hl [0, 1, 2] rfl)
set_option maxHeartbeats 400000 in
set_option maxRecDepth 100000 in
theorem c7_putLength (l : Launch) (D : va_G) (dA : Nat → ClassId) (B : Nat) (Z : State → Prop) (hZ : Stab B Z) (h0 : Nat) (ad : Nat → Nat) (M : MS) (F : va_W) (k n : Nat) (h1 : mI M 10 = nI n) (hk : k < 8384) (h5 : n + 2 ≤ 60000) :
    Ct (S := Unit) l D dA B Z yX7_putLength cX7_putLength 2 none 2 0 0 [.ref h0, .int (nI k)] (mw dA h0 ad M ++ F) (fun _ => True) (fun _ => none) (fun _ => mw dA h0 ad (apM M 11 10 n (lenB k)) ++ F) := by
  refine Ct.mk2 (by decide) (Nat.le_of_ble_eq_true rfl) hZ ?_
  intro p e R s m args below meth c ls Q C hr hlocks hin hQ hl h
  have C0 := C
  obtain ⟨hx, hb, hml, hown, hts, -⟩ := C0
  have hl : lv_has ls 2 [(0, .ref h0), (1, .int (nI k))] := hl
  have h : Wd D B s (mw dA h0 ad (apM M 11 10 n []) ++ F) s.heap [] := by rw [apM_nil h1]; exact h
  refine lv_iload_n hx hb dX7_putLength_0 rfl (lv_at hl 1 rfl) ?_
  refine lv_sipush (v := nI 192) hx hb dX7_putLength_1 (by decide) ?_
  refine n_icmp_ge (tgt := 15) hx hb (by omega) (by omega) dX7_putLength_4 (by decide) (fun c4 => ?_) (fun c4 => ?_)
  · refine lv_iload_n hx hb dX7_putLength_15 rfl (lv_at hl 1 rfl) ?_
    refine lv_sipush (v := nI 8384) hx hb dX7_putLength_16 (by decide) ?_
    refine n_icmp_ge (tgt := 55) hx hb (by omega) (by omega) dX7_putLength_19 (by decide) (fun c19 => by exfalso; omega) (fun c19 => ?_)
    refine lv_aload_n hx hb dX7_putLength_22 rfl (lv_at hl 0 rfl) ?_
    refine lv_iload_n hx hb dX7_putLength_23 rfl (lv_at hl 1 rfl) ?_
    refine lv_sipush (v := nI 192) hx hb dX7_putLength_24 (by decide) ?_
    refine lv_isub hx hb dX7_putLength_27 (n_top (y := nI (k - 192)) (pk_sub (by omega)) ?_)
    refine lv_sipush (v := nI 256) hx hb dX7_putLength_28 (by decide) ?_
    refine lv_idiv hx hb dX7_putLength_31 (by decide) (n_top (y := nI ((k - 192) / 256)) (pk_div (by omega) (by omega) (by omega)) ?_)
    refine lv_sipush (v := nI 192) hx hb dX7_putLength_32 (by decide) ?_
    refine lv_iadd hx hb dX7_putLength_35 (n_top (y := nI (((k - 192) / 256) + 192)) (nI_add ((k - 192) / 256) 192) ?_)
    refine call_V (As := [.int (nI (((k - 192) / 256) + 192))]) (rest := []) (n := 1) C h (c7_put l D dA B Z hZ h0 ad (apM M 11 10 n (([] : List Nat))) F _ (n + (([] : List Nat)).length) ((k - 192) / 256 + 192) rfl (by (try simp only [List.length_append, List.length_cons, List.length_nil]) <;> omega) (and255 (by omega))) (lw_V q2540 q2542 qs121 q138 q2543) (by decide +kernel) (ci := 5) rfl rfl mw_mem0 (by decide) (by decide) rfl hl rfl (Nat.le_of_ble_eq_true rfl) dX7_putLength_36 (by omega) (fun _ H locs _ h => ?_)
    rw [apM_app] at h
    have h : Wd D B s (mw dA h0 ad (apM M 11 10 n (([] : List Nat) ++ [(k - 192) / 256 + 192])) ++ F) H locs := h
    refine lv_aload_n hx hb dX7_putLength_39 rfl (lv_at hl 0 rfl) ?_
    refine lv_iload_n hx hb dX7_putLength_40 rfl (lv_at hl 1 rfl) ?_
    refine lv_sipush (v := nI 192) hx hb dX7_putLength_41 (by decide) ?_
    refine lv_isub hx hb dX7_putLength_44 (n_top (y := nI (k - 192)) (pk_sub (by omega)) ?_)
    refine lv_sipush (v := nI 256) hx hb dX7_putLength_45 (by decide) ?_
    refine lv_irem hx hb dX7_putLength_48 (by decide) (n_top (y := nI ((k - 192) % 256)) (pk_rem (by omega) (by omega) (by omega)) ?_)
    refine call_V (As := [.int (nI ((k - 192) % 256))]) (rest := []) (n := 1) C h (c7_put l D dA B Z hZ h0 ad (apM M 11 10 n (([] : List Nat) ++ [(k - 192) / 256 + 192])) F _ (n + (([] : List Nat) ++ [(k - 192) / 256 + 192]).length) ((k - 192) % 256) rfl (by (try simp only [List.length_append, List.length_cons, List.length_nil]) <;> omega) (and255 (by omega))) (lw_V q2540 q2542 qs121 q138 q2543) (by decide +kernel) (ci := 5) rfl rfl mw_mem0 (by decide) (by decide) rfl hl rfl (Nat.le_of_ble_eq_true rfl) dX7_putLength_49 (by omega) (fun _ H locs _ h => ?_)
    rw [apM_app] at h
    have h : Wd D B s (mw dA h0 ad (apM M 11 10 n (([] : List Nat) ++ [(k - 192) / 256 + 192] ++ [(k - 192) % 256])) ++ F) H locs := h
    refine lv_goto (tgt := 91) hx hb dX7_putLength_52 (by decide) ?_
    subst hQ
    exact ret_v C hr hlocks h () trivial rfl (by unfold lenB; first | (rw [if_pos (by omega)]; rfl) | (rw [if_neg (by omega)]; rfl)) (by omega) (by omega) dX7_putLength_91
  · refine lv_aload_n hx hb dX7_putLength_7 rfl (lv_at hl 0 rfl) ?_
    refine lv_iload_n hx hb dX7_putLength_8 rfl (lv_at hl 1 rfl) ?_
    refine call_V (As := [.int (nI k)]) (rest := []) (n := 1) C h (c7_put l D dA B Z hZ h0 ad (apM M 11 10 n (([] : List Nat))) F _ (n + (([] : List Nat)).length) (k) rfl (by (try simp only [List.length_append, List.length_cons, List.length_nil]) <;> omega) (and255 (by omega))) (lw_V q2540 q2542 qs121 q138 q2543) (by decide +kernel) (ci := 5) rfl rfl mw_mem0 (by decide) (by decide) rfl hl rfl (Nat.le_of_ble_eq_true rfl) dX7_putLength_9 (by omega) (fun _ H locs _ h => ?_)
    rw [apM_app] at h
    have h : Wd D B s (mw dA h0 ad (apM M 11 10 n (([] : List Nat) ++ [k])) ++ F) H locs := h
    refine lv_goto (tgt := 91) hx hb dX7_putLength_12 (by decide) ?_
    subst hQ
    exact ret_v C hr hlocks h () trivial rfl (by unfold lenB; first | (rw [if_pos (by omega)]; rfl) | (rw [if_neg (by omega)]; rfl)) (by omega) (by omega) dX7_putLength_91
set_option maxHeartbeats 400000 in
set_option maxRecDepth 100000 in
theorem c7_putPacket (l : Launch) (D : va_G) (dA : Nat → ClassId) (B : Nat) (Z : State → Prop) (hZ : Stab B Z) (h0 : Nat) (ad : Nat → Nat) (M : MS) (F : va_W) (k a : Nat) (lb : List Nat) (n : Nat) (h1 : mI M 10 = nI n) (hk : k < 64) (hm : (a, ial dA lb) ∈ F) (hby : byt lb) (h4 : lb.length < 8384) (h5 : n + 3 + lb.length ≤ 60000) :
    Ct (S := Unit) l D dA B Z yX7_putPacket cX7_putPacket 3 none 3 0 0 [.ref h0, .int (nI k), .ref a] (mw dA h0 ad M ++ F) (fun _ => True) (fun _ => none) (fun _ => mw dA h0 ad (apM M 11 10 n (pktB k lb)) ++ F) := by
  refine Ct.mk2 (by decide) (Nat.le_of_ble_eq_true rfl) hZ ?_
  intro p e R s m args below meth c ls Q C hr hlocks hin hQ hl h
  have C0 := C
  obtain ⟨hx, hb, hml, hown, hts, -⟩ := C0
  have hl : lv_has ls 3 [(0, .ref h0), (1, .int (nI k)), (2, .ref a)] := hl
  have h : Wd D B s (mw dA h0 ad (apM M 11 10 n []) ++ F) s.heap [] := by rw [apM_nil h1]; exact h
  refine lv_aload_n hx hb dX7_putPacket_0 rfl (lv_at hl 0 rfl) ?_
  refine lv_sipush (v := nI 192) hx hb dX7_putPacket_1 (by decide) ?_
  refine lv_iload_n hx hb dX7_putPacket_4 rfl (lv_at hl 1 rfl) ?_
  refine lv_iadd hx hb dX7_putPacket_5 (n_top (y := nI (192 + k)) (nI_add 192 k) ?_)
  refine call_V (As := [.int (nI (192 + k))]) (rest := []) (n := 1) C h (c7_put l D dA B Z hZ h0 ad (apM M 11 10 n (([] : List Nat))) F _ (n + (([] : List Nat)).length) (192 + k) rfl (by (try simp only [List.length_append, List.length_cons, List.length_nil]) <;> omega) (and255 (by omega))) (lw_V q2540 q2542 qs121 q138 q2543) (by decide +kernel) (ci := 5) rfl rfl mw_mem0 (by decide) (by decide) rfl hl rfl (Nat.le_of_ble_eq_true rfl) dX7_putPacket_6 (by omega) (fun _ H locs _ h => ?_)
  rw [apM_app] at h
  have h : Wd D B s (mw dA h0 ad (apM M 11 10 n (([] : List Nat) ++ [192 + k])) ++ F) H locs := h
  refine lv_aload_n hx hb dX7_putPacket_9 rfl (lv_at hl 0 rfl) ?_
  refine lv_aload_n hx hb dX7_putPacket_10 rfl (lv_at hl 2 rfl) ?_
  refine n_alen C h (List.mem_append_right _ hm) dX7_putPacket_11 ?_
  refine call_V (As := [.int (nI lb.length)]) (rest := []) (n := 1) C h (c7_putLength l D dA B Z hZ h0 ad (apM M 11 10 n (([] : List Nat) ++ [192 + k])) F lb.length (n + (([] : List Nat) ++ [192 + k]).length) rfl (by omega) (by simp only [List.length_append, List.length_cons, List.length_nil]; omega)) (lw_V q2555 q2557 qs124 q138 q2558) (by decide +kernel) (ci := 5) rfl rfl mw_mem0 (by decide) (by decide) rfl hl rfl (Nat.le_of_ble_eq_true rfl) dX7_putPacket_12 (by omega) (fun _ H locs _ h => ?_)
  rw [apM_app] at h
  have h : Wd D B s (mw dA h0 ad (apM M 11 10 n (([] : List Nat) ++ [192 + k] ++ lenB lb.length)) ++ F) H locs := h
  have hlb9 := lenB_len lb.length
  refine lv_aload_n hx hb dX7_putPacket_15 rfl (lv_at hl 0 rfl) ?_
  refine lv_aload_n hx hb dX7_putPacket_16 rfl (lv_at hl 2 rfl) ?_
  refine call_V (As := [.ref a]) (rest := []) (n := 1) C h (c7_putRow l D dA B Z hZ h0 ad (apM M 11 10 n (([] : List Nat) ++ [192 + k] ++ lenB lb.length)) F a lb (n + (([] : List Nat) ++ [192 + k] ++ lenB lb.length).length) rfl hm hby (by omega) (by simp only [List.length_append, List.length_cons, List.length_nil]; omega)) (lw_V q2559 q2561 qs125 q138 q2562) (by decide +kernel) (ci := 5) rfl rfl mw_mem0 (by decide) (by decide) rfl hl rfl (Nat.le_of_ble_eq_true rfl) dX7_putPacket_17 (by omega) (fun _ H locs _ h => ?_)
  rw [apM_app] at h
  have h : Wd D B s (mw dA h0 ad (apM M 11 10 n (([] : List Nat) ++ [192 + k] ++ lenB lb.length ++ lb)) ++ F) H locs := h
  subst hQ
  exact ret_v C hr hlocks h () trivial rfl rfl (by omega) (by omega) dX7_putPacket_20
set_option maxHeartbeats 400000 in
set_option maxRecDepth 100000 in
theorem c7_putText (l : Launch) (D : va_G) (dA : Nat → ClassId) (B : Nat) (Z : State → Prop) (hZ : Stab B Z) (h0 : Nat) (ad : Nat → Nat) (M : MS) (F : va_W) (sa sv : Nat) (lt : List Nat) (n : Nat) (hzs : ZS dA B Z) (h1 : mI M 10 = nI n) (hs : StrV dA B Z F sa sv lt) (hlb : byt lt) (hll : lt.length < 1000) (h5 : n + lt.length ≤ 60000) :
    Ct (S := Unit) l D dA B Z yX7_putText cX7_putText 3 none 5 0 0 [.ref h0, .ref sa] (mw dA h0 ad M ++ F) (fun _ => True) (fun _ => none) (fun _ => mw dA h0 ad (apM M 11 10 n lt) ++ F) := by
  refine Ct.mk2 (by decide) (Nat.le_of_ble_eq_true rfl) hZ ?_
  intro p e R s m args below meth c ls Q C hr hlocks hin hQ hl h
  have C0 := C
  obtain ⟨hx, hb, hml, hown, hts, -⟩ := C0
  have hl : lv_has ls 3 [(0, .ref h0), (1, .ref sa)] := hl
  refine lv_iconst (v := nI 0) hx hb dX7_putText_0 (by decide) ?_
  refine lv_istore_n (lv' := [(2, .int (nI 0)), (0, .ref h0), (1, .ref sa)]) hx hb dX7_putText_1 rfl hl (by decide) rfl (fun ls hl => ?_)
  have h : Wd D B s (mw dA h0 ad (apM M 11 10 n (sl (gD lt) 0 0)) ++ F) s.heap [] := by rw [sl_0, apM_nil h1]; exact h
  have loop : ∀ (nn : Nat) (i : Nat), (i ≤ lt.length) → lt.length - i < nn → ∀ (H : Heap) (locs : List Loc), Wd D B s (mw dA h0 ad (apM M 11 10 n (sl (gD lt) 0 i)) ++ F) H locs → ∀ (ls : Array Slot), lv_has ls 3 [(2, .int (nI i)), (0, .ref h0), (1, .ref sa)] → W p l e R s m args below meth c H locs 0 0 Q (F0 m 2 ls []) := by
    intro nn
    induction nn with
    | zero => intro i  hi0 hme; exact absurd hme (Nat.not_lt_zero _)
    | succ nn ih =>
      intro i  hi0 hme H locs h ls hl
      refine lv_iload_n hx hb dX7_putText_2 rfl (lv_at hl 0 rfl) ?_
      refine lv_aload_n hx hb dX7_putText_3 rfl (lv_at hl 2 rfl) ?_
      refine call_VR (As := []) (rest := [.int (nI i)]) (n := 0) C h (cJ_len l D dA B Z hZ _ sa sv lt (hs.up (fun x hx => List.mem_append_right _ hx)) hlb (by omega) hzs) (lw_V q2152 q785 q786 q156 q787) (by decide +kernel) (s_recv C h (hs.up (fun x hx => List.mem_append_right _ hx))) (by decide) (by decide) rfl hl rfl (Nat.le_of_ble_eq_true rfl) dX7_putText_4 (by omega) (fun _ H locs _ h => ?_)
      refine n_icmp_ge (tgt := 25) hx hb (by omega) (by omega) dX7_putText_7 (by decide) (fun c7 => ?_) (fun c7 => ?_)
      · subst hQ
        exact ret_v C hr hlocks h () trivial rfl (by rw [show i = lt.length by omega, sl_gD]) (by omega) (by omega) dX7_putText_25
      · refine lv_aload_n hx hb dX7_putText_10 rfl (lv_at hl 1 rfl) ?_
        refine lv_aload_n hx hb dX7_putText_11 rfl (lv_at hl 2 rfl) ?_
        refine lv_iload_n hx hb dX7_putText_12 rfl (lv_at hl 0 rfl) ?_
        refine call_VR (As := [.int (nI i)]) (rest := [.ref h0]) (n := 1) C h (cJ_charAt l D dA B Z hZ _ i sa sv lt (hs.up (fun x hx => List.mem_append_right _ hx)) hlb (by omega) hzs (by omega)) (lw_V q2153 q951 q952 q156 q953) (by decide +kernel) (s_recv C h (hs.up (fun x hx => List.mem_append_right _ hx))) (by decide) (by decide) rfl hl rfl (Nat.le_of_ble_eq_true rfl) dX7_putText_13 (by omega) (fun _ H locs _ h => ?_)
        refine call_V (As := [.int (nI (gD lt i))]) (rest := []) (n := 1) C h (c7_put l D dA B Z hZ h0 ad (apM M 11 10 n (sl (gD lt) 0 i)) F _ (n + (sl (gD lt) 0 i).length) (gD lt i) rfl (by rw [sl_len]; omega) (and255 (byt_gD hlb _))) (lw_V q2540 q2542 qs121 q138 q2543) (by decide +kernel) (ci := 5) rfl rfl mw_mem0 (by decide) (by decide) rfl hl rfl (Nat.le_of_ble_eq_true rfl) dX7_putText_16 (by omega) (fun _ H locs _ h => ?_)
        rw [apM_app, show gD lt i = gD lt (0 + i) by rw [Nat.zero_add], ← sl_succ] at h
        refine lv_iinc (v := nI (i + 1)) (lv' := [(2, .int (nI (i + 1))), (0, .ref h0), (1, .ref sa)]) hx hb dX7_putText_19 hl (k := 0) rfl (nI_add i 1) (by decide) rfl (fun ls hl => ?_)
        refine lv_goto (tgt := 2) hx hb dX7_putText_22 (by decide) ?_
        exact ih (i + 1) (by omega) (by omega) _ _ h _ (lv_sub hl [0, 1, 2] rfl)
  exact loop _ 0 (by omega) (Nat.lt_succ_self _) _ _ h _ (lv_sub hl [0, 1, 2] rfl)
set_option maxHeartbeats 400000 in
set_option maxRecDepth 100000 in
theorem c7_sayText (l : Launch) (D : va_G) (dA : Nat → ClassId) (B : Nat) (Z : State → Prop) (hZ : Stab B Z) (h0 : Nat) (ad : Nat → Nat) (M : MS) (F : va_W) (a n0 : Nat) (g : Nat → Nat) (lt : List Nat) (ln : Bool) (n : Nat) (h1 : mI M 20 = nI n) (hof : ∀ (G1 : Nat → Nat) (v : Int32), (a, iar dA n0 g) ∈ mw dA h0 ad (sI (sG M 21 G1) 20 v) ++ F) (hg : ∀ j, j < lt.length → g j = gD lt j) (h3 : lt.length ≤ n0) (h4 : n0 < 1000000) (h5 : n + 2 * lt.length ≤ 30000) (h6 : byt lt) :
    Ct (S := Unit) l D dA B Z yX7_sayText cX7_sayText 5 none 2 0 0 [.ref h0, .ref a, .int (nI lt.length), .int (bZ ln)] (mw dA h0 ad M ++ F) (fun _ => True) (fun _ => none) (fun _ => mw dA h0 ad (apM M 21 20 n (txS ln lt lt.length)) ++ F) := by
  refine Ct.mk2 (by decide) (Nat.le_of_ble_eq_true rfl) hZ ?_
  intro p e R s m args below meth c ls Q C hr hlocks hin hQ hl h
  have C0 := C
  obtain ⟨hx, hb, hml, hown, hts, -⟩ := C0
  have hl : lv_has ls 5 [(0, .ref h0), (1, .ref a), (2, .int (nI lt.length)), (3, .int (bZ ln))] := hl
  refine lv_iconst (v := nI 0) hx hb dX7_sayText_0 (by decide) ?_
  refine lv_istore (lv' := [(4, .int (nI 0)), (0, .ref h0), (1, .ref a), (2, .int (nI lt.length)), (3, .int (bZ ln))]) hx hb dX7_sayText_1 hl (by decide) rfl (fun ls hl => ?_)
  have h : Wd D B s (mw dA h0 ad (apM M 21 20 n (txS ln lt 0)) ++ F) s.heap [] := by rw [txS, apM_nil h1]; exact h
  have loop : ∀ (nn : Nat) (i : Nat), (i ≤ lt.length) → lt.length - i < nn → ∀ (H : Heap) (locs : List Loc), Wd D B s (mw dA h0 ad (apM M 21 20 n (txS ln lt i)) ++ F) H locs → ∀ (ls : Array Slot), lv_has ls 5 [(4, .int (nI i)), (0, .ref h0), (1, .ref a), (2, .int (nI lt.length)), (3, .int (bZ ln))] → W p l e R s m args below meth c H locs 0 0 Q (F0 m 3 ls []) := by
    intro nn
    induction nn with
    | zero => intro i  hi0 hme; exact absurd hme (Nat.not_lt_zero _)
    | succ nn ih =>
      intro i  hi0 hme H locs h ls hl
      refine lv_iload hx hb dX7_sayText_3 (lv_at hl 0 rfl) ?_
      refine lv_iload_n hx hb dX7_sayText_5 rfl (lv_at hl 3 rfl) ?_
      refine n_icmp_ge (tgt := 58) hx hb (by omega) (by omega) dX7_sayText_6 (by decide) (fun c6 => ?_) (fun c6 => ?_)
      · subst hQ
        exact ret_v C hr hlocks h () trivial rfl (by rw [show i = lt.length by omega]) (by omega) (by omega) dX7_sayText_58
      · have hbi := byt_gD h6 i
        have hbj := byt_gD h6 (i - 1)
        have htl := txS_len ln lt i
        have jc : ∀ (H : Heap) (locs : List Loc), Wd D B s (mw dA h0 ad (apM M 21 20 n (txS ln lt i ++ (if txC ln lt i = true then [13] else [] : List Nat))) ++ F) H locs → ∀ (ls : Array Slot), lv_has ls 5 [(4, .int (nI i)), (0, .ref h0), (1, .ref a), (2, .int (nI lt.length)), (3, .int (bZ ln))] → W p l e R s m args below meth c H locs 0 0 Q (F0 m 44 ls []) := by
          intro   H locs h ls hl
          refine lv_aload_n hx hb dX7_sayText_44 rfl (lv_at hl 1 rfl) ?_
          refine lv_aload_n hx hb dX7_sayText_45 rfl (lv_at hl 2 rfl) ?_
          refine lv_iload hx hb dX7_sayText_46 (lv_at hl 0 rfl) ?_
          refine n_iald C h (v := g i) (hof _ _) (show i < n0 by omega) (by omega) rfl dX7_sayText_48 ?_
          refine n_top (y := nI (gD lt i)) (congrArg nI (hg _ (by omega))) ?_
          refine call_V (As := [.int (nI (gD lt i))]) (rest := []) (n := 1) C h (c7_say l D dA B Z hZ h0 ad (apM M 21 20 n (txS ln lt i ++ (if txC ln lt i = true then [13] else [] : List Nat))) F _ (n + (txS ln lt i ++ (if txC ln lt i = true then [13] else [] : List Nat)).length) (gD lt i) rfl (by rw [List.length_append]; have : (if txC ln lt i = true then [13] else [] : List Nat).length ≤ 1 := (by split <;> decide); omega) (and255 (byt_gD h6 _))) (lw_V q2248 q2250 qs67 q138 q2251) (by decide +kernel) (ci := 5) rfl rfl mw_mem0 (by decide) (by decide) rfl hl rfl (Nat.le_of_ble_eq_true rfl) dX7_sayText_49 (by omega) (fun _ H locs _ h => ?_)
          rw [apM_app, show txS ln lt i ++ (if txC ln lt i = true then [13] else [] : List Nat) ++ [gD lt i] = txS ln lt (i + 1) by rw [txS, List.append_assoc]] at h
          refine lv_iinc (v := nI (i + 1)) (lv' := [(4, .int (nI (i + 1))), (0, .ref h0), (1, .ref a), (2, .int (nI lt.length)), (3, .int (bZ ln))]) hx hb dX7_sayText_52 hl (k := 0) rfl (nI_add i 1) (by decide) rfl (fun ls hl => ?_)
          refine lv_goto (tgt := 3) hx hb dX7_sayText_55 (by decide) ?_
          exact ih (i + 1) (by omega) (by omega) _ _ h _ (lv_sub hl [0, 1, 2, 3, 4] rfl)
        refine lv_iload_n hx hb dX7_sayText_9 rfl (lv_at hl 4 rfl) ?_
        refine z_if_eq (tgt := 44) hx hb dX7_sayText_10 (by decide) (fun c10 => ?_) (fun c10 => ?_)
        · have hcr : ¬ txC ln lt i = true := by
            unfold txC
            intro q9
            simp only [Bool.and_eq_true, Bool.or_eq_true, decide_eq_true_eq, Bool.not_eq_true', decide_eq_false_iff_not] at q9
            first | (rw [c10] at q9; exact absurd q9.1 (by decide)) | (exact absurd q9.2.1 (by omega)) | (exact q9.2.2.elim (by omega) (fun z => z c35))
          have h : Wd D B s (mw dA h0 ad (apM M 21 20 n (txS ln lt i ++ (if txC ln lt i = true then [13] else [] : List Nat))) ++ F) H locs := by rw [if_neg hcr, List.append_nil]; exact h
          exact jc   _ _ h _ (lv_sub hl [0, 1, 2, 3, 4] rfl)
        · refine lv_aload_n hx hb dX7_sayText_13 rfl (lv_at hl 2 rfl) ?_
          refine lv_iload hx hb dX7_sayText_14 (lv_at hl 0 rfl) ?_
          refine n_iald C h (v := g i) (hof _ _) (show i < n0 by omega) (by omega) rfl dX7_sayText_16 ?_
          refine n_top (y := nI (gD lt i)) (congrArg nI (hg _ (by omega))) ?_
          refine lv_bipush (v := nI 10) hx hb dX7_sayText_17 (by decide) ?_
          refine n_icmp_ne (tgt := 44) hx hb (by omega) (by omega) dX7_sayText_19 (by decide) (fun c19 => ?_) (fun c19 => ?_)
          · have hcr : ¬ txC ln lt i = true := by
              unfold txC
              intro q9
              simp only [Bool.and_eq_true, Bool.or_eq_true, decide_eq_true_eq, Bool.not_eq_true', decide_eq_false_iff_not] at q9
              first | (rw [c10] at q9; exact absurd q9.1 (by decide)) | (exact absurd q9.2.1 (by omega)) | (exact q9.2.2.elim (by omega) (fun z => z c35))
            have h : Wd D B s (mw dA h0 ad (apM M 21 20 n (txS ln lt i ++ (if txC ln lt i = true then [13] else [] : List Nat))) ++ F) H locs := by rw [if_neg hcr, List.append_nil]; exact h
            exact jc   _ _ h _ (lv_sub hl [0, 1, 2, 3, 4] rfl)
          · refine lv_iload hx hb dX7_sayText_22 (lv_at hl 0 rfl) ?_
            refine n_if_eq (tgt := 38) hx hb (by omega) dX7_sayText_24 (by decide) (fun c24 => ?_) (fun c24 => ?_)
            · refine lv_aload_n hx hb dX7_sayText_38 rfl (lv_at hl 1 rfl) ?_
              refine lv_bipush (v := nI 13) hx hb dX7_sayText_39 (by decide) ?_
              refine call_V (As := [.int (nI 13)]) (rest := []) (n := 1) C h (c7_say l D dA B Z hZ h0 ad (apM M 21 20 n (txS ln lt i)) F _ (n + (txS ln lt i).length) 13 rfl (by omega) (and255 (by decide))) (lw_V q2248 q2250 qs67 q138 q2251) (by decide +kernel) (ci := 5) rfl rfl mw_mem0 (by decide) (by decide) rfl hl rfl (Nat.le_of_ble_eq_true rfl) dX7_sayText_41 (by omega) (fun _ H locs _ h => ?_)
              rw [apM_app] at h
              have h : Wd D B s (mw dA h0 ad (apM M 21 20 n (txS ln lt i ++ [13])) ++ F) H locs := h
              have hcr : txC ln lt i = true := by
                unfold txC
                rw [c10, decide_eq_true c19]
                first | (rw [decide_eq_true c24]; rfl) | (rw [decide_eq_false c35, Bool.or_comm]; rfl)
              have h : Wd D B s (mw dA h0 ad (apM M 21 20 n (txS ln lt i ++ (if txC ln lt i = true then [13] else [] : List Nat))) ++ F) H locs := by rw [if_pos hcr]; exact h
              exact jc   _ _ h _ (lv_sub hl [0, 1, 2, 3, 4] rfl)
            · refine lv_aload_n hx hb dX7_sayText_27 rfl (lv_at hl 2 rfl) ?_
              refine lv_iload hx hb dX7_sayText_28 (lv_at hl 0 rfl) ?_
              refine lv_iconst (v := nI 1) hx hb dX7_sayText_30 (by decide) ?_
              refine lv_isub hx hb dX7_sayText_31 (n_top (y := nI (i - 1)) (pk_sub (by omega)) ?_)
              refine n_iald C h (v := g (i - 1)) (hof _ _) (show i - 1 < n0 by omega) (by omega) rfl dX7_sayText_32 ?_
              refine n_top (y := nI (gD lt (i - 1))) (congrArg nI (hg _ (by omega))) ?_
              refine lv_bipush (v := nI 13) hx hb dX7_sayText_33 (by decide) ?_
              refine n_icmp_eq (tgt := 44) hx hb (by omega) (by omega) dX7_sayText_35 (by decide) (fun c35 => ?_) (fun c35 => ?_)
              · have hcr : ¬ txC ln lt i = true := by
                  unfold txC
                  intro q9
                  simp only [Bool.and_eq_true, Bool.or_eq_true, decide_eq_true_eq, Bool.not_eq_true', decide_eq_false_iff_not] at q9
                  first | (rw [c10] at q9; exact absurd q9.1 (by decide)) | (exact absurd q9.2.1 (by omega)) | (exact q9.2.2.elim (by omega) (fun z => z c35))
                have h : Wd D B s (mw dA h0 ad (apM M 21 20 n (txS ln lt i ++ (if txC ln lt i = true then [13] else [] : List Nat))) ++ F) H locs := by rw [if_neg hcr, List.append_nil]; exact h
                exact jc   _ _ h _ (lv_sub hl [0, 1, 2, 3, 4] rfl)
              · refine lv_aload_n hx hb dX7_sayText_38 rfl (lv_at hl 1 rfl) ?_
                refine lv_bipush (v := nI 13) hx hb dX7_sayText_39 (by decide) ?_
                refine call_V (As := [.int (nI 13)]) (rest := []) (n := 1) C h (c7_say l D dA B Z hZ h0 ad (apM M 21 20 n (txS ln lt i)) F _ (n + (txS ln lt i).length) 13 rfl (by omega) (and255 (by decide))) (lw_V q2248 q2250 qs67 q138 q2251) (by decide +kernel) (ci := 5) rfl rfl mw_mem0 (by decide) (by decide) rfl hl rfl (Nat.le_of_ble_eq_true rfl) dX7_sayText_41 (by omega) (fun _ H locs _ h => ?_)
                rw [apM_app] at h
                have h : Wd D B s (mw dA h0 ad (apM M 21 20 n (txS ln lt i ++ [13])) ++ F) H locs := h
                have hcr : txC ln lt i = true := by
                  unfold txC
                  rw [c10, decide_eq_true c19]
                  first | (rw [decide_eq_true c24]; rfl) | (rw [decide_eq_false c35, Bool.or_comm]; rfl)
                have h : Wd D B s (mw dA h0 ad (apM M 21 20 n (txS ln lt i ++ (if txC ln lt i = true then [13] else [] : List Nat))) ++ F) H locs := by rw [if_pos hcr]; exact h
                exact jc   _ _ h _ (lv_sub hl [0, 1, 2, 3, 4] rfl)
  exact loop _ 0 (by omega) (Nat.lt_succ_self _) _ _ h _ (lv_sub hl [0, 1, 2, 3, 4] rfl)
