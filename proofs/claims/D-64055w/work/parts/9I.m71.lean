set_option maxRecDepth 100000

theorem sb_bit : ∀ x, x < 256 → ∀ k, k < 8 → shr (sb_b x) (nI k) &&& nI 1 = nI (x / 2 ^ k % 2) := by decide +kernel
theorem top_nz {ln : List Nat} (h0 : 0 < ln.length) (hz : gD ln 0 ≠ 0) : 1 ≤ dgF ln ((ln.length + 1) / 2 - 1) := by
  unfold dgF bY
  rcases (show ln.length % 2 = 0 ∨ ln.length % 2 = 1 by omega) with q | q
  · rw [if_pos (show 2 * ((ln.length + 1) / 2 - 1) + 1 < ln.length by omega), show ln.length - 1 - (2 * ((ln.length + 1) / 2 - 1) + 1) = 0 by omega]
    omega
  · rw [if_pos (show 2 * ((ln.length + 1) / 2 - 1) < ln.length by omega), show ln.length - 1 - 2 * ((ln.length + 1) / 2 - 1) = 0 by omega]
    omega
theorem sh_next {t sh : Nat} (h1 : 1 ≤ t) (h : t * 2 ^ sh < 32768) : sh + 1 < 16 ∧ t * 2 ^ (sh + 1) < 65536 := by
  refine ⟨?_, ?_⟩
  · rcases Nat.lt_or_ge sh 15 with q | q
    · omega
    · have a : 2 ^ 15 ≤ 2 ^ sh := Nat.pow_le_pow_right (by decide) q
      have b : 1 * 2 ^ sh ≤ t * 2 ^ sh := Nat.mul_le_mul_right _ h1
      omega
  · rw [Nat.pow_succ, ← Nat.mul_assoc]; omega
def bkF (n : Nat) (G : Nat → Nat) (i j : Nat) : Nat := if n ≤ j + i then G j else 0
theorem bkF_0 {n j : Nat} {G : Nat → Nat} (h : j < n) : bkF n G 0 j = 0 := by unfold bkF; rw [if_neg (by omega)]
theorem bkF_s {n i : Nat} {G : Nat → Nat} (h : i < n) : upN (bkF n G i) (n - 1 - i) (G (n - 1 - i)) = bkF n G (i + 1) := by
  funext j
  rw [upN_if]
  unfold bkF
  by_cases q : j = n - 1 - i
  · rw [if_pos q, if_pos (by omega), q]
  · rw [if_neg q]
    by_cases q2 : n ≤ j + i
    · rw [if_pos q2, if_pos (by omega)]
    · rw [if_neg q2, if_neg (by omega)]
theorem bkF_end {n v j : Nat} (h : j < n) : bkF n (fun j => v / 2 ^ (8 * (n - 1 - j)) % 256) n j = gD (be n v) j := by
  unfold bkF gD be
  rw [if_pos (by omega), sl_getD h, Nat.zero_add]
theorem pw_sq {b e m x : Nat} (h : x = b ^ e % m) : x * x % m = b ^ (2 * e) % m := by rw [h, ← Nat.mul_mod, ← Nat.pow_add, Nat.two_mul]
theorem pw_one {b e m x : Nat} (h : x = b ^ e % m) : x * b % m = b ^ (e + 1) % m := by rw [h, Nat.mod_mul_mod, Nat.pow_succ]

set_option maxHeartbeats 400000 in
set_option maxRecDepth 100000 in
theorem c6_raise (l : Launch) (D : va_G) (dA : Nat → ClassId) (B : Nat) (Z : State → Prop) (hZ : Stab B Z) (F : va_W) (po m9 b9 rs pr bb eb nb : Nat) (gm gb gr gp : Nat → Nat) (i1 i2 : Int32) (lb le ln : List Nat) (hbb : (bb, bal dA lb) ∈ F) (heb : (eb, bal dA le) ∈ F) (hnb : (nb, bal dA ln) ∈ F) (hlb : byt lb) (hle : byt le) (hln : byt ln) (hn0 : 0 < ln.length) (hn1 : ln.length ≤ 128) (hb1 : lb.length ≤ ln.length) (he1 : le.length ≤ 5000) (hnz : gD ln 0 ≠ 0) (hlt : num lb < num ln) (hm1 : 1 < num ln) :
    Ct (S := (Nat → Nat) × (Nat → Nat) × (Nat → Nat) × (Nat → Nat) × Int32 × Int32 × Nat) l D dA B Z yX6_raise cX6_raise 9 (some ((.array .byte))) 4 1 ln.length [.ref po, .ref bb, .ref eb, .ref nb] ([(po, .inr (4, [.ref m9, .ref b9, .ref rs, .ref pr, .int i1, .int i2])), (m9, iar dA 66 gm), (b9, iar dA 66 gb), (rs, iar dA 66 gr), (pr, iar dA 134 gp)] ++ F) (fun _ => True) (fun u => some (.ref u.2.2.2.2.2.2)) (fun u => [(po, .inr (4, [.ref m9, .ref b9, .ref rs, .ref pr, .int u.2.2.2.2.1, .int u.2.2.2.2.2.1])), (m9, iar dA 66 u.1), (b9, iar dA 66 u.2.1), (rs, iar dA 66 u.2.2.1), (pr, iar dA 134 u.2.2.2.1)] ++ (F ++ [(u.2.2.2.2.2.2, bal dA (be ln.length (num lb ^ num le % num ln)))])) := by
  refine Ct.mk2 (by decide) (Nat.le_of_ble_eq_true rfl) hZ ?_
  intro p e R s m args below meth c ls Q C hr hlocks hin hQ hl h
  have C0 := C
  obtain ⟨hx, hb, hml, hown, hts, -⟩ := C0
  have hl : lv_has ls 9 [(0, .ref po), (1, .ref bb), (2, .ref eb), (3, .ref nb)] := hl
  have htop := top_nz hn0 hnz
  have htl := dgF_lt hln ((ln.length + 1) / 2 - 1)
  refine lv_aload_n hx hb dX6_raise_0 rfl (lv_at hl 3 rfl) ?_
  refine lv_aload_n hx hb dX6_raise_1 rfl (lv_at hl 0 rfl) ?_
  refine o_get C h (RC := RX6) (T := TX6) (N := 6) (List.mem_of_getElem? (i := 0) rfl) rfl in_X6 0 (by decide) q289 rfl (v := .ref m9) rfl dX6_raise_2 ?_
  have h : Wd D B s ([(m9, iar dA 66 gm)] ++ ([(po, .inr (4, [.ref m9, .ref b9, .ref rs, .ref pr, .int i1, .int i2])), (b9, iar dA 66 gb), (rs, iar dA 66 gr), (pr, iar dA 134 gp)] ++ F)) s.heap [] := h.permL (perm_add (fun g f p0 p1 p2 => by (try simp only [p0, p1, p2]) <;> omega))
  refine call_S (As := [.ref nb, .ref m9]) (rest := []) (n := 2) C h (c6_read l D dA B Z hZ ([(po, .inr (4, [.ref m9, .ref b9, .ref rs, .ref pr, .int i1, .int i2])), (b9, iar dA 66 gb), (rs, iar dA 66 gr), (pr, iar dA 134 gp)] ++ F) m9 66 nb gm ln (List.mem_append_right _ hnb) hln (by decide) (by omega)) (lw_S q1594 q1595 q137 q1596) (by decide +kernel) (by decide) (by decide) rfl hl rfl (Nat.le_of_ble_eq_true rfl) dX6_raise_5 (by omega) (fun _ H locs _ h => ?_)
  have h : Wd D B s ([(m9, iar dA 66 (dgF ln)), (po, .inr (4, [.ref m9, .ref b9, .ref rs, .ref pr, .int i1, .int i2])), (b9, iar dA 66 gb), (rs, iar dA 66 gr), (pr, iar dA 134 gp)] ++ F) H locs := h.permL (perm_add (fun g f p0 p1 p2 => by (try simp only [p0, p1, p2]) <;> omega))
  have h : Wd D B s ([(po, .inr (4, [.ref m9, .ref b9, .ref rs, .ref pr, .int i1, .int i2])), (m9, iar dA 66 (dgF ln)), (b9, iar dA 66 gb), (rs, iar dA 66 gr), (pr, iar dA 134 gp)] ++ F) H locs := h.permL (perm_add (fun g f p0 p1 p2 => by (try simp only [p0, p1, p2]) <;> omega))
  refine lv_aload_n hx hb dX6_raise_8 rfl (lv_at hl 0 rfl) ?_
  refine lv_aload_n hx hb dX6_raise_9 rfl (lv_at hl 3 rfl) ?_
  refine n_balen C h (List.mem_append_right _ hnb) dX6_raise_10 ?_
  refine lv_iconst (v := nI 1) hx hb dX6_raise_11 (by decide) ?_
  refine lv_iadd hx hb dX6_raise_12 (n_top (y := nI (ln.length + 1)) (nI_add ln.length 1) ?_)
  refine lv_iconst (v := nI 2) hx hb dX6_raise_13 (by decide) ?_
  refine lv_idiv hx hb dX6_raise_14 (by decide) (n_top (y := nI ((ln.length + 1) / 2)) (pk_div (by omega) (by omega) (by omega)) ?_)
  refine o_put C h 0 (RC := RX6) (T := TX6) (N := 6) (ws' := [(po, .inr (4, [.ref m9, .ref b9, .ref rs, .ref pr, .int (nI ((ln.length + 1) / 2)), .int i2])), (m9, iar dA 66 (dgF ln)), (b9, iar dA 66 gb), (rs, iar dA 66 gr), (pr, iar dA 134 gp)] ++ F) rfl rfl in_X6 tyX6_ok nmX6 4 (by decide) q293 rfl rfl (v := .int (nI ((ln.length + 1) / 2))) rfl rfl (Nat.le_of_ble_eq_true rfl) rfl dX6_raise_15 (fun H locs h => ?_)
  refine lv_aload_n hx hb dX6_raise_18 rfl (lv_at hl 0 rfl) ?_
  refine lv_iconst (v := nI 0) hx hb dX6_raise_19 (by decide) ?_
  refine o_put C h 0 (RC := RX6) (T := TX6) (N := 6) (ws' := [(po, .inr (4, [.ref m9, .ref b9, .ref rs, .ref pr, .int (nI ((ln.length + 1) / 2)), .int (nI 0)])), (m9, iar dA 66 (dgF ln)), (b9, iar dA 66 gb), (rs, iar dA 66 gr), (pr, iar dA 134 gp)] ++ F) rfl rfl in_X6 tyX6_ok nmX6 5 (by decide) q294 rfl rfl (v := .int (nI 0)) rfl rfl (Nat.le_of_ble_eq_true rfl) rfl dX6_raise_20 (fun H locs h => ?_)
  have loops : ∀ (nns : Nat) (sh : Nat), (sh < 16) → (dgF ln ((ln.length + 1) / 2 - 1) * 2 ^ sh < 65536) → 16 - sh < nns → ∀ (H : Heap) (locs : List Loc), Wd D B s ([(po, .inr (4, [.ref m9, .ref b9, .ref rs, .ref pr, .int (nI ((ln.length + 1) / 2)), .int (nI sh)])), (m9, iar dA 66 (dgF ln)), (b9, iar dA 66 gb), (rs, iar dA 66 gr), (pr, iar dA 134 gp)] ++ F) H locs → ∀ (ls : Array Slot), lv_has ls 9 [(0, .ref po), (1, .ref bb), (2, .ref eb), (3, .ref nb)] → W p l e R s m args below meth c H locs (0 + 0) (0 + 0) Q (F0 m 23 ls []) := by
    intro nns
    induction nns with
    | zero => intro sh  hs hsv hme; exact absurd hme (Nat.not_lt_zero _)
    | succ nns ihs =>
      intro sh  hs hsv hme H locs h ls hl
      refine lv_aload_n hx hb dX6_raise_23 rfl (lv_at hl 0 rfl) ?_
      refine o_get C h (RC := RX6) (T := TX6) (N := 6) (List.mem_of_getElem? (i := 0) rfl) rfl in_X6 0 (by decide) q289 rfl (v := .ref m9) rfl dX6_raise_24 ?_
      refine lv_aload_n hx hb dX6_raise_27 rfl (lv_at hl 0 rfl) ?_
      refine o_get C h (RC := RX6) (T := TX6) (N := 6) (List.mem_of_getElem? (i := 0) rfl) rfl in_X6 4 (by decide) q293 rfl (v := .int (nI ((ln.length + 1) / 2))) rfl dX6_raise_28 ?_
      refine lv_iconst (v := nI 1) hx hb dX6_raise_31 (by decide) ?_
      refine lv_isub hx hb dX6_raise_32 (n_top (y := nI (((ln.length + 1) / 2) - 1)) (pk_sub (by omega)) ?_)
      refine n_iald C h (v := (dgF ln) (((ln.length + 1) / 2) - 1)) (List.mem_of_getElem? (i := 1) rfl) (show ((ln.length + 1) / 2) - 1 < 66 by omega) (by decide) rfl dX6_raise_33 ?_
      refine lv_aload_n hx hb dX6_raise_34 rfl (lv_at hl 0 rfl) ?_
      refine o_get C h (RC := RX6) (T := TX6) (N := 6) (List.mem_of_getElem? (i := 0) rfl) rfl in_X6 5 (by decide) q294 rfl (v := .int (nI sh)) rfl dX6_raise_35 ?_
      refine n_ishl hx hb dX6_raise_38 ?_
      refine n_top (y := nI (dgF ln ((ln.length + 1) / 2 - 1) * 2 ^ sh)) (shl_N (by omega) (by omega)) ?_
      refine lv_ldc hx hb hown (hts _ q1600) dX6_raise_39 ?_
      refine n_top (y := nI 32768) (by decide) ?_
      refine n_icmp_ge (tgt := 57) hx hb (by omega) (by omega) dX6_raise_41 (by decide) (fun c41 => ?_) (fun c41 => ?_)
      · refine lv_aload_n hx hb dX6_raise_57 rfl (lv_at hl 0 rfl) ?_
        refine lv_aload_n hx hb dX6_raise_58 rfl (lv_at hl 0 rfl) ?_
        refine o_get C h (RC := RX6) (T := TX6) (N := 6) (List.mem_of_getElem? (i := 0) rfl) rfl in_X6 0 (by decide) q289 rfl (v := .ref m9) rfl dX6_raise_59 ?_
        refine lv_aload_n hx hb dX6_raise_62 rfl (lv_at hl 0 rfl) ?_
        refine o_get C h (RC := RX6) (T := TX6) (N := 6) (List.mem_of_getElem? (i := 0) rfl) rfl in_X6 4 (by decide) q293 rfl (v := .int (nI ((ln.length + 1) / 2))) rfl dX6_raise_63 ?_
        have h : Wd D B s ([(m9, iar dA 66 (dgF ln))] ++ ([(po, .inr (4, [.ref m9, .ref b9, .ref rs, .ref pr, .int (nI ((ln.length + 1) / 2)), .int (nI sh)])), (b9, iar dA 66 gb), (rs, iar dA 66 gr), (pr, iar dA 134 gp)] ++ F)) H locs := h.permL (perm_add (fun g f p0 p1 p2 => by (try simp only [p0, p1, p2]) <;> omega))
        refine call_VR (As := [.ref m9, .int (nI ((ln.length + 1) / 2))]) (rest := []) (n := 2) C h (c6_up l D dA B Z hZ ([(po, .inr (4, [.ref m9, .ref b9, .ref rs, .ref pr, .int (nI ((ln.length + 1) / 2)), .int (nI sh)])), (b9, iar dA 66 gb), (rs, iar dA 66 gr), (pr, iar dA 134 gp)] ++ F) po m9 66 ((ln.length + 1) / 2) m9 b9 rs pr ((ln.length + 1) / 2) sh (dgF ln) (List.mem_of_getElem? (i := 0) rfl) (by decide) (by omega) hs (fun j _ => dgF_lt hln j)) (lw_V q1601 q1603 qs23 q137 q1604) (by decide +kernel) (o_recv C h (RC := RX6) (T := TX6) (N := 6) (List.mem_of_getElem? (i := 1) rfl) rfl) (by decide) (by decide) rfl hl rfl (Nat.le_of_ble_eq_true rfl) dX6_raise_66 (by omega) (fun _ H locs _ h => ?_)
        have h : Wd D B s ([(m9, iar dA 66 (upN (mixF ((ln.length + 1) / 2) (upD sh (dgF ln)) (dgF ln)) ((ln.length + 1) / 2) (cU sh (dgF ln) ((ln.length + 1) / 2)))), (po, .inr (4, [.ref m9, .ref b9, .ref rs, .ref pr, .int (nI ((ln.length + 1) / 2)), .int (nI sh)])), (b9, iar dA 66 gb), (rs, iar dA 66 gr), (pr, iar dA 134 gp)] ++ F) H locs := h.permL (perm_add (fun g f p0 p1 p2 => by (try simp only [p0, p1, p2]) <;> omega))
        obtain ⟨gM, hgM⟩ : ∃ z, z = upN (mixF ((ln.length + 1) / 2) (upD sh (dgF ln)) (dgF ln)) ((ln.length + 1) / 2) (cU sh (dgF ln) ((ln.length + 1) / 2)) := ⟨_, rfl⟩
        rw [← hgM] at h
        have h : Wd D B s ([(po, .inr (4, [.ref m9, .ref b9, .ref rs, .ref pr, .int (nI ((ln.length + 1) / 2)), .int (nI sh)])), (m9, iar dA 66 gM), (b9, iar dA 66 gb), (rs, iar dA 66 gr), (pr, iar dA 134 gp)] ++ F) H locs := h.permL (perm_add (fun g f p0 p1 p2 => by (try simp only [p0, p1, p2]) <;> omega))
        obtain ⟨n9, hn9⟩ : ∃ z, (ln.length + 1) / 2 = z + 1 := ⟨(ln.length + 1) / 2 - 1, by omega⟩
        have htn : dgF ln ((ln.length + 1) / 2 - 1) = dgF ln n9 := by rw [hn9]; rfl
        have hum := up_mod (sh := sh) (n := n9) (g := dgF ln) (fun j _ => dgF_lt hln j) hs (by rw [← htn]; exact htop) (by rw [← htn]; exact hsv)
        have hNv : dv 65536 (dgF ln) ((ln.length + 1) / 2) = num ln := dgF_num (by omega)
        have hMv : dv 65536 gM ((ln.length + 1) / 2) = num ln * 2 ^ sh := by
          rw [hgM, dv_congr (n := (ln.length + 1) / 2) (g := upD sh (dgF ln)) (fun j hj => by rw [upN_n (by omega)]; exact mixF_lt _ _ hj), ← hNv, hn9]
          exact hum.2.2
        have hMt : gM ((ln.length + 1) / 2 - 1) ≠ 0 := by
          rw [hgM, upN_n (by omega), mixF_lt _ _ (show (ln.length + 1) / 2 - 1 < (ln.length + 1) / 2 by omega), hn9]
          exact hum.2.1
        have hMg : ∀ j, j < 66 → gM j < 65536 := by
          intro j hj
          rw [hgM, upN_if]
          split
          · rw [hn9, hum.1]; decide
          · unfold mixF
            split
            · exact Nat.mod_lt _ (by decide)
            · exact dgF_lt hln j
        refine lv_aload_n hx hb dX6_raise_69 rfl (lv_at hl 1 rfl) ?_
        refine lv_aload_n hx hb dX6_raise_70 rfl (lv_at hl 0 rfl) ?_
        refine o_get C h (RC := RX6) (T := TX6) (N := 6) (List.mem_of_getElem? (i := 0) rfl) rfl in_X6 1 (by decide) q290 rfl (v := .ref b9) rfl dX6_raise_71 ?_
        have h : Wd D B s ([(b9, iar dA 66 gb)] ++ ([(po, .inr (4, [.ref m9, .ref b9, .ref rs, .ref pr, .int (nI ((ln.length + 1) / 2)), .int (nI sh)])), (m9, iar dA 66 gM), (rs, iar dA 66 gr), (pr, iar dA 134 gp)] ++ F)) H locs := h.permL (perm_add (fun g f p0 p1 p2 => by (try simp only [p0, p1, p2]) <;> omega))
        refine call_S (As := [.ref bb, .ref b9]) (rest := []) (n := 2) C h (c6_read l D dA B Z hZ ([(po, .inr (4, [.ref m9, .ref b9, .ref rs, .ref pr, .int (nI ((ln.length + 1) / 2)), .int (nI sh)])), (m9, iar dA 66 gM), (rs, iar dA 66 gr), (pr, iar dA 134 gp)] ++ F) b9 66 bb gb lb (List.mem_append_right _ hbb) hlb (by decide) (by omega)) (lw_S q1594 q1595 q137 q1596) (by decide +kernel) (by decide) (by decide) rfl hl rfl (Nat.le_of_ble_eq_true rfl) dX6_raise_74 (by omega) (fun _ H locs _ h => ?_)
        have h : Wd D B s ([(b9, iar dA 66 (dgF lb)), (po, .inr (4, [.ref m9, .ref b9, .ref rs, .ref pr, .int (nI ((ln.length + 1) / 2)), .int (nI sh)])), (m9, iar dA 66 gM), (rs, iar dA 66 gr), (pr, iar dA 134 gp)] ++ F) H locs := h.permL (perm_add (fun g f p0 p1 p2 => by (try simp only [p0, p1, p2]) <;> omega))
        have h : Wd D B s ([(po, .inr (4, [.ref m9, .ref b9, .ref rs, .ref pr, .int (nI ((ln.length + 1) / 2)), .int (nI sh)])), (m9, iar dA 66 gM), (b9, iar dA 66 (dgF lb)), (rs, iar dA 66 gr), (pr, iar dA 134 gp)] ++ F) H locs := h.permL (perm_add (fun g f p0 p1 p2 => by (try simp only [p0, p1, p2]) <;> omega))
        have hBv : dv 65536 (dgF lb) ((ln.length + 1) / 2) = num lb := dgF_num (by omega)
        refine lv_aload_n hx hb dX6_raise_77 rfl (lv_at hl 0 rfl) ?_
        refine o_get C h (RC := RX6) (T := TX6) (N := 6) (List.mem_of_getElem? (i := 0) rfl) rfl in_X6 2 (by decide) q291 rfl (v := .ref rs) rfl dX6_raise_78 ?_
        refine lv_iconst (v := nI 0) hx hb dX6_raise_81 (by decide) ?_
        have h : Wd D B s ([(rs, iar dA 66 gr)] ++ ([(po, .inr (4, [.ref m9, .ref b9, .ref rs, .ref pr, .int (nI ((ln.length + 1) / 2)), .int (nI sh)])), (m9, iar dA 66 gM), (b9, iar dA 66 (dgF lb)), (pr, iar dA 134 gp)] ++ F)) H locs := h.permL (perm_add (fun g f p0 p1 p2 => by (try simp only [p0, p1, p2]) <;> omega))
        refine call_S (As := [.ref rs, .int (nI 0)]) (rest := []) (n := 2) C h (cJ_fillI l D dA B Z hZ ([(po, .inr (4, [.ref m9, .ref b9, .ref rs, .ref pr, .int (nI ((ln.length + 1) / 2)), .int (nI sh)])), (m9, iar dA 66 gM), (b9, iar dA 66 (dgF lb)), (pr, iar dA 134 gp)] ++ F) rs 66 0 gr (by decide)) (lw_S q1597 q1598 q143 q1599) (by decide +kernel) (by decide) (by decide) rfl hl rfl (Nat.le_of_ble_eq_true rfl) dX6_raise_82 (by omega) (fun _ H locs _ h => ?_)
        have h : Wd D B s ([(rs, iar dA 66 (fun _ => 0)), (po, .inr (4, [.ref m9, .ref b9, .ref rs, .ref pr, .int (nI ((ln.length + 1) / 2)), .int (nI sh)])), (m9, iar dA 66 gM), (b9, iar dA 66 (dgF lb)), (pr, iar dA 134 gp)] ++ F) H locs := h.permL (perm_add (fun g f p0 p1 p2 => by (try simp only [p0, p1, p2]) <;> omega))
        have h : Wd D B s ([(po, .inr (4, [.ref m9, .ref b9, .ref rs, .ref pr, .int (nI ((ln.length + 1) / 2)), .int (nI sh)])), (m9, iar dA 66 gM), (b9, iar dA 66 (dgF lb)), (rs, iar dA 66 (fun _ => 0)), (pr, iar dA 134 gp)] ++ F) H locs := h.permL (perm_add (fun g f p0 p1 p2 => by (try simp only [p0, p1, p2]) <;> omega))
        refine lv_aload_n hx hb dX6_raise_85 rfl (lv_at hl 0 rfl) ?_
        refine o_get C h (RC := RX6) (T := TX6) (N := 6) (List.mem_of_getElem? (i := 0) rfl) rfl in_X6 2 (by decide) q291 rfl (v := .ref rs) rfl dX6_raise_86 ?_
        refine lv_iconst (v := nI 0) hx hb dX6_raise_89 (by decide) ?_
        refine lv_iconst (v := nI 1) hx hb dX6_raise_90 (by decide) ?_
        refine x_iast C h 3 (v := 1) (ws' := [(po, .inr (4, [.ref m9, .ref b9, .ref rs, .ref pr, .int (nI ((ln.length + 1) / 2)), .int (nI sh)])), (m9, iar dA 66 gM), (b9, iar dA 66 (dgF lb)), (rs, iar dA 66 (upN (fun _ => 0) 0 1)), (pr, iar dA 134 gp)] ++ F) rfl (by omega) (by decide) rfl dX6_raise_91 (fun H locs h => ?_)
        have hR1v : dv 65536 (upN (fun _ => 0) 0 1) ((ln.length + 1) / 2) = 1 := by
          have z := dv_up (b := 65536) (g := fun _ => 0) (j := 0) (v := 1) (n := (ln.length + 1) / 2) (by omega)
          rw [dv_zero, Nat.pow_zero] at z
          omega
        have hR1g : ∀ j, j < 66 → upN (fun _ => 0) 0 1 j < 65536 := by
          intro j hj
          rw [upN_if]
          split <;> decide
        refine lv_aload_n hx hb dX6_raise_92 rfl (lv_at hl 2 rfl) ?_
        refine lv_astore (lv' := [(4, .ref eb), (0, .ref po), (1, .ref bb), (2, .ref eb), (3, .ref nb)]) hx hb dX6_raise_93 hl (by decide) rfl (fun ls hl => ?_)
        refine lv_aload hx hb dX6_raise_95 (lv_at hl 0 rfl) ?_
        refine n_balen C h (List.mem_append_right _ heb) dX6_raise_97 ?_
        refine lv_istore (lv' := [(5, .int (nI le.length)), (4, .ref eb), (0, .ref po), (1, .ref bb), (2, .ref eb), (3, .ref nb)]) hx hb dX6_raise_98 hl (by decide) rfl (fun ls hl => ?_)
        refine lv_iconst (v := nI 0) hx hb dX6_raise_100 (by decide) ?_
        refine lv_istore (lv' := [(6, .int (nI 0)), (5, .int (nI le.length)), (4, .ref eb), (0, .ref po), (1, .ref bb), (2, .ref eb), (3, .ref nb)]) hx hb dX6_raise_101 hl (by decide) rfl (fun ls hl => ?_)
        have loope : ∀ (nne : Nat) (i : Nat) (R2 P2 : Nat → Nat), (i ≤ le.length) → (∀ j, j < 66 → R2 j < 65536) → (dv 65536 R2 ((ln.length + 1) / 2) = num lb ^ (num (le.take i)) % num ln) → le.length - i < nne → ∀ (H : Heap) (locs : List Loc), Wd D B s ([(po, .inr (4, [.ref m9, .ref b9, .ref rs, .ref pr, .int (nI ((ln.length + 1) / 2)), .int (nI sh)])), (m9, iar dA 66 gM), (b9, iar dA 66 (dgF lb)), (rs, iar dA 66 R2), (pr, iar dA 134 P2)] ++ F) H locs → ∀ (ls : Array Slot), lv_has ls 9 [(6, .int (nI i)), (4, .ref eb), (5, .int (nI le.length)), (0, .ref po), (3, .ref nb)] → W p l e R s m args below meth c H locs (0 + 0 + 0 + 0 + 0) (0 + 0 + 0 + 0 + 0) Q (F0 m 103 ls []) := by
          intro nne
          induction nne with
          | zero => intro i  R2 P2  hi hx1 hx2 hme; exact absurd hme (Nat.not_lt_zero _)
          | succ nne ihe =>
            intro i  R2 P2  hi hx1 hx2 hme H locs h ls hl
            refine lv_iload hx hb dX6_raise_103 (lv_at hl 0 rfl) ?_
            refine lv_iload hx hb dX6_raise_105 (lv_at hl 2 rfl) ?_
            refine n_icmp_ge (tgt := 165) hx hb (by omega) (by omega) dX6_raise_107 (by decide) (fun c107 => ?_) (fun c107 => ?_)
            · refine lv_aload_n hx hb dX6_raise_165 rfl (lv_at hl 4 rfl) ?_
              refine n_balen C h (List.mem_append_right _ hnb) dX6_raise_166 ?_
              refine n_newb C h (n := ln.length) q198 (by omega) (by omega) (by omega) dX6_raise_167 (fun o1 H h => ?_)
              have h : Wd D B s ([(o1, bar dA ln.length (fun _ => 0)), (po, .inr (4, [.ref m9, .ref b9, .ref rs, .ref pr, .int (nI ((ln.length + 1) / 2)), .int (nI sh)])), (m9, iar dA 66 gM), (b9, iar dA 66 (dgF lb)), (rs, iar dA 66 R2), (pr, iar dA 134 P2)] ++ F) H locs := h.permL (perm_add (fun g f p0 p1 p2 => by (try simp only [p0, p1, p2]) <;> omega))
              refine lv_astore (lv' := [(4, .ref o1), (6, .int (nI i)), (5, .int (nI le.length)), (0, .ref po), (3, .ref nb)]) hx hb dX6_raise_169 hl (by decide) rfl (fun ls hl => ?_)
              refine lv_iconst (v := nI 0) hx hb dX6_raise_171 (by decide) ?_
              refine lv_istore (lv' := [(5, .int (nI 0)), (4, .ref o1), (6, .int (nI i)), (0, .ref po), (3, .ref nb)]) hx hb dX6_raise_172 hl (by decide) rfl (fun ls hl => ?_)
              have hie : i = le.length := by omega
              rw [hie, List.take_length] at hx2
              have h : Wd D B s ([(o1, bar dA ln.length (bkF ln.length (fun j => num lb ^ num le % num ln / 2 ^ (8 * (ln.length - 1 - j)) % 256) 0)), (po, .inr (4, [.ref m9, .ref b9, .ref rs, .ref pr, .int (nI ((ln.length + 1) / 2)), .int (nI sh)])), (m9, iar dA 66 gM), (b9, iar dA 66 (dgF lb)), (rs, iar dA 66 R2), (pr, iar dA 134 P2)] ++ F) H locs := Wd.same h 0 rfl (bar_same (fun j hj => (bkF_0 hj).symm)) rfl
              have h : Wd D B s ([(o1, bar dA ln.length (bkF ln.length (fun j => num lb ^ num le % num ln / 2 ^ (8 * (ln.length - 1 - j)) % 256) 0)), (po, .inr (4, [.ref m9, .ref b9, .ref rs, .ref pr, .int (nI ((ln.length + 1) / 2)), .int (nI sh)])), (m9, iar dA 66 gM), (b9, iar dA 66 (dgF lb)), (rs, iar dA 66 R2), (pr, iar dA 134 P2)] ++ F) H locs := h.permL (perm_add (fun g f p0 p1 p2 => by (try simp only [p0, p1, p2]) <;> omega))
              have loopm : ∀ (nnm : Nat) (k9 : Nat), (k9 ≤ ln.length) → ln.length - k9 < nnm → ∀ (H : Heap) (locs : List Loc), Wd D B s ([(o1, bar dA ln.length (bkF ln.length (fun j => num lb ^ num le % num ln / 2 ^ (8 * (ln.length - 1 - j)) % 256) k9)), (po, .inr (4, [.ref m9, .ref b9, .ref rs, .ref pr, .int (nI ((ln.length + 1) / 2)), .int (nI sh)])), (m9, iar dA 66 gM), (b9, iar dA 66 (dgF lb)), (rs, iar dA 66 R2), (pr, iar dA 134 P2)] ++ F) H locs → ∀ (ls : Array Slot), lv_has ls 9 [(5, .int (nI k9)), (4, .ref o1), (0, .ref po), (3, .ref nb)] → W p l e R s m args below meth c H locs (0 + 0 + 0 + 0 + 0 + 1) (0 + 0 + 0 + 0 + 0 + ln.length) Q (F0 m 174 ls []) := by
                intro nnm
                induction nnm with
                | zero => intro k9  hk9 hme; exact absurd hme (Nat.not_lt_zero _)
                | succ nnm ihm =>
                  intro k9  hk9 hme H locs h ls hl
                  refine lv_iload hx hb dX6_raise_174 (lv_at hl 0 rfl) ?_
                  refine lv_aload hx hb dX6_raise_176 (lv_at hl 1 rfl) ?_
                  refine n_balen C h (List.mem_of_getElem? (i := 0) rfl) dX6_raise_178 ?_
                  refine n_icmp_ge (tgt := 217) hx hb (by omega) (by omega) dX6_raise_179 (by decide) (fun c179 => ?_) (fun c179 => ?_)
                  · refine lv_aload hx hb dX6_raise_217 (lv_at hl 1 rfl) ?_
                    subst hQ
                    have hke : k9 = ln.length := by omega
                    rw [hke] at h
                    have h : Wd D B s ([(o1, bar dA ln.length (gD (be ln.length (num lb ^ num le % num ln)))), (po, .inr (4, [.ref m9, .ref b9, .ref rs, .ref pr, .int (nI ((ln.length + 1) / 2)), .int (nI sh)])), (m9, iar dA 66 gM), (b9, iar dA 66 (dgF lb)), (rs, iar dA 66 R2), (pr, iar dA 134 P2)] ++ F) H locs := Wd.same h 0 rfl (bar_same (fun j hj => bkF_end hj)) rfl
                    have h : Wd D B s ([(po, .inr (4, [.ref m9, .ref b9, .ref rs, .ref pr, .int (nI ((ln.length + 1) / 2)), .int (nI sh)])), (m9, iar dA 66 gM), (b9, iar dA 66 (dgF lb)), (rs, iar dA 66 R2), (pr, iar dA 134 P2)] ++ (F ++ [(o1, bal dA (be ln.length (num lb ^ num le % num ln)))])) H locs := by
                      have e9 : bal dA (be ln.length (num lb ^ num le % num ln)) = bar dA ln.length (gD (be ln.length (num lb ^ num le % num ln))) := by
                        show bar dA (be ln.length (num lb ^ num le % num ln)).length (gD (be ln.length (num lb ^ num le % num ln))) = _
                        rw [be_len]
                      rw [e9]
                      exact h.permL (perm_add (fun g f p0 p1 p2 => by (try simp only [p0, p1, p2]) <;> omega))
                    exact ret_a C hr (Or.inr ⟨_, rfl⟩) hlocks h (gM, dgF lb, R2, P2, nI ((ln.length + 1) / 2), nI sh, o1) trivial (Or.inr ⟨_, rfl⟩) rfl rfl (by omega) (by omega) dX6_raise_219
                  · refine lv_aload hx hb dX6_raise_182 (lv_at hl 1 rfl) ?_
                    refine lv_aload hx hb dX6_raise_184 (lv_at hl 1 rfl) ?_
                    refine n_balen C h (List.mem_of_getElem? (i := 0) rfl) dX6_raise_186 ?_
                    refine lv_iconst (v := nI 1) hx hb dX6_raise_187 (by decide) ?_
                    refine lv_isub hx hb dX6_raise_188 (n_top (y := nI (ln.length - 1)) (pk_sub (by omega)) ?_)
                    refine lv_iload hx hb dX6_raise_189 (lv_at hl 0 rfl) ?_
                    refine lv_isub hx hb dX6_raise_191 (n_top (y := nI ((ln.length - 1) - k9)) (pk_sub (by omega)) ?_)
                    refine lv_aload_n hx hb dX6_raise_192 rfl (lv_at hl 2 rfl) ?_
                    refine o_get C h (RC := RX6) (T := TX6) (N := 6) (List.mem_of_getElem? (i := 1) rfl) rfl in_X6 2 (by decide) q291 rfl (v := .ref rs) rfl dX6_raise_193 ?_
                    refine lv_iload hx hb dX6_raise_196 (lv_at hl 0 rfl) ?_
                    refine lv_iconst (v := nI 2) hx hb dX6_raise_198 (by decide) ?_
                    refine lv_idiv hx hb dX6_raise_199 (by decide) (n_top (y := nI (k9 / 2)) (pk_div (by omega) (by omega) (by omega)) ?_)
                    refine n_iald C h (v := R2 (k9 / 2)) (List.mem_of_getElem? (i := 4) rfl) (show k9 / 2 < 66 by omega) (by decide) rfl dX6_raise_200 ?_
                    refine lv_bipush (v := nI 8) hx hb dX6_raise_201 (by decide) ?_
                    refine lv_iload hx hb dX6_raise_203 (lv_at hl 0 rfl) ?_
                    refine lv_iconst (v := nI 2) hx hb dX6_raise_205 (by decide) ?_
                    refine lv_irem hx hb dX6_raise_206 (by decide) (n_top (y := nI (k9 % 2)) (pk_rem (by omega) (by omega) (by omega)) ?_)
                    refine lv_imul hx hb dX6_raise_207 (n_top (y := nI (8 * (k9 % 2))) (pk_mul 8 (k9 % 2)) ?_)
                    refine n_ishr hx hb dX6_raise_208 ?_
                    refine n_top (y := nI (R2 (k9 / 2) / 2 ^ (8 * (k9 % 2)))) (shr_N (by omega) (by have := hx1 (k9 / 2) (by omega); omega)) ?_
                    have hb210 : sb_b ((fun j => num lb ^ num le % num ln / 2 ^ (8 * (ln.length - 1 - j)) % 256) (ln.length - 1 - k9)) = sb_b (R2 (k9 / 2) / 2 ^ (8 * (k9 % 2))) := by
                      show sb_b (num lb ^ num le % num ln / 2 ^ (8 * (ln.length - 1 - (ln.length - 1 - k9))) % 256) = _
                      rw [show ln.length - 1 - (ln.length - 1 - k9) = k9 by omega, ← hx2, ← dv_byte16 (fun j hj => hx1 j (by omega)) (by omega)]
                      exact (sb_mod _).symm
                    refine lv_i2b (v := sb_b (R2 (k9 / 2) / 2 ^ (8 * (k9 % 2)))) hx hb dX6_raise_209 rfl ?_
                    refine n_top (y := sb_b ((fun j => num lb ^ num le % num ln / 2 ^ (8 * (ln.length - 1 - j)) % 256) (ln.length - 1 - k9))) hb210.symm ?_
                    refine x_bast C h 0 (v := (fun j => num lb ^ num le % num ln / 2 ^ (8 * (ln.length - 1 - j)) % 256) (ln.length - 1 - k9)) (ws' := [(o1, bar dA ln.length (upN (bkF ln.length (fun j => num lb ^ num le % num ln / 2 ^ (8 * (ln.length - 1 - j)) % 256) k9) ((ln.length - 1) - k9) ((fun j => num lb ^ num le % num ln / 2 ^ (8 * (ln.length - 1 - j)) % 256) (ln.length - 1 - k9)))), (po, .inr (4, [.ref m9, .ref b9, .ref rs, .ref pr, .int (nI ((ln.length + 1) / 2)), .int (nI sh)])), (m9, iar dA 66 gM), (b9, iar dA 66 (dgF lb)), (rs, iar dA 66 R2), (pr, iar dA 134 P2)] ++ F) rfl (by omega) (by omega) (sb_idem _) rfl dX6_raise_210 (fun H locs h => ?_)
                    have h : Wd D B s ([(o1, bar dA ln.length (bkF ln.length (fun j => num lb ^ num le % num ln / 2 ^ (8 * (ln.length - 1 - j)) % 256) (k9 + 1))), (po, .inr (4, [.ref m9, .ref b9, .ref rs, .ref pr, .int (nI ((ln.length + 1) / 2)), .int (nI sh)])), (m9, iar dA 66 gM), (b9, iar dA 66 (dgF lb)), (rs, iar dA 66 R2), (pr, iar dA 134 P2)] ++ F) H locs := by rw [← bkF_s (by omega)]; exact h
                    refine lv_iinc (v := nI (k9 + 1)) (lv' := [(5, .int (nI (k9 + 1))), (4, .ref o1), (0, .ref po), (3, .ref nb)]) hx hb dX6_raise_211 hl (k := 0) rfl (nI_add k9 1) (by decide) rfl (fun ls hl => ?_)
                    refine lv_goto (tgt := 174) hx hb dX6_raise_214 (by decide) ?_
                    exact ihm (k9 + 1) (by omega) (by omega) _ _ h _ (lv_sub hl [0, 1, 2, 3] rfl)
              exact loopm _ 0 (by omega) (Nat.lt_succ_self _) _ _ h _ (lv_sub hl [0, 1, 3, 4] rfl)
            · have hei := byt_gD hle i
              refine lv_aload hx hb dX6_raise_110 (lv_at hl 1 rfl) ?_
              refine lv_iload hx hb dX6_raise_112 (lv_at hl 0 rfl) ?_
              refine n_bald C h (v := (gD le) i) (List.mem_append_right _ heb) (show i < le.length by omega) (by omega) rfl dX6_raise_114 ?_
              refine lv_istore (lv' := [(7, .int (sb_b ((gD le) i))), (6, .int (nI i)), (4, .ref eb), (5, .int (nI le.length)), (0, .ref po), (3, .ref nb)]) hx hb dX6_raise_115 hl (by decide) rfl (fun ls hl => ?_)
              refine lv_bipush (v := nI 7) hx hb dX6_raise_117 (by decide) ?_
              refine lv_istore (lv' := [(8, .int (nI 7)), (7, .int (sb_b ((gD le) i))), (6, .int (nI i)), (4, .ref eb), (5, .int (nI le.length)), (0, .ref po), (3, .ref nb)]) hx hb dX6_raise_119 hl (by decide) rfl (fun ls hl => ?_)
              have hl : lv_has ls 9 [(8, .int (nI (8 - 0) - nI 1)), (7, .int (sb_b ((gD le) i))), (6, .int (nI i)), (4, .ref eb), (5, .int (nI le.length)), (0, .ref po), (3, .ref nb)] := hl
              have loopt : ∀ (nnt : Nat) (t : Nat) (R3 P3 : Nat → Nat), (t ≤ 8) → (∀ j, j < 66 → R3 j < 65536) → (dv 65536 R3 ((ln.length + 1) / 2) = num lb ^ (exB le i t) % num ln) → 8 - t < nnt → ∀ (H : Heap) (locs : List Loc), Wd D B s ([(po, .inr (4, [.ref m9, .ref b9, .ref rs, .ref pr, .int (nI ((ln.length + 1) / 2)), .int (nI sh)])), (m9, iar dA 66 gM), (b9, iar dA 66 (dgF lb)), (rs, iar dA 66 R3), (pr, iar dA 134 P3)] ++ F) H locs → ∀ (ls : Array Slot), lv_has ls 9 [(8, .int (nI (8 - t) - nI 1)), (7, .int (sb_b (gD le i))), (6, .int (nI i)), (4, .ref eb), (5, .int (nI le.length)), (0, .ref po), (3, .ref nb)] → W p l e R s m args below meth c H locs (0 + 0 + 0 + 0 + 0) (0 + 0 + 0 + 0 + 0) Q (F0 m 121 ls []) := by
                intro nnt
                induction nnt with
                | zero => intro t  R3 P3  ht8 hy1 hy2 hme; exact absurd hme (Nat.not_lt_zero _)
                | succ nnt iht =>
                  intro t  R3 P3  ht8 hy1 hy2 hme H locs h ls hl
                  refine lv_iload hx hb dX6_raise_121 (lv_at hl 0 rfl) ?_
                  refine lv_if_lt (tgt := 159) hx hb dX6_raise_123 (by decide) (fun c123 => ?_) (fun c123 => ?_)
                  · have ht9 : t = 8 := by
                      rcases Nat.lt_or_ge t 8 with z | z
                      · exact absurd c123 (by rw [pk_sub (show 1 ≤ 8 - t by omega)]; exact nI_pos (by omega))
                      · omega
                    refine lv_iinc (v := nI (i + 1)) (lv' := [(6, .int (nI (i + 1))), (8, .int (nI (8 - t) - nI 1)), (7, .int (sb_b (gD le i))), (4, .ref eb), (5, .int (nI le.length)), (0, .ref po), (3, .ref nb)]) hx hb dX6_raise_159 hl (k := 2) rfl (nI_add i 1) (by decide) rfl (fun ls hl => ?_)
                    refine lv_goto (tgt := 103) hx hb dX6_raise_162 (by decide) ?_
                    exact ihe (i + 1) _ _ (by omega) hy1 (by rw [hy2, show t = 8 by omega, exB_8 (by omega)]) (by omega) _ _ h _ (lv_sub hl [0, 3, 4, 5, 6] rfl)
                  · have htl8 : t < 8 := by
                      rcases Nat.lt_or_ge t 8 with z | z
                      · exact z
                      · exact absurd (by rw [show 8 - t = 0 by omega]; decide) c123
                    rw [pk_sub (show 1 ≤ 8 - t by omega), show 8 - t - 1 = 7 - t by omega] at hl
                    have hl : lv_has ls 9 [(8, .int (nI (7 - t))), (7, .int (sb_b (gD le i))), (6, .int (nI i)), (4, .ref eb), (5, .int (nI le.length)), (0, .ref po), (3, .ref nb)] := hl
                    refine lv_aload_n hx hb dX6_raise_126 rfl (lv_at hl 5 rfl) ?_
                    refine lv_aload_n hx hb dX6_raise_127 rfl (lv_at hl 5 rfl) ?_
                    refine o_get C h (RC := RX6) (T := TX6) (N := 6) (List.mem_of_getElem? (i := 0) rfl) rfl in_X6 2 (by decide) q291 rfl (v := .ref rs) rfl dX6_raise_128 ?_
                    have h : Wd D B s ([(pr, iar dA 134 P3), (rs, iar dA 66 R3)] ++ ([(po, .inr (4, [.ref m9, .ref b9, .ref rs, .ref pr, .int (nI ((ln.length + 1) / 2)), .int (nI sh)])), (m9, iar dA 66 gM), (b9, iar dA 66 (dgF lb))] ++ F)) H locs := h.permL (perm_add (fun g f p0 p1 p2 => by (try simp only [p0, p1, p2]) <;> omega))
                    refine call_VR (As := [.ref rs]) (rest := []) (n := 1) C h (c6_times l D dA B Z hZ ([(po, .inr (4, [.ref m9, .ref b9, .ref rs, .ref pr, .int (nI ((ln.length + 1) / 2)), .int (nI sh)])), (m9, iar dA 66 gM), (b9, iar dA 66 (dgF lb))] ++ F) po pr rs rs m9 b9 ((ln.length + 1) / 2) sh (num ln) P3 R3 R3 gM (List.mem_of_getElem? (i := 0) rfl) (List.mem_of_getElem? (i := 1) rfl) (fun P => List.mem_of_getElem? (i := 1) rfl) (by omega) (by omega) hs hy1 hy1 hMg hMt hMv (by rw [hy2]; exact Nat.mod_lt _ (by omega)) (by rw [hy2]; exact Nat.mod_lt _ (by omega))) (lw_V q1606 q1608 qs24 q137 q1609) (by decide +kernel) (o_recv C h (RC := RX6) (T := TX6) (N := 6) (List.mem_of_getElem? (i := 2) rfl) rfl) (by decide) (by decide) rfl hl rfl (Nat.le_of_ble_eq_true rfl) dX6_raise_131 (by omega) (fun u4 H locs hu4 h => ?_)
                    have h : Wd D B s ([(pr, iar dA 134 u4.1), (rs, iar dA 66 u4.2), (po, .inr (4, [.ref m9, .ref b9, .ref rs, .ref pr, .int (nI ((ln.length + 1) / 2)), .int (nI sh)])), (m9, iar dA 66 gM), (b9, iar dA 66 (dgF lb))] ++ F) H locs := h.permL (perm_add (fun g f p0 p1 p2 => by (try simp only [p0, p1, p2]) <;> omega))
                    have h : Wd D B s ([(po, .inr (4, [.ref m9, .ref b9, .ref rs, .ref pr, .int (nI ((ln.length + 1) / 2)), .int (nI sh)])), (m9, iar dA 66 gM), (b9, iar dA 66 (dgF lb)), (rs, iar dA 66 u4.2), (pr, iar dA 134 u4.1)] ++ F) H locs := h.permL (perm_add (fun g f p0 p1 p2 => by (try simp only [p0, p1, p2]) <;> omega))
                    have hq4 : dv 65536 u4.2 ((ln.length + 1) / 2) = num lb ^ (2 * exB le i t) % num ln := hu4.2.trans (pw_sq hy2)
                    have jb : ∀ (R9 P9 : Nat → Nat), (∀ j, j < 66 → R9 j < 65536) → (dv 65536 R9 ((ln.length + 1) / 2) = num lb ^ (exB le i (t + 1)) % num ln) → ∀ (H : Heap) (locs : List Loc), Wd D B s ([(po, .inr (4, [.ref m9, .ref b9, .ref rs, .ref pr, .int (nI ((ln.length + 1) / 2)), .int (nI sh)])), (m9, iar dA 66 gM), (b9, iar dA 66 (dgF lb)), (rs, iar dA 66 R9), (pr, iar dA 134 P9)] ++ F) H locs → ∀ (ls : Array Slot), lv_has ls 9 [(8, .int (nI (7 - t))), (7, .int (sb_b (gD le i))), (6, .int (nI i)), (4, .ref eb), (5, .int (nI le.length)), (0, .ref po), (3, .ref nb)] → W p l e R s m args below meth c H locs (0 + 0 + 0 + 0 + 0 + 0) (0 + 0 + 0 + 0 + 0 + 0) Q (F0 m 153 ls []) := by
                      intro R9 P9  hj1 hj2 H locs h ls hl
                      refine lv_iinc (v := nI (8 - (t + 1)) - nI 1) (lv' := [(8, .int (nI (8 - (t + 1)) - nI 1)), (7, .int (sb_b (gD le i))), (6, .int (nI i)), (4, .ref eb), (5, .int (nI le.length)), (0, .ref po), (3, .ref nb)]) hx hb dX6_raise_153 hl (k := 0) rfl (by rw [show 8 - (t + 1) = 7 - t by omega, Int32.sub_eq_add_neg]; rfl) (by decide) rfl (fun ls hl => ?_)
                      refine lv_goto (tgt := 121) hx hb dX6_raise_156 (by decide) ?_
                      exact iht (t + 1) _ _ (by omega) hj1 hj2 (by omega) _ _ h _ (lv_sub hl [0, 1, 2, 3, 4, 5, 6] rfl)
                    refine lv_iload hx hb dX6_raise_134 (lv_at hl 1 rfl) ?_
                    refine lv_iload hx hb dX6_raise_136 (lv_at hl 0 rfl) ?_
                    refine n_ishr hx hb dX6_raise_138 ?_
                    refine n_top (y := shr (sb_b (gD le i)) (nI (7 - t))) rfl ?_
                    refine lv_iconst (v := nI 1) hx hb dX6_raise_139 (by decide) ?_
                    refine lv_iand hx hb dX6_raise_140 ?_
                    refine n_top (y := nI (gD le i / 2 ^ (7 - t) % 2)) (sb_bit _ hei _ (by omega)) ?_
                    refine lv_iconst (v := nI 1) hx hb dX6_raise_141 (by decide) ?_
                    refine n_icmp_ne (tgt := 153) hx hb (by omega) (by omega) dX6_raise_142 (by decide) (fun c142 => ?_) (fun c142 => ?_)
                    · exact jb _ _ hu4.1 (by rw [hq4, exB_s htl8, show gD le i / 2 ^ (7 - t) % 2 = 0 by omega]; rfl) _ _ h _ (lv_sub hl [0, 1, 2, 3, 4, 5, 6] rfl)
                    · refine lv_aload_n hx hb dX6_raise_145 rfl (lv_at hl 5 rfl) ?_
                      refine lv_aload_n hx hb dX6_raise_146 rfl (lv_at hl 5 rfl) ?_
                      refine o_get C h (RC := RX6) (T := TX6) (N := 6) (List.mem_of_getElem? (i := 0) rfl) rfl in_X6 1 (by decide) q290 rfl (v := .ref b9) rfl dX6_raise_147 ?_
                      have h : Wd D B s ([(pr, iar dA 134 u4.1), (rs, iar dA 66 u4.2)] ++ ([(po, .inr (4, [.ref m9, .ref b9, .ref rs, .ref pr, .int (nI ((ln.length + 1) / 2)), .int (nI sh)])), (m9, iar dA 66 gM), (b9, iar dA 66 (dgF lb))] ++ F)) H locs := h.permL (perm_add (fun g f p0 p1 p2 => by (try simp only [p0, p1, p2]) <;> omega))
                      refine call_VR (As := [.ref b9]) (rest := []) (n := 1) C h (c6_times l D dA B Z hZ ([(po, .inr (4, [.ref m9, .ref b9, .ref rs, .ref pr, .int (nI ((ln.length + 1) / 2)), .int (nI sh)])), (m9, iar dA 66 gM), (b9, iar dA 66 (dgF lb))] ++ F) po pr rs b9 m9 b9 ((ln.length + 1) / 2) sh (num ln) u4.1 u4.2 (dgF lb) gM (List.mem_of_getElem? (i := 0) rfl) (List.mem_of_getElem? (i := 1) rfl) (fun P => List.mem_of_getElem? (i := 4) rfl) (by omega) (by omega) hs hu4.1 (fun j _ => dgF_lt hlb j) hMg hMt hMv (by rw [hq4]; exact Nat.mod_lt _ (by omega)) (by rw [hBv]; exact hlt)) (lw_V q1606 q1608 qs24 q137 q1609) (by decide +kernel) (o_recv C h (RC := RX6) (T := TX6) (N := 6) (List.mem_of_getElem? (i := 2) rfl) rfl) (by decide) (by decide) rfl hl rfl (Nat.le_of_ble_eq_true rfl) dX6_raise_150 (by omega) (fun u5 H locs hu5 h => ?_)
                      have h : Wd D B s ([(pr, iar dA 134 u5.1), (rs, iar dA 66 u5.2), (po, .inr (4, [.ref m9, .ref b9, .ref rs, .ref pr, .int (nI ((ln.length + 1) / 2)), .int (nI sh)])), (m9, iar dA 66 gM), (b9, iar dA 66 (dgF lb))] ++ F) H locs := h.permL (perm_add (fun g f p0 p1 p2 => by (try simp only [p0, p1, p2]) <;> omega))
                      have h : Wd D B s ([(po, .inr (4, [.ref m9, .ref b9, .ref rs, .ref pr, .int (nI ((ln.length + 1) / 2)), .int (nI sh)])), (m9, iar dA 66 gM), (b9, iar dA 66 (dgF lb)), (rs, iar dA 66 u5.2), (pr, iar dA 134 u5.1)] ++ F) H locs := h.permL (perm_add (fun g f p0 p1 p2 => by (try simp only [p0, p1, p2]) <;> omega))
                      have hq5 : dv 65536 u5.2 ((ln.length + 1) / 2) = num lb ^ (2 * exB le i t + 1) % num ln := by
                        have z := hu5.2
                        rw [hBv] at z
                        exact z.trans (pw_one hq4)
                      exact jb _ _ hu5.1 (by rw [hq5, exB_s htl8, c142]) _ _ h _ (lv_sub hl [0, 1, 2, 3, 4, 5, 6] rfl)
              exact loopt _ 0 _ _ (by omega) hx1 (by rw [exB_0 _ _ hei]; exact hx2) (Nat.lt_succ_self _) _ _ h _ (lv_sub hl [0, 1, 2, 3, 4, 5, 6] rfl)
        exact loope _ 0 _ _ (by omega) hR1g (by rw [hR1v, List.take_zero]; exact (Nat.mod_eq_of_lt hm1).symm) (Nat.lt_succ_self _) _ _ h _ (lv_sub hl [0, 2, 1, 3, 6] rfl)
      · have c41 : dgF ln ((ln.length + 1) / 2 - 1) * 2 ^ sh < 32768 := by omega
        refine lv_aload_n hx hb dX6_raise_44 rfl (lv_at hl 0 rfl) ?_
        refine lv_dup hx hb dX6_raise_45 rfl ?_
        refine o_get C h (RC := RX6) (T := TX6) (N := 6) (List.mem_of_getElem? (i := 0) rfl) rfl in_X6 5 (by decide) q294 rfl (v := .int (nI sh)) rfl dX6_raise_46 ?_
        refine lv_iconst (v := nI 1) hx hb dX6_raise_49 (by decide) ?_
        refine lv_iadd hx hb dX6_raise_50 (n_top (y := nI (sh + 1)) (nI_add sh 1) ?_)
        refine o_put C h 0 (RC := RX6) (T := TX6) (N := 6) (ws' := [(po, .inr (4, [.ref m9, .ref b9, .ref rs, .ref pr, .int (nI ((ln.length + 1) / 2)), .int (nI (sh + 1))])), (m9, iar dA 66 (dgF ln)), (b9, iar dA 66 gb), (rs, iar dA 66 gr), (pr, iar dA 134 gp)] ++ F) rfl rfl in_X6 tyX6_ok nmX6 5 (by decide) q294 rfl rfl (v := .int (nI (sh + 1))) rfl rfl (Nat.le_of_ble_eq_true rfl) rfl dX6_raise_51 (fun H locs h => ?_)
        refine lv_goto (tgt := 23) hx hb dX6_raise_54 (by decide) ?_
        exact ihs (sh + 1) ((sh_next htop c41).1) ((sh_next htop c41).2) (by omega) _ _ h _ (lv_sub hl [0, 1, 2, 3] rfl)
  exact loops _ 0 (by decide) (by rw [Nat.pow_zero, Nat.mul_one]; exact htl) (Nat.lt_succ_self _) _ _ h _ (lv_sub hl [0, 1, 2, 3] rfl)
