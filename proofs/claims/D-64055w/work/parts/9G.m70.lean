set_option maxRecDepth 100000

theorem TmR.start {gr gb P : Nat → Nat} {dg sh Nv : Nat} (hO : TmO gr gb P dg dg) (hs : sh < 16) (h1 : dv 65536 gr dg < Nv) (h2 : dv 65536 gb dg < Nv) (h3 : dv 65536 gr dg < 65536 ^ dg) : TmR (upN (mixF (2 * dg + 1) (upD sh P) P) (2 * dg + 1) (cU sh P (2 * dg + 1))) (dv 65536 gr dg * dv 65536 gb dg * 2 ^ sh) (Nv * 2 ^ sh) dg (dg + 1) := by
  obtain ⟨a1, a2, a3⟩ := hO
  have hsp : 2 ^ sh ≤ 32768 := Nat.pow_le_pow_right (by decide) (show sh ≤ 15 by omega)
  have hcu : ∀ n, cU sh P n < 2 ^ sh := fun n => cU_lt n (fun j _ => a1 j)
  have ev : dv 65536 (upN (mixF (2 * dg + 1) (upD sh P) P) (2 * dg + 1) (cU sh P (2 * dg + 1))) (dg + 1 + dg) = dv 65536 gr dg * dv 65536 gb dg * 2 ^ sh := by
    rw [show dg + 1 + dg = 2 * dg + 1 by omega, dv_congr (n := 2 * dg + 1) (g := upD sh P) (fun i hi => by rw [upN_n (by omega)]; exact mixF_lt _ _ hi)]
    have e := up_dval sh P (2 * dg + 1)
    have ez : cU sh P (2 * dg + 1) = 0 := by
      show (P (2 * dg) * 2 ^ sh + cU sh P (2 * dg)) / 65536 = 0
      have := hcu (2 * dg)
      rw [a2 _ (by omega), Nat.zero_mul, Nat.zero_add, Nat.div_eq_of_lt (by omega)]
    rw [ez, Nat.zero_mul, Nat.add_zero, dval_dv, dval_dv] at e
    rw [e]
    show (dv 65536 P (2 * dg) + P (2 * dg) * 65536 ^ (2 * dg)) * 2 ^ sh = _
    rw [a2 _ (by omega), Nat.zero_mul, Nat.add_zero, show 2 * dg = dg + dg by omega, a3]
  refine ⟨fun j hj => ?_, by rw [ev], ?_, fun z => by omega⟩
  · rw [upN_if]
    split
    · have := hcu (2 * dg + 1); omega
    · unfold mixF
      split
      · exact Nat.mod_lt _ (by decide)
      · exact a1 j
  · rw [ev]
    have g1 : dv 65536 gr dg * dv 65536 gb dg ≤ dv 65536 gr dg * Nv := Nat.mul_le_mul_left _ (Nat.le_of_lt h2)
    have g2 : dv 65536 gr dg * Nv < 65536 ^ dg * Nv := Nat.mul_lt_mul_of_pos_right h3 (by omega)
    have g3 : 65536 ^ dg * Nv ≤ 65536 ^ (dg + 1) * Nv := Nat.mul_le_mul_right _ (Nat.pow_le_pow_right (by decide) (by omega))
    rw [Nat.mul_right_comm Nv (2 ^ sh), Nat.mul_comm Nv (65536 ^ (dg + 1))]
    exact Nat.mul_lt_mul_of_pos_right (by omega) (Nat.two_pow_pos sh)
theorem TmR.fin {P : Nat → Nat} {X Nv dg sh : Nat} (h : TmR P (X * 2 ^ sh) (Nv * 2 ^ sh) dg 0) : dv 65536 P dg = X % Nv * 2 ^ sh ∧ P dg = 0 := by
  obtain ⟨a1, a2, a3, a4⟩ := h
  rw [Nat.zero_add] at a2 a3 a4
  rw [Nat.pow_zero, Nat.mul_one] at a3
  rw [Nat.mod_eq_of_lt a3, Nat.mul_mod_mul_right] at a2
  exact ⟨a2, a4 (Nat.zero_le _)⟩

set_option maxHeartbeats 400000 in
set_option maxRecDepth 100000 in
theorem c6_times (l : Launch) (D : va_G) (dA : Nat → ClassId) (B : Nat) (Z : State → Prop) (hZ : Stab B Z) (F : va_W) (po pr rs ba m9 b9 dg sh Nv : Nat) (gp gr gb gm : Nat → Nat) (hpo : (po, .inr (4, [.ref m9, .ref b9, .ref rs, .ref pr, .int (nI dg), .int (nI sh)])) ∈ F) (hmo : (m9, iar dA 66 gm) ∈ F) (hby : ∀ P : Nat → Nat, (ba, iar dA 66 gb) ∈ [(pr, iar dA 134 P), (rs, iar dA 66 gr)] ++ F) (hd : dg ≤ 64) (hd1 : 1 ≤ dg) (hs : sh < 16) (hgr : ∀ j, j < 66 → gr j < 65536) (hgb : ∀ j, j < 66 → gb j < 65536) (hgm : ∀ j, j < 66 → gm j < 65536) (ht : gm (dg - 1) ≠ 0) (hMv : dv 65536 gm dg = Nv * 2 ^ sh) (h1 : dv 65536 gr dg < Nv) (h2 : dv 65536 gb dg < Nv) :
    Ct (S := (Nat → Nat) × (Nat → Nat)) l D dA B Z yX6_times cX6_times 8 none 3 0 0 [.ref po, .ref ba] ([(pr, iar dA 134 gp), (rs, iar dA 66 gr)] ++ F) (fun u => (∀ j, j < 66 → u.2 j < 65536) ∧ dv 65536 u.2 dg = dv 65536 gr dg * dv 65536 gb dg % Nv) (fun _ => none) (fun u => [(pr, iar dA 134 u.1), (rs, iar dA 66 u.2)] ++ F) := by
  refine Ct.mk2 (by decide) (Nat.le_of_ble_eq_true rfl) hZ ?_
  intro p e R s m args below meth c ls Q C hr hlocks hin hQ hl h
  have C0 := C
  obtain ⟨hx, hb, hml, hown, hts, -⟩ := C0
  have hl : lv_has ls 8 [(0, .ref po), (1, .ref ba)] := hl
  have hMl : Nv * 2 ^ sh < 65536 ^ dg := by rw [← hMv]; exact dv_lt (fun i hi => hgm i (by omega))
  have hMp : 0 < Nv * 2 ^ sh := Nat.mul_pos (by omega) (Nat.two_pow_pos sh)
  refine lv_aload_n hx hb dX6_times_0 rfl (lv_at hl 0 rfl) ?_
  refine o_get C h (RC := RX6) (T := TX6) (N := 6) (List.mem_append_right _ hpo) rfl in_X6 3 (by decide) q292 rfl (v := .ref pr) rfl dX6_times_1 ?_
  refine lv_iconst (v := nI 0) hx hb dX6_times_4 (by decide) ?_
  have h : Wd D B s ([(pr, iar dA 134 gp)] ++ ([(rs, iar dA 66 gr)] ++ F)) s.heap [] := h.permL (perm_add (fun g f p0 p1 p2 => by (try simp only [p0, p1, p2]) <;> omega))
  refine call_S (As := [.ref pr, .int (nI 0)]) (rest := []) (n := 2) C h (cJ_fillI l D dA B Z hZ ([(rs, iar dA 66 gr)] ++ F) pr 134 0 gp (by decide)) (lw_S q1597 q1598 q143 q1599) (by decide +kernel) (by decide) (by decide) rfl hl rfl (Nat.le_of_ble_eq_true rfl) dX6_times_5 (by omega) (fun _ H locs _ h => ?_)
  have h : Wd D B s ([(pr, iar dA 134 (fun _ => 0)), (rs, iar dA 66 gr)] ++ F) H locs := h.permL (perm_add (fun g f p0 p1 p2 => by (try simp only [p0, p1, p2]) <;> omega))
  refine lv_iconst (v := nI 0) hx hb dX6_times_8 (by decide) ?_
  refine lv_istore_n (lv' := [(2, .int (nI 0)), (0, .ref po), (1, .ref ba)]) hx hb dX6_times_9 rfl hl (by decide) rfl (fun ls hl => ?_)
  have loop : ∀ (nn : Nat) (i : Nat) (P : Nat → Nat), (i ≤ dg) → (TmO gr gb P dg i) → dg - i < nn → ∀ (H : Heap) (locs : List Loc), Wd D B s ([(pr, iar dA 134 P), (rs, iar dA 66 gr)] ++ F) H locs → ∀ (ls : Array Slot), lv_has ls 8 [(2, .int (nI i)), (1, .ref ba), (0, .ref po)] → W p l e R s m args below meth c H locs (0 + 0) (0 + 0) Q (F0 m 10 ls []) := by
    intro nn
    induction nn with
    | zero => intro i  P  hi hO hme; exact absurd hme (Nat.not_lt_zero _)
    | succ nn ih =>
      intro i  P  hi hO hme H locs h ls hl
      refine lv_iload_n hx hb dX6_times_10 rfl (lv_at hl 0 rfl) ?_
      refine lv_aload_n hx hb dX6_times_11 rfl (lv_at hl 2 rfl) ?_
      refine o_get C h (RC := RX6) (T := TX6) (N := 6) (List.mem_append_right _ hpo) rfl in_X6 4 (by decide) q293 rfl (v := .int (nI dg)) rfl dX6_times_12 ?_
      refine n_icmp_ge (tgt := 107) hx hb (by omega) (by omega) dX6_times_15 (by decide) (fun c15 => ?_) (fun c15 => ?_)
      · refine lv_aload_n hx hb dX6_times_107 rfl (lv_at hl 2 rfl) ?_
        refine lv_aload_n hx hb dX6_times_108 rfl (lv_at hl 2 rfl) ?_
        refine o_get C h (RC := RX6) (T := TX6) (N := 6) (List.mem_append_right _ hpo) rfl in_X6 3 (by decide) q292 rfl (v := .ref pr) rfl dX6_times_109 ?_
        refine lv_iconst (v := nI 2) hx hb dX6_times_112 (by decide) ?_
        refine lv_aload_n hx hb dX6_times_113 rfl (lv_at hl 2 rfl) ?_
        refine o_get C h (RC := RX6) (T := TX6) (N := 6) (List.mem_append_right _ hpo) rfl in_X6 4 (by decide) q293 rfl (v := .int (nI dg)) rfl dX6_times_114 ?_
        refine lv_imul hx hb dX6_times_117 (n_top (y := nI (2 * dg)) (pk_mul 2 dg) ?_)
        refine lv_iconst (v := nI 1) hx hb dX6_times_118 (by decide) ?_
        refine lv_iadd hx hb dX6_times_119 (n_top (y := nI ((2 * dg) + 1)) (nI_add (2 * dg) 1) ?_)
        have h : Wd D B s ([(pr, iar dA 134 P)] ++ ([(rs, iar dA 66 gr)] ++ F)) H locs := h.permL (perm_add (fun g f p0 p1 p2 => by (try simp only [p0, p1, p2]) <;> omega))
        refine call_VR (As := [.ref pr, .int (nI ((2 * dg) + 1))]) (rest := []) (n := 2) C h (c6_up l D dA B Z hZ ([(rs, iar dA 66 gr)] ++ F) po pr 134 (2 * dg + 1) m9 b9 rs pr dg sh P (List.mem_append_right _ hpo) (by decide) (by omega) hs (fun j _ => hO.1 j)) (lw_V q1601 q1603 qs23 q137 q1604) (by decide +kernel) (o_recv C h (RC := RX6) (T := TX6) (N := 6) (List.mem_append_right _ (List.mem_append_right _ hpo)) rfl) (by decide) (by decide) rfl hl rfl (Nat.le_of_ble_eq_true rfl) dX6_times_120 (by omega) (fun _ H locs _ h => ?_)
        have h : Wd D B s ([(pr, iar dA 134 (upN (mixF (2 * dg + 1) (upD sh P) P) (2 * dg + 1) (cU sh P (2 * dg + 1)))), (rs, iar dA 66 gr)] ++ F) H locs := h.permL (perm_add (fun g f p0 p1 p2 => by (try simp only [p0, p1, p2]) <;> omega))
        have hie : i = dg := by omega
        rw [hie] at hO
        have hR0 := TmR.start hO hs h1 h2 (dv_lt (fun j hj => hgr j (by omega)))
        refine lv_aload_n hx hb dX6_times_123 rfl (lv_at hl 2 rfl) ?_
        refine o_get C h (RC := RX6) (T := TX6) (N := 6) (List.mem_append_right _ hpo) rfl in_X6 4 (by decide) q293 rfl (v := .int (nI dg)) rfl dX6_times_124 ?_
        refine lv_istore_n (lv' := [(2, .int (nI dg)), (1, .ref ba), (0, .ref po)]) hx hb dX6_times_127 rfl hl (by decide) rfl (fun ls hl => ?_)
        have hl : lv_has ls 8 [(2, .int (nI dg)), (0, .ref po)] := lv_sub hl [0, 2] rfl
        have hl : lv_has ls 8 [(2, .int (nI (dg + 1) - nI 1)), (0, .ref po)] := by rw [pk_sub (by omega), Nat.add_sub_cancel]; exact hl
        have loopr : ∀ (nnr : Nat) (k : Nat) (P2 : Nat → Nat), (k ≤ dg + 1) → (TmR P2 (dv 65536 gr dg * dv 65536 gb dg * 2 ^ sh) (Nv * 2 ^ sh) dg k) → k < nnr → ∀ (H : Heap) (locs : List Loc), Wd D B s ([(pr, iar dA 134 P2), (rs, iar dA 66 gr)] ++ F) H locs → ∀ (ls : Array Slot), lv_has ls 8 [(2, .int (nI k - nI 1)), (0, .ref po)] → W p l e R s m args below meth c H locs (0 + 0 + 0) (0 + 0 + 0) Q (F0 m 128 ls []) := by
          intro nnr
          induction nnr with
          | zero => intro k  P2  hk hR hme; exact absurd hme (Nat.not_lt_zero _)
          | succ nnr ihr =>
            intro k  P2  hk hR hme H locs h ls hl
            refine lv_iload_n hx hb dX6_times_128 rfl (lv_at hl 0 rfl) ?_
            refine lv_if_lt (tgt := 143) hx hb dX6_times_129 (by decide) (fun c129 => ?_) (fun c129 => ?_)
            · have hk0 : k = 0 := by
                rcases Nat.eq_zero_or_pos k with z | z
                · exact z
                · exact absurd c129 (by rw [pk_sub z]; exact nI_pos (by omega))
              rw [hk0] at hR
              have hfe := hR.fin
              refine lv_iconst (v := nI 0) hx hb dX6_times_143 (by decide) ?_
              refine lv_istore_n (lv' := [(2, .int (nI 0)), (0, .ref po)]) hx hb dX6_times_144 rfl hl (by decide) rfl (fun ls hl => ?_)
              refine lv_iconst (v := nI 0) hx hb dX6_times_145 (by decide) ?_
              refine lv_istore_n (lv' := [(3, .int (nI 0)), (2, .int (nI 0)), (0, .ref po)]) hx hb dX6_times_146 rfl hl (by decide) rfl (fun ls hl => ?_)
              have h : Wd D B s ([(pr, iar dA 134 P2), (rs, iar dA 66 (mixF 0 (dnF sh P2) gr))] ++ F) H locs := by rw [mixF_0]; exact h
              have loopq : ∀ (nnq : Nat) (q1 : Nat), (q1 ≤ dg) → dg - q1 < nnq → ∀ (H : Heap) (locs : List Loc), Wd D B s ([(pr, iar dA 134 P2), (rs, iar dA 66 (mixF q1 (dnF sh P2) gr))] ++ F) H locs → ∀ (ls : Array Slot), lv_has ls 8 [(3, .int (nI q1)), (0, .ref po)] → W p l e R s m args below meth c H locs (0 + 0 + 0) (0 + 0 + 0) Q (F0 m 147 ls []) := by
                intro nnq
                induction nnq with
                | zero => intro q1  hq hme; exact absurd hme (Nat.not_lt_zero _)
                | succ nnq ihq =>
                  intro q1  hq hme H locs h ls hl
                  refine lv_iload_n hx hb dX6_times_147 rfl (lv_at hl 0 rfl) ?_
                  refine lv_aload_n hx hb dX6_times_148 rfl (lv_at hl 1 rfl) ?_
                  refine o_get C h (RC := RX6) (T := TX6) (N := 6) (List.mem_append_right _ hpo) rfl in_X6 4 (by decide) q293 rfl (v := .int (nI dg)) rfl dX6_times_149 ?_
                  refine n_icmp_ge (tgt := 203) hx hb (by omega) (by omega) dX6_times_152 (by decide) (fun c152 => ?_) (fun c152 => ?_)
                  · subst hQ
                    have hqe : q1 = dg := by omega
                    rw [hqe] at h
                    exact ret_v C hr hlocks h (P2, mixF dg (dnF sh P2) gr) (⟨fun j hj => by
                      show mixF dg (dnF sh P2) gr j < 65536
                      unfold mixF
                      split
                      · exact (dnF_lt (by omega) (hR.1 j (by omega))).2
                      · exact hgr j hj, by
                      show dv 65536 (mixF dg (dnF sh P2) gr) dg = _
                      rw [dv_congr (n := dg) (fun j hj => mixF_lt _ _ hj)]
                      exact dn_end (by omega) hfe.2 hfe.1⟩) rfl rfl (by omega) (by omega) dX6_times_203
                  · have hp1 := hR.1 q1 (by omega)
                    have hp2 := hR.1 (q1 + 1) (by omega)
                    have hdn := dnF_lt (P := P2) (sh := sh) (by omega) hp1
                    have hpw : 2 ^ (16 - sh) ≤ 2 ^ 16 := Nat.pow_le_pow_right (by decide) (by omega)
                    have hpm : P2 (q1 + 1) * 2 ^ (16 - sh) ≤ 65535 * 2 ^ 16 := Nat.mul_le_mul (by omega) hpw
                    refine lv_aload_n hx hb dX6_times_155 rfl (lv_at hl 1 rfl) ?_
                    refine o_get C h (RC := RX6) (T := TX6) (N := 6) (List.mem_append_right _ hpo) rfl in_X6 3 (by decide) q292 rfl (v := .ref pr) rfl dX6_times_156 ?_
                    refine lv_iload_n hx hb dX6_times_159 rfl (lv_at hl 0 rfl) ?_
                    refine n_iald C h (v := P2 q1) (List.mem_of_getElem? (i := 0) rfl) (show q1 < 134 by omega) (by decide) rfl dX6_times_160 ?_
                    refine lv_aload_n hx hb dX6_times_161 rfl (lv_at hl 1 rfl) ?_
                    refine o_get C h (RC := RX6) (T := TX6) (N := 6) (List.mem_append_right _ hpo) rfl in_X6 5 (by decide) q294 rfl (v := .int (nI sh)) rfl dX6_times_162 ?_
                    refine n_ishr hx hb dX6_times_165 ?_
                    refine n_top (y := nI (P2 q1 / 2 ^ sh)) (shr_N (by omega) (by omega)) ?_
                    refine lv_aload_n hx hb dX6_times_166 rfl (lv_at hl 1 rfl) ?_
                    refine o_get C h (RC := RX6) (T := TX6) (N := 6) (List.mem_append_right _ hpo) rfl in_X6 3 (by decide) q292 rfl (v := .ref pr) rfl dX6_times_167 ?_
                    refine lv_iload_n hx hb dX6_times_170 rfl (lv_at hl 0 rfl) ?_
                    refine lv_iconst (v := nI 1) hx hb dX6_times_171 (by decide) ?_
                    refine lv_iadd hx hb dX6_times_172 (n_top (y := nI (q1 + 1)) (nI_add q1 1) ?_)
                    refine n_iald C h (v := P2 (q1 + 1)) (List.mem_of_getElem? (i := 0) rfl) (show q1 + 1 < 134 by omega) (by decide) rfl dX6_times_173 ?_
                    refine lv_bipush (v := nI 16) hx hb dX6_times_174 (by decide) ?_
                    refine lv_aload_n hx hb dX6_times_176 rfl (lv_at hl 1 rfl) ?_
                    refine o_get C h (RC := RX6) (T := TX6) (N := 6) (List.mem_append_right _ hpo) rfl in_X6 5 (by decide) q294 rfl (v := .int (nI sh)) rfl dX6_times_177 ?_
                    refine lv_isub hx hb dX6_times_180 (n_top (y := nI (16 - sh)) (pk_sub (by omega)) ?_)
                    refine n_ishl hx hb dX6_times_181 ?_
                    refine n_top (y := nI (P2 (q1 + 1) * 2 ^ (16 - sh))) (shl_N (by omega) (by omega)) ?_
                    refine lv_ldc hx hb hown (hts _ q1605) dX6_times_182 ?_
                    refine n_top (y := nI 65535) (by decide) ?_
                    refine lv_iand hx hb dX6_times_184 ?_
                    refine n_top (y := nI (P2 (q1 + 1) % 2 ^ sh * 2 ^ (16 - sh))) (dn_and (by omega) hp2) ?_
                    refine lv_ior hx hb dX6_times_185 ?_
                    refine n_top (y := nI (dnF sh P2 q1)) (n_orN hdn.1 (by have := hdn.2; unfold dnF at this; omega)) ?_
                    refine lv_istore_n (lv' := [(2, .int (nI (dnF sh P2 q1))), (3, .int (nI q1)), (0, .ref po)]) hx hb dX6_times_186 rfl hl (by decide) rfl (fun ls hl => ?_)
                    refine lv_aload_n hx hb dX6_times_187 rfl (lv_at hl 2 rfl) ?_
                    refine o_get C h (RC := RX6) (T := TX6) (N := 6) (List.mem_append_right _ hpo) rfl in_X6 2 (by decide) q291 rfl (v := .ref rs) rfl dX6_times_188 ?_
                    refine lv_iload_n hx hb dX6_times_191 rfl (lv_at hl 1 rfl) ?_
                    refine lv_iload_n hx hb dX6_times_192 rfl (lv_at hl 0 rfl) ?_
                    refine lv_ldc hx hb hown (hts _ q1605) dX6_times_193 ?_
                    refine n_top (y := nI 65535) (by decide) ?_
                    refine lv_iand hx hb dX6_times_195 ?_
                    refine n_top (y := nI (dnF sh P2 q1)) (by rw [pk_andN (by have := hdn.2; omega) 16 (by decide), Nat.mod_eq_of_lt hdn.2]) ?_
                    refine x_iast C h 1 (v := dnF sh P2 q1) (ws' := [(pr, iar dA 134 P2), (rs, iar dA 66 (upN (mixF q1 (dnF sh P2) gr) q1 (dnF sh P2 q1)))] ++ F) rfl (by omega) (by decide) rfl dX6_times_196 (fun H locs h => ?_)
                    have h : Wd D B s ([(pr, iar dA 134 P2), (rs, iar dA 66 (mixF (q1 + 1) (dnF sh P2) gr))] ++ F) H locs := by rw [← mixF_s]; exact h
                    refine lv_iinc (v := nI (q1 + 1)) (lv' := [(3, .int (nI (q1 + 1))), (2, .int (nI (dnF sh P2 q1))), (0, .ref po)]) hx hb dX6_times_197 hl (k := 1) rfl (nI_add q1 1) (by decide) rfl (fun ls hl => ?_)
                    refine lv_goto (tgt := 147) hx hb dX6_times_200 (by decide) ?_
                    exact ihq (q1 + 1) (by omega) (by omega) _ _ h _ (lv_sub hl [0, 2] rfl)
              exact loopq _ 0 (by omega) (Nat.lt_succ_self _) _ _ h _ (lv_sub hl [0, 2] rfl)
            · have hk1 : 1 ≤ k := by
                rcases Nat.eq_zero_or_pos k with z | z
                · exact absurd (by rw [z]; decide) c129
                · exact z
              rw [pk_sub hk1] at hl
              have hl : lv_has ls 8 [(2, .int (nI (k - 1))), (0, .ref po)] := hl
              have hR1 : TmR P2 (dv 65536 gr dg * dv 65536 gb dg * 2 ^ sh) (Nv * 2 ^ sh) dg (k - 1 + 1) := by rw [Nat.sub_add_cancel hk1]; exact hR
              refine lv_aload_n hx hb dX6_times_132 rfl (lv_at hl 1 rfl) ?_
              refine lv_iload_n hx hb dX6_times_133 rfl (lv_at hl 0 rfl) ?_
              have h : Wd D B s ([(pr, iar dA 134 P2)] ++ ([(rs, iar dA 66 gr)] ++ F)) H locs := h.permL (perm_add (fun g f p0 p1 p2 => by (try simp only [p0, p1, p2]) <;> omega))
              refine call_VR (As := [.int (nI (k - 1))]) (rest := []) (n := 1) C h (c6_reduce l D dA B Z hZ ([(rs, iar dA 66 gr)] ++ F) po pr (k - 1) m9 b9 rs dg sh P2 gm (List.mem_append_right _ hpo) (List.mem_append_right _ hmo) (by omega) hd1 (by omega) hR.1 hgm ht (by rw [hMv]; exact hR1.win)) (lw_V q1611 q1613 qs25 q137 q1614) (by decide +kernel) (o_recv C h (RC := RX6) (T := TX6) (N := 6) (List.mem_append_right _ (List.mem_append_right _ hpo)) rfl) (by decide) (by decide) rfl hl rfl (Nat.le_of_ble_eq_true rfl) dX6_times_134 (by omega) (fun f2 H locs hf2 h => ?_)
              have h : Wd D B s ([(pr, iar dA 134 (wnF (k - 1) (dg + 1) f2 P2)), (rs, iar dA 66 gr)] ++ F) H locs := h.permL (perm_add (fun g f p0 p1 p2 => by (try simp only [p0, p1, p2]) <;> omega))
              rw [hMv] at hf2
              have hR2 := hR1.step hMp (Nat.le_of_lt hMl) (by omega) hf2.1 hf2.2
              refine lv_iinc (v := nI (k - 1) - nI 1) (lv' := [(2, .int (nI (k - 1) - nI 1)), (0, .ref po)]) hx hb dX6_times_137 hl (k := 0) rfl (by rw [Int32.sub_eq_add_neg]; rfl) (by decide) rfl (fun ls hl => ?_)
              refine lv_goto (tgt := 128) hx hb dX6_times_140 (by decide) ?_
              exact ihr (k - 1) _ (by omega) hR2 (by omega) _ _ h _ (lv_sub hl [0, 1] rfl)
        exact loopr _ (dg + 1) _ (by omega) hR0 (Nat.lt_succ_self _) _ _ h _ (lv_sub hl [0, 1] rfl)
      · refine lv_lconst (v := lN 0) hx hb dX6_times_18 (by decide) ?_
        refine lv_lstore_n (lv' := [(3, .long (lN 0)), (2, .int (nI i)), (1, .ref ba), (0, .ref po)]) hx hb dX6_times_19 rfl hl (by decide) rfl (fun ls hl => ?_)
        refine lv_iconst (v := nI 0) hx hb dX6_times_20 (by decide) ?_
        refine lv_istore (lv' := [(5, .int (nI 0)), (3, .long (lN 0)), (2, .int (nI i)), (1, .ref ba), (0, .ref po)]) hx hb dX6_times_21 hl (by decide) rfl (fun ls hl => ?_)
        have loopk : ∀ (nnk : Nat) (k ca : Nat) (P1 : Nat → Nat), (k ≤ dg) → (TmI gr gb P P1 i k ca) → dg - k < nnk → ∀ (H : Heap) (locs : List Loc), Wd D B s ([(pr, iar dA 134 P1), (rs, iar dA 66 gr)] ++ F) H locs → ∀ (ls : Array Slot), lv_has ls 8 [(5, .int (nI k)), (3, .long (lN ca)), (2, .int (nI i)), (1, .ref ba), (0, .ref po)] → W p l e R s m args below meth c H locs (0 + 0) (0 + 0) Q (F0 m 23 ls []) := by
          intro nnk
          induction nnk with
          | zero => intro k ca  P1  hk hI hme; exact absurd hme (Nat.not_lt_zero _)
          | succ nnk ihk =>
            intro k ca  P1  hk hI hme H locs h ls hl
            refine lv_iload hx hb dX6_times_23 (lv_at hl 0 rfl) ?_
            refine lv_aload_n hx hb dX6_times_25 rfl (lv_at hl 4 rfl) ?_
            refine o_get C h (RC := RX6) (T := TX6) (N := 6) (List.mem_append_right _ hpo) rfl in_X6 4 (by decide) q293 rfl (v := .int (nI dg)) rfl dX6_times_26 ?_
            refine n_icmp_ge (tgt := 88) hx hb (by omega) (by omega) dX6_times_29 (by decide) (fun c29 => ?_) (fun c29 => ?_)
            · have hke : k = dg := by omega
              rw [hke] at hI
              have hca := hI.1
              refine lv_aload_n hx hb dX6_times_88 rfl (lv_at hl 4 rfl) ?_
              refine o_get C h (RC := RX6) (T := TX6) (N := 6) (List.mem_append_right _ hpo) rfl in_X6 3 (by decide) q292 rfl (v := .ref pr) rfl dX6_times_89 ?_
              refine lv_iload_n hx hb dX6_times_92 rfl (lv_at hl 2 rfl) ?_
              refine lv_aload_n hx hb dX6_times_93 rfl (lv_at hl 4 rfl) ?_
              refine o_get C h (RC := RX6) (T := TX6) (N := 6) (List.mem_append_right _ hpo) rfl in_X6 4 (by decide) q293 rfl (v := .int (nI dg)) rfl dX6_times_94 ?_
              refine lv_iadd hx hb dX6_times_97 (n_top (y := nI (i + dg)) (nI_add i dg) ?_)
              refine lv_lload_n hx hb dX6_times_98 rfl (lv_at hl 1 rfl) ?_
              refine lv_l2i (v := nI ca) hx hb dX6_times_99 (lN_i _) ?_
              refine x_iast C h 0 (v := ca) (ws' := [(pr, iar dA 134 (upN P1 (i + dg) ca)), (rs, iar dA 66 gr)] ++ F) rfl (by omega) (by decide) rfl dX6_times_100 (fun H locs h => ?_)
              have h : Wd D B s ([(pr, iar dA 134 (upN P1 (i + dg) ca)), (rs, iar dA 66 gr)] ++ F) H locs := h
              refine lv_iinc (v := nI (i + 1)) (lv' := [(2, .int (nI (i + 1))), (5, .int (nI k)), (3, .long (lN ca)), (1, .ref ba), (0, .ref po)]) hx hb dX6_times_101 hl (k := 2) rfl (nI_add i 1) (by decide) rfl (fun ls hl => ?_)
              refine lv_goto (tgt := 10) hx hb dX6_times_104 (by decide) ?_
              exact ih (i + 1) _ (by omega) (TmI.next hO hI) (by omega) _ _ h _ (lv_sub hl [0, 3, 4] rfl)
            · have hri := hgr i (by omega)
              have hbk := hgb k (by omega)
              have hpk := hI.2.1 (i + k)
              have hca := hI.1
              have hmm : gr i * gb k ≤ 65535 * 65535 := Nat.mul_le_mul (by omega) (by omega)
              refine lv_aload_n hx hb dX6_times_32 rfl (lv_at hl 4 rfl) ?_
              refine o_get C h (RC := RX6) (T := TX6) (N := 6) (List.mem_append_right _ hpo) rfl in_X6 2 (by decide) q291 rfl (v := .ref rs) rfl dX6_times_33 ?_
              refine lv_iload_n hx hb dX6_times_36 rfl (lv_at hl 2 rfl) ?_
              refine n_iald C h (v := gr i) (List.mem_of_getElem? (i := 1) rfl) (show i < 66 by omega) (by decide) rfl dX6_times_37 ?_
              refine lv_i2l (v := lN (gr i)) hx hb dX6_times_38 (nI_l (by omega)) ?_
              refine lv_aload_n hx hb dX6_times_39 rfl (lv_at hl 3 rfl) ?_
              refine lv_iload hx hb dX6_times_40 (lv_at hl 0 rfl) ?_
              refine n_iald C h (v := gb k) (hby _) (show k < 66 by omega) (by decide) rfl dX6_times_42 ?_
              refine lv_i2l (v := lN (gb k)) hx hb dX6_times_43 (nI_l (by omega)) ?_
              refine lv_lmul hx hb dX6_times_44 (n_topl (y := lN ((gr i) * (gb k))) (lN_mul (gr i) (gb k)) ?_)
              refine lv_aload_n hx hb dX6_times_45 rfl (lv_at hl 4 rfl) ?_
              refine o_get C h (RC := RX6) (T := TX6) (N := 6) (List.mem_append_right _ hpo) rfl in_X6 3 (by decide) q292 rfl (v := .ref pr) rfl dX6_times_46 ?_
              refine lv_iload_n hx hb dX6_times_49 rfl (lv_at hl 2 rfl) ?_
              refine lv_iload hx hb dX6_times_50 (lv_at hl 0 rfl) ?_
              refine lv_iadd hx hb dX6_times_52 (n_top (y := nI (i + k)) (nI_add i k) ?_)
              refine n_iald C h (v := P1 (i + k)) (List.mem_of_getElem? (i := 0) rfl) (show i + k < 134 by omega) (by decide) rfl dX6_times_53 ?_
              refine lv_i2l (v := lN (P1 (i + k))) hx hb dX6_times_54 (nI_l (by omega)) ?_
              refine lv_ladd hx hb dX6_times_55 (n_topl (y := lN (((gr i) * (gb k)) + (P1 (i + k)))) (lN_add ((gr i) * (gb k)) (P1 (i + k))) ?_)
              refine lv_lload_n hx hb dX6_times_56 rfl (lv_at hl 1 rfl) ?_
              refine lv_ladd hx hb dX6_times_57 (n_topl (y := lN ((((gr i) * (gb k)) + (P1 (i + k))) + ca)) (lN_add (((gr i) * (gb k)) + (P1 (i + k))) ca) ?_)
              refine lv_lstore (lv' := [(6, .long (lN ((((gr i) * (gb k)) + (P1 (i + k))) + ca))), (5, .int (nI k)), (3, .long (lN ca)), (2, .int (nI i)), (1, .ref ba), (0, .ref po)]) hx hb dX6_times_58 hl (by decide) rfl (fun ls hl => ?_)
              refine lv_aload_n hx hb dX6_times_60 rfl (lv_at hl 5 rfl) ?_
              refine o_get C h (RC := RX6) (T := TX6) (N := 6) (List.mem_append_right _ hpo) rfl in_X6 3 (by decide) q292 rfl (v := .ref pr) rfl dX6_times_61 ?_
              refine lv_iload_n hx hb dX6_times_64 rfl (lv_at hl 3 rfl) ?_
              refine lv_iload hx hb dX6_times_65 (lv_at hl 1 rfl) ?_
              refine lv_iadd hx hb dX6_times_67 (n_top (y := nI (i + k)) (nI_add i k) ?_)
              refine lv_lload hx hb dX6_times_68 (lv_at hl 0 rfl) ?_
              refine lv_ldc2 hx hb hown (hts _ q1610) dX6_times_70 ?_
              refine n_topl (y := lN 65535) (by decide) ?_
              refine lv_land hx hb dX6_times_73 (n_topl (y := lN (((((gr i) * (gb k)) + (P1 (i + k))) + ca) % 65536)) (l_andN (k := 16) (by omega) (by decide)) ?_)
              refine lv_l2i (v := nI (((((gr i) * (gb k)) + (P1 (i + k))) + ca) % 65536)) hx hb dX6_times_74 (lN_i _) ?_
              refine x_iast C h 0 (v := ((((gr i) * (gb k)) + (P1 (i + k))) + ca) % 65536) (ws' := [(pr, iar dA 134 (upN P1 (i + k) (((((gr i) * (gb k)) + (P1 (i + k))) + ca) % 65536))), (rs, iar dA 66 gr)] ++ F) rfl (by omega) (by decide) rfl dX6_times_75 (fun H locs h => ?_)
              have h : Wd D B s ([(pr, iar dA 134 (upN P1 (i + k) ((gr i * gb k + P1 (i + k) + ca) % 65536))), (rs, iar dA 66 gr)] ++ F) H locs := h
              refine lv_lload hx hb dX6_times_76 (lv_at hl 0 rfl) ?_
              refine lv_bipush (v := nI 16) hx hb dX6_times_78 (by decide) ?_
              refine n_lushr hx hb dX6_times_80 (n_topl (y := lN (((((gr i) * (gb k)) + (P1 (i + k))) + ca) / 65536)) (l_ushrN (k := 16) (by omega) (by decide)) ?_)
              refine lv_lstore_n (lv' := [(3, .long (lN (((((gr i) * (gb k)) + (P1 (i + k))) + ca) / 65536))), (6, .long (lN ((((gr i) * (gb k)) + (P1 (i + k))) + ca))), (5, .int (nI k)), (2, .int (nI i)), (1, .ref ba), (0, .ref po)]) hx hb dX6_times_81 rfl hl (by decide) rfl (fun ls hl => ?_)
              refine lv_iinc (v := nI (k + 1)) (lv' := [(5, .int (nI (k + 1))), (3, .long (lN (((((gr i) * (gb k)) + (P1 (i + k))) + ca) / 65536))), (6, .long (lN ((((gr i) * (gb k)) + (P1 (i + k))) + ca))), (2, .int (nI i)), (1, .ref ba), (0, .ref po)]) hx hb dX6_times_82 hl (k := 2) rfl (nI_add k 1) (by decide) rfl (fun ls hl => ?_)
              refine lv_goto (tgt := 23) hx hb dX6_times_85 (by decide) ?_
              exact ihk (k + 1) _ _ (by omega) (hI.step hri hbk) (by omega) _ _ h _ (lv_sub hl [0, 1, 3, 4, 5] rfl)
        exact loopk _ 0 0 _ (by omega) hO.row (Nat.lt_succ_self _) _ _ h _ (lv_sub hl [0, 1, 2, 3, 4] rfl)
  exact loop _ 0 _ (by omega) (TmO.start gr gb dg) (Nat.lt_succ_self _) _ _ h _ (lv_sub hl [0, 2, 1] rfl)
