set_option maxRecDepth 100000
set_option maxHeartbeats 1000000 in
set_option maxRecDepth 100000 in
theorem c5_mix (l : Launch) (D : va_G) (dA : Nat → ClassId) (B : Nat) (Z : State → Prop) (hZ : Stab B Z) (F : va_W) (ho st fi bl wo ei : Nat) (mn : Int64) (x gw y : Nat → Int32) (hzA : ∀ U : State, Z U → ∃ t, va_Z "SignetRing$Second" "ADD" "[I" (.ref t) (bA B) U U.heap ∧ va_T .int t 64 (fun j => .int (K2 j)) (bA B) U U.heap) :
    Ct (S := Unit) l D dA B Z yX5_mix cX5_mix 7 none 2 0 0 [.ref ho, .ref st] ([(ho, .inr (3, [.ref st, .ref fi, .ref bl, .long mn, .ref wo, .ref ei])), (st, war dA 8 x), (wo, war dA 64 gw), (ei, war dA 8 y)] ++ F) (fun _ => True) (fun _ => none) (fun _ => [(ho, .inr (3, [.ref st, .ref fi, .ref bl, .long mn, .ref wo, .ref ei])), (st, war dA 8 (fun j => x j + rd2 (sW2 gw) 64 x j)), (wo, war dA 64 (mixF 64 (sW2 gw) gw)), (ei, war dA 8 (rd2 (sW2 gw) 64 x))] ++ F) := by
  refine Ct.mk2 (by decide) (Nat.le_of_ble_eq_true rfl) hZ ?_
  intro p e R s m args below meth c ls Q C hr hlocks hin hQ hl h
  have C0 := C
  obtain ⟨hx, hb, hml, hown, hts, -⟩ := C0
  have hl : lv_has ls 7 [(0, .ref ho), (1, .ref st)] := hl
  obtain ⟨tR, hzZ, hzT⟩ := hzA s C.2.2.2.2.2.2.2.1
  refine lv_bipush (v := nI 16) hx hb dX5_mix_0 (by decide) ?_
  refine lv_istore_n (lv' := [(2, .int (nI 16)), (0, .ref ho), (1, .ref st)]) hx hb dX5_mix_2 rfl hl (by decide) rfl (fun ls hl => ?_)
  have h : Wd D B s ([(ho, .inr (3, [.ref st, .ref fi, .ref bl, .long mn, .ref wo, .ref ei])), (st, war dA 8 x), (wo, war dA 64 (mixF 16 (sW2 gw) gw)), (ei, war dA 8 y)] ++ F) s.heap [] := by rw [mix16b]; exact h
  have loop : ∀ (nn : Nat) (i : Nat), (16 ≤ i) → (i ≤ 64) → 64 - i < nn → ∀ (H : Heap) (locs : List Loc), Wd D B s ([(ho, .inr (3, [.ref st, .ref fi, .ref bl, .long mn, .ref wo, .ref ei])), (st, war dA 8 x), (wo, war dA 64 (mixF i (sW2 gw) gw)), (ei, war dA 8 y)] ++ F) H locs → ∀ (ls : Array Slot), lv_has ls 7 [(2, .int (nI i)), (0, .ref ho), (1, .ref st)] → W p l e R s m args below meth c H locs 0 0 Q (F0 m 3 ls []) := by
    intro nn
    induction nn with
    | zero => intro i  hi0 hi1 hme; exact absurd hme (Nat.not_lt_zero _)
    | succ nn ih =>
      intro i  hi0 hi1 hme H locs h ls hl
      refine lv_iload_n hx hb dX5_mix_3 rfl (lv_at hl 0 rfl) ?_
      refine lv_bipush (v := nI 64) hx hb dX5_mix_4 (by decide) ?_
      refine n_icmp_ge (tgt := 100) hx hb (by omega) (by omega) dX5_mix_6 (by decide) (fun c6 => ?_) (fun c6 => ?_)
      · have hi8 : i = 64 := by omega
        rw [hi8] at h
        have h : Wd D B s ([(ho, .inr (3, [.ref st, .ref fi, .ref bl, .long mn, .ref wo, .ref ei])), (st, war dA 8 x), (wo, war dA 64 (mixF 64 (sW2 gw) gw)), (ei, war dA 8 y)] ++ F) H locs := h
        refine lv_aload_n hx hb dX5_mix_100 rfl (lv_at hl 1 rfl) ?_
        refine o_get C h (RC := RX5) (T := TX5) (N := 6) (List.mem_of_getElem? (i := 0) rfl) rfl in_X5 5 (by decide) q274 rfl (v := .ref ei) rfl dX5_mix_101 ?_
        refine lv_astore_n (lv' := [(2, .ref ei), (0, .ref ho), (1, .ref st)]) hx hb dX5_mix_104 rfl hl (by decide) rfl (fun ls hl => ?_)
        refine lv_aload_n hx hb dX5_mix_105 rfl (lv_at hl 2 rfl) ?_
        refine lv_iconst (v := nI 0) hx hb dX5_mix_106 (by decide) ?_
        refine lv_aload_n hx hb dX5_mix_107 rfl (lv_at hl 0 rfl) ?_
        refine lv_iconst (v := nI 0) hx hb dX5_mix_108 (by decide) ?_
        refine lv_bipush (v := nI 8) hx hb dX5_mix_109 (by decide) ?_
        refine x_copyw C h 3 (n := 8) (dp := 0) (sp := 0) (ws' := [(ho, .inr (3, [.ref st, .ref fi, .ref bl, .long mn, .ref wo, .ref ei])), (st, war dA 8 x), (wo, war dA 64 (mixF 64 (sW2 gw) gw)), (ei, war dA 8 (va_cpy x y 0 0 8))] ++ F) (List.mem_of_getElem? (i := 1) rfl) rfl q1221 q478 q477 q145 (by omega) (by omega) (by omega) (by omega) hl.1 (by decide) (Nat.le_of_ble_eq_true rfl) rfl dX5_mix_111 (fun H locs h => ?_)
        refine lv_iconst (v := nI 0) hx hb dX5_mix_114 (by decide) ?_
        refine lv_istore_n (lv' := [(3, .int (nI 0)), (2, .ref ei), (0, .ref ho), (1, .ref st)]) hx hb dX5_mix_115 rfl hl (by decide) rfl (fun ls hl => ?_)
        have h : Wd D B s ([(ho, .inr (3, [.ref st, .ref fi, .ref bl, .long mn, .ref wo, .ref ei])), (st, war dA 8 x), (wo, war dA 64 (mixF 64 (sW2 gw) gw)), (ei, war dA 8 x)] ++ F) H locs := Wd.same h 3 rfl (war_same (cpy8 x _)) rfl
        have loopK : ∀ (nnK : Nat) (k : Nat) (yk : Nat → Int32), (k ≤ 64) → (yk = rd2 (sW2 gw) k x) → 64 - k < nnK → ∀ (H : Heap) (locs : List Loc), Wd D B s ([(ho, .inr (3, [.ref st, .ref fi, .ref bl, .long mn, .ref wo, .ref ei])), (st, war dA 8 x), (wo, war dA 64 (mixF 64 (sW2 gw) gw)), (ei, war dA 8 yk)] ++ F) H locs → ∀ (ls : Array Slot), lv_has ls 7 [(3, .int (nI k)), (2, .ref ei), (0, .ref ho), (1, .ref st)] → W p l e R s m args below meth c H locs 0 0 Q (F0 m 116 ls []) := by
          intro nnK
          induction nnK with
          | zero => intro k  yk  hk0 hk1 hme; exact absurd hme (Nat.not_lt_zero _)
          | succ nnK ihK =>
            intro k  yk  hk0 hk1 hme H locs h ls hl
            refine lv_iload_n hx hb dX5_mix_116 rfl (lv_at hl 0 rfl) ?_
            refine lv_bipush (v := nI 64) hx hb dX5_mix_117 (by decide) ?_
            refine n_icmp_ge (tgt := 286) hx hb (by omega) (by omega) dX5_mix_119 (by decide) (fun c119 => ?_) (fun c119 => ?_)
            · refine lv_iconst (v := nI 0) hx hb dX5_mix_286 (by decide) ?_
              refine lv_istore_n (lv' := [(3, .int (nI 0)), (2, .ref ei), (0, .ref ho), (1, .ref st)]) hx hb dX5_mix_287 rfl hl (by decide) rfl (fun ls hl => ?_)
              have hk64 : yk = rd2 (sW2 gw) 64 x := by rw [hk1, show k = 64 by omega]
              have loopQ : ∀ (nnQ : Nat) (q : Nat), (q ≤ 8) → 8 - q < nnQ → ∀ (H : Heap) (locs : List Loc), Wd D B s ([(ho, .inr (3, [.ref st, .ref fi, .ref bl, .long mn, .ref wo, .ref ei])), (st, war dA 8 (mixF q (fun j => x j + yk j) x)), (wo, war dA 64 (mixF 64 (sW2 gw) gw)), (ei, war dA 8 yk)] ++ F) H locs → ∀ (ls : Array Slot), lv_has ls 7 [(3, .int (nI q)), (2, .ref ei), (0, .ref ho), (1, .ref st)] → W p l e R s m args below meth c H locs 0 0 Q (F0 m 288 ls []) := by
                intro nnQ
                induction nnQ with
                | zero => intro q  hq0 hme; exact absurd hme (Nat.not_lt_zero _)
                | succ nnQ ihQ =>
                  intro q  hq0 hme H locs h ls hl
                  refine lv_iload_n hx hb dX5_mix_288 rfl (lv_at hl 0 rfl) ?_
                  refine lv_bipush (v := nI 8) hx hb dX5_mix_289 (by decide) ?_
                  refine n_icmp_ge (tgt := 309) hx hb (by omega) (by omega) dX5_mix_291 (by decide) (fun c291 => ?_) (fun c291 => ?_)
                  · subst hQ
                    rw [show q = 8 by omega] at h
                    have h : Wd D B s ([(ho, .inr (3, [.ref st, .ref fi, .ref bl, .long mn, .ref wo, .ref ei])), (st, war dA 8 (fun j => x j + rd2 (sW2 gw) 64 x j)), (wo, war dA 64 (mixF 64 (sW2 gw) gw)), (ei, war dA 8 yk)] ++ F) H locs := Wd.same h 1 rfl (war_same (fun j hj => by rw [mixF_lt _ _ hj, hk64])) rfl
                    rw [hk64] at h
                    exact ret_v C hr hlocks h () trivial rfl rfl (by omega) (by omega) dX5_mix_309
                  · refine lv_aload_n hx hb dX5_mix_294 rfl (lv_at hl 3 rfl) ?_
                    refine lv_iload_n hx hb dX5_mix_295 rfl (lv_at hl 0 rfl) ?_
                    refine lv_dup2_11 hx hb dX5_mix_296 rfl rfl ?_
                    refine n_wald C h (v := (mixF q (fun j => x j + yk j) x) q) (List.mem_of_getElem? (i := 1) rfl) (show q < 8 by omega) (by decide) rfl dX5_mix_297 ?_
                    refine n_top (y := x q) (by unfold mixF; rw [if_neg (by omega)]) ?_
                    refine lv_aload_n hx hb dX5_mix_298 rfl (lv_at hl 1 rfl) ?_
                    refine lv_iload_n hx hb dX5_mix_299 rfl (lv_at hl 0 rfl) ?_
                    refine n_wald C h (v := yk q) (List.mem_of_getElem? (i := 3) rfl) (show q < 8 by omega) (by decide) rfl dX5_mix_300 ?_
                    refine lv_iadd hx hb dX5_mix_301 ?_
                    refine x_wast C h 1 (v := (x q) + (yk q)) (ws' := [(ho, .inr (3, [.ref st, .ref fi, .ref bl, .long mn, .ref wo, .ref ei])), (st, war dA 8 (upN (mixF q (fun j => x j + yk j) x) q ((x q) + (yk q)))), (wo, war dA 64 (mixF 64 (sW2 gw) gw)), (ei, war dA 8 yk)] ++ F) rfl (by omega) (by decide) rfl dX5_mix_302 (fun H locs h => ?_)
                    have h : Wd D B s ([(ho, .inr (3, [.ref st, .ref fi, .ref bl, .long mn, .ref wo, .ref ei])), (st, war dA 8 (mixF (q + 1) (fun j => x j + yk j) x)), (wo, war dA 64 (mixF 64 (sW2 gw) gw)), (ei, war dA 8 yk)] ++ F) H locs := by rw [← mixF_s]; exact h
                    refine lv_iinc (v := nI (q + 1)) (lv' := [(3, .int (nI (q + 1))), (2, .ref ei), (0, .ref ho), (1, .ref st)]) hx hb dX5_mix_303 hl (k := 0) rfl (nI_add q 1) (by decide) rfl (fun ls hl => ?_)
                    refine lv_goto (tgt := 288) hx hb dX5_mix_306 (by decide) ?_
                    exact ihQ (q + 1) (by omega) (by omega) _ _ h _ (lv_sub hl [0, 1, 2, 3] rfl)
              exact loopQ _ 0 (by omega) (Nat.lt_succ_self _) _ _ h _ (lv_sub hl [0, 1, 2, 3] rfl)
            · refine lv_aload_n hx hb dX5_mix_122 rfl (lv_at hl 1 rfl) ?_
              refine lv_bipush (v := nI 7) hx hb dX5_mix_123 (by decide) ?_
              refine n_wald C h (v := yk 7) (List.mem_of_getElem? (i := 3) rfl) (show 7 < 8 by omega) (by decide) rfl dX5_mix_125 ?_
              refine lv_aload_n hx hb dX5_mix_126 rfl (lv_at hl 1 rfl) ?_
              refine lv_iconst (v := nI 4) hx hb dX5_mix_127 (by decide) ?_
              refine n_wald C h (v := yk 4) (List.mem_of_getElem? (i := 3) rfl) (show 4 < 8 by omega) (by decide) rfl dX5_mix_128 ?_
              refine lv_bipush (v := nI 26) hx hb dX5_mix_129 (by decide) ?_
              refine call_SN (As := [.int (yk 4), .int (nI 26)]) (rest := [.int (yk 7)]) (n := 2) C h (c1_turn l D dA B Z hZ _ (yk 4) (nI 26)) (lw_meth q1212) q1220 q1211 q129 (by decide +kernel) (by decide) (by decide) rfl hl rfl (Nat.le_of_ble_eq_true rfl) dX5_mix_131 (by omega) (fun _ H locs _ h => ?_)
              refine lv_aload_n hx hb dX5_mix_134 rfl (lv_at hl 1 rfl) ?_
              refine lv_iconst (v := nI 4) hx hb dX5_mix_135 (by decide) ?_
              refine n_wald C h (v := yk 4) (List.mem_of_getElem? (i := 3) rfl) (show 4 < 8 by omega) (by decide) rfl dX5_mix_136 ?_
              refine lv_bipush (v := nI 21) hx hb dX5_mix_137 (by decide) ?_
              refine call_SN (As := [.int (yk 4), .int (nI 21)]) (rest := [.int (rotl (yk 4) (nI 26)), .int (yk 7)]) (n := 2) C h (c1_turn l D dA B Z hZ _ (yk 4) (nI 21)) (lw_meth q1212) q1220 q1211 q129 (by decide +kernel) (by decide) (by decide) rfl hl rfl (Nat.le_of_ble_eq_true rfl) dX5_mix_139 (by omega) (fun _ H locs _ h => ?_)
              refine lv_ixor hx hb dX5_mix_142 ?_
              refine lv_aload_n hx hb dX5_mix_143 rfl (lv_at hl 1 rfl) ?_
              refine lv_iconst (v := nI 4) hx hb dX5_mix_144 (by decide) ?_
              refine n_wald C h (v := yk 4) (List.mem_of_getElem? (i := 3) rfl) (show 4 < 8 by omega) (by decide) rfl dX5_mix_145 ?_
              refine lv_bipush (v := nI 7) hx hb dX5_mix_146 (by decide) ?_
              refine call_SN (As := [.int (yk 4), .int (nI 7)]) (rest := [.int ((rotl (yk 4) (nI 26)) ^^^ (rotl (yk 4) (nI 21))), .int (yk 7)]) (n := 2) C h (c1_turn l D dA B Z hZ _ (yk 4) (nI 7)) (lw_meth q1212) q1220 q1211 q129 (by decide +kernel) (by decide) (by decide) rfl hl rfl (Nat.le_of_ble_eq_true rfl) dX5_mix_148 (by omega) (fun _ H locs _ h => ?_)
              refine lv_ixor hx hb dX5_mix_151 ?_
              refine lv_iadd hx hb dX5_mix_152 ?_
              refine lv_aload_n hx hb dX5_mix_153 rfl (lv_at hl 1 rfl) ?_
              refine lv_iconst (v := nI 4) hx hb dX5_mix_154 (by decide) ?_
              refine n_wald C h (v := yk 4) (List.mem_of_getElem? (i := 3) rfl) (show 4 < 8 by omega) (by decide) rfl dX5_mix_155 ?_
              refine lv_aload_n hx hb dX5_mix_156 rfl (lv_at hl 1 rfl) ?_
              refine lv_iconst (v := nI 5) hx hb dX5_mix_157 (by decide) ?_
              refine n_wald C h (v := yk 5) (List.mem_of_getElem? (i := 3) rfl) (show 5 < 8 by omega) (by decide) rfl dX5_mix_158 ?_
              refine lv_iand hx hb dX5_mix_159 ?_
              refine lv_aload_n hx hb dX5_mix_160 rfl (lv_at hl 1 rfl) ?_
              refine lv_iconst (v := nI 4) hx hb dX5_mix_161 (by decide) ?_
              refine n_wald C h (v := yk 4) (List.mem_of_getElem? (i := 3) rfl) (show 4 < 8 by omega) (by decide) rfl dX5_mix_162 ?_
              refine lv_iconst (v := -1) hx hb dX5_mix_163 (by decide) ?_
              refine lv_ixor hx hb dX5_mix_164 ?_
              refine lv_aload_n hx hb dX5_mix_165 rfl (lv_at hl 1 rfl) ?_
              refine lv_bipush (v := nI 6) hx hb dX5_mix_166 (by decide) ?_
              refine n_wald C h (v := yk 6) (List.mem_of_getElem? (i := 3) rfl) (show 6 < 8 by omega) (by decide) rfl dX5_mix_168 ?_
              refine lv_iand hx hb dX5_mix_169 ?_
              refine lv_ixor hx hb dX5_mix_170 ?_
              refine lv_iadd hx hb dX5_mix_171 ?_
              refine va_gets hx hb hzZ h.2.2 hown (hts _ q1222) (fun _ h9 => h9) dX5_mix_172 ?_
              refine lv_iload_n hx hb dX5_mix_175 rfl (lv_at hl 0 rfl) ?_
              refine va_ti hx hb hzT h.2.2 (vp_in_nI (n := k) (by omega) (by decide)) (v := .int (K2 k)) (by rw [nI_clamp (by omega)]) dX5_mix_176 ?_
              refine lv_iadd hx hb dX5_mix_177 ?_
              refine lv_aload_n hx hb dX5_mix_178 rfl (lv_at hl 2 rfl) ?_
              refine o_getS C h (RC := RX5) (T := TX5) (N := 6) (List.mem_of_getElem? (i := 0) rfl) rfl in_X5 4 (by decide) q246 q247 (v := .ref wo) rfl dX5_mix_179 ?_
              refine lv_iload_n hx hb dX5_mix_182 rfl (lv_at hl 0 rfl) ?_
              refine n_wald C h (v := (mixF 64 (sW2 gw) gw) k) (List.mem_of_getElem? (i := 2) rfl) (show k < 64 by omega) (by decide) rfl dX5_mix_183 ?_
              refine n_top (y := sW2 gw k) (mixF_lt _ _ (by omega)) ?_
              refine lv_iadd hx hb dX5_mix_184 ?_
              refine n_top (y := one2 (sW2 gw) k yk) (by rw [i_ch2]; rfl) ?_
              refine lv_istore (lv' := [(4, .int (one2 (sW2 gw) k yk)), (3, .int (nI k)), (2, .ref ei), (0, .ref ho), (1, .ref st)]) hx hb dX5_mix_185 hl (by decide) rfl (fun ls hl => ?_)
              refine lv_aload_n hx hb dX5_mix_187 rfl (lv_at hl 2 rfl) ?_
              refine lv_iconst (v := nI 0) hx hb dX5_mix_188 (by decide) ?_
              refine n_wald C h (v := yk 0) (List.mem_of_getElem? (i := 3) rfl) (show 0 < 8 by omega) (by decide) rfl dX5_mix_189 ?_
              refine lv_bipush (v := nI 30) hx hb dX5_mix_190 (by decide) ?_
              refine call_SN (As := [.int (yk 0), .int (nI 30)]) (rest := []) (n := 2) C h (c1_turn l D dA B Z hZ _ (yk 0) (nI 30)) (lw_meth q1212) q1220 q1211 q129 (by decide +kernel) (by decide) (by decide) rfl hl rfl (Nat.le_of_ble_eq_true rfl) dX5_mix_192 (by omega) (fun _ H locs _ h => ?_)
              refine lv_aload_n hx hb dX5_mix_195 rfl (lv_at hl 2 rfl) ?_
              refine lv_iconst (v := nI 0) hx hb dX5_mix_196 (by decide) ?_
              refine n_wald C h (v := yk 0) (List.mem_of_getElem? (i := 3) rfl) (show 0 < 8 by omega) (by decide) rfl dX5_mix_197 ?_
              refine lv_bipush (v := nI 19) hx hb dX5_mix_198 (by decide) ?_
              refine call_SN (As := [.int (yk 0), .int (nI 19)]) (rest := [.int (rotl (yk 0) (nI 30))]) (n := 2) C h (c1_turn l D dA B Z hZ _ (yk 0) (nI 19)) (lw_meth q1212) q1220 q1211 q129 (by decide +kernel) (by decide) (by decide) rfl hl rfl (Nat.le_of_ble_eq_true rfl) dX5_mix_200 (by omega) (fun _ H locs _ h => ?_)
              refine lv_ixor hx hb dX5_mix_203 ?_
              refine lv_aload_n hx hb dX5_mix_204 rfl (lv_at hl 2 rfl) ?_
              refine lv_iconst (v := nI 0) hx hb dX5_mix_205 (by decide) ?_
              refine n_wald C h (v := yk 0) (List.mem_of_getElem? (i := 3) rfl) (show 0 < 8 by omega) (by decide) rfl dX5_mix_206 ?_
              refine lv_bipush (v := nI 10) hx hb dX5_mix_207 (by decide) ?_
              refine call_SN (As := [.int (yk 0), .int (nI 10)]) (rest := [.int ((rotl (yk 0) (nI 30)) ^^^ (rotl (yk 0) (nI 19)))]) (n := 2) C h (c1_turn l D dA B Z hZ _ (yk 0) (nI 10)) (lw_meth q1212) q1220 q1211 q129 (by decide +kernel) (by decide) (by decide) rfl hl rfl (Nat.le_of_ble_eq_true rfl) dX5_mix_209 (by omega) (fun _ H locs _ h => ?_)
              refine lv_ixor hx hb dX5_mix_212 ?_
              refine lv_aload_n hx hb dX5_mix_213 rfl (lv_at hl 2 rfl) ?_
              refine lv_iconst (v := nI 0) hx hb dX5_mix_214 (by decide) ?_
              refine n_wald C h (v := yk 0) (List.mem_of_getElem? (i := 3) rfl) (show 0 < 8 by omega) (by decide) rfl dX5_mix_215 ?_
              refine lv_aload_n hx hb dX5_mix_216 rfl (lv_at hl 2 rfl) ?_
              refine lv_iconst (v := nI 1) hx hb dX5_mix_217 (by decide) ?_
              refine n_wald C h (v := yk 1) (List.mem_of_getElem? (i := 3) rfl) (show 1 < 8 by omega) (by decide) rfl dX5_mix_218 ?_
              refine lv_iand hx hb dX5_mix_219 ?_
              refine lv_aload_n hx hb dX5_mix_220 rfl (lv_at hl 2 rfl) ?_
              refine lv_iconst (v := nI 0) hx hb dX5_mix_221 (by decide) ?_
              refine n_wald C h (v := yk 0) (List.mem_of_getElem? (i := 3) rfl) (show 0 < 8 by omega) (by decide) rfl dX5_mix_222 ?_
              refine lv_aload_n hx hb dX5_mix_223 rfl (lv_at hl 2 rfl) ?_
              refine lv_iconst (v := nI 2) hx hb dX5_mix_224 (by decide) ?_
              refine n_wald C h (v := yk 2) (List.mem_of_getElem? (i := 3) rfl) (show 2 < 8 by omega) (by decide) rfl dX5_mix_225 ?_
              refine lv_iand hx hb dX5_mix_226 ?_
              refine lv_ixor hx hb dX5_mix_227 ?_
              refine lv_aload_n hx hb dX5_mix_228 rfl (lv_at hl 2 rfl) ?_
              refine lv_iconst (v := nI 1) hx hb dX5_mix_229 (by decide) ?_
              refine n_wald C h (v := yk 1) (List.mem_of_getElem? (i := 3) rfl) (show 1 < 8 by omega) (by decide) rfl dX5_mix_230 ?_
              refine lv_aload_n hx hb dX5_mix_231 rfl (lv_at hl 2 rfl) ?_
              refine lv_iconst (v := nI 2) hx hb dX5_mix_232 (by decide) ?_
              refine n_wald C h (v := yk 2) (List.mem_of_getElem? (i := 3) rfl) (show 2 < 8 by omega) (by decide) rfl dX5_mix_233 ?_
              refine lv_iand hx hb dX5_mix_234 ?_
              refine lv_ixor hx hb dX5_mix_235 ?_
              refine n_top (y := (yk 0 &&& yk 1 ||| yk 2 &&& (yk 0 ||| yk 1))) (i_maj2 _ _ _) ?_
              refine lv_iadd hx hb dX5_mix_236 ?_
              refine lv_istore (lv' := [(5, .int ((((rotl (yk 0) (nI 30)) ^^^ (rotl (yk 0) (nI 19))) ^^^ (rotl (yk 0) (nI 10))) + (yk 0 &&& yk 1 ||| yk 2 &&& (yk 0 ||| yk 1)))), (4, .int (one2 (sW2 gw) k yk)), (3, .int (nI k)), (2, .ref ei), (0, .ref ho), (1, .ref st)]) hx hb dX5_mix_237 hl (by decide) rfl (fun ls hl => ?_)
              refine lv_bipush (v := nI 7) hx hb dX5_mix_239 (by decide) ?_
              refine lv_istore (lv' := [(6, .int (nI 7)), (5, .int ((((rotl (yk 0) (nI 30)) ^^^ (rotl (yk 0) (nI 19))) ^^^ (rotl (yk 0) (nI 10))) + (yk 0 &&& yk 1 ||| yk 2 &&& (yk 0 ||| yk 1)))), (4, .int (one2 (sW2 gw) k yk)), (3, .int (nI k)), (2, .ref ei), (0, .ref ho), (1, .ref st)]) hx hb dX5_mix_241 hl (by decide) rfl (fun ls hl => ?_)
              have h : Wd D B s ([(ho, .inr (3, [.ref st, .ref fi, .ref bl, .long mn, .ref wo, .ref ei])), (st, war dA 8 x), (wo, war dA 64 (mixF 64 (sW2 gw) gw)), (ei, war dA 8 (upF 7 yk))] ++ F) H locs := Wd.same h 3 rfl (war_same (fun j hj => by unfold upF; rw [if_neg (by omega)])) rfl
              have loopU : ∀ (nnU : Nat) (i : Nat), (i ≤ 7) → i < nnU → ∀ (H : Heap) (locs : List Loc), Wd D B s ([(ho, .inr (3, [.ref st, .ref fi, .ref bl, .long mn, .ref wo, .ref ei])), (st, war dA 8 x), (wo, war dA 64 (mixF 64 (sW2 gw) gw)), (ei, war dA 8 (upF i yk))] ++ F) H locs → ∀ (ls : Array Slot), lv_has ls 7 [(6, .int (nI i)), (5, .int ((((rotl (yk 0) (nI 30)) ^^^ (rotl (yk 0) (nI 19))) ^^^ (rotl (yk 0) (nI 10))) + (yk 0 &&& yk 1 ||| yk 2 &&& (yk 0 ||| yk 1)))), (4, .int (one2 (sW2 gw) k yk)), (3, .int (nI k)), (2, .ref ei), (0, .ref ho), (1, .ref st)] → W p l e R s m args below meth c H locs (0 + 0 + 0 + 0 + 0 + 0 + 0) (0 + 0 + 0 + 0 + 0 + 0 + 0) Q (F0 m 243 ls []) := by
                intro nnU
                induction nnU with
                | zero => intro i  hu0 hme; exact absurd hme (Nat.not_lt_zero _)
                | succ nnU ihU =>
                  intro i  hu0 hme H locs h ls hl
                  refine lv_iload hx hb dX5_mix_243 (lv_at hl 0 rfl) ?_
                  refine n_if_le (tgt := 264) hx hb (by omega) dX5_mix_245 (by decide) (fun c245 => ?_) (fun c245 => ?_)
                  · have hi9 : i = 0 := by omega
                    rw [hi9] at h
                    have h : Wd D B s ([(ho, .inr (3, [.ref st, .ref fi, .ref bl, .long mn, .ref wo, .ref ei])), (st, war dA 8 x), (wo, war dA 64 (mixF 64 (sW2 gw) gw)), (ei, war dA 8 (upF 0 yk))] ++ F) H locs := h
                    refine lv_aload_n hx hb dX5_mix_264 rfl (lv_at hl 4 rfl) ?_
                    refine lv_iconst (v := nI 4) hx hb dX5_mix_265 (by decide) ?_
                    refine lv_dup2_11 hx hb dX5_mix_266 rfl rfl ?_
                    refine n_wald C h (v := (upF 0 yk) 4) (List.mem_of_getElem? (i := 3) rfl) (show 4 < 8 by omega) (by decide) rfl dX5_mix_267 ?_
                    refine lv_iload hx hb dX5_mix_268 (lv_at hl 2 rfl) ?_
                    refine lv_iadd hx hb dX5_mix_270 ?_
                    refine x_wast C h 3 (v := ((upF 0 yk) 4) + (one2 (sW2 gw) k yk)) (ws' := [(ho, .inr (3, [.ref st, .ref fi, .ref bl, .long mn, .ref wo, .ref ei])), (st, war dA 8 x), (wo, war dA 64 (mixF 64 (sW2 gw) gw)), (ei, war dA 8 (upN (upF 0 yk) 4 (((upF 0 yk) 4) + (one2 (sW2 gw) k yk))))] ++ F) rfl (by omega) (by decide) rfl dX5_mix_271 (fun H locs h => ?_)
                    refine lv_aload_n hx hb dX5_mix_272 rfl (lv_at hl 4 rfl) ?_
                    refine lv_iconst (v := nI 0) hx hb dX5_mix_273 (by decide) ?_
                    refine lv_iload hx hb dX5_mix_274 (lv_at hl 2 rfl) ?_
                    refine lv_iload hx hb dX5_mix_276 (lv_at hl 1 rfl) ?_
                    refine lv_iadd hx hb dX5_mix_278 ?_
                    refine n_top (y := new2 (sW2 gw) k yk) (by unfold new2; rw [Int32.add_assoc]) ?_
                    refine x_wast C h 3 (v := new2 (sW2 gw) k yk) (ws' := [(ho, .inr (3, [.ref st, .ref fi, .ref bl, .long mn, .ref wo, .ref ei])), (st, war dA 8 x), (wo, war dA 64 (mixF 64 (sW2 gw) gw)), (ei, war dA 8 (upN (upN (upF 0 yk) 4 (((upF 0 yk) 4) + (one2 (sW2 gw) k yk))) 0 (new2 (sW2 gw) k yk)))] ++ F) rfl (by omega) (by decide) rfl dX5_mix_279 (fun H locs h => ?_)
                    have h : Wd D B s ([(ho, .inr (3, [.ref st, .ref fi, .ref bl, .long mn, .ref wo, .ref ei])), (st, war dA 8 x), (wo, war dA 64 (mixF 64 (sW2 gw) gw)), (ei, war dA 8 (st2 (sW2 gw) k yk))] ++ F) H locs := Wd.same h 3 rfl (war_same (upF_0 (sW2 gw) k yk)) rfl
                    refine lv_iinc (v := nI (k + 1)) (lv' := [(3, .int (nI (k + 1))), (6, .int (nI i)), (5, .int ((((rotl (yk 0) (nI 30)) ^^^ (rotl (yk 0) (nI 19))) ^^^ (rotl (yk 0) (nI 10))) + (yk 0 &&& yk 1 ||| yk 2 &&& (yk 0 ||| yk 1)))), (4, .int (one2 (sW2 gw) k yk)), (2, .ref ei), (0, .ref ho), (1, .ref st)]) hx hb dX5_mix_280 hl (k := 3) rfl (nI_add k 1) (by decide) rfl (fun ls hl => ?_)
                    refine lv_goto (tgt := 116) hx hb dX5_mix_283 (by decide) ?_
                    exact ihK (k + 1) (st2 (sW2 gw) k yk) (by omega) (by rw [hk1]; rfl) (by omega) _ _ h _ (lv_sub hl [0, 4, 5, 6] rfl)
                  · refine lv_aload_n hx hb dX5_mix_248 rfl (lv_at hl 4 rfl) ?_
                    refine lv_iload hx hb dX5_mix_249 (lv_at hl 0 rfl) ?_
                    refine lv_aload_n hx hb dX5_mix_251 rfl (lv_at hl 4 rfl) ?_
                    refine lv_iload hx hb dX5_mix_252 (lv_at hl 0 rfl) ?_
                    refine lv_iconst (v := nI 1) hx hb dX5_mix_254 (by decide) ?_
                    refine lv_isub hx hb dX5_mix_255 (n_top (y := nI (i - 1)) (pk_sub (by omega)) ?_)
                    refine n_wald C h (v := (upF i yk) (i - 1)) (List.mem_of_getElem? (i := 3) rfl) (show i - 1 < 8 by omega) (by decide) rfl dX5_mix_256 ?_
                    refine x_wast C h 3 (v := (upF i yk) (i - 1)) (ws' := [(ho, .inr (3, [.ref st, .ref fi, .ref bl, .long mn, .ref wo, .ref ei])), (st, war dA 8 x), (wo, war dA 64 (mixF 64 (sW2 gw) gw)), (ei, war dA 8 (upN (upF i yk) i ((upF i yk) (i - 1))))] ++ F) rfl (by omega) (by decide) rfl dX5_mix_257 (fun H locs h => ?_)
                    have h : Wd D B s ([(ho, .inr (3, [.ref st, .ref fi, .ref bl, .long mn, .ref wo, .ref ei])), (st, war dA 8 x), (wo, war dA 64 (mixF 64 (sW2 gw) gw)), (ei, war dA 8 (upF (i - 1) yk))] ++ F) H locs := Wd.same h 3 rfl (war_same (upF_s yk (by omega) (by omega))) rfl
                    refine lv_iinc (v := nI (i - 1)) (lv' := [(6, .int (nI (i - 1))), (5, .int ((((rotl (yk 0) (nI 30)) ^^^ (rotl (yk 0) (nI 19))) ^^^ (rotl (yk 0) (nI 10))) + (yk 0 &&& yk 1 ||| yk 2 &&& (yk 0 ||| yk 1)))), (4, .int (one2 (sW2 gw) k yk)), (3, .int (nI k)), (2, .ref ei), (0, .ref ho), (1, .ref st)]) hx hb dX5_mix_258 hl (k := 0) rfl (n_dec (by omega)) (by decide) rfl (fun ls hl => ?_)
                    refine lv_goto (tgt := 243) hx hb dX5_mix_261 (by decide) ?_
                    exact ihU (i - 1) (by omega) (by omega) _ _ h _ (lv_sub hl [0, 1, 2, 3, 4, 5, 6] rfl)
              exact loopU _ 7 (by omega) (Nat.lt_succ_self _) _ _ h _ (lv_sub hl [0, 1, 2, 3, 4, 5, 6] rfl)
        exact loopK _ 0 x (by omega) rfl (Nat.lt_succ_self _) _ _ h _ (lv_sub hl [0, 1, 2, 3] rfl)
      · refine lv_aload_n hx hb dX5_mix_9 rfl (lv_at hl 1 rfl) ?_
        refine o_getS C h (RC := RX5) (T := TX5) (N := 6) (List.mem_of_getElem? (i := 0) rfl) rfl in_X5 4 (by decide) q246 q247 (v := .ref wo) rfl dX5_mix_10 ?_
        refine lv_iload_n hx hb dX5_mix_13 rfl (lv_at hl 0 rfl) ?_
        refine lv_bipush (v := nI 15) hx hb dX5_mix_14 (by decide) ?_
        refine lv_isub hx hb dX5_mix_16 (n_top (y := nI (i - 15)) (pk_sub (by omega)) ?_)
        refine n_wald C h (v := (mixF i (sW2 gw) gw) (i - 15)) (List.mem_of_getElem? (i := 2) rfl) (show i - 15 < 64 by omega) (by decide) rfl dX5_mix_17 ?_
        refine n_top (y := sW2 gw (i - 15)) (mixF_lt _ _ (by omega)) ?_
        refine lv_istore_n (lv' := [(3, .int (sW2 gw (i - 15))), (2, .int (nI i)), (0, .ref ho), (1, .ref st)]) hx hb dX5_mix_18 rfl hl (by decide) rfl (fun ls hl => ?_)
        refine lv_aload_n hx hb dX5_mix_19 rfl (lv_at hl 2 rfl) ?_
        refine o_getS C h (RC := RX5) (T := TX5) (N := 6) (List.mem_of_getElem? (i := 0) rfl) rfl in_X5 4 (by decide) q246 q247 (v := .ref wo) rfl dX5_mix_20 ?_
        refine lv_iload_n hx hb dX5_mix_23 rfl (lv_at hl 1 rfl) ?_
        refine lv_iconst (v := nI 2) hx hb dX5_mix_24 (by decide) ?_
        refine lv_isub hx hb dX5_mix_25 (n_top (y := nI (i - 2)) (pk_sub (by omega)) ?_)
        refine n_wald C h (v := (mixF i (sW2 gw) gw) (i - 2)) (List.mem_of_getElem? (i := 2) rfl) (show i - 2 < 64 by omega) (by decide) rfl dX5_mix_26 ?_
        refine n_top (y := sW2 gw (i - 2)) (mixF_lt _ _ (by omega)) ?_
        refine lv_istore (lv' := [(4, .int (sW2 gw (i - 2))), (3, .int (sW2 gw (i - 15))), (2, .int (nI i)), (0, .ref ho), (1, .ref st)]) hx hb dX5_mix_27 hl (by decide) rfl (fun ls hl => ?_)
        refine lv_aload_n hx hb dX5_mix_29 rfl (lv_at hl 3 rfl) ?_
        refine o_getS C h (RC := RX5) (T := TX5) (N := 6) (List.mem_of_getElem? (i := 0) rfl) rfl in_X5 4 (by decide) q246 q247 (v := .ref wo) rfl dX5_mix_30 ?_
        refine lv_iload_n hx hb dX5_mix_33 rfl (lv_at hl 2 rfl) ?_
        refine lv_aload_n hx hb dX5_mix_34 rfl (lv_at hl 3 rfl) ?_
        refine o_getS C h (RC := RX5) (T := TX5) (N := 6) (List.mem_of_getElem? (i := 0) rfl) rfl in_X5 4 (by decide) q246 q247 (v := .ref wo) rfl dX5_mix_35 ?_
        refine lv_iload_n hx hb dX5_mix_38 rfl (lv_at hl 2 rfl) ?_
        refine lv_bipush (v := nI 16) hx hb dX5_mix_39 (by decide) ?_
        refine lv_isub hx hb dX5_mix_41 (n_top (y := nI (i - 16)) (pk_sub (by omega)) ?_)
        refine n_wald C h (v := (mixF i (sW2 gw) gw) (i - 16)) (List.mem_of_getElem? (i := 2) rfl) (show i - 16 < 64 by omega) (by decide) rfl dX5_mix_42 ?_
        refine n_top (y := sW2 gw (i - 16)) (mixF_lt _ _ (by omega)) ?_
        refine lv_iload_n hx hb dX5_mix_43 rfl (lv_at hl 1 rfl) ?_
        refine lv_bipush (v := nI 25) hx hb dX5_mix_44 (by decide) ?_
        refine call_SN (As := [.int (sW2 gw (i - 15)), .int (nI 25)]) (rest := [.int (sW2 gw (i - 16)), .int (nI i), .ref wo]) (n := 2) C h (c1_turn l D dA B Z hZ _ (sW2 gw (i - 15)) (nI 25)) (lw_meth q1212) q1220 q1211 q129 (by decide +kernel) (by decide) (by decide) rfl hl rfl (Nat.le_of_ble_eq_true rfl) dX5_mix_46 (by omega) (fun _ H locs _ h => ?_)
        refine lv_iload_n hx hb dX5_mix_49 rfl (lv_at hl 1 rfl) ?_
        refine lv_bipush (v := nI 14) hx hb dX5_mix_50 (by decide) ?_
        refine call_SN (As := [.int (sW2 gw (i - 15)), .int (nI 14)]) (rest := [.int (rotl (sW2 gw (i - 15)) (nI 25)), .int (sW2 gw (i - 16)), .int (nI i), .ref wo]) (n := 2) C h (c1_turn l D dA B Z hZ _ (sW2 gw (i - 15)) (nI 14)) (lw_meth q1212) q1220 q1211 q129 (by decide +kernel) (by decide) (by decide) rfl hl rfl (Nat.le_of_ble_eq_true rfl) dX5_mix_52 (by omega) (fun _ H locs _ h => ?_)
        refine lv_ixor hx hb dX5_mix_55 ?_
        refine lv_iload_n hx hb dX5_mix_56 rfl (lv_at hl 1 rfl) ?_
        refine lv_iconst (v := nI 3) hx hb dX5_mix_57 (by decide) ?_
        refine n_iushr hx hb dX5_mix_58 ?_
        refine lv_ixor hx hb dX5_mix_59 ?_
        refine lv_iadd hx hb dX5_mix_60 ?_
        refine lv_aload_n hx hb dX5_mix_61 rfl (lv_at hl 3 rfl) ?_
        refine o_getS C h (RC := RX5) (T := TX5) (N := 6) (List.mem_of_getElem? (i := 0) rfl) rfl in_X5 4 (by decide) q246 q247 (v := .ref wo) rfl dX5_mix_62 ?_
        refine lv_iload_n hx hb dX5_mix_65 rfl (lv_at hl 2 rfl) ?_
        refine lv_bipush (v := nI 7) hx hb dX5_mix_66 (by decide) ?_
        refine lv_isub hx hb dX5_mix_68 (n_top (y := nI (i - 7)) (pk_sub (by omega)) ?_)
        refine n_wald C h (v := (mixF i (sW2 gw) gw) (i - 7)) (List.mem_of_getElem? (i := 2) rfl) (show i - 7 < 64 by omega) (by decide) rfl dX5_mix_69 ?_
        refine n_top (y := sW2 gw (i - 7)) (mixF_lt _ _ (by omega)) ?_
        refine lv_iadd hx hb dX5_mix_70 ?_
        refine lv_iload hx hb dX5_mix_71 (lv_at hl 0 rfl) ?_
        refine lv_bipush (v := nI 15) hx hb dX5_mix_73 (by decide) ?_
        refine call_SN (As := [.int (sW2 gw (i - 2)), .int (nI 15)]) (rest := [.int (((sW2 gw (i - 16)) + (((rotl (sW2 gw (i - 15)) (nI 25)) ^^^ (rotl (sW2 gw (i - 15)) (nI 14))) ^^^ (ushr (sW2 gw (i - 15)) (nI 3)))) + (sW2 gw (i - 7))), .int (nI i), .ref wo]) (n := 2) C h (c1_turn l D dA B Z hZ _ (sW2 gw (i - 2)) (nI 15)) (lw_meth q1212) q1220 q1211 q129 (by decide +kernel) (by decide) (by decide) rfl hl rfl (Nat.le_of_ble_eq_true rfl) dX5_mix_75 (by omega) (fun _ H locs _ h => ?_)
        refine lv_iload hx hb dX5_mix_78 (lv_at hl 0 rfl) ?_
        refine lv_bipush (v := nI 13) hx hb dX5_mix_80 (by decide) ?_
        refine call_SN (As := [.int (sW2 gw (i - 2)), .int (nI 13)]) (rest := [.int (rotl (sW2 gw (i - 2)) (nI 15)), .int (((sW2 gw (i - 16)) + (((rotl (sW2 gw (i - 15)) (nI 25)) ^^^ (rotl (sW2 gw (i - 15)) (nI 14))) ^^^ (ushr (sW2 gw (i - 15)) (nI 3)))) + (sW2 gw (i - 7))), .int (nI i), .ref wo]) (n := 2) C h (c1_turn l D dA B Z hZ _ (sW2 gw (i - 2)) (nI 13)) (lw_meth q1212) q1220 q1211 q129 (by decide +kernel) (by decide) (by decide) rfl hl rfl (Nat.le_of_ble_eq_true rfl) dX5_mix_82 (by omega) (fun _ H locs _ h => ?_)
        refine lv_ixor hx hb dX5_mix_85 ?_
        refine lv_iload hx hb dX5_mix_86 (lv_at hl 0 rfl) ?_
        refine lv_bipush (v := nI 10) hx hb dX5_mix_88 (by decide) ?_
        refine n_iushr hx hb dX5_mix_90 ?_
        refine lv_ixor hx hb dX5_mix_91 ?_
        refine lv_iadd hx hb dX5_mix_92 ?_
        refine n_top (y := sW2 gw i) (by rw [sW2_hi hi0, i_ord]; rfl) ?_
        refine x_wast C h 2 (v := sW2 gw i) (ws' := [(ho, .inr (3, [.ref st, .ref fi, .ref bl, .long mn, .ref wo, .ref ei])), (st, war dA 8 x), (wo, war dA 64 (upN (mixF i (sW2 gw) gw) i (sW2 gw i))), (ei, war dA 8 y)] ++ F) rfl (by omega) (by decide) rfl dX5_mix_93 (fun H locs h => ?_)
        rw [mixF_s] at h
        have h : Wd D B s ([(ho, .inr (3, [.ref st, .ref fi, .ref bl, .long mn, .ref wo, .ref ei])), (st, war dA 8 x), (wo, war dA 64 (mixF (i + 1) (sW2 gw) gw)), (ei, war dA 8 y)] ++ F) H locs := h
        refine lv_iinc (v := nI (i + 1)) (lv' := [(2, .int (nI (i + 1))), (4, .int (sW2 gw (i - 2))), (3, .int (sW2 gw (i - 15))), (0, .ref ho), (1, .ref st)]) hx hb dX5_mix_94 hl (k := 2) rfl (nI_add i 1) (by decide) rfl (fun ls hl => ?_)
        refine lv_goto (tgt := 3) hx hb dX5_mix_97 (by decide) ?_
        exact ih (i + 1) (by omega) (by omega) (by omega) _ _ h _ (lv_sub hl [0, 3, 4] rfl)
  exact loop _ 16 (by omega) (by omega) (Nat.lt_succ_self _) _ _ h _ (lv_sub hl [0, 1, 2] rfl)
