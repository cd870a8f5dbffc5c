set_option maxRecDepth 100000

section IX
variable {p : Program} {l : Launch} {e : Env} {R : Room} {s : State} {m : MethodId} {args : Array Value} {below : List Frame} {meth : Method} {c : Code} {H : Heap} {locs : List Loc} {cells slots : Nat} {Q : State → Prop} {cc : ByteArray} {pc : Nat} {ls : Array Slot} {rest : List Value}
variable {nL : Nat} {own : String} {D : va_G} {dA : Nat → ClassId} {B : Nat} {Z : State → Prop} {d mc ms : Nat} {X F Y : va_W}
theorem n_iastX {a n i v : Nat} {g : Nat → Nat} (C : Cx p R s m args c cc nL own D dA B Z d mc ms) (h : Wd D B s (X ++ (F ++ (a, iar dA n g) :: Y)) H locs) (hi : i < n) (hn : n < 2147483648) (hdg : decode cc pc = .ok (.iastore, 1))
    (kk : ∀ (H1 : Heap) (locs1 : List Loc), Wd D B s (X ++ (F ++ (a, iar dA n (upN g i v)) :: Y)) H1 locs1 → W p l e R s m args below meth c H1 locs1 cells slots Q (F0 m (pc + 1) ls rest)) : W p l e R s m args below meth c H locs cells slots Q (F0 m pc ls (.int (nI v) :: .int (nI i) :: .ref a :: rest)) := by
  have e1 : ∀ z, (X ++ (F ++ (a, z) :: Y)).Perm ((X ++ F ++ Y) ++ [(a, z)]) := fun z => by
    rw [← List.append_assoc, List.append_assoc (X ++ F)]
    exact List.Perm.append_left _ (List.perm_append_comm (l₁ := [(a, z)]) (l₂ := Y))
  exact n_iastL C (h.permL (e1 _)) hi hn hdg (fun H1 locs1 h => kk H1 locs1 (h.permL (e1 _).symm))
end IX
theorem gD_set {l : List Nat} {i v : Nat} (h : i < l.length) : upN (gD l) i v = gD (l.set i v) := by
  funext j
  rw [upN_if]
  unfold gD
  rw [List.getD_eq_getElem?_getD, List.getD_eq_getElem?_getD, List.getElem?_set]
  by_cases e : j = i
  · subst e; rw [if_pos rfl, if_pos rfl, if_pos h]; rfl
  · rw [if_neg e, if_neg (Ne.symm e)]
theorem gD_zero (n : Nat) : (fun _ => 0 : Nat → Nat) = gD (List.replicate n 0) := by
  funext j
  unfold gD
  rw [List.getD_eq_getElem?_getD, List.getElem?_replicate]
  split <;> rfl
theorem gD_out {l : List Nat} {j : Nat} (h : l.length ≤ j) : gD l j = 0 := by
  unfold gD
  rw [List.getD_eq_getElem?_getD, List.getElem?_eq_none_iff.mpr h]; rfl
theorem appG_out {G : Nat → Nat} {n : Nat} {l : List Nat} {j : Nat} (h : n + l.length ≤ j) : appG G n l j = G j := by
  unfold appG
  rw [if_neg (by omega), List.getElem?_eq_none_iff.mpr (by omega)]; rfl
theorem appG_mid {G : Nat → Nat} {n : Nat} {l : List Nat} {j : Nat} (h : n ≤ j) (h2 : j < n + l.length) : appG G n l j = gD l (j - n) := by
  have := appG_in (G := G) (n := n) (l := l) (j := j - n) (by omega)
  rw [show n + (j - n) = j by omega] at this
  exact this
theorem appG_snoc (G : Nat → Nat) (n : Nat) (l : List Nat) (b : Nat) {k : Nat} (hk : k = n + l.length) : upN (appG G n l) k b = appG G n (l ++ [b]) := by
  rw [hk, appG_one, appG_app]
theorem iar_ial {dA : Nat → ClassId} {n : Nat} {g f : Nat → Nat} (h : ∀ j, j < n → g j = f j) (h0 : ∀ j, n ≤ j → g j = 0) : iar dA n g = ial dA (sl f 0 n) := by
  unfold ial
  rw [sl_len]
  congr 1
  funext j
  by_cases q : j < n
  · rw [sl_getD q, Nat.zero_add, h j q]
  · rw [h0 j (by omega)]; exact (gD_out (by rw [sl_len]; omega)).symm
def frontL (w : Nat) : List Nat := if w = 2 then [48, 33, 48, 9, 6, 5, 43, 14, 3, 2, 26, 5, 0, 4, 20] else [48, 49, 48, 13, 6, 9, 96, 134, 72, 1, 101, 3, 4, 2, 1, 5, 0, 4, 32]
def padF (fr dg : List Nat) (n j : Nat) : Nat := if j = 0 then 0 else if j = 1 then 1 else if j < n - dg.length - fr.length - 1 then 255 else if j < n - dg.length - fr.length then 0 else if j < n - dg.length then gD fr (j - (n - dg.length - fr.length)) else gD dg (j - (n - dg.length))
def padL (fr dg : List Nat) (n : Nat) : List Nat := sl (padF fr dg n) 0 n
theorem frontL_len (w : Nat) : (frontL w).length = if w = 2 then 15 else 19 := by unfold frontL; split <;> rfl

theorem sl_255 (n : Nat) : sl (fun _ => 255) 0 (n + 1) = sl (fun _ => 255) 0 n ++ [255] := sl_succ _ _ _
theorem mem_2nd {α : Type} (X F : List α) (a : α) {b : α} : b ∈ X ++ (F ++ a :: [b]) := List.mem_append_right _ (List.mem_append_right _ (List.mem_cons_of_mem _ List.mem_cons_self))
set_option maxHeartbeats 400000 in
set_option maxRecDepth 100000 in
theorem c7_padded (l : Launch) (D : va_G) (dA : Nat → ClassId) (B : Nat) (Z : State → Prop) (hZ : Stab B Z) (h0 : Nat) (ad : Nat → Nat) (M : MS) (F : va_W) (wh sz : Nat) (dg : List Nat) (hd : ∀ j, j < dg.length → mG M 22 j = gD dg j) (hdl : dg.length ≤ 32) (hw : wh < 1000) (h1 : dg.length + 19 + 3 ≤ sz) (h2 : sz < 1000000) :
    Ct (S := Nat × va_W) l D dA B Z yX7_padded cX7_padded 8 (some ((.array .int))) 1 2 (sz + 19) [.ref h0, .int (nI wh), .int (nI dg.length), .int (nI sz)] (mw dA h0 ad M ++ F) (fun _ => True) (fun u => some (.ref u.1)) (fun u => mw dA h0 ad M ++ (F ++ ([(u.1, ial dA (padL (frontL wh) dg sz))] ++ u.2))) := by
  refine Ct.mk2 (by decide) (Nat.le_of_ble_eq_true rfl) hZ ?_
  intro p e R s m args below meth c ls Q C hr hlocks hin hQ hl h
  have C0 := C
  obtain ⟨hx, hb, hml, hown, hts, -⟩ := C0
  have hl : lv_has ls 8 [(0, .ref h0), (1, .int (nI wh)), (2, .int (nI dg.length)), (3, .int (nI sz))] := hl
  refine lv_iload_n hx hb dX7_padded_0 rfl (lv_at hl 3 rfl) ?_
  refine n_newa C h (n := sz) (by omega) (by omega) (by omega) dX7_padded_1 (fun q1 H h => ?_)
  have h : Wd D B s (mw dA h0 ad M ++ (F ++ [(q1, iar dA sz (fun _ => 0))])) H [] := by simpa only [List.append_assoc] using h
  refine lv_astore (lv' := [(4, .ref q1), (0, .ref h0), (1, .int (nI wh)), (2, .int (nI dg.length)), (3, .int (nI sz))]) hx hb dX7_padded_3 hl (by decide) rfl (fun ls hl => ?_)
  refine lv_iload_n hx hb dX7_padded_5 rfl (lv_at hl 3 rfl) ?_
  refine lv_istore (lv' := [(5, .int (nI dg.length)), (4, .ref q1), (0, .ref h0), (1, .int (nI wh)), (2, .int (nI dg.length)), (3, .int (nI sz))]) hx hb dX7_padded_6 hl (by decide) rfl (fun ls hl => ?_)
  refine lv_iconst (v := nI 0) hx hb dX7_padded_8 (by decide) ?_
  refine lv_istore (lv' := [(6, .int (nI 0)), (5, .int (nI dg.length)), (4, .ref q1), (0, .ref h0), (1, .int (nI wh)), (2, .int (nI dg.length)), (3, .int (nI sz))]) hx hb dX7_padded_9 hl (by decide) rfl (fun ls hl => ?_)
  have h : Wd D B s (mw dA h0 ad M ++ (F ++ (q1, iar dA sz (appG (fun _ => 0) (sz - dg.length) (sl (mG M 22) 0 0))) :: [])) H [] := by rw [sl_0, appG_nil]; exact h
  have loop : ∀ (nn : Nat) (i : Nat), (i ≤ dg.length) → dg.length - i < nn → ∀ (H : Heap) (locs : List Loc), Wd D B s (mw dA h0 ad M ++ (F ++ (q1, iar dA sz (appG (fun _ => 0) (sz - dg.length) (sl (mG M 22) 0 i))) :: [])) H locs → ∀ (ls : Array Slot), lv_has ls 8 [(6, .int (nI i)), (0, .ref h0), (1, .int (nI wh)), (2, .int (nI dg.length)), (3, .int (nI sz)), (4, .ref q1), (5, .int (nI dg.length))] → W p l e R s m args below meth c H locs (0 + 1) (0 + sz) Q (F0 m 11 ls []) := by
    intro nn
    induction nn with
    | zero => intro i  hi0 hme; exact absurd hme (Nat.not_lt_zero _)
    | succ nn ih =>
      intro i  hi0 hme H locs h ls hl
      refine lv_iload hx hb dX7_padded_11 (lv_at hl 0 rfl) ?_
      refine lv_iload_n hx hb dX7_padded_13 rfl (lv_at hl 3 rfl) ?_
      refine n_icmp_ge (tgt := 39) hx hb (by omega) (by omega) dX7_padded_14 (by decide) (fun c14 => ?_) (fun c14 => ?_)
      · have hi9 : i = dg.length := by omega
        rw [hi9] at h
        have hsd : sl (mG M 22) 0 dg.length = dg := (sl_congr (fun j hj => by rw [Nat.zero_add]; exact hd j hj)).trans (sl_gD dg)
        rw [hsd] at h
        have h : Wd D B s (mw dA h0 ad M ++ (F ++ [(q1, iar dA sz (appG (fun _ => 0) (sz - dg.length) dg))])) H locs := h
        refine lv_iload_n hx hb dX7_padded_39 rfl (lv_at hl 2 rfl) ?_
        refine lv_iconst (v := nI 2) hx hb dX7_padded_40 (by decide) ?_
        refine n_icmp_ne (tgt := 129) hx hb (by omega) (by omega) dX7_padded_41 (by decide) (fun c41 => ?_) (fun c41 => ?_)
        · refine lv_bipush (v := nI 19) hx hb dX7_padded_129 (by decide) ?_
          refine n_newa C h (n := 19) (by decide) (by omega) (by omega) dX7_padded_131 (fun q2 H h => ?_)
          rw [show iar dA 19 (fun _ => 0) = iar dA 19 (gD (List.replicate 19 0)) from congrArg (iar dA 19) (gD_zero 19), List.append_assoc] at h
          have h : Wd D B s (mw dA h0 ad M ++ (F ++ [(q1, iar dA sz (appG (fun _ => 0) (sz - dg.length) dg))] ++ [(q2, iar dA 19 (gD [0, 0, 0, 0, 0, 0, 0, 0, 0, 0, 0, 0, 0, 0, 0, 0, 0, 0, 0]))])) H locs := h
          refine lv_dup hx hb dX7_padded_133 rfl ?_
          refine lv_iconst (v := nI 0) hx hb dX7_padded_134 (by decide) ?_
          refine lv_bipush (v := nI 48) hx hb dX7_padded_135 (by decide) ?_
          refine n_iastF C h (i := 0) (v := 48) (by decide) (by decide) dX7_padded_137 (fun H locs h => ?_)
          rw [gD_set (by decide)] at h
          have h : Wd D B s (mw dA h0 ad M ++ (F ++ [(q1, iar dA sz (appG (fun _ => 0) (sz - dg.length) dg))] ++ [(q2, iar dA 19 (gD [48, 0, 0, 0, 0, 0, 0, 0, 0, 0, 0, 0, 0, 0, 0, 0, 0, 0, 0]))])) H locs := h
          refine lv_dup hx hb dX7_padded_138 rfl ?_
          refine lv_iconst (v := nI 1) hx hb dX7_padded_139 (by decide) ?_
          refine lv_bipush (v := nI 49) hx hb dX7_padded_140 (by decide) ?_
          refine n_iastF C h (i := 1) (v := 49) (by decide) (by decide) dX7_padded_142 (fun H locs h => ?_)
          rw [gD_set (by decide)] at h
          have h : Wd D B s (mw dA h0 ad M ++ (F ++ [(q1, iar dA sz (appG (fun _ => 0) (sz - dg.length) dg))] ++ [(q2, iar dA 19 (gD [48, 49, 0, 0, 0, 0, 0, 0, 0, 0, 0, 0, 0, 0, 0, 0, 0, 0, 0]))])) H locs := h
          refine lv_dup hx hb dX7_padded_143 rfl ?_
          refine lv_iconst (v := nI 2) hx hb dX7_padded_144 (by decide) ?_
          refine lv_bipush (v := nI 48) hx hb dX7_padded_145 (by decide) ?_
          refine n_iastF C h (i := 2) (v := 48) (by decide) (by decide) dX7_padded_147 (fun H locs h => ?_)
          rw [gD_set (by decide)] at h
          have h : Wd D B s (mw dA h0 ad M ++ (F ++ [(q1, iar dA sz (appG (fun _ => 0) (sz - dg.length) dg))] ++ [(q2, iar dA 19 (gD [48, 49, 48, 0, 0, 0, 0, 0, 0, 0, 0, 0, 0, 0, 0, 0, 0, 0, 0]))])) H locs := h
          refine lv_dup hx hb dX7_padded_148 rfl ?_
          refine lv_iconst (v := nI 3) hx hb dX7_padded_149 (by decide) ?_
          refine lv_bipush (v := nI 13) hx hb dX7_padded_150 (by decide) ?_
          refine n_iastF C h (i := 3) (v := 13) (by decide) (by decide) dX7_padded_152 (fun H locs h => ?_)
          rw [gD_set (by decide)] at h
          have h : Wd D B s (mw dA h0 ad M ++ (F ++ [(q1, iar dA sz (appG (fun _ => 0) (sz - dg.length) dg))] ++ [(q2, iar dA 19 (gD [48, 49, 48, 13, 0, 0, 0, 0, 0, 0, 0, 0, 0, 0, 0, 0, 0, 0, 0]))])) H locs := h
          refine lv_dup hx hb dX7_padded_153 rfl ?_
          refine lv_iconst (v := nI 4) hx hb dX7_padded_154 (by decide) ?_
          refine lv_bipush (v := nI 6) hx hb dX7_padded_155 (by decide) ?_
          refine n_iastF C h (i := 4) (v := 6) (by decide) (by decide) dX7_padded_157 (fun H locs h => ?_)
          rw [gD_set (by decide)] at h
          have h : Wd D B s (mw dA h0 ad M ++ (F ++ [(q1, iar dA sz (appG (fun _ => 0) (sz - dg.length) dg))] ++ [(q2, iar dA 19 (gD [48, 49, 48, 13, 6, 0, 0, 0, 0, 0, 0, 0, 0, 0, 0, 0, 0, 0, 0]))])) H locs := h
          refine lv_dup hx hb dX7_padded_158 rfl ?_
          refine lv_iconst (v := nI 5) hx hb dX7_padded_159 (by decide) ?_
          refine lv_bipush (v := nI 9) hx hb dX7_padded_160 (by decide) ?_
          refine n_iastF C h (i := 5) (v := 9) (by decide) (by decide) dX7_padded_162 (fun H locs h => ?_)
          rw [gD_set (by decide)] at h
          have h : Wd D B s (mw dA h0 ad M ++ (F ++ [(q1, iar dA sz (appG (fun _ => 0) (sz - dg.length) dg))] ++ [(q2, iar dA 19 (gD [48, 49, 48, 13, 6, 9, 0, 0, 0, 0, 0, 0, 0, 0, 0, 0, 0, 0, 0]))])) H locs := h
          refine lv_dup hx hb dX7_padded_163 rfl ?_
          refine lv_bipush (v := nI 6) hx hb dX7_padded_164 (by decide) ?_
          refine lv_bipush (v := nI 96) hx hb dX7_padded_166 (by decide) ?_
          refine n_iastF C h (i := 6) (v := 96) (by decide) (by decide) dX7_padded_168 (fun H locs h => ?_)
          rw [gD_set (by decide)] at h
          have h : Wd D B s (mw dA h0 ad M ++ (F ++ [(q1, iar dA sz (appG (fun _ => 0) (sz - dg.length) dg))] ++ [(q2, iar dA 19 (gD [48, 49, 48, 13, 6, 9, 96, 0, 0, 0, 0, 0, 0, 0, 0, 0, 0, 0, 0]))])) H locs := h
          refine lv_dup hx hb dX7_padded_169 rfl ?_
          refine lv_bipush (v := nI 7) hx hb dX7_padded_170 (by decide) ?_
          refine lv_sipush (v := nI 134) hx hb dX7_padded_172 (by decide) ?_
          refine n_iastF C h (i := 7) (v := 134) (by decide) (by decide) dX7_padded_175 (fun H locs h => ?_)
          rw [gD_set (by decide)] at h
          have h : Wd D B s (mw dA h0 ad M ++ (F ++ [(q1, iar dA sz (appG (fun _ => 0) (sz - dg.length) dg))] ++ [(q2, iar dA 19 (gD [48, 49, 48, 13, 6, 9, 96, 134, 0, 0, 0, 0, 0, 0, 0, 0, 0, 0, 0]))])) H locs := h
          refine lv_dup hx hb dX7_padded_176 rfl ?_
          refine lv_bipush (v := nI 8) hx hb dX7_padded_177 (by decide) ?_
          refine lv_bipush (v := nI 72) hx hb dX7_padded_179 (by decide) ?_
          refine n_iastF C h (i := 8) (v := 72) (by decide) (by decide) dX7_padded_181 (fun H locs h => ?_)
          rw [gD_set (by decide)] at h
          have h : Wd D B s (mw dA h0 ad M ++ (F ++ [(q1, iar dA sz (appG (fun _ => 0) (sz - dg.length) dg))] ++ [(q2, iar dA 19 (gD [48, 49, 48, 13, 6, 9, 96, 134, 72, 0, 0, 0, 0, 0, 0, 0, 0, 0, 0]))])) H locs := h
          refine lv_dup hx hb dX7_padded_182 rfl ?_
          refine lv_bipush (v := nI 9) hx hb dX7_padded_183 (by decide) ?_
          refine lv_iconst (v := nI 1) hx hb dX7_padded_185 (by decide) ?_
          refine n_iastF C h (i := 9) (v := 1) (by decide) (by decide) dX7_padded_186 (fun H locs h => ?_)
          rw [gD_set (by decide)] at h
          have h : Wd D B s (mw dA h0 ad M ++ (F ++ [(q1, iar dA sz (appG (fun _ => 0) (sz - dg.length) dg))] ++ [(q2, iar dA 19 (gD [48, 49, 48, 13, 6, 9, 96, 134, 72, 1, 0, 0, 0, 0, 0, 0, 0, 0, 0]))])) H locs := h
          refine lv_dup hx hb dX7_padded_187 rfl ?_
          refine lv_bipush (v := nI 10) hx hb dX7_padded_188 (by decide) ?_
          refine lv_bipush (v := nI 101) hx hb dX7_padded_190 (by decide) ?_
          refine n_iastF C h (i := 10) (v := 101) (by decide) (by decide) dX7_padded_192 (fun H locs h => ?_)
          rw [gD_set (by decide)] at h
          have h : Wd D B s (mw dA h0 ad M ++ (F ++ [(q1, iar dA sz (appG (fun _ => 0) (sz - dg.length) dg))] ++ [(q2, iar dA 19 (gD [48, 49, 48, 13, 6, 9, 96, 134, 72, 1, 101, 0, 0, 0, 0, 0, 0, 0, 0]))])) H locs := h
          refine lv_dup hx hb dX7_padded_193 rfl ?_
          refine lv_bipush (v := nI 11) hx hb dX7_padded_194 (by decide) ?_
          refine lv_iconst (v := nI 3) hx hb dX7_padded_196 (by decide) ?_
          refine n_iastF C h (i := 11) (v := 3) (by decide) (by decide) dX7_padded_197 (fun H locs h => ?_)
          rw [gD_set (by decide)] at h
          have h : Wd D B s (mw dA h0 ad M ++ (F ++ [(q1, iar dA sz (appG (fun _ => 0) (sz - dg.length) dg))] ++ [(q2, iar dA 19 (gD [48, 49, 48, 13, 6, 9, 96, 134, 72, 1, 101, 3, 0, 0, 0, 0, 0, 0, 0]))])) H locs := h
          refine lv_dup hx hb dX7_padded_198 rfl ?_
          refine lv_bipush (v := nI 12) hx hb dX7_padded_199 (by decide) ?_
          refine lv_iconst (v := nI 4) hx hb dX7_padded_201 (by decide) ?_
          refine n_iastF C h (i := 12) (v := 4) (by decide) (by decide) dX7_padded_202 (fun H locs h => ?_)
          rw [gD_set (by decide)] at h
          have h : Wd D B s (mw dA h0 ad M ++ (F ++ [(q1, iar dA sz (appG (fun _ => 0) (sz - dg.length) dg))] ++ [(q2, iar dA 19 (gD [48, 49, 48, 13, 6, 9, 96, 134, 72, 1, 101, 3, 4, 0, 0, 0, 0, 0, 0]))])) H locs := h
          refine lv_dup hx hb dX7_padded_203 rfl ?_
          refine lv_bipush (v := nI 13) hx hb dX7_padded_204 (by decide) ?_
          refine lv_iconst (v := nI 2) hx hb dX7_padded_206 (by decide) ?_
          refine n_iastF C h (i := 13) (v := 2) (by decide) (by decide) dX7_padded_207 (fun H locs h => ?_)
          rw [gD_set (by decide)] at h
          have h : Wd D B s (mw dA h0 ad M ++ (F ++ [(q1, iar dA sz (appG (fun _ => 0) (sz - dg.length) dg))] ++ [(q2, iar dA 19 (gD [48, 49, 48, 13, 6, 9, 96, 134, 72, 1, 101, 3, 4, 2, 0, 0, 0, 0, 0]))])) H locs := h
          refine lv_dup hx hb dX7_padded_208 rfl ?_
          refine lv_bipush (v := nI 14) hx hb dX7_padded_209 (by decide) ?_
          refine lv_iconst (v := nI 1) hx hb dX7_padded_211 (by decide) ?_
          refine n_iastF C h (i := 14) (v := 1) (by decide) (by decide) dX7_padded_212 (fun H locs h => ?_)
          rw [gD_set (by decide)] at h
          have h : Wd D B s (mw dA h0 ad M ++ (F ++ [(q1, iar dA sz (appG (fun _ => 0) (sz - dg.length) dg))] ++ [(q2, iar dA 19 (gD [48, 49, 48, 13, 6, 9, 96, 134, 72, 1, 101, 3, 4, 2, 1, 0, 0, 0, 0]))])) H locs := h
          refine lv_dup hx hb dX7_padded_213 rfl ?_
          refine lv_bipush (v := nI 15) hx hb dX7_padded_214 (by decide) ?_
          refine lv_iconst (v := nI 5) hx hb dX7_padded_216 (by decide) ?_
          refine n_iastF C h (i := 15) (v := 5) (by decide) (by decide) dX7_padded_217 (fun H locs h => ?_)
          rw [gD_set (by decide)] at h
          have h : Wd D B s (mw dA h0 ad M ++ (F ++ [(q1, iar dA sz (appG (fun _ => 0) (sz - dg.length) dg))] ++ [(q2, iar dA 19 (gD [48, 49, 48, 13, 6, 9, 96, 134, 72, 1, 101, 3, 4, 2, 1, 5, 0, 0, 0]))])) H locs := h
          refine lv_dup hx hb dX7_padded_218 rfl ?_
          refine lv_bipush (v := nI 16) hx hb dX7_padded_219 (by decide) ?_
          refine lv_iconst (v := nI 0) hx hb dX7_padded_221 (by decide) ?_
          refine n_iastF C h (i := 16) (v := 0) (by decide) (by decide) dX7_padded_222 (fun H locs h => ?_)
          rw [gD_set (by decide)] at h
          have h : Wd D B s (mw dA h0 ad M ++ (F ++ [(q1, iar dA sz (appG (fun _ => 0) (sz - dg.length) dg))] ++ [(q2, iar dA 19 (gD [48, 49, 48, 13, 6, 9, 96, 134, 72, 1, 101, 3, 4, 2, 1, 5, 0, 0, 0]))])) H locs := h
          refine lv_dup hx hb dX7_padded_223 rfl ?_
          refine lv_bipush (v := nI 17) hx hb dX7_padded_224 (by decide) ?_
          refine lv_iconst (v := nI 4) hx hb dX7_padded_226 (by decide) ?_
          refine n_iastF C h (i := 17) (v := 4) (by decide) (by decide) dX7_padded_227 (fun H locs h => ?_)
          rw [gD_set (by decide)] at h
          have h : Wd D B s (mw dA h0 ad M ++ (F ++ [(q1, iar dA sz (appG (fun _ => 0) (sz - dg.length) dg))] ++ [(q2, iar dA 19 (gD [48, 49, 48, 13, 6, 9, 96, 134, 72, 1, 101, 3, 4, 2, 1, 5, 0, 4, 0]))])) H locs := h
          refine lv_dup hx hb dX7_padded_228 rfl ?_
          refine lv_bipush (v := nI 18) hx hb dX7_padded_229 (by decide) ?_
          refine lv_bipush (v := nI 32) hx hb dX7_padded_231 (by decide) ?_
          refine n_iastF C h (i := 18) (v := 32) (by decide) (by decide) dX7_padded_233 (fun H locs h => ?_)
          rw [gD_set (by decide)] at h
          have h : Wd D B s (mw dA h0 ad M ++ (F ++ [(q1, iar dA sz (appG (fun _ => 0) (sz - dg.length) dg))] ++ [(q2, iar dA 19 (gD [48, 49, 48, 13, 6, 9, 96, 134, 72, 1, 101, 3, 4, 2, 1, 5, 0, 4, 32]))])) H locs := h
          have hfr : frontL wh = [48, 49, 48, 13, 6, 9, 96, 134, 72, 1, 101, 3, 4, 2, 1, 5, 0, 4, 32] := by unfold frontL; rw [if_neg (by omega)]
          have hfl : (frontL wh).length = 19 := by rw [hfr]; rfl
          rw [← hfr, List.append_assoc] at h
          have h : Wd D B s (mw dA h0 ad M ++ (F ++ (q1, iar dA sz (appG (fun _ => 0) (sz - dg.length) dg)) :: [(q2, iar dA 19 (gD (frontL wh)))])) H locs := h
          refine lv_astore (lv' := [(6, .ref q2), (0, .ref h0), (1, .int (nI wh)), (2, .int (nI dg.length)), (3, .int (nI sz)), (4, .ref q1), (5, .int (nI dg.length))]) hx hb dX7_padded_234 hl (by decide) rfl (fun ls hl => ?_)
          refine lv_iload hx hb dX7_padded_236 (lv_at hl 6 rfl) ?_
          refine lv_aload hx hb dX7_padded_238 (lv_at hl 0 rfl) ?_
          refine n_alen C h (mem_2nd _ _ _) dX7_padded_240 ?_
          refine lv_iadd hx hb dX7_padded_241 (n_top (y := nI (dg.length + 19)) (nI_add dg.length 19) ?_)
          refine lv_istore (lv' := [(5, .int (nI (dg.length + 19))), (6, .ref q2), (0, .ref h0), (1, .int (nI wh)), (2, .int (nI dg.length)), (3, .int (nI sz)), (4, .ref q1)]) hx hb dX7_padded_242 hl (by decide) rfl (fun ls hl => ?_)
          refine lv_iconst (v := nI 0) hx hb dX7_padded_244 (by decide) ?_
          refine lv_istore (lv' := [(7, .int (nI 0)), (5, .int (nI (dg.length + 19))), (6, .ref q2), (0, .ref h0), (1, .int (nI wh)), (2, .int (nI dg.length)), (3, .int (nI sz)), (4, .ref q1)]) hx hb dX7_padded_245 hl (by decide) rfl (fun ls hl => ?_)
          have h : Wd D B s (mw dA h0 ad M ++ (F ++ (q1, iar dA sz (appG (appG (fun _ => 0) (sz - dg.length) dg) (sz - (dg.length + 19)) (sl (gD (frontL wh)) 0 0))) :: [(q2, iar dA 19 (gD (frontL wh)))])) H locs := by rw [sl_0, appG_nil]; exact h
          have loopF : ∀ (nnF : Nat) (i : Nat), (i ≤ 19) → 19 - i < nnF → ∀ (H : Heap) (locs : List Loc), Wd D B s (mw dA h0 ad M ++ (F ++ (q1, iar dA sz (appG (appG (fun _ => 0) (sz - dg.length) dg) (sz - (dg.length + 19)) (sl (gD (frontL wh)) 0 i))) :: [(q2, iar dA 19 (gD (frontL wh)))])) H locs → ∀ (ls : Array Slot), lv_has ls 8 [(7, .int (nI i)), (0, .ref h0), (1, .int (nI wh)), (2, .int (nI dg.length)), (3, .int (nI sz)), (4, .ref q1), (5, .int (nI (dg.length + 19))), (6, .ref q2)] → W p l e R s m args below meth c H locs (0 + 1 + 1) (0 + sz + 19) Q (F0 m 247 ls []) := by
            intro nnF
            induction nnF with
            | zero => intro i  hi0 hme; exact absurd hme (Nat.not_lt_zero _)
            | succ nnF ihF =>
              intro i  hi0 hme H locs h ls hl
              refine lv_iload hx hb dX7_padded_247 (lv_at hl 0 rfl) ?_
              refine lv_aload hx hb dX7_padded_249 (lv_at hl 7 rfl) ?_
              refine n_alen C h (mem_2nd _ _ _) dX7_padded_251 ?_
              refine n_icmp_ge (tgt := 276) hx hb (by omega) (by omega) dX7_padded_252 (by decide) (fun c252 => ?_) (fun c252 => ?_)
              · refine lv_iconst (v := nI 2) hx hb dX7_padded_276 (by decide) ?_
                refine lv_istore (lv' := [(7, .int (nI 2)), (0, .ref h0), (1, .int (nI wh)), (2, .int (nI dg.length)), (3, .int (nI sz)), (4, .ref q1), (5, .int (nI (dg.length + 19))), (6, .ref q2)]) hx hb dX7_padded_277 hl (by decide) rfl (fun ls hl => ?_)
                have h : Wd D B s (mw dA h0 ad M ++ (F ++ (q1, iar dA sz (appG (appG (appG (fun _ => 0) (sz - dg.length) dg) (sz - (dg.length + 19)) (frontL wh)) 2 (sl (fun _ => 255) 0 0))) :: [(q2, iar dA 19 (gD (frontL wh)))])) H locs := by
                  rw [sl_0, appG_nil]
                  have e9 : sl (gD (frontL wh)) 0 i = frontL wh := by rw [show i = (frontL wh).length by omega]; exact sl_gD _
                  rw [e9] at h; exact h
                have hl : lv_has ls 8 [(7, .int (nI (2 + 0))), (0, .ref h0), (1, .int (nI wh)), (2, .int (nI dg.length)), (3, .int (nI sz)), (4, .ref q1), (5, .int (nI (dg.length + 19))), (6, .ref q2)] := hl
                have loopG : ∀ (nnG : Nat) (k : Nat), (2 + k ≤ sz - (dg.length + 19) - 1) → sz - k < nnG → ∀ (H : Heap) (locs : List Loc), Wd D B s (mw dA h0 ad M ++ (F ++ (q1, iar dA sz (appG (appG (appG (fun _ => 0) (sz - dg.length) dg) (sz - (dg.length + 19)) (frontL wh)) 2 (sl (fun _ => 255) 0 k))) :: [(q2, iar dA 19 (gD (frontL wh)))])) H locs → ∀ (ls : Array Slot), lv_has ls 8 [(7, .int (nI (2 + k))), (0, .ref h0), (1, .int (nI wh)), (2, .int (nI dg.length)), (3, .int (nI sz)), (4, .ref q1), (5, .int (nI (dg.length + 19))), (6, .ref q2)] → W p l e R s m args below meth c H locs (0 + 1 + 1) (0 + sz + 19) Q (F0 m 279 ls []) := by
                  intro nnG
                  induction nnG with
                  | zero => intro k  hi0 hme; exact absurd hme (Nat.not_lt_zero _)
                  | succ nnG ihG =>
                    intro k  hi0 hme H locs h ls hl
                    refine lv_iload hx hb dX7_padded_279 (lv_at hl 0 rfl) ?_
                    refine lv_iload_n hx hb dX7_padded_281 rfl (lv_at hl 4 rfl) ?_
                    refine lv_iload hx hb dX7_padded_282 (lv_at hl 6 rfl) ?_
                    refine lv_isub hx hb dX7_padded_284 (n_top (y := nI (sz - (dg.length + 19))) (pk_sub (by omega)) ?_)
                    refine lv_iconst (v := nI 1) hx hb dX7_padded_285 (by decide) ?_
                    refine lv_isub hx hb dX7_padded_286 (n_top (y := nI ((sz - (dg.length + 19)) - 1)) (pk_sub (by omega)) ?_)
                    refine n_icmp_ge (tgt := 304) hx hb (by omega) (by omega) dX7_padded_287 (by decide) (fun c287 => ?_) (fun c287 => ?_)
                    · refine lv_aload hx hb dX7_padded_304 (lv_at hl 5 rfl) ?_
                      refine lv_iconst (v := nI 1) hx hb dX7_padded_306 (by decide) ?_
                      refine lv_iconst (v := nI 1) hx hb dX7_padded_307 (by decide) ?_
                      refine n_iastX C h (i := 1) (v := 1) (by omega) (by omega) dX7_padded_308 (fun H locs h => ?_)
                      refine lv_aload hx hb dX7_padded_309 (lv_at hl 5 rfl) ?_
                      subst hQ
                      have hfin : iar dA sz (upN (appG (appG (appG (fun _ => 0) (sz - dg.length) dg) (sz - (dg.length + 19)) (frontL wh)) 2 (sl (fun _ => 255) 0 k)) 1 1) = ial dA (padL (frontL wh) dg sz) := by
                        refine iar_ial (fun j hj => ?_) (fun j hj => ?_)
                        · rw [upN_if]; unfold padF; rw [hfl]
                          by_cases a0 : j = 0
                          · subst a0; rw [if_neg (by decide), if_pos rfl, appG_lt (by decide), appG_lt (by omega), appG_lt (by omega)]
                          rw [if_neg a0]
                          by_cases a1 : j = 1
                          · rw [if_pos a1, if_pos a1]
                          rw [if_neg a1, if_neg a1]
                          by_cases a2 : j < sz - dg.length - 19 - 1
                          · rw [if_pos a2, appG_mid (by omega) (by rw [sl_len]; omega)]; exact (sl_getD (by omega))
                          rw [if_neg a2, appG_out (by rw [sl_len]; omega)]
                          by_cases a3 : j < sz - dg.length - 19
                          · rw [if_pos a3, appG_lt (by omega), appG_lt (by omega)]
                          rw [if_neg a3]
                          by_cases a4 : j < sz - dg.length
                          · rw [if_pos a4, appG_mid (by omega) (by omega), show sz - (dg.length + 19) = sz - dg.length - 19 by omega]
                          rw [if_neg a4, appG_out (by omega), appG_mid (by omega) (by omega)]
                        · rw [upN_if, if_neg (by omega), appG_out (by rw [sl_len]; omega), appG_out (by omega), appG_out (by omega)]
                      rw [hfin] at h
                      exact ret_a C hr (Or.inr ⟨_, rfl⟩) hlocks h (q1, [(q2, iar dA 19 (gD (frontL wh)))]) trivial (Or.inr ⟨_, rfl⟩) rfl rfl (by omega) (by omega) dX7_padded_311
                    · refine lv_aload hx hb dX7_padded_290 (lv_at hl 5 rfl) ?_
                      refine lv_iload hx hb dX7_padded_292 (lv_at hl 0 rfl) ?_
                      refine lv_sipush (v := nI 255) hx hb dX7_padded_294 (by decide) ?_
                      refine n_iastX C h (i := 2 + k) (v := 255) (by omega) (by omega) dX7_padded_297 (fun H locs h => ?_)
                      rw [appG_snoc _ _ _ _ (by rw [sl_len]), ← sl_255] at h
                      refine lv_iinc (v := nI (2 + k + 1)) (lv' := [(7, .int (nI (2 + k + 1))), (0, .ref h0), (1, .int (nI wh)), (2, .int (nI dg.length)), (3, .int (nI sz)), (4, .ref q1), (5, .int (nI (dg.length + 19))), (6, .ref q2)]) hx hb dX7_padded_298 hl (k := 0) rfl (nI_add (2 + k) 1) (by decide) rfl (fun ls hl => ?_)
                      refine lv_goto (tgt := 279) hx hb dX7_padded_301 (by decide) ?_
                      exact ihG (k + 1) (by omega) (by omega) _ _ h _ (lv_sub hl [0, 1, 2, 3, 4, 5, 6, 7] rfl)
                exact loopG _ 0 (by omega) (Nat.lt_succ_self _) _ _ h _ (lv_sub hl [0, 1, 2, 3, 4, 5, 6, 7] rfl)
              · refine lv_aload hx hb dX7_padded_255 (lv_at hl 5 rfl) ?_
                refine lv_iload_n hx hb dX7_padded_257 rfl (lv_at hl 4 rfl) ?_
                refine lv_iload hx hb dX7_padded_258 (lv_at hl 6 rfl) ?_
                refine lv_isub hx hb dX7_padded_260 (n_top (y := nI (sz - (dg.length + 19))) (pk_sub (by omega)) ?_)
                refine lv_iload hx hb dX7_padded_261 (lv_at hl 0 rfl) ?_
                refine lv_iadd hx hb dX7_padded_263 (n_top (y := nI ((sz - (dg.length + 19)) + i)) (nI_add (sz - (dg.length + 19)) i) ?_)
                refine lv_aload hx hb dX7_padded_264 (lv_at hl 7 rfl) ?_
                refine lv_iload hx hb dX7_padded_266 (lv_at hl 0 rfl) ?_
                refine n_iald C h (v := (gD (frontL wh)) i) (mem_2nd _ _ _) (show i < 19 by omega) (by decide) rfl dX7_padded_268 ?_
                refine n_iastX C h (i := (sz - (dg.length + 19)) + i) (v := (gD (frontL wh)) i) (by omega) (by omega) dX7_padded_269 (fun H locs h => ?_)
                rw [appG_snoc _ _ _ _ (by rw [sl_len]), show gD (frontL wh) i = gD (frontL wh) (0 + i) by rw [Nat.zero_add], ← sl_succ] at h
                refine lv_iinc (v := nI (i + 1)) (lv' := [(7, .int (nI (i + 1))), (0, .ref h0), (1, .int (nI wh)), (2, .int (nI dg.length)), (3, .int (nI sz)), (4, .ref q1), (5, .int (nI (dg.length + 19))), (6, .ref q2)]) hx hb dX7_padded_270 hl (k := 0) rfl (nI_add i 1) (by decide) rfl (fun ls hl => ?_)
                refine lv_goto (tgt := 247) hx hb dX7_padded_273 (by decide) ?_
                exact ihF (i + 1) (by omega) (by omega) _ _ h _ (lv_sub hl [0, 1, 2, 3, 4, 5, 6, 7] rfl)
          exact loopF _ 0 (by omega) (Nat.lt_succ_self _) _ _ h _ (lv_sub hl [0, 3, 4, 5, 6, 7, 1, 2] rfl)
        · refine lv_bipush (v := nI 15) hx hb dX7_padded_44 (by decide) ?_
          refine n_newa C h (n := 15) (by decide) (by omega) (by omega) dX7_padded_46 (fun q2 H h => ?_)
          rw [show iar dA 15 (fun _ => 0) = iar dA 15 (gD (List.replicate 15 0)) from congrArg (iar dA 15) (gD_zero 15), List.append_assoc] at h
          have h : Wd D B s (mw dA h0 ad M ++ (F ++ [(q1, iar dA sz (appG (fun _ => 0) (sz - dg.length) dg))] ++ [(q2, iar dA 15 (gD [0, 0, 0, 0, 0, 0, 0, 0, 0, 0, 0, 0, 0, 0, 0]))])) H locs := h
          refine lv_dup hx hb dX7_padded_48 rfl ?_
          refine lv_iconst (v := nI 0) hx hb dX7_padded_49 (by decide) ?_
          refine lv_bipush (v := nI 48) hx hb dX7_padded_50 (by decide) ?_
          refine n_iastF C h (i := 0) (v := 48) (by decide) (by decide) dX7_padded_52 (fun H locs h => ?_)
          rw [gD_set (by decide)] at h
          have h : Wd D B s (mw dA h0 ad M ++ (F ++ [(q1, iar dA sz (appG (fun _ => 0) (sz - dg.length) dg))] ++ [(q2, iar dA 15 (gD [48, 0, 0, 0, 0, 0, 0, 0, 0, 0, 0, 0, 0, 0, 0]))])) H locs := h
          refine lv_dup hx hb dX7_padded_53 rfl ?_
          refine lv_iconst (v := nI 1) hx hb dX7_padded_54 (by decide) ?_
          refine lv_bipush (v := nI 33) hx hb dX7_padded_55 (by decide) ?_
          refine n_iastF C h (i := 1) (v := 33) (by decide) (by decide) dX7_padded_57 (fun H locs h => ?_)
          rw [gD_set (by decide)] at h
          have h : Wd D B s (mw dA h0 ad M ++ (F ++ [(q1, iar dA sz (appG (fun _ => 0) (sz - dg.length) dg))] ++ [(q2, iar dA 15 (gD [48, 33, 0, 0, 0, 0, 0, 0, 0, 0, 0, 0, 0, 0, 0]))])) H locs := h
          refine lv_dup hx hb dX7_padded_58 rfl ?_
          refine lv_iconst (v := nI 2) hx hb dX7_padded_59 (by decide) ?_
          refine lv_bipush (v := nI 48) hx hb dX7_padded_60 (by decide) ?_
          refine n_iastF C h (i := 2) (v := 48) (by decide) (by decide) dX7_padded_62 (fun H locs h => ?_)
          rw [gD_set (by decide)] at h
          have h : Wd D B s (mw dA h0 ad M ++ (F ++ [(q1, iar dA sz (appG (fun _ => 0) (sz - dg.length) dg))] ++ [(q2, iar dA 15 (gD [48, 33, 48, 0, 0, 0, 0, 0, 0, 0, 0, 0, 0, 0, 0]))])) H locs := h
          refine lv_dup hx hb dX7_padded_63 rfl ?_
          refine lv_iconst (v := nI 3) hx hb dX7_padded_64 (by decide) ?_
          refine lv_bipush (v := nI 9) hx hb dX7_padded_65 (by decide) ?_
          refine n_iastF C h (i := 3) (v := 9) (by decide) (by decide) dX7_padded_67 (fun H locs h => ?_)
          rw [gD_set (by decide)] at h
          have h : Wd D B s (mw dA h0 ad M ++ (F ++ [(q1, iar dA sz (appG (fun _ => 0) (sz - dg.length) dg))] ++ [(q2, iar dA 15 (gD [48, 33, 48, 9, 0, 0, 0, 0, 0, 0, 0, 0, 0, 0, 0]))])) H locs := h
          refine lv_dup hx hb dX7_padded_68 rfl ?_
          refine lv_iconst (v := nI 4) hx hb dX7_padded_69 (by decide) ?_
          refine lv_bipush (v := nI 6) hx hb dX7_padded_70 (by decide) ?_
          refine n_iastF C h (i := 4) (v := 6) (by decide) (by decide) dX7_padded_72 (fun H locs h => ?_)
          rw [gD_set (by decide)] at h
          have h : Wd D B s (mw dA h0 ad M ++ (F ++ [(q1, iar dA sz (appG (fun _ => 0) (sz - dg.length) dg))] ++ [(q2, iar dA 15 (gD [48, 33, 48, 9, 6, 0, 0, 0, 0, 0, 0, 0, 0, 0, 0]))])) H locs := h
          refine lv_dup hx hb dX7_padded_73 rfl ?_
          refine lv_iconst (v := nI 5) hx hb dX7_padded_74 (by decide) ?_
          refine lv_iconst (v := nI 5) hx hb dX7_padded_75 (by decide) ?_
          refine n_iastF C h (i := 5) (v := 5) (by decide) (by decide) dX7_padded_76 (fun H locs h => ?_)
          rw [gD_set (by decide)] at h
          have h : Wd D B s (mw dA h0 ad M ++ (F ++ [(q1, iar dA sz (appG (fun _ => 0) (sz - dg.length) dg))] ++ [(q2, iar dA 15 (gD [48, 33, 48, 9, 6, 5, 0, 0, 0, 0, 0, 0, 0, 0, 0]))])) H locs := h
          refine lv_dup hx hb dX7_padded_77 rfl ?_
          refine lv_bipush (v := nI 6) hx hb dX7_padded_78 (by decide) ?_
          refine lv_bipush (v := nI 43) hx hb dX7_padded_80 (by decide) ?_
          refine n_iastF C h (i := 6) (v := 43) (by decide) (by decide) dX7_padded_82 (fun H locs h => ?_)
          rw [gD_set (by decide)] at h
          have h : Wd D B s (mw dA h0 ad M ++ (F ++ [(q1, iar dA sz (appG (fun _ => 0) (sz - dg.length) dg))] ++ [(q2, iar dA 15 (gD [48, 33, 48, 9, 6, 5, 43, 0, 0, 0, 0, 0, 0, 0, 0]))])) H locs := h
          refine lv_dup hx hb dX7_padded_83 rfl ?_
          refine lv_bipush (v := nI 7) hx hb dX7_padded_84 (by decide) ?_
          refine lv_bipush (v := nI 14) hx hb dX7_padded_86 (by decide) ?_
          refine n_iastF C h (i := 7) (v := 14) (by decide) (by decide) dX7_padded_88 (fun H locs h => ?_)
          rw [gD_set (by decide)] at h
          have h : Wd D B s (mw dA h0 ad M ++ (F ++ [(q1, iar dA sz (appG (fun _ => 0) (sz - dg.length) dg))] ++ [(q2, iar dA 15 (gD [48, 33, 48, 9, 6, 5, 43, 14, 0, 0, 0, 0, 0, 0, 0]))])) H locs := h
          refine lv_dup hx hb dX7_padded_89 rfl ?_
          refine lv_bipush (v := nI 8) hx hb dX7_padded_90 (by decide) ?_
          refine lv_iconst (v := nI 3) hx hb dX7_padded_92 (by decide) ?_
          refine n_iastF C h (i := 8) (v := 3) (by decide) (by decide) dX7_padded_93 (fun H locs h => ?_)
          rw [gD_set (by decide)] at h
          have h : Wd D B s (mw dA h0 ad M ++ (F ++ [(q1, iar dA sz (appG (fun _ => 0) (sz - dg.length) dg))] ++ [(q2, iar dA 15 (gD [48, 33, 48, 9, 6, 5, 43, 14, 3, 0, 0, 0, 0, 0, 0]))])) H locs := h
          refine lv_dup hx hb dX7_padded_94 rfl ?_
          refine lv_bipush (v := nI 9) hx hb dX7_padded_95 (by decide) ?_
          refine lv_iconst (v := nI 2) hx hb dX7_padded_97 (by decide) ?_
          refine n_iastF C h (i := 9) (v := 2) (by decide) (by decide) dX7_padded_98 (fun H locs h => ?_)
          rw [gD_set (by decide)] at h
          have h : Wd D B s (mw dA h0 ad M ++ (F ++ [(q1, iar dA sz (appG (fun _ => 0) (sz - dg.length) dg))] ++ [(q2, iar dA 15 (gD [48, 33, 48, 9, 6, 5, 43, 14, 3, 2, 0, 0, 0, 0, 0]))])) H locs := h
          refine lv_dup hx hb dX7_padded_99 rfl ?_
          refine lv_bipush (v := nI 10) hx hb dX7_padded_100 (by decide) ?_
          refine lv_bipush (v := nI 26) hx hb dX7_padded_102 (by decide) ?_
          refine n_iastF C h (i := 10) (v := 26) (by decide) (by decide) dX7_padded_104 (fun H locs h => ?_)
          rw [gD_set (by decide)] at h
          have h : Wd D B s (mw dA h0 ad M ++ (F ++ [(q1, iar dA sz (appG (fun _ => 0) (sz - dg.length) dg))] ++ [(q2, iar dA 15 (gD [48, 33, 48, 9, 6, 5, 43, 14, 3, 2, 26, 0, 0, 0, 0]))])) H locs := h
          refine lv_dup hx hb dX7_padded_105 rfl ?_
          refine lv_bipush (v := nI 11) hx hb dX7_padded_106 (by decide) ?_
          refine lv_iconst (v := nI 5) hx hb dX7_padded_108 (by decide) ?_
          refine n_iastF C h (i := 11) (v := 5) (by decide) (by decide) dX7_padded_109 (fun H locs h => ?_)
          rw [gD_set (by decide)] at h
          have h : Wd D B s (mw dA h0 ad M ++ (F ++ [(q1, iar dA sz (appG (fun _ => 0) (sz - dg.length) dg))] ++ [(q2, iar dA 15 (gD [48, 33, 48, 9, 6, 5, 43, 14, 3, 2, 26, 5, 0, 0, 0]))])) H locs := h
          refine lv_dup hx hb dX7_padded_110 rfl ?_
          refine lv_bipush (v := nI 12) hx hb dX7_padded_111 (by decide) ?_
          refine lv_iconst (v := nI 0) hx hb dX7_padded_113 (by decide) ?_
          refine n_iastF C h (i := 12) (v := 0) (by decide) (by decide) dX7_padded_114 (fun H locs h => ?_)
          rw [gD_set (by decide)] at h
          have h : Wd D B s (mw dA h0 ad M ++ (F ++ [(q1, iar dA sz (appG (fun _ => 0) (sz - dg.length) dg))] ++ [(q2, iar dA 15 (gD [48, 33, 48, 9, 6, 5, 43, 14, 3, 2, 26, 5, 0, 0, 0]))])) H locs := h
          refine lv_dup hx hb dX7_padded_115 rfl ?_
          refine lv_bipush (v := nI 13) hx hb dX7_padded_116 (by decide) ?_
          refine lv_iconst (v := nI 4) hx hb dX7_padded_118 (by decide) ?_
          refine n_iastF C h (i := 13) (v := 4) (by decide) (by decide) dX7_padded_119 (fun H locs h => ?_)
          rw [gD_set (by decide)] at h
          have h : Wd D B s (mw dA h0 ad M ++ (F ++ [(q1, iar dA sz (appG (fun _ => 0) (sz - dg.length) dg))] ++ [(q2, iar dA 15 (gD [48, 33, 48, 9, 6, 5, 43, 14, 3, 2, 26, 5, 0, 4, 0]))])) H locs := h
          refine lv_dup hx hb dX7_padded_120 rfl ?_
          refine lv_bipush (v := nI 14) hx hb dX7_padded_121 (by decide) ?_
          refine lv_bipush (v := nI 20) hx hb dX7_padded_123 (by decide) ?_
          refine n_iastF C h (i := 14) (v := 20) (by decide) (by decide) dX7_padded_125 (fun H locs h => ?_)
          rw [gD_set (by decide)] at h
          have h : Wd D B s (mw dA h0 ad M ++ (F ++ [(q1, iar dA sz (appG (fun _ => 0) (sz - dg.length) dg))] ++ [(q2, iar dA 15 (gD [48, 33, 48, 9, 6, 5, 43, 14, 3, 2, 26, 5, 0, 4, 20]))])) H locs := h
          refine lv_goto (tgt := 234) hx hb dX7_padded_126 (by decide) ?_
          have hfr : frontL wh = [48, 33, 48, 9, 6, 5, 43, 14, 3, 2, 26, 5, 0, 4, 20] := by unfold frontL; rw [if_pos (by omega)]
          have hfl : (frontL wh).length = 15 := by rw [hfr]; rfl
          rw [← hfr, List.append_assoc] at h
          have h : Wd D B s (mw dA h0 ad M ++ (F ++ (q1, iar dA sz (appG (fun _ => 0) (sz - dg.length) dg)) :: [(q2, iar dA 15 (gD (frontL wh)))])) H locs := h
          refine lv_astore (lv' := [(6, .ref q2), (0, .ref h0), (1, .int (nI wh)), (2, .int (nI dg.length)), (3, .int (nI sz)), (4, .ref q1), (5, .int (nI dg.length))]) hx hb dX7_padded_234 hl (by decide) rfl (fun ls hl => ?_)
          refine lv_iload hx hb dX7_padded_236 (lv_at hl 6 rfl) ?_
          refine lv_aload hx hb dX7_padded_238 (lv_at hl 0 rfl) ?_
          refine n_alen C h (mem_2nd _ _ _) dX7_padded_240 ?_
          refine lv_iadd hx hb dX7_padded_241 (n_top (y := nI (dg.length + 15)) (nI_add dg.length 15) ?_)
          refine lv_istore (lv' := [(5, .int (nI (dg.length + 15))), (6, .ref q2), (0, .ref h0), (1, .int (nI wh)), (2, .int (nI dg.length)), (3, .int (nI sz)), (4, .ref q1)]) hx hb dX7_padded_242 hl (by decide) rfl (fun ls hl => ?_)
          refine lv_iconst (v := nI 0) hx hb dX7_padded_244 (by decide) ?_
          refine lv_istore (lv' := [(7, .int (nI 0)), (5, .int (nI (dg.length + 15))), (6, .ref q2), (0, .ref h0), (1, .int (nI wh)), (2, .int (nI dg.length)), (3, .int (nI sz)), (4, .ref q1)]) hx hb dX7_padded_245 hl (by decide) rfl (fun ls hl => ?_)
          have h : Wd D B s (mw dA h0 ad M ++ (F ++ (q1, iar dA sz (appG (appG (fun _ => 0) (sz - dg.length) dg) (sz - (dg.length + 15)) (sl (gD (frontL wh)) 0 0))) :: [(q2, iar dA 15 (gD (frontL wh)))])) H locs := by rw [sl_0, appG_nil]; exact h
          have loopF : ∀ (nnF : Nat) (i : Nat), (i ≤ 15) → 15 - i < nnF → ∀ (H : Heap) (locs : List Loc), Wd D B s (mw dA h0 ad M ++ (F ++ (q1, iar dA sz (appG (appG (fun _ => 0) (sz - dg.length) dg) (sz - (dg.length + 15)) (sl (gD (frontL wh)) 0 i))) :: [(q2, iar dA 15 (gD (frontL wh)))])) H locs → ∀ (ls : Array Slot), lv_has ls 8 [(7, .int (nI i)), (0, .ref h0), (1, .int (nI wh)), (2, .int (nI dg.length)), (3, .int (nI sz)), (4, .ref q1), (5, .int (nI (dg.length + 15))), (6, .ref q2)] → W p l e R s m args below meth c H locs (0 + 1 + 1) (0 + sz + 15) Q (F0 m 247 ls []) := by
            intro nnF
            induction nnF with
            | zero => intro i  hi0 hme; exact absurd hme (Nat.not_lt_zero _)
            | succ nnF ihF =>
              intro i  hi0 hme H locs h ls hl
              refine lv_iload hx hb dX7_padded_247 (lv_at hl 0 rfl) ?_
              refine lv_aload hx hb dX7_padded_249 (lv_at hl 7 rfl) ?_
              refine n_alen C h (mem_2nd _ _ _) dX7_padded_251 ?_
              refine n_icmp_ge (tgt := 276) hx hb (by omega) (by omega) dX7_padded_252 (by decide) (fun c252 => ?_) (fun c252 => ?_)
              · refine lv_iconst (v := nI 2) hx hb dX7_padded_276 (by decide) ?_
                refine lv_istore (lv' := [(7, .int (nI 2)), (0, .ref h0), (1, .int (nI wh)), (2, .int (nI dg.length)), (3, .int (nI sz)), (4, .ref q1), (5, .int (nI (dg.length + 15))), (6, .ref q2)]) hx hb dX7_padded_277 hl (by decide) rfl (fun ls hl => ?_)
                have h : Wd D B s (mw dA h0 ad M ++ (F ++ (q1, iar dA sz (appG (appG (appG (fun _ => 0) (sz - dg.length) dg) (sz - (dg.length + 15)) (frontL wh)) 2 (sl (fun _ => 255) 0 0))) :: [(q2, iar dA 15 (gD (frontL wh)))])) H locs := by
                  rw [sl_0, appG_nil]
                  have e9 : sl (gD (frontL wh)) 0 i = frontL wh := by rw [show i = (frontL wh).length by omega]; exact sl_gD _
                  rw [e9] at h; exact h
                have hl : lv_has ls 8 [(7, .int (nI (2 + 0))), (0, .ref h0), (1, .int (nI wh)), (2, .int (nI dg.length)), (3, .int (nI sz)), (4, .ref q1), (5, .int (nI (dg.length + 15))), (6, .ref q2)] := hl
                have loopG : ∀ (nnG : Nat) (k : Nat), (2 + k ≤ sz - (dg.length + 15) - 1) → sz - k < nnG → ∀ (H : Heap) (locs : List Loc), Wd D B s (mw dA h0 ad M ++ (F ++ (q1, iar dA sz (appG (appG (appG (fun _ => 0) (sz - dg.length) dg) (sz - (dg.length + 15)) (frontL wh)) 2 (sl (fun _ => 255) 0 k))) :: [(q2, iar dA 15 (gD (frontL wh)))])) H locs → ∀ (ls : Array Slot), lv_has ls 8 [(7, .int (nI (2 + k))), (0, .ref h0), (1, .int (nI wh)), (2, .int (nI dg.length)), (3, .int (nI sz)), (4, .ref q1), (5, .int (nI (dg.length + 15))), (6, .ref q2)] → W p l e R s m args below meth c H locs (0 + 1 + 1) (0 + sz + 15) Q (F0 m 279 ls []) := by
                  intro nnG
                  induction nnG with
                  | zero => intro k  hi0 hme; exact absurd hme (Nat.not_lt_zero _)
                  | succ nnG ihG =>
                    intro k  hi0 hme H locs h ls hl
                    refine lv_iload hx hb dX7_padded_279 (lv_at hl 0 rfl) ?_
                    refine lv_iload_n hx hb dX7_padded_281 rfl (lv_at hl 4 rfl) ?_
                    refine lv_iload hx hb dX7_padded_282 (lv_at hl 6 rfl) ?_
                    refine lv_isub hx hb dX7_padded_284 (n_top (y := nI (sz - (dg.length + 15))) (pk_sub (by omega)) ?_)
                    refine lv_iconst (v := nI 1) hx hb dX7_padded_285 (by decide) ?_
                    refine lv_isub hx hb dX7_padded_286 (n_top (y := nI ((sz - (dg.length + 15)) - 1)) (pk_sub (by omega)) ?_)
                    refine n_icmp_ge (tgt := 304) hx hb (by omega) (by omega) dX7_padded_287 (by decide) (fun c287 => ?_) (fun c287 => ?_)
                    · refine lv_aload hx hb dX7_padded_304 (lv_at hl 5 rfl) ?_
                      refine lv_iconst (v := nI 1) hx hb dX7_padded_306 (by decide) ?_
                      refine lv_iconst (v := nI 1) hx hb dX7_padded_307 (by decide) ?_
                      refine n_iastX C h (i := 1) (v := 1) (by omega) (by omega) dX7_padded_308 (fun H locs h => ?_)
                      refine lv_aload hx hb dX7_padded_309 (lv_at hl 5 rfl) ?_
                      subst hQ
                      have hfin : iar dA sz (upN (appG (appG (appG (fun _ => 0) (sz - dg.length) dg) (sz - (dg.length + 15)) (frontL wh)) 2 (sl (fun _ => 255) 0 k)) 1 1) = ial dA (padL (frontL wh) dg sz) := by
                        refine iar_ial (fun j hj => ?_) (fun j hj => ?_)
                        · rw [upN_if]; unfold padF; rw [hfl]
                          by_cases a0 : j = 0
                          · subst a0; rw [if_neg (by decide), if_pos rfl, appG_lt (by decide), appG_lt (by omega), appG_lt (by omega)]
                          rw [if_neg a0]
                          by_cases a1 : j = 1
                          · rw [if_pos a1, if_pos a1]
                          rw [if_neg a1, if_neg a1]
                          by_cases a2 : j < sz - dg.length - 15 - 1
                          · rw [if_pos a2, appG_mid (by omega) (by rw [sl_len]; omega)]; exact (sl_getD (by omega))
                          rw [if_neg a2, appG_out (by rw [sl_len]; omega)]
                          by_cases a3 : j < sz - dg.length - 15
                          · rw [if_pos a3, appG_lt (by omega), appG_lt (by omega)]
                          rw [if_neg a3]
                          by_cases a4 : j < sz - dg.length
                          · rw [if_pos a4, appG_mid (by omega) (by omega), show sz - (dg.length + 15) = sz - dg.length - 15 by omega]
                          rw [if_neg a4, appG_out (by omega), appG_mid (by omega) (by omega)]
                        · rw [upN_if, if_neg (by omega), appG_out (by rw [sl_len]; omega), appG_out (by omega), appG_out (by omega)]
                      rw [hfin] at h
                      exact ret_a C hr (Or.inr ⟨_, rfl⟩) hlocks h (q1, [(q2, iar dA 15 (gD (frontL wh)))]) trivial (Or.inr ⟨_, rfl⟩) rfl rfl (by omega) (by omega) dX7_padded_311
                    · refine lv_aload hx hb dX7_padded_290 (lv_at hl 5 rfl) ?_
                      refine lv_iload hx hb dX7_padded_292 (lv_at hl 0 rfl) ?_
                      refine lv_sipush (v := nI 255) hx hb dX7_padded_294 (by decide) ?_
                      refine n_iastX C h (i := 2 + k) (v := 255) (by omega) (by omega) dX7_padded_297 (fun H locs h => ?_)
                      rw [appG_snoc _ _ _ _ (by rw [sl_len]), ← sl_255] at h
                      refine lv_iinc (v := nI (2 + k + 1)) (lv' := [(7, .int (nI (2 + k + 1))), (0, .ref h0), (1, .int (nI wh)), (2, .int (nI dg.length)), (3, .int (nI sz)), (4, .ref q1), (5, .int (nI (dg.length + 15))), (6, .ref q2)]) hx hb dX7_padded_298 hl (k := 0) rfl (nI_add (2 + k) 1) (by decide) rfl (fun ls hl => ?_)
                      refine lv_goto (tgt := 279) hx hb dX7_padded_301 (by decide) ?_
                      exact ihG (k + 1) (by omega) (by omega) _ _ h _ (lv_sub hl [0, 1, 2, 3, 4, 5, 6, 7] rfl)
                exact loopG _ 0 (by omega) (Nat.lt_succ_self _) _ _ h _ (lv_sub hl [0, 1, 2, 3, 4, 5, 6, 7] rfl)
              · refine lv_aload hx hb dX7_padded_255 (lv_at hl 5 rfl) ?_
                refine lv_iload_n hx hb dX7_padded_257 rfl (lv_at hl 4 rfl) ?_
                refine lv_iload hx hb dX7_padded_258 (lv_at hl 6 rfl) ?_
                refine lv_isub hx hb dX7_padded_260 (n_top (y := nI (sz - (dg.length + 15))) (pk_sub (by omega)) ?_)
                refine lv_iload hx hb dX7_padded_261 (lv_at hl 0 rfl) ?_
                refine lv_iadd hx hb dX7_padded_263 (n_top (y := nI ((sz - (dg.length + 15)) + i)) (nI_add (sz - (dg.length + 15)) i) ?_)
                refine lv_aload hx hb dX7_padded_264 (lv_at hl 7 rfl) ?_
                refine lv_iload hx hb dX7_padded_266 (lv_at hl 0 rfl) ?_
                refine n_iald C h (v := (gD (frontL wh)) i) (mem_2nd _ _ _) (show i < 15 by omega) (by decide) rfl dX7_padded_268 ?_
                refine n_iastX C h (i := (sz - (dg.length + 15)) + i) (v := (gD (frontL wh)) i) (by omega) (by omega) dX7_padded_269 (fun H locs h => ?_)
                rw [appG_snoc _ _ _ _ (by rw [sl_len]), show gD (frontL wh) i = gD (frontL wh) (0 + i) by rw [Nat.zero_add], ← sl_succ] at h
                refine lv_iinc (v := nI (i + 1)) (lv' := [(7, .int (nI (i + 1))), (0, .ref h0), (1, .int (nI wh)), (2, .int (nI dg.length)), (3, .int (nI sz)), (4, .ref q1), (5, .int (nI (dg.length + 15))), (6, .ref q2)]) hx hb dX7_padded_270 hl (k := 0) rfl (nI_add i 1) (by decide) rfl (fun ls hl => ?_)
                refine lv_goto (tgt := 247) hx hb dX7_padded_273 (by decide) ?_
                exact ihF (i + 1) (by omega) (by omega) _ _ h _ (lv_sub hl [0, 1, 2, 3, 4, 5, 6, 7] rfl)
          exact loopF _ 0 (by omega) (Nat.lt_succ_self _) _ _ h _ (lv_sub hl [0, 3, 4, 5, 6, 7, 1, 2] rfl)
      · refine lv_aload hx hb dX7_padded_17 (lv_at hl 5 rfl) ?_
        refine lv_iload_n hx hb dX7_padded_19 rfl (lv_at hl 4 rfl) ?_
        refine lv_iload_n hx hb dX7_padded_20 rfl (lv_at hl 3 rfl) ?_
        refine lv_isub hx hb dX7_padded_21 (n_top (y := nI (sz - dg.length)) (pk_sub (by omega)) ?_)
        refine lv_iload hx hb dX7_padded_22 (lv_at hl 0 rfl) ?_
        refine lv_iadd hx hb dX7_padded_24 (n_top (y := nI ((sz - dg.length) + i)) (nI_add (sz - dg.length) i) ?_)
        refine lv_aload_n hx hb dX7_padded_25 rfl (lv_at hl 1 rfl) ?_
        refine m_gc C h 22 (by decide) rfl rfl q1892 dX7_padded_26 ?_
        refine lv_iload hx hb dX7_padded_29 (lv_at hl 0 rfl) ?_
        refine n_iald C h (v := (mG M 22) i) (mw_memG (k := 22) (by decide)) (show i < 32 by omega) (by decide) rfl dX7_padded_31 ?_
        refine n_iastX C h (i := (sz - dg.length) + i) (v := (mG M 22) i) (by omega) (by omega) dX7_padded_32 (fun H locs h => ?_)
        rw [appG_snoc _ _ _ _ (by rw [sl_len]), show mG M 22 i = mG M 22 (0 + i) by rw [Nat.zero_add], ← sl_succ] at h
        refine lv_iinc (v := nI (i + 1)) (lv' := [(6, .int (nI (i + 1))), (0, .ref h0), (1, .int (nI wh)), (2, .int (nI dg.length)), (3, .int (nI sz)), (4, .ref q1), (5, .int (nI dg.length))]) hx hb dX7_padded_33 hl (k := 0) rfl (nI_add i 1) (by decide) rfl (fun ls hl => ?_)
        refine lv_goto (tgt := 11) hx hb dX7_padded_36 (by decide) ?_
        exact ih (i + 1) (by omega) (by omega) _ _ h _ (lv_sub hl [0, 1, 2, 3, 4, 5, 6] rfl)
  exact loop _ 0 (by omega) (Nat.lt_succ_self _) _ _ h _ (lv_sub hl [0, 3, 4, 5, 6, 2, 1] rfl)
