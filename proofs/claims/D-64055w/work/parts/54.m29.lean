set_option maxRecDepth 100000

theorem oneS_r {l : List Nat} {u : OU} (h : (oneS l u).2.2 = true) : u.1 < l.length ∧ u.2 = true ∧ oneS l u = (gD l u.1, (u.1 + 1, u.2)) := by
  unfold oneS at h ⊢
  split at h
  · cases h
  · next q => exact ⟨by omega, h, if_neg q⟩
theorem someS_r {l : List Nat} : ∀ {n v : Nat} {u : OU}, (someS l n v u).2.2 = true → (someS l n v u).2.1 = u.1 + n ∧ u.2 = true ∧ (0 < n → u.1 + n ≤ l.length) := by
  intro n
  induction n with
  | zero => intro v u h; exact ⟨rfl, h, fun q => absurd q (Nat.lt_irrefl _)⟩
  | succ n ih =>
    intro v u h
    have h1 := ih (v := v * 256 + (oneS l u).1) (u := (oneS l u).2) h
    have h2 := oneS_r h1.2.1
    have e : (oneS l u).2.1 = u.1 + 1 := by rw [h2.2.2]
    rw [e] at h1
    refine ⟨?_, h2.2.1, fun _ => ?_⟩
    · show (someS l n (v * 256 + (oneS l u).1) (oneS l u).2).2.1 = _
      rw [h1.1]; omega
    · cases n with
      | zero => omega
      | succ n => have := h1.2.2 (by omega); omega
theorem notesR_r {l : List Nat} {sd : Bool} {x : NS × OU} (h : (notesR l sd x).2 = true) : x.2.2 = true ∧ x.2.1 + 2 ≤ (notesR l sd x).1.2.1 := by
  unfold notesR at h ⊢
  split at h
  · cases h
  · next q =>
    rw [if_neg q]
    have hr : (someS l 2 0 x.2).2.2 = true := by
      cases z : (someS l 2 0 x.2).2.2 with
      | true => rfl
      | false => exact absurd (Or.inl z) q
    have h1 := someS_r hr
    refine ⟨h1.2.1, ?_⟩
    have h2 := notesS_mono l sd ((someS l 2 0 x.2).2.1 + (someS l 2 0 x.2).1) (l.length + 1) (x.1, (someS l 2 0 x.2).2)
    have h3 : (someS l 2 0 x.2).2.1 ≤ (notesS l sd ((someS l 2 0 x.2).2.1 + (someS l 2 0 x.2).1) (l.length + 1) (x.1, (someS l 2 0 x.2).2)).1.2.1 := h2
    omega
theorem sealOk_len {l : List Nat} (hb : byt l) (h : sealOk l = true) : 12 ≤ l.length ∧ sType l = gD l 1 := by
  unfold sealOk at h
  simp only [Bool.and_eq_true, decide_eq_true_eq] at h
  obtain ⟨⟨h5, h6⟩, h8, h9⟩ := h
  have a5 := notesR_r h5
  have a6 := notesR_r h6
  have a4 := oneS_r (l := l) (u := (sU3 l).2) a5.1
  have a3 := oneS_r (l := l) (u := (sU2 l).2) a4.2.1
  have a2 := oneS_r (l := l) (u := (sU1 l).2) a3.2.1
  have a1 := oneS_r (l := l) (u := (0, true)) a2.2.1
  have e1 : (sU1 l).2.1 = 1 := by show (oneS l (0, true)).2.1 = 1; rw [a1.2.2]
  have e2 : (sU2 l).2.1 = (sU1 l).2.1 + 1 := by show (oneS l (sU1 l).2).2.1 = _; rw [a2.2.2]
  have e3 : (sU3 l).2.1 = (sU2 l).2.1 + 1 := by show (oneS l (sU2 l).2).2.1 = _; rw [a3.2.2]
  have e4 : (sU4 l).2.1 = (sU3 l).2.1 + 1 := by show (oneS l (sU3 l).2).2.1 = _; rw [a4.2.2]
  have b5 : (sU4 l).2.1 + 2 ≤ (sX5 l).1.2.1 := a5.2
  have b6 : (sX5 l).1.2.1 + 2 ≤ (sX6 l).1.2.1 := a6.2
  have h8' : (someS l 2 0 (sU7 l).2).2.2 = true := by
    have z : (numS l (sU7 l).2).2.2 = true := h8
    unfold numS at z
    split at z
    · cases z
    · rw [Bool.and_eq_true] at z; exact z.1
  have c8 := someS_r h8'
  have c7 := someS_r (l := l) (n := 2) (v := 0) (u := (sX6 l).1.2) c8.2.1
  have c9 := c8.2.2 (by decide)
  have d7 : (sU7 l).2.1 = (sX6 l).1.2.1 + 2 := c7.1
  refine ⟨by omega, ?_⟩
  show (oneS l (sU1 l).2).1 = _
  rw [a2.2.2, e1]
/-- when a key was made -/
def kmd (l : List Nat) : Nat := num (sl (gD l) 1 4)
def mdN (b : List Nat) : Nat := (sNote b).1.getD 0
def enN (b : List Nat) : Nat := (sNote b).2.1
def mayS (kx : PK) (b : List Nat) (t : Nat) : Bool := !sVain b && (decide (mdN b ≤ t) && (decide (kmd kx.2.1 ≤ mdN b) && !decide (0 < enN b ∧ mdN b + enN b ≤ t)))
def countS (kx x : PK) (b : List Nat) (t : Nat) : Bool := mayS kx b t && trueS (atMsg kx x) b kx.2.1
theorem sVain_f {b : List Nat} (h : sVain b = false) : (sNote b).1 = some (mdN b) := by
  unfold sVain at h
  rw [Bool.or_eq_false_iff] at h
  have := of_decide_eq_false h.2
  unfold mdN
  cases q : (sNote b).1 with
  | none => exact absurd q this
  | some v => rfl
theorem mdN_lt {b : List Nat} (hb : byt b) : mdN b < 4294967296 := by
  unfold mdN
  cases q : (sNote b).1 with
  | none => decide
  | some v => exact (sNote_nb hb).1 v q
theorem kmd_lt {l : List Nat} (hb : byt l) : kmd l < 4294967296 := by
  have := num_lt (l := sl (gD l) 1 4) (sl_byt (byt_gD hb))
  rw [sl_len] at this
  exact this

set_option maxHeartbeats 400000 in
set_option maxRecDepth 100000 in
theorem c7_typeAt (l : Launch) (D : va_G) (dA : Nat → ClassId) (B : Nat) (Z : State → Prop) (hZ : Stab B Z) (h0 : Nat) (ad : Nat → Nat) (M : MS) (F : va_W) (L : List PK) (j : Nat) (x : PK) (hR : CurR dA F ad M L) (hPK : PKs L) (hLl : L.length ≤ 4650) (hxx : L[j]? = some x) (h2 : 2 ≤ x.2.1.length) :
    Ct (S := Unit) l D dA B Z yX7_typeAt cX7_typeAt 2 (some .int) 1 0 0 [.ref h0, .int (nI j)] (mw dA h0 ad M ++ F) (fun _ => True) (fun _ => some (.int (nI (gD x.2.1 1)))) (fun _ => mw dA h0 ad M ++ F) := by
  refine Ct.mk2 (by decide) (Nat.le_of_ble_eq_true rfl) hZ ?_
  intro p e R s m args below meth c ls Q C hr hlocks hin hQ hl h
  have C0 := C
  obtain ⟨hx, hb, hml, hown, hts, -⟩ := C0
  have hl : lv_has ls 2 [(0, .ref h0), (1, .int (nI j))] := hl
  have hjl := (List.getElem?_eq_some_iff.mp hxx).1
  obtain ⟨hxxk, ⟨qxx, hqxx, hqxxF⟩, hxxs⟩ := hR.1 _ _ hxx
  have hxxo := hPK.at hxx
  have hxx1 := hxxo.1
  have hxxl := hxxo.2.2.1
  refine lv_aload_n hx hb dX7_typeAt_0 rfl (lv_at hl 0 rfl) ?_
  refine m_gr C h 14 (by decide) rfl rfl q1884 (v := some (ad 14)) hR.2.2.2.1 dX7_typeAt_1 ?_
  refine lv_iload_n hx hb dX7_typeAt_4 rfl (lv_at hl 1 rfl) ?_
  refine n_aald C h (v := (mA M 14) j) (mw_memA (k := 14) (by decide)) (show j < 4700 by omega) (by decide) rfl dX7_typeAt_5 ?_
  refine n_topv (y := .ref qxx) (congrArg va_rf hqxx) ?_
  refine lv_iconst (v := nI 1) hx hb dX7_typeAt_6 (by decide) ?_
  refine n_iald C h (v := (gD x.2.1) 1) (List.mem_append_right _ hqxxF) (show 1 < x.2.1.length by omega) (by omega) rfl dX7_typeAt_7 ?_
  subst hQ
  exact ret_i C hr hlocks h () trivial rfl rfl (by omega) (by omega) dX7_typeAt_8
set_option maxHeartbeats 400000 in
set_option maxRecDepth 100000 in
theorem c7_madeAt (l : Launch) (D : va_G) (dA : Nat → ClassId) (B : Nat) (Z : State → Prop) (hZ : Stab B Z) (h0 : Nat) (ad : Nat → Nat) (M : MS) (F : va_W) (L : List PK) (j : Nat) (x : PK) (hI : MI M) (hR : CurR dA F ad M L) (hPK : PKs L) (hLl : L.length ≤ 4650) (hxx : L[j]? = some x) (hsk : sealOk x.2.1 = true) :
    Ct (S := MS × va_W) l D dA B Z yX7_madeAt cX7_madeAt 3 (some .long) 5 (x.2.1.length / 2 + 1) (5 * x.2.1.length) [.ref h0, .int (nI j)] (mw dA h0 ad M ++ F) (fun u => MI u.1 ∧ Kp M u.1) (fun _ => some (.long (oL (sNote x.2.1).1))) (fun u => mw dA h0 ad u.1 ++ (F ++ u.2)) := by
  refine Ct.mk2 (by decide) (Nat.le_of_ble_eq_true rfl) hZ ?_
  intro p e R s m args below meth c ls Q C hr hlocks hin hQ hl h
  have C0 := C
  obtain ⟨hx, hb, hml, hown, hts, -⟩ := C0
  have hl : lv_has ls 3 [(0, .ref h0), (1, .int (nI j))] := hl
  have hjl := (List.getElem?_eq_some_iff.mp hxx).1
  obtain ⟨hxxk, ⟨qxx, hqxx, hqxxF⟩, hxxs⟩ := hR.1 _ _ hxx
  have hxxo := hPK.at hxx
  have hxx1 := hxxo.1
  have hxxl := hxxo.2.2.1
  refine lv_aload_n hx hb dX7_madeAt_0 rfl (lv_at hl 0 rfl) ?_
  refine lv_aload_n hx hb dX7_madeAt_1 rfl (lv_at hl 0 rfl) ?_
  refine m_gr C h 14 (by decide) rfl rfl q1884 (v := some (ad 14)) hR.2.2.2.1 dX7_madeAt_2 ?_
  refine lv_iload_n hx hb dX7_madeAt_5 rfl (lv_at hl 1 rfl) ?_
  refine n_aald C h (v := (mA M 14) j) (mw_memA (k := 14) (by decide)) (show j < 4700 by omega) (by decide) rfl dX7_madeAt_6 ?_
  refine n_topv (y := .ref qxx) (congrArg va_rf hqxx) ?_
  refine call_V (As := [.ref qxx]) (rest := []) (n := 1) C h (c7_readSeal l D dA B Z hZ h0 ad M F qxx x.2.1 hI hqxxF hxxo.2.1 (by omega)) (lw_V q2344 q2346 qs83 q138 q2347) (by decide +kernel) (ci := 5) rfl rfl mw_mem0 (by decide) (by decide) rfl hl rfl (Nat.le_of_ble_eq_true rfl) dX7_madeAt_7 (by omega) (fun ur2 H locs hur2 h => ?_)
  obtain ⟨M2, E2⟩ := ur2
  obtain ⟨hI2, hK2, hS2⟩ := hur2
  have hI2 : MI M2 := hI2
  have hK2 : Kp M M2 := hK2
  have hS2 : sealOk x.2.1 = true → SealIs dA (F ++ E2) M2 x.2.1 := hS2
  have hR2 : CurR dA (F ++ E2) ad M2 L := hR.kp hK2 (fun z hz => List.mem_append_left _ hz)
  have h : Wd D B s (mw dA h0 ad M2 ++ (F ++ E2)) H locs := h
  have hS3 := hS2 hsk
  refine lv_istore_n (lv' := [(2, .int (bZ (sealOk x.2.1))), (0, .ref h0), (1, .int (nI j))]) hx hb dX7_madeAt_10 rfl hl (by decide) rfl (fun ls hl => ?_)
  refine lv_aload_n hx hb dX7_madeAt_11 rfl (lv_at hl 1 rfl) ?_
  refine m_gl C h 61 (by decide) rfl rfl q1931 (v := oL (sNote x.2.1).1) hS3.2.2.2.2.2.1 dX7_madeAt_12 ?_
  subst hQ
  exact ret_l C hr hlocks h (M2, E2) (⟨hI2, hK2⟩) rfl rfl (by omega) (by omega) dX7_madeAt_15
set_option maxHeartbeats 400000 in
set_option maxRecDepth 100000 in
theorem c7_counts (l : Launch) (D : va_G) (dA : Nat → ClassId) (B : Nat) (Z : State → Prop) (hZ : Stab B Z) (h0 : Nat) (ad : Nat → Nat) (M : MS) (F : va_W) (L : List PK) (j q i t : Nat) (x kx tx9 : PK) (hzR : ∀ U : State, Z U → ∃ t, va_Z "SignetRingModel" "ROUNDS" "[I" (.ref t) (bA B) U U.heap ∧ va_T .int t 64 (fun j => .int (K2 j)) (bA B) U U.heap) (hI : MI M) (hR : CurR dA F ad M L) (hPK : PKs L) (hLl : L.length ≤ 4650) (hxx : L[j]? = some x) (hsk : sealOk x.2.1 = true) (hkx : L[q]? = some kx) (hk5 : 5 ≤ kx.2.1.length) (htx : L[i]? = some tx9) (ht : t < 4294967296) :
    Ct (S := MS × va_W) l D dA B Z yX7_counts cX7_counts 7 (some .boolean) 8 (x.2.1.length / 2 + 10) (5 * x.2.1.length + (6 * kx.2.1.length + 300)) [.ref h0, .int (nI j), .int (nI q), .int (nI i), .long (lN t)] (mw dA h0 ad M ++ F) (fun u => MI u.1 ∧ Kp M u.1) (fun _ => some (.int (bZ (countS kx tx9 x.2.1 t)))) (fun u => mw dA h0 ad u.1 ++ (F ++ u.2)) := by
  refine Ct.mk2 (by decide) (Nat.le_of_ble_eq_true rfl) hZ ?_
  intro p e R s m args below meth c ls Q C hr hlocks hin hQ hl h
  have C0 := C
  obtain ⟨hx, hb, hml, hown, hts, -⟩ := C0
  have hl : lv_has ls 7 [(0, .ref h0), (1, .int (nI j)), (2, .int (nI q)), (3, .int (nI i)), (4, .long (lN t))] := hl
  have hjl := (List.getElem?_eq_some_iff.mp hxx).1
  have hql := (List.getElem?_eq_some_iff.mp hkx).1
  have hil := (List.getElem?_eq_some_iff.mp htx).1
  obtain ⟨hxxk, ⟨qxx, hqxx, hqxxF⟩, hxxs⟩ := hR.1 _ _ hxx
  have hxxo := hPK.at hxx
  have hxx1 := hxxo.1
  have hxxl := hxxo.2.2.1
  obtain ⟨hkxk, ⟨qkx, hqkx, hqkxF⟩, hkxs⟩ := hR.1 _ _ hkx
  have hkxo := hPK.at hkx
  have hkx1 := hkxo.1
  have hkxl := hkxo.2.2.1
  have hml := mdN_lt hxxo.2.1
  have hkl9 := kmd_lt hkxo.2.1
  have hel : enN x.2.1 < 4294967296 := (sNote_nb hxxo.2.1).2.1
  refine lv_aload_n hx hb dX7_counts_0 rfl (lv_at hl 0 rfl) ?_
  refine lv_aload_n hx hb dX7_counts_1 rfl (lv_at hl 0 rfl) ?_
  refine m_gr C h 14 (by decide) rfl rfl q1884 (v := some (ad 14)) hR.2.2.2.1 dX7_counts_2 ?_
  refine lv_iload_n hx hb dX7_counts_5 rfl (lv_at hl 1 rfl) ?_
  refine n_aald C h (v := (mA M 14) j) (mw_memA (k := 14) (by decide)) (show j < 4700 by omega) (by decide) rfl dX7_counts_6 ?_
  refine n_topv (y := .ref qxx) (congrArg va_rf hqxx) ?_
  refine call_V (As := [.ref qxx]) (rest := []) (n := 1) C h (c7_readSeal l D dA B Z hZ h0 ad M F qxx x.2.1 hI hqxxF hxxo.2.1 (by omega)) (lw_V q2344 q2346 qs83 q138 q2347) (by decide +kernel) (ci := 5) rfl rfl mw_mem0 (by decide) (by decide) rfl hl rfl (Nat.le_of_ble_eq_true rfl) dX7_counts_7 (by omega) (fun ur2 H locs hur2 h => ?_)
  obtain ⟨M2, E2⟩ := ur2
  obtain ⟨hI2, hK2, hS2⟩ := hur2
  have hI2 : MI M2 := hI2
  have hK2 : Kp M M2 := hK2
  have hS2 : sealOk x.2.1 = true → SealIs dA (F ++ E2) M2 x.2.1 := hS2
  have hR2 : CurR dA (F ++ E2) ad M2 L := hR.kp hK2 (fun z hz => List.mem_append_left _ hz)
  have h : Wd D B s (mw dA h0 ad M2 ++ (F ++ E2)) H locs := h
  have hS3 := hS2 hsk
  refine z_if_ne (tgt := 15) hx hb dX7_counts_10 (by decide) (fun c10 => ?_) (fun c10 => by exfalso; rw [hsk] at c10; cases c10)
  have jm : ∀ (tjm : Bool), (tjm = decide (mayS kx x.2.1 t = true)) → ∀ (H : Heap) (locs : List Loc), Wd D B s (mw dA h0 ad M2 ++ (F ++ E2)) H locs → ∀ (ls : Array Slot), lv_has ls 7 [(0, .ref h0), (1, .int (nI j)), (2, .int (nI q)), (3, .int (nI i)), (4, .long (lN t))] → W p l e R s m args below meth c H locs (0 + (x.2.1.length / 2 + 1)) (0 + (5 * x.2.1.length)) Q (F0 m 65 ls [.int (bZ tjm)]) := by
    intro tjm  hjm H locs h ls hl
    refine lv_istore (lv' := [(6, .int (bZ tjm)), (0, .ref h0), (1, .int (nI j)), (2, .int (nI q)), (3, .int (nI i)), (4, .long (lN t))]) hx hb dX7_counts_65 hl (by decide) rfl (fun ls hl => ?_)
    refine lv_iload hx hb dX7_counts_67 (lv_at hl 0 rfl) ?_
    refine z_if_eq (tgt := 97) hx hb dX7_counts_69 (by decide) (fun c69 => ?_) (fun c69 => ?_)
    · refine lv_iconst (v := nI 0) hx hb dX7_counts_97 (by decide) ?_
      subst hQ
      have hfin : countS kx tx9 x.2.1 t = false := by unfold countS; rw [show mayS kx x.2.1 t = false from (by simpa using of_decide_eq_false (hjm.symm.trans c69)), Bool.false_and]
      refine n_top (y := bZ false) rfl ?_
      exact ret_z C hr hlocks h (M2, E2) (⟨hI2, hK2⟩) (by rw [hfin]) rfl (by omega) (by omega) dX7_counts_98
    · refine lv_aload_n hx hb dX7_counts_72 rfl (lv_at hl 1 rfl) ?_
      refine lv_aload_n hx hb dX7_counts_73 rfl (lv_at hl 1 rfl) ?_
      refine m_gr C h 14 (by decide) rfl rfl q1884 (v := some (ad 14)) hR2.2.2.2.1 dX7_counts_74 ?_
      refine lv_iload_n hx hb dX7_counts_77 rfl (lv_at hl 2 rfl) ?_
      refine n_aald C h (v := (mA M2 14) j) (mw_memA (k := 14) (by decide)) (show j < 4700 by omega) (by decide) rfl dX7_counts_78 ?_
      refine n_topv (y := .ref qxx) (by rw [show mA M2 14 j = some qxx from (by rw [hK2.2.2.2.2]; exact hqxx)]; rfl) ?_
      refine lv_iload_n hx hb dX7_counts_79 rfl (lv_at hl 3 rfl) ?_
      refine lv_iload_n hx hb dX7_counts_80 rfl (lv_at hl 4 rfl) ?_
      refine lv_aload_n hx hb dX7_counts_81 rfl (lv_at hl 1 rfl) ?_
      refine m_gr C h 14 (by decide) rfl rfl q1884 (v := some (ad 14)) hR2.2.2.2.1 dX7_counts_82 ?_
      refine lv_iload_n hx hb dX7_counts_85 rfl (lv_at hl 3 rfl) ?_
      refine n_aald C h (v := (mA M2 14) q) (mw_memA (k := 14) (by decide)) (show q < 4700 by omega) (by decide) rfl dX7_counts_86 ?_
      refine n_topv (y := .ref qkx) (by rw [show mA M2 14 q = some qkx from (by rw [hK2.2.2.2.2]; exact hqkx)]; rfl) ?_
      refine call_V (As := [.ref qxx, .int (nI q), .int (nI i), .ref qkx]) (rest := []) (n := 4) C h (c7_isTrueAt l D dA B Z hZ h0 ad M2 (F ++ E2) L q i qxx qkx kx tx9 x.2.1 kx.2.1 hzR hI2 hR2 hPK hLl hkx htx hS3 (List.mem_append_left _ hqxxF) hxxo.2.1 (by omega) (List.mem_append_left _ hqkxF) hkxo.2.1 (by omega)) (lw_V q2460 q2462 qs106 q138 q2463) (by decide +kernel) (ci := 5) rfl rfl mw_mem0 (by decide) (by decide) rfl hl rfl (Nat.le_of_ble_eq_true rfl) dX7_counts_87 (by omega) (fun ut H locs hut h => ?_)
      obtain ⟨M5, E5⟩ := ut
      have h : Wd D B s (mw dA h0 ad M5 ++ (F ++ (E2 ++ E5))) H locs := by rw [← List.append_assoc F]; exact h
      refine z_if_eq (tgt := 97) hx hb dX7_counts_90 (by decide) (fun c90 => ?_) (fun c90 => ?_)
      · refine lv_iconst (v := nI 0) hx hb dX7_counts_97 (by decide) ?_
        subst hQ
        have hfin : countS kx tx9 x.2.1 t = false := by unfold countS; rw [show mayS kx x.2.1 t = true from of_decide_eq_true (hjm.symm.trans c69), Bool.true_and]; exact c90
        refine n_top (y := bZ false) rfl ?_
        exact ret_z C hr hlocks h (M5, E2 ++ E5) (⟨hut.1, hK2.trans hut.2⟩) (by rw [hfin]) rfl (by omega) (by omega) dX7_counts_98
      · refine lv_iconst (v := nI 1) hx hb dX7_counts_93 (by decide) ?_
        refine lv_goto (tgt := 98) hx hb dX7_counts_94 (by decide) ?_
        subst hQ
        have hfin : countS kx tx9 x.2.1 t = true := by unfold countS; rw [show mayS kx x.2.1 t = true from of_decide_eq_true (hjm.symm.trans c69), Bool.true_and]; exact c90
        refine n_top (y := bZ true) rfl ?_
        exact ret_z C hr hlocks h (M5, E2 ++ E5) (⟨hut.1, hK2.trans hut.2⟩) (by rw [hfin]) rfl (by omega) (by omega) dX7_counts_98
  refine lv_aload_n hx hb dX7_counts_15 rfl (lv_at hl 0 rfl) ?_
  refine m_gi C h 69 (by decide) rfl rfl q1939 (v := bZ (sVain x.2.1)) hS3.2.2.2.2.2.2.2.2.2.2.2 dX7_counts_16 ?_
  refine z_if_ne (tgt := 64) hx hb dX7_counts_19 (by decide) (fun c19 => ?_) (fun c19 => ?_)
  · refine lv_iconst (v := nI 0) hx hb dX7_counts_64 (by decide) ?_
    refine n_top (y := bZ false) rfl ?_
    exact jm false ((decide_eq_false (by unfold mayS; first | (rw [c19]; exact Bool.false_ne_true) | (rw [decide_eq_false (show ¬ mdN x.2.1 ≤ t by omega), Bool.false_and, Bool.and_false]; exact Bool.false_ne_true) | (rw [decide_eq_false (show ¬ kmd kx.2.1 ≤ mdN x.2.1 by omega), Bool.false_and, Bool.and_false, Bool.and_false]; exact Bool.false_ne_true) | (rw [show decide (0 < enN x.2.1 ∧ mdN x.2.1 + enN x.2.1 ≤ t) = true by assumption, Bool.not_true, Bool.and_false, Bool.and_false, Bool.and_false]; exact Bool.false_ne_true))).symm) _ _ h _ (lv_sub hl [0, 1, 2, 3, 4] rfl)
  · have h612 : mL M2 61 = lN (mdN x.2.1) := by rw [hS3.2.2.2.2.2.1, sVain_f c19]; rfl
    have h622 : mL M2 62 = lN (enN x.2.1) := hS3.2.2.2.2.2.2.1
    refine lv_aload_n hx hb dX7_counts_22 rfl (lv_at hl 0 rfl) ?_
    refine m_gl C h 61 (by decide) rfl rfl q1931 (v := lN (mdN x.2.1)) h612 dX7_counts_23 ?_
    refine lv_lload hx hb dX7_counts_26 (lv_at hl 4 rfl) ?_
    refine n_lcmp_gt (tgt := 64) hx hb (by omega) (by omega) dX7_counts_28 dX7_counts_29 (by decide) (fun c28 => ?_) (fun c28 => ?_)
    · refine lv_iconst (v := nI 0) hx hb dX7_counts_64 (by decide) ?_
      refine n_top (y := bZ false) rfl ?_
      exact jm false ((decide_eq_false (by unfold mayS; first | (rw [c19]; exact Bool.false_ne_true) | (rw [decide_eq_false (show ¬ mdN x.2.1 ≤ t by omega), Bool.false_and, Bool.and_false]; exact Bool.false_ne_true) | (rw [decide_eq_false (show ¬ kmd kx.2.1 ≤ mdN x.2.1 by omega), Bool.false_and, Bool.and_false, Bool.and_false]; exact Bool.false_ne_true) | (rw [show decide (0 < enN x.2.1 ∧ mdN x.2.1 + enN x.2.1 ≤ t) = true by assumption, Bool.not_true, Bool.and_false, Bool.and_false, Bool.and_false]; exact Bool.false_ne_true))).symm) _ _ h _ (lv_sub hl [0, 1, 2, 3, 4] rfl)
    · refine lv_aload_n hx hb dX7_counts_32 rfl (lv_at hl 0 rfl) ?_
      refine m_gl C h 61 (by decide) rfl rfl q1931 (v := lN (mdN x.2.1)) h612 dX7_counts_33 ?_
      refine lv_aload_n hx hb dX7_counts_36 rfl (lv_at hl 0 rfl) ?_
      refine m_gr C h 14 (by decide) rfl rfl q1884 (v := some (ad 14)) hR2.2.2.2.1 dX7_counts_37 ?_
      refine lv_iload_n hx hb dX7_counts_40 rfl (lv_at hl 2 rfl) ?_
      refine n_aald C h (v := (mA M2 14) q) (mw_memA (k := 14) (by decide)) (show q < 4700 by omega) (by decide) rfl dX7_counts_41 ?_
      refine n_topv (y := .ref qkx) (by rw [show mA M2 14 q = some qkx from (by rw [hK2.2.2.2.2]; exact hqkx)]; rfl) ?_
      refine lv_iconst (v := nI 1) hx hb dX7_counts_42 (by decide) ?_
      refine lv_iconst (v := nI 4) hx hb dX7_counts_43 (by decide) ?_
      refine call_S (As := [.ref qkx, .int (nI 1), .int (nI 4)]) (rest := [.long (lN (mdN x.2.1))]) (n := 3) C h (c7_number l D dA B Z hZ _ qkx kx.2.1.length (gD kx.2.1) 1 4 (List.mem_append_right _ (List.mem_append_left _ hqkxF)) (by omega) (by omega) (fun j _ => Nat.lt_trans (byt_gD hkxo.2.1 j) (by decide))) (lw_S q2278 q2279 q138 q2280) (by decide +kernel) (by decide) (by decide) rfl hl rfl (Nat.le_of_ble_eq_true rfl) dX7_counts_44 (by omega) (fun _ H locs _ h => ?_)
      show W p l e R s m args below meth c H locs (0 + (x.2.1.length / 2 + 1) + 0) (0 + (5 * x.2.1.length) + 0) Q (F0 m 47 ls [.long (lN (kmd kx.2.1)), .long (lN (mdN x.2.1))])
      refine n_lcmp_lt (tgt := 64) hx hb (by omega) (by omega) dX7_counts_47 dX7_counts_48 (by decide) (fun c47 => ?_) (fun c47 => ?_)
      · refine lv_iconst (v := nI 0) hx hb dX7_counts_64 (by decide) ?_
        refine n_top (y := bZ false) rfl ?_
        exact jm false ((decide_eq_false (by unfold mayS; first | (rw [c19]; exact Bool.false_ne_true) | (rw [decide_eq_false (show ¬ mdN x.2.1 ≤ t by omega), Bool.false_and, Bool.and_false]; exact Bool.false_ne_true) | (rw [decide_eq_false (show ¬ kmd kx.2.1 ≤ mdN x.2.1 by omega), Bool.false_and, Bool.and_false, Bool.and_false]; exact Bool.false_ne_true) | (rw [show decide (0 < enN x.2.1 ∧ mdN x.2.1 + enN x.2.1 ≤ t) = true by assumption, Bool.not_true, Bool.and_false, Bool.and_false, Bool.and_false]; exact Bool.false_ne_true))).symm) _ _ h _ (lv_sub hl [0, 1, 2, 3, 4] rfl)
      · refine lv_aload_n hx hb dX7_counts_51 rfl (lv_at hl 0 rfl) ?_
        refine lv_lload hx hb dX7_counts_52 (lv_at hl 4 rfl) ?_
        refine call_V (As := [.long (lN t)]) (rest := []) (n := 1) C h (c7_hasEnded l D dA B Z hZ h0 ad M2 (F ++ E2) (mdN x.2.1) (enN x.2.1) t h612 h622 hml hel ht) (lw_V q2403 q2405 qs94 q138 q2406) (by decide +kernel) (ci := 5) rfl rfl mw_mem0 (by decide) (by decide) rfl hl rfl (Nat.le_of_ble_eq_true rfl) dX7_counts_54 (by omega) (fun _ H locs _ h => ?_)
        refine z_if_ne (tgt := 64) hx hb dX7_counts_57 (by decide) (fun c57 => ?_) (fun c57 => ?_)
        · refine lv_iconst (v := nI 0) hx hb dX7_counts_64 (by decide) ?_
          refine n_top (y := bZ false) rfl ?_
          exact jm false ((decide_eq_false (by unfold mayS; first | (rw [c19]; exact Bool.false_ne_true) | (rw [decide_eq_false (show ¬ mdN x.2.1 ≤ t by omega), Bool.false_and, Bool.and_false]; exact Bool.false_ne_true) | (rw [decide_eq_false (show ¬ kmd kx.2.1 ≤ mdN x.2.1 by omega), Bool.false_and, Bool.and_false, Bool.and_false]; exact Bool.false_ne_true) | (rw [show decide (0 < enN x.2.1 ∧ mdN x.2.1 + enN x.2.1 ≤ t) = true by assumption, Bool.not_true, Bool.and_false, Bool.and_false, Bool.and_false]; exact Bool.false_ne_true))).symm) _ _ h _ (lv_sub hl [0, 1, 2, 3, 4] rfl)
        · refine lv_iconst (v := nI 1) hx hb dX7_counts_60 (by decide) ?_
          refine lv_goto (tgt := 65) hx hb dX7_counts_61 (by decide) ?_
          refine n_top (y := bZ true) rfl ?_
          exact jm true ((decide_eq_true (by unfold mayS; rw [c19, decide_eq_true c28, decide_eq_true c47, decide_eq_false (fun z => absurd (decide_eq_true z) (by rw [c57]; decide))]; rfl)).symm) _ _ h _ (lv_sub hl [0, 1, 2, 3, 4] rfl)
