set_option maxRecDepth 100000

theorem apM_kq (M : MS) (G : Nat → Nat) (v : Int32) : Kp M (sI (sG M 21 G) 20 v) := ((Kp.rfl' M).sG (by decide)).sI (by decide)
/-- the number without its zeros ahead -/
def zL (l : List Nat) : List Nat := l.dropWhile (fun x => decide (x = 0))
theorem zL_drop : ∀ {l : List Nat} {i : Nat}, i ≤ l.length → (∀ j, j < i → gD l j = 0) → (i = l.length ∨ gD l i ≠ 0) → l.drop i = zL l := by
  intro l
  induction l with
  | nil => intro i hi _ _; rw [show i = 0 from Nat.le_zero.mp hi]; rfl
  | cons a l ih =>
    intro i hi h0 h1
    cases i with
    | zero =>
      have h2 : a ≠ 0 := by
        rcases h1 with e | e
        · cases e
        · exact e
      unfold zL
      rw [List.dropWhile_cons_of_neg (by simpa using h2)]; rfl
    | succ i =>
      have h2 : a = 0 := h0 0 (Nat.succ_pos _)
      unfold zL
      rw [List.dropWhile_cons_of_pos (by simpa using h2)]
      exact ih (i := i) (Nat.le_of_succ_le_succ hi) (fun j hj => h0 (j + 1) (Nat.succ_lt_succ hj)) (h1.elim (fun e => Or.inl (Nat.succ.inj e)) Or.inr)
theorem zL_len (l : List Nat) : (zL l).length ≤ l.length := List.IsSuffix.length_le (List.dropWhile_suffix _)
theorem zL_byt {l : List Nat} (h : byt l) : byt (zL l) := fun x hx => h x (List.IsSuffix.subset (List.dropWhile_suffix _) hx)
theorem zL_top : ∀ {l : List Nat}, 0 < (zL l).length → gD (zL l) 0 ≠ 0 := by
  intro l
  induction l with
  | nil => intro h; exact absurd h (by decide)
  | cons a l ih =>
    intro h
    unfold zL at h ⊢
    by_cases h2 : a = 0
    · rw [List.dropWhile_cons_of_pos (by simpa using h2)] at h ⊢; exact ih h
    · rw [List.dropWhile_cons_of_neg (by simpa using h2)]; exact h2
/-- how many bits -/
def bitN (l : List Nat) : Nat := if l.length = 0 then 0 else 8 * l.length - 8 + blen (gD l 0)
def hd35 (ty t : Nat) (pr : List Nat) : List Nat := [4, ty, 1, 8, 0, 29, 5, 2] ++ be 4 t ++ [22, 33, 4] ++ pr
def madeM (ty t : Nat) (pr lt : List Nat) : List Nat := txS (decide (ty = 1)) lt lt.length ++ hd35 ty t pr ++ [4] ++ [255] ++ be 4 35
def madeN (dg kb sec : List Nat) : List Nat := zL (be (kN kb).length (num (padL (frontL 8) dg (kN kb).length) ^ num sec % num (kN kb)))
def madeT (pr dg ow : List Nat) : List Nat := [10] ++ [9] ++ [16] ++ sl (fun j => gD pr (12 + j)) 0 8 ++ [gD dg 0] ++ [gD dg 1] ++ [bitN ow / 256] ++ [bitN ow % 256] ++ ow
/-- the body of a seal of a text -/
def madeL (ty t : Nat) (kb sec lt : List Nat) : List Nat := hd35 ty t (sha1 (keyMsg kb)) ++ [0] ++ madeT (sha1 (keyMsg kb)) (sha2 (madeM ty t (sha1 (keyMsg kb)) lt)) (madeN (sha2 (madeM ty t (sha1 (keyMsg kb)) lt)) kb sec)
theorem lb4 {t i : Nat} (ht : t < 4294967296) (hi : i < 4) : lshr (lN t) (nI (24 - 8 * i)) &&& lN 255 = lN (t / 2 ^ (8 * (4 - 1 - i)) % 256) := by
  rw [show 8 * (4 - 1 - i) = 24 - 8 * i by omega, l_shrN (by omega) (by omega)]
  exact l_andN (k := 8) (Nat.lt_of_le_of_lt (Nat.div_le_self _ _) (by omega)) (by decide)
theorem hd35_of (ty t : Nat) (pr : List Nat) (hp : pr.length = 20) : sl (appG (appG (appG (fun _ => 0) 0 [4, ty, 1, 8, 0, 29, 5, 2, 0, 0, 0, 0, 22, 33, 4]) 8 (be 4 t)) 15 pr) 0 35 = hd35 ty t pr := by
  have e1 := sl_appG (appG (appG (fun _ => 0) 0 [4, ty, 1, 8, 0, 29, 5, 2, 0, 0, 0, 0, 22, 33, 4]) 8 (be 4 t)) 15 pr
  rw [hp] at e1
  refine e1.trans ?_
  have e2 := sl_add (appG (appG (fun _ => 0) 0 [4, ty, 1, 8, 0, 29, 5, 2, 0, 0, 0, 0, 22, 33, 4]) 8 (be 4 t)) 0 12 3
  have e3 := sl_appG (appG (fun _ => 0) 0 [4, ty, 1, 8, 0, 29, 5, 2, 0, 0, 0, 0, 22, 33, 4]) 8 (be 4 t)
  rw [be_len] at e3
  have e4 : sl (appG (appG (fun _ => 0) 0 [4, ty, 1, 8, 0, 29, 5, 2, 0, 0, 0, 0, 22, 33, 4]) 8 (be 4 t)) (0 + 12) 3 = [22, 33, 4] := by
    have : sl (appG (appG (fun _ => 0) 0 [4, ty, 1, 8, 0, 29, 5, 2, 0, 0, 0, 0, 22, 33, 4]) 8 (be 4 t)) (0 + 12) 3 = sl (appG (fun _ => 0) 0 [4, ty, 1, 8, 0, 29, 5, 2, 0, 0, 0, 0, 22, 33, 4]) 12 3 := sl_congr (fun j hj => appG_out (by rw [be_len]; omega))
    rw [this]; rfl
  have e5 : sl (appG (fun _ => 0) 0 [4, ty, 1, 8, 0, 29, 5, 2, 0, 0, 0, 0, 22, 33, 4]) 0 8 = [4, ty, 1, 8, 0, 29, 5, 2] := rfl
  rw [show (15 : Nat) = 12 + 3 from rfl, e2, show (12 : Nat) = 8 + 4 from rfl, e3, e5]
  rw [show (0 + (8 + 4) : Nat) = 0 + 12 from rfl, e4]
  rfl
theorem hd35_z (ty t : Nat) (pr : List Nat) (hp : pr.length = 20) {j : Nat} (hj : 35 ≤ j) : appG (appG (appG (fun _ => 0) 0 [4, ty, 1, 8, 0, 29, 5, 2, 0, 0, 0, 0, 22, 33, 4]) 8 (be 4 t)) 15 pr j = 0 := by
  rw [appG_out (by omega), appG_out (by rw [be_len]; omega), appG_out (by show 0 + 15 ≤ j; omega)]
theorem hd35_len (ty t : Nat) {pr : List Nat} (hp : pr.length = 20) : (hd35 ty t pr).length = 35 := by
  unfold hd35; simp only [List.length_append, List.length_cons, List.length_nil, be_len]; omega
theorem hd35_byt {ty t : Nat} {pr : List Nat} (hy : ty < 256) (hp : byt pr) : byt (hd35 ty t pr) := by
  refine byt_app (byt_app (byt_app ?_ (byt_be _ _)) ?_) hp
  · intro x hx; simp only [List.mem_cons, List.not_mem_nil, or_false] at hx; omega
  · intro x hx; revert x; decide
theorem num_pad {n : Nat} {dg kn : List Nat} (hd : dg.length + 19 + 3 ≤ n) (hdb : byt dg) (hn : kn.length = n) (h0 : gD kn 0 ≠ 0) : num (padL (frontL 8) dg n) < num kn := by
  have hl : (padL (frontL 8) dg n).length = n := sl_len _ _ _
  have hb := byt_padL (byt_frontL 8) hdb n
  have hz : gD (padL (frontL 8) dg n) 0 = 0 := by
    unfold padL gD
    rw [sl_getD (by omega)]
    unfold padF
    rw [if_pos rfl]
  obtain ⟨m, rfl⟩ : ∃ m, n = m + 1 := ⟨n - 1, by omega⟩
  have h1 : num (padL (frontL 8) dg (m + 1)) < 256 ^ m := by
    cases hc : padL (frontL 8) dg (m + 1) with
    | nil => rw [hc] at hl; cases hl
    | cons a r =>
      rw [hc] at hl hz hb
      have ha : a = 0 := hz
      rw [num_cons, ha, Nat.zero_mul, Nat.zero_add]
      have := num_lt (l := r) (fun z q => hb z (List.mem_cons_of_mem _ q))
      rwa [show r.length = m from Nat.succ.inj hl] at this
  have h2 := num_top h0
  rw [hn, Nat.add_sub_cancel] at h2
  omega
theorem byt_sl8 {pr : List Nat} (h : byt pr) (a n : Nat) : byt (sl (fun j => gD pr (a + j)) 0 n) := sl_byt (fun j => byt_gD h _)

set_option maxHeartbeats 3000000 in
set_option maxRecDepth 100000 in
theorem c7_made (l : Launch) (D : va_G) (dA : Nat → ClassId) (B : Nat) (Z : State → Prop) (hZ : Stab B Z) (h0 : Nat) (ad : Nat → Nat) (M : MS) (F : va_W) (L : List PK) (p9 ty t n0 ta : Nat) (g : Nat → Nat) (lt sec : List Nat) (tx : PK) (hzR : ∀ U : State, Z U → ∃ t, va_Z "SignetRingModel" "ROUNDS" "[I" (.ref t) (bA B) U U.heap ∧ va_T .int t 64 (fun j => .int (K2 j)) (bA B) U U.heap) (hI : MI M) (hR : CurR dA F ad M L) (hPK : PKs L) (hLl : L.length ≤ 4650) (htx : L[p9]? = some tx) (ht6 : tx.1 = 6 ∨ tx.1 = 14) (hsec : tx.2.2 = some sec) (hty : ty < 2) (ht : t < 4294967296) (hof : ∀ (M1 : MS) (F1 : va_W), Kp M M1 → (ta, iar dA n0 g) ∈ mw dA h0 ad M1 ++ F1) (hg : ∀ j, j < lt.length → g j = gD lt j) (hlt : lt.length ≤ n0) (hn0 : n0 < 1000000) (hltb : byt lt) (hlt5 : lt.length ≤ 5000) :
    Ct (S := Nat × MS × va_W) l D dA B Z yX7_made cX7_made 17 (some ((.array .int))) 7 14 (6 * tx.2.1.length + 1100) [.ref h0, .int (nI p9), .int (nI ty), .ref ta, .int (nI lt.length), .long (lN t)] (mw dA h0 ad M ++ F) (fun u => MI u.2.1 ∧ Kp M u.2.1) (fun u => some (.ref u.1)) (fun u => mw dA h0 ad u.2.1 ++ (F ++ u.2.2 ++ [(u.1, ial dA (madeL ty t tx.2.1 sec lt))])) := by
  refine Ct.mk2 (by decide) (Nat.le_of_ble_eq_true rfl) hZ ?_
  intro p e R s m args below meth c ls Q C hr hlocks hin hQ hl h
  have C0 := C
  obtain ⟨hx, hb, hml, hown, hts, -⟩ := C0
  have hl : lv_has ls 17 [(0, .ref h0), (1, .int (nI p9)), (2, .int (nI ty)), (3, .ref ta), (4, .int (nI lt.length)), (5, .long (lN t))] := hl
  have hil := (List.getElem?_eq_some_iff.mp htx).1
  obtain ⟨htxk, ⟨qtx, hqtx, hqtxF⟩, htxs⟩ := hR.1 _ _ htx
  have htxo := hPK.at htx
  have htx1 := htxo.1
  have htxl := htxo.2.2.1
  have hgood := (htxo.2.2.2.2.2.1 ht6)
  have hkn := keyOk_nums hgood htxo.2.1 (by omega)
  obtain ⟨pr, hpr⟩ : ∃ z, z = (sha1 (keyMsg tx.2.1)) := ⟨_, rfl⟩
  have hprl : pr.length = 20 := by rw [hpr]; exact sha1_len _
  have hprb : byt pr := by rw [hpr]; exact sha1_byt _
  refine lv_aload_n hx hb dX7_made_0 rfl (lv_at hl 0 rfl) ?_
  refine lv_aload_n hx hb dX7_made_1 rfl (lv_at hl 0 rfl) ?_
  refine m_gr C h 14 (by decide) rfl rfl q1884 (v := some (ad 14)) hR.2.2.2.1 dX7_made_2 ?_
  refine lv_iload_n hx hb dX7_made_5 rfl (lv_at hl 1 rfl) ?_
  refine n_aald C h (v := (mA M 14) p9) (mw_memA (k := 14) (by decide)) (show p9 < 4700 by omega) (by decide) rfl dX7_made_6 ?_
  refine n_topv (y := .ref qtx) (congrArg va_rf hqtx) ?_
  refine call_V (As := [.ref qtx]) (rest := []) (n := 1) C h (c7_printOf l D dA B Z hZ h0 ad M F qtx tx.2.1 hzR hI.1 hqtxF htxo.2.1 (by omega)) (lw_V q2240 q2242 qs65 q138 q2243) (by decide +kernel) (ci := 5) rfl rfl mw_mem0 (by decide) (by decide) rfl hl rfl (Nat.le_of_ble_eq_true rfl) dX7_made_7 (by omega) (fun up H locs hup h => ?_)
  obtain ⟨q7, uh⟩ := up
  obtain ⟨hp1, hp2⟩ := hup
  rw [← hpr] at hp2
  have hI1 : MI (hM M uh) := hM_kp2 _ uh hI hp1
  have hK1 : Kp M (hM M uh) := hM_kp _ uh
  obtain ⟨M1, hM1⟩ : ∃ z, z = hM M uh := ⟨_, rfl⟩
  have h : Wd D B s (mw dA h0 ad (hM M uh) ++ (F ++ [(q7, ial dA (sha1 (keyMsg tx.2.1)))])) H locs := h
  rw [← hM1, ← hpr] at h
  rw [← hM1] at hI1 hK1
  obtain ⟨F1, hF1⟩ : ∃ z, z = F ++ [(q7, ial dA pr)] := ⟨_, rfl⟩
  rw [← hF1] at h
  have hq7F : (q7, ial dA pr) ∈ F1 := by rw [hF1]; exact List.mem_append_right _ List.mem_cons_self
  have hFF : ∀ z ∈ F, z ∈ F1 := by rw [hF1]; exact fun z hz => List.mem_append_left _ hz
  have hR1 : CurR dA F1 ad M1 L := hR.kp hK1 hFF
  show W p l e R s m args below meth c H locs (0 + 1) (0 + 20) Q (F0 m 10 ls [.ref q7])
  refine lv_astore (lv' := [(7, .ref q7), (0, .ref h0), (1, .int (nI p9)), (2, .int (nI ty)), (3, .ref ta), (4, .int (nI lt.length)), (5, .long (lN t))]) hx hb dX7_made_10 hl (by decide) rfl (fun ls hl => ?_)
  refine lv_sipush (v := nI 400) hx hb dX7_made_12 (by decide) ?_
  refine n_newa C h (n := 400) (by decide) (by omega) (by omega) dX7_made_15 (fun q1 H h => ?_)
  rw [List.append_assoc] at h
  have h : Wd D B s (mw dA h0 ad M1 ++ (F1 ++ (q1, iar dA 400 (fun _ => 0)) :: [])) H locs := h
  refine lv_astore (lv' := [(8, .ref q1), (7, .ref q7), (0, .ref h0), (1, .int (nI p9)), (2, .int (nI ty)), (3, .ref ta), (4, .int (nI lt.length)), (5, .long (lN t))]) hx hb dX7_made_17 hl (by decide) rfl (fun ls hl => ?_)
  refine lv_bipush (v := nI 15) hx hb dX7_made_19 (by decide) ?_
  refine n_newa C h (n := 15) (by decide) (by omega) (by omega) dX7_made_21 (fun q2 H h => ?_)
  rw [show iar dA 15 (fun _ => 0) = iar dA 15 (gD (List.replicate 15 0)) from congrArg (iar dA 15) (gD_zero 15), List.append_assoc, List.append_assoc] at h
  have h : Wd D B s (mw dA h0 ad M1 ++ (F1 ++ [(q1, iar dA 400 (fun _ => 0))] ++ (q2, iar dA 15 (gD [0, 0, 0, 0, 0, 0, 0, 0, 0, 0, 0, 0, 0, 0, 0])) :: [])) H locs := by rw [List.append_assoc]; exact h
  refine lv_dup hx hb dX7_made_23 rfl ?_
  refine lv_iconst (v := nI 0) hx hb dX7_made_24 (by decide) ?_
  refine lv_iconst (v := nI 4) hx hb dX7_made_25 (by decide) ?_
  refine n_iastX C h (i := 0) (v := 4) (by decide) (by decide) dX7_made_26 (fun H locs h => ?_)
  rw [gD_set (Nat.le_of_ble_eq_true rfl)] at h
  have h : Wd D B s (mw dA h0 ad M1 ++ (F1 ++ [(q1, iar dA 400 (fun _ => 0))] ++ (q2, iar dA 15 (gD [4, 0, 0, 0, 0, 0, 0, 0, 0, 0, 0, 0, 0, 0, 0])) :: [])) H locs := h
  refine lv_dup hx hb dX7_made_27 rfl ?_
  refine lv_iconst (v := nI 1) hx hb dX7_made_28 (by decide) ?_
  refine lv_iload_n hx hb dX7_made_29 rfl (lv_at hl 4 rfl) ?_
  refine n_iastX C h (i := 1) (v := ty) (by decide) (by decide) dX7_made_30 (fun H locs h => ?_)
  rw [gD_set (Nat.le_of_ble_eq_true rfl)] at h
  have h : Wd D B s (mw dA h0 ad M1 ++ (F1 ++ [(q1, iar dA 400 (fun _ => 0))] ++ (q2, iar dA 15 (gD [4, ty, 0, 0, 0, 0, 0, 0, 0, 0, 0, 0, 0, 0, 0])) :: [])) H locs := h
  refine lv_dup hx hb dX7_made_31 rfl ?_
  refine lv_iconst (v := nI 2) hx hb dX7_made_32 (by decide) ?_
  refine lv_iconst (v := nI 1) hx hb dX7_made_33 (by decide) ?_
  refine n_iastX C h (i := 2) (v := 1) (by decide) (by decide) dX7_made_34 (fun H locs h => ?_)
  rw [gD_set (Nat.le_of_ble_eq_true rfl)] at h
  have h : Wd D B s (mw dA h0 ad M1 ++ (F1 ++ [(q1, iar dA 400 (fun _ => 0))] ++ (q2, iar dA 15 (gD [4, ty, 1, 0, 0, 0, 0, 0, 0, 0, 0, 0, 0, 0, 0])) :: [])) H locs := h
  refine lv_dup hx hb dX7_made_35 rfl ?_
  refine lv_iconst (v := nI 3) hx hb dX7_made_36 (by decide) ?_
  refine lv_bipush (v := nI 8) hx hb dX7_made_37 (by decide) ?_
  refine n_iastX C h (i := 3) (v := 8) (by decide) (by decide) dX7_made_39 (fun H locs h => ?_)
  rw [gD_set (Nat.le_of_ble_eq_true rfl)] at h
  have h : Wd D B s (mw dA h0 ad M1 ++ (F1 ++ [(q1, iar dA 400 (fun _ => 0))] ++ (q2, iar dA 15 (gD [4, ty, 1, 8, 0, 0, 0, 0, 0, 0, 0, 0, 0, 0, 0])) :: [])) H locs := h
  refine lv_dup hx hb dX7_made_40 rfl ?_
  refine lv_iconst (v := nI 4) hx hb dX7_made_41 (by decide) ?_
  refine lv_iconst (v := nI 0) hx hb dX7_made_42 (by decide) ?_
  refine n_iastX C h (i := 4) (v := 0) (by decide) (by decide) dX7_made_43 (fun H locs h => ?_)
  rw [gD_set (Nat.le_of_ble_eq_true rfl)] at h
  have h : Wd D B s (mw dA h0 ad M1 ++ (F1 ++ [(q1, iar dA 400 (fun _ => 0))] ++ (q2, iar dA 15 (gD [4, ty, 1, 8, 0, 0, 0, 0, 0, 0, 0, 0, 0, 0, 0])) :: [])) H locs := h
  refine lv_dup hx hb dX7_made_44 rfl ?_
  refine lv_iconst (v := nI 5) hx hb dX7_made_45 (by decide) ?_
  refine lv_bipush (v := nI 29) hx hb dX7_made_46 (by decide) ?_
  refine n_iastX C h (i := 5) (v := 29) (by decide) (by decide) dX7_made_48 (fun H locs h => ?_)
  rw [gD_set (Nat.le_of_ble_eq_true rfl)] at h
  have h : Wd D B s (mw dA h0 ad M1 ++ (F1 ++ [(q1, iar dA 400 (fun _ => 0))] ++ (q2, iar dA 15 (gD [4, ty, 1, 8, 0, 29, 0, 0, 0, 0, 0, 0, 0, 0, 0])) :: [])) H locs := h
  refine lv_dup hx hb dX7_made_49 rfl ?_
  refine lv_bipush (v := nI 6) hx hb dX7_made_50 (by decide) ?_
  refine lv_iconst (v := nI 5) hx hb dX7_made_52 (by decide) ?_
  refine n_iastX C h (i := 6) (v := 5) (by decide) (by decide) dX7_made_53 (fun H locs h => ?_)
  rw [gD_set (Nat.le_of_ble_eq_true rfl)] at h
  have h : Wd D B s (mw dA h0 ad M1 ++ (F1 ++ [(q1, iar dA 400 (fun _ => 0))] ++ (q2, iar dA 15 (gD [4, ty, 1, 8, 0, 29, 5, 0, 0, 0, 0, 0, 0, 0, 0])) :: [])) H locs := h
  refine lv_dup hx hb dX7_made_54 rfl ?_
  refine lv_bipush (v := nI 7) hx hb dX7_made_55 (by decide) ?_
  refine lv_iconst (v := nI 2) hx hb dX7_made_57 (by decide) ?_
  refine n_iastX C h (i := 7) (v := 2) (by decide) (by decide) dX7_made_58 (fun H locs h => ?_)
  rw [gD_set (Nat.le_of_ble_eq_true rfl)] at h
  have h : Wd D B s (mw dA h0 ad M1 ++ (F1 ++ [(q1, iar dA 400 (fun _ => 0))] ++ (q2, iar dA 15 (gD [4, ty, 1, 8, 0, 29, 5, 2, 0, 0, 0, 0, 0, 0, 0])) :: [])) H locs := h
  refine lv_dup hx hb dX7_made_59 rfl ?_
  refine lv_bipush (v := nI 8) hx hb dX7_made_60 (by decide) ?_
  refine lv_iconst (v := nI 0) hx hb dX7_made_62 (by decide) ?_
  refine n_iastX C h (i := 8) (v := 0) (by decide) (by decide) dX7_made_63 (fun H locs h => ?_)
  rw [gD_set (Nat.le_of_ble_eq_true rfl)] at h
  have h : Wd D B s (mw dA h0 ad M1 ++ (F1 ++ [(q1, iar dA 400 (fun _ => 0))] ++ (q2, iar dA 15 (gD [4, ty, 1, 8, 0, 29, 5, 2, 0, 0, 0, 0, 0, 0, 0])) :: [])) H locs := h
  refine lv_dup hx hb dX7_made_64 rfl ?_
  refine lv_bipush (v := nI 9) hx hb dX7_made_65 (by decide) ?_
  refine lv_iconst (v := nI 0) hx hb dX7_made_67 (by decide) ?_
  refine n_iastX C h (i := 9) (v := 0) (by decide) (by decide) dX7_made_68 (fun H locs h => ?_)
  rw [gD_set (Nat.le_of_ble_eq_true rfl)] at h
  have h : Wd D B s (mw dA h0 ad M1 ++ (F1 ++ [(q1, iar dA 400 (fun _ => 0))] ++ (q2, iar dA 15 (gD [4, ty, 1, 8, 0, 29, 5, 2, 0, 0, 0, 0, 0, 0, 0])) :: [])) H locs := h
  refine lv_dup hx hb dX7_made_69 rfl ?_
  refine lv_bipush (v := nI 10) hx hb dX7_made_70 (by decide) ?_
  refine lv_iconst (v := nI 0) hx hb dX7_made_72 (by decide) ?_
  refine n_iastX C h (i := 10) (v := 0) (by decide) (by decide) dX7_made_73 (fun H locs h => ?_)
  rw [gD_set (Nat.le_of_ble_eq_true rfl)] at h
  have h : Wd D B s (mw dA h0 ad M1 ++ (F1 ++ [(q1, iar dA 400 (fun _ => 0))] ++ (q2, iar dA 15 (gD [4, ty, 1, 8, 0, 29, 5, 2, 0, 0, 0, 0, 0, 0, 0])) :: [])) H locs := h
  refine lv_dup hx hb dX7_made_74 rfl ?_
  refine lv_bipush (v := nI 11) hx hb dX7_made_75 (by decide) ?_
  refine lv_iconst (v := nI 0) hx hb dX7_made_77 (by decide) ?_
  refine n_iastX C h (i := 11) (v := 0) (by decide) (by decide) dX7_made_78 (fun H locs h => ?_)
  rw [gD_set (Nat.le_of_ble_eq_true rfl)] at h
  have h : Wd D B s (mw dA h0 ad M1 ++ (F1 ++ [(q1, iar dA 400 (fun _ => 0))] ++ (q2, iar dA 15 (gD [4, ty, 1, 8, 0, 29, 5, 2, 0, 0, 0, 0, 0, 0, 0])) :: [])) H locs := h
  refine lv_dup hx hb dX7_made_79 rfl ?_
  refine lv_bipush (v := nI 12) hx hb dX7_made_80 (by decide) ?_
  refine lv_bipush (v := nI 22) hx hb dX7_made_82 (by decide) ?_
  refine n_iastX C h (i := 12) (v := 22) (by decide) (by decide) dX7_made_84 (fun H locs h => ?_)
  rw [gD_set (Nat.le_of_ble_eq_true rfl)] at h
  have h : Wd D B s (mw dA h0 ad M1 ++ (F1 ++ [(q1, iar dA 400 (fun _ => 0))] ++ (q2, iar dA 15 (gD [4, ty, 1, 8, 0, 29, 5, 2, 0, 0, 0, 0, 22, 0, 0])) :: [])) H locs := h
  refine lv_dup hx hb dX7_made_85 rfl ?_
  refine lv_bipush (v := nI 13) hx hb dX7_made_86 (by decide) ?_
  refine lv_bipush (v := nI 33) hx hb dX7_made_88 (by decide) ?_
  refine n_iastX C h (i := 13) (v := 33) (by decide) (by decide) dX7_made_90 (fun H locs h => ?_)
  rw [gD_set (Nat.le_of_ble_eq_true rfl)] at h
  have h : Wd D B s (mw dA h0 ad M1 ++ (F1 ++ [(q1, iar dA 400 (fun _ => 0))] ++ (q2, iar dA 15 (gD [4, ty, 1, 8, 0, 29, 5, 2, 0, 0, 0, 0, 22, 33, 0])) :: [])) H locs := h
  refine lv_dup hx hb dX7_made_91 rfl ?_
  refine lv_bipush (v := nI 14) hx hb dX7_made_92 (by decide) ?_
  refine lv_iconst (v := nI 4) hx hb dX7_made_94 (by decide) ?_
  refine n_iastX C h (i := 14) (v := 4) (by decide) (by decide) dX7_made_95 (fun H locs h => ?_)
  rw [gD_set (Nat.le_of_ble_eq_true rfl)] at h
  have h : Wd D B s (mw dA h0 ad M1 ++ (F1 ++ [(q1, iar dA 400 (fun _ => 0))] ++ (q2, iar dA 15 (gD [4, ty, 1, 8, 0, 29, 5, 2, 0, 0, 0, 0, 22, 33, 4])) :: [])) H locs := h
  refine lv_astore (lv' := [(9, .ref q2), (8, .ref q1), (7, .ref q7), (0, .ref h0), (1, .int (nI p9)), (2, .int (nI ty)), (3, .ref ta), (4, .int (nI lt.length)), (5, .long (lN t))]) hx hb dX7_made_96 hl (by decide) rfl (fun ls hl => ?_)
  refine lv_iconst (v := nI 0) hx hb dX7_made_98 (by decide) ?_
  refine lv_istore (lv' := [(10, .int (nI 0)), (9, .ref q2), (8, .ref q1), (7, .ref q7), (0, .ref h0), (1, .int (nI p9)), (2, .int (nI ty)), (3, .ref ta), (4, .int (nI lt.length)), (5, .long (lN t))]) hx hb dX7_made_99 hl (by decide) rfl (fun ls hl => ?_)
  have h : Wd D B s (mw dA h0 ad M1 ++ (F1 ++ (q1, iar dA 400 (appG (fun _ => 0) 0 (sl (gD [4, ty, 1, 8, 0, 29, 5, 2, 0, 0, 0, 0, 22, 33, 4]) 0 0))) :: [(q2, iar dA 15 (gD [4, ty, 1, 8, 0, 29, 5, 2, 0, 0, 0, 0, 22, 33, 4]))])) H locs := by rw [sl_0, appG_nil]; rw [List.append_assoc] at h; exact h
  have loop : ∀ (nn : Nat) (i : Nat), (i ≤ 15) → 15 - i < nn → ∀ (H : Heap) (locs : List Loc), Wd D B s (mw dA h0 ad M1 ++ (F1 ++ (q1, iar dA 400 (appG (fun _ => 0) 0 (sl (gD [4, ty, 1, 8, 0, 29, 5, 2, 0, 0, 0, 0, 22, 33, 4]) 0 i))) :: [(q2, iar dA 15 (gD [4, ty, 1, 8, 0, 29, 5, 2, 0, 0, 0, 0, 22, 33, 4]))])) H locs → ∀ (ls : Array Slot), lv_has ls 17 [(10, .int (nI i)), (0, .ref h0), (1, .int (nI p9)), (2, .int (nI ty)), (3, .ref ta), (4, .int (nI lt.length)), (5, .long (lN t)), (7, .ref q7), (8, .ref q1), (9, .ref q2)] → W p l e R s m args below meth c H locs (0 + 1 + 1 + 1) (0 + 20 + 400 + 15) Q (F0 m 101 ls []) := by
    intro nn
    induction nn with
    | zero => intro i  hi0 hme; exact absurd hme (Nat.not_lt_zero _)
    | succ nn ih =>
      intro i  hi0 hme H locs h ls hl
      refine lv_iload hx hb dX7_made_101 (lv_at hl 0 rfl) ?_
      refine lv_bipush (v := nI 15) hx hb dX7_made_103 (by decide) ?_
      refine n_icmp_ge (tgt := 124) hx hb (by omega) (by omega) dX7_made_105 (by decide) (fun c105 => ?_) (fun c105 => ?_)
      · refine lv_iconst (v := nI 0) hx hb dX7_made_124 (by decide) ?_
        refine lv_istore (lv' := [(10, .int (nI 0)), (0, .ref h0), (1, .int (nI p9)), (2, .int (nI ty)), (3, .ref ta), (4, .int (nI lt.length)), (5, .long (lN t)), (7, .ref q7), (8, .ref q1), (9, .ref q2)]) hx hb dX7_made_125 hl (by decide) rfl (fun ls hl => ?_)
        have e7 : sl (gD [4, ty, 1, 8, 0, 29, 5, 2, 0, 0, 0, 0, 22, 33, 4]) 0 i = [4, ty, 1, 8, 0, 29, 5, 2, 0, 0, 0, 0, 22, 33, 4] := by rw [show i = 15 by omega]; exact sl_gD _
        rw [e7] at h
        have h : Wd D B s (mw dA h0 ad M1 ++ (F1 ++ (q1, iar dA 400 (appG (appG (fun _ => 0) 0 [4, ty, 1, 8, 0, 29, 5, 2, 0, 0, 0, 0, 22, 33, 4]) 8 (sl (fun j => t / 2 ^ (8 * (4 - 1 - j)) % 256) 0 0))) :: [(q2, iar dA 15 (gD [4, ty, 1, 8, 0, 29, 5, 2, 0, 0, 0, 0, 22, 33, 4]))])) H locs := by rw [sl_0, appG_nil]; exact h
        have hl : lv_has ls 17 [(10, .int (nI 0)), (0, .ref h0), (1, .int (nI p9)), (2, .int (nI ty)), (3, .ref ta), (4, .int (nI lt.length)), (5, .long (lN t)), (7, .ref q7), (8, .ref q1)] := lv_sub hl [0, 1, 2, 3, 4, 5, 6, 7, 8] rfl
        have loopB : ∀ (nnB : Nat) (i : Nat), (i ≤ 4) → 4 - i < nnB → ∀ (H : Heap) (locs : List Loc), Wd D B s (mw dA h0 ad M1 ++ (F1 ++ (q1, iar dA 400 (appG (appG (fun _ => 0) 0 [4, ty, 1, 8, 0, 29, 5, 2, 0, 0, 0, 0, 22, 33, 4]) 8 (sl (fun j => t / 2 ^ (8 * (4 - 1 - j)) % 256) 0 i))) :: [(q2, iar dA 15 (gD [4, ty, 1, 8, 0, 29, 5, 2, 0, 0, 0, 0, 22, 33, 4]))])) H locs → ∀ (ls : Array Slot), lv_has ls 17 [(10, .int (nI i)), (0, .ref h0), (1, .int (nI p9)), (2, .int (nI ty)), (3, .ref ta), (4, .int (nI lt.length)), (5, .long (lN t)), (7, .ref q7), (8, .ref q1)] → W p l e R s m args below meth c H locs (0 + 1 + 1 + 1) (0 + 20 + 400 + 15) Q (F0 m 127 ls []) := by
          intro nnB
          induction nnB with
          | zero => intro i  hi0 hme; exact absurd hme (Nat.not_lt_zero _)
          | succ nnB ihB =>
            intro i  hi0 hme H locs h ls hl
            refine lv_iload hx hb dX7_made_127 (lv_at hl 0 rfl) ?_
            refine lv_iconst (v := nI 4) hx hb dX7_made_129 (by decide) ?_
            refine n_icmp_ge (tgt := 163) hx hb (by omega) (by omega) dX7_made_130 (by decide) (fun c130 => ?_) (fun c130 => ?_)
            · refine lv_iconst (v := nI 0) hx hb dX7_made_163 (by decide) ?_
              refine lv_istore (lv' := [(10, .int (nI 0)), (0, .ref h0), (1, .int (nI p9)), (2, .int (nI ty)), (3, .ref ta), (4, .int (nI lt.length)), (5, .long (lN t)), (7, .ref q7), (8, .ref q1)]) hx hb dX7_made_164 hl (by decide) rfl (fun ls hl => ?_)
              have e7 : sl (fun j => t / 2 ^ (8 * (4 - 1 - j)) % 256) 0 i = be 4 t := by rw [show i = 4 by omega]; rfl
              rw [e7] at h
              have h : Wd D B s (mw dA h0 ad M1 ++ (F1 ++ (q1, iar dA 400 (appG (appG (appG (fun _ => 0) 0 [4, ty, 1, 8, 0, 29, 5, 2, 0, 0, 0, 0, 22, 33, 4]) 8 (be 4 t)) 15 (sl (gD pr) 0 0))) :: [(q2, iar dA 15 (gD [4, ty, 1, 8, 0, 29, 5, 2, 0, 0, 0, 0, 22, 33, 4]))])) H locs := by rw [sl_0, appG_nil]; exact h
              have loopD : ∀ (nnD : Nat) (i : Nat), (i ≤ 20) → 20 - i < nnD → ∀ (H : Heap) (locs : List Loc), Wd D B s (mw dA h0 ad M1 ++ (F1 ++ (q1, iar dA 400 (appG (appG (appG (fun _ => 0) 0 [4, ty, 1, 8, 0, 29, 5, 2, 0, 0, 0, 0, 22, 33, 4]) 8 (be 4 t)) 15 (sl (gD pr) 0 i))) :: [(q2, iar dA 15 (gD [4, ty, 1, 8, 0, 29, 5, 2, 0, 0, 0, 0, 22, 33, 4]))])) H locs → ∀ (ls : Array Slot), lv_has ls 17 [(10, .int (nI i)), (0, .ref h0), (1, .int (nI p9)), (2, .int (nI ty)), (3, .ref ta), (4, .int (nI lt.length)), (5, .long (lN t)), (7, .ref q7), (8, .ref q1)] → W p l e R s m args below meth c H locs (0 + 1 + 1 + 1) (0 + 20 + 400 + 15) Q (F0 m 166 ls []) := by
                intro nnD
                induction nnD with
                | zero => intro i  hi0 hme; exact absurd hme (Nat.not_lt_zero _)
                | succ nnD ihD =>
                  intro i  hi0 hme H locs h ls hl
                  refine lv_iload hx hb dX7_made_166 (lv_at hl 0 rfl) ?_
                  refine lv_bipush (v := nI 20) hx hb dX7_made_168 (by decide) ?_
                  refine n_icmp_ge (tgt := 192) hx hb (by omega) (by omega) dX7_made_170 (by decide) (fun c170 => ?_) (fun c170 => ?_)
                  · have e7 : sl (gD pr) 0 i = pr := by rw [show i = pr.length by omega]; exact sl_gD _
                    rw [e7] at h
                    have hG35 := hd35_of ty t pr hprl
                    have hGz : ∀ j, 35 ≤ j → _ := fun j hj => hd35_z ty t pr hprl hj
                    obtain ⟨G3, hG3⟩ : ∃ z, z = appG (appG (appG (fun _ => 0) 0 [4, ty, 1, 8, 0, 29, 5, 2, 0, 0, 0, 0, 22, 33, 4]) 8 (be 4 t)) 15 pr := ⟨_, rfl⟩
                    rw [← hG3] at h hG35
                    have hGz : ∀ j, 35 ≤ j → G3 j = 0 := by rw [hG3]; exact hGz
                    obtain ⟨hd, hhd⟩ : ∃ z, z = hd35 ty t pr := ⟨_, rfl⟩
                    rw [← hhd] at hG35
                    have hhl : hd.length = 35 := by rw [hhd]; exact hd35_len ty t hprl
                    have hhb : byt hd := by rw [hhd]; exact hd35_byt (by omega) hprb
                    obtain ⟨R1, hR1e⟩ : ∃ z, z = [(q2, iar dA 15 (gD [4, ty, 1, 8, 0, 29, 5, 2, 0, 0, 0, 0, 22, 33, 4]))] := ⟨_, rfl⟩
                    rw [← hR1e] at h
                    have hl : lv_has ls 17 [(0, .ref h0), (1, .int (nI p9)), (2, .int (nI ty)), (3, .ref ta), (4, .int (nI lt.length)), (5, .long (lN t)), (7, .ref q7), (8, .ref q1)] := lv_sub hl [1, 2, 3, 4, 5, 6, 7, 8] rfl
                    have h : Wd D B s (mw dA h0 ad M1 ++ (F1 ++ (q1, iar dA 400 G3) :: R1)) H locs := h
                    refine lv_aload_n hx hb dX7_made_192 rfl (lv_at hl 0 rfl) ?_
                    refine lv_iconst (v := nI 0) hx hb dX7_made_193 (by decide) ?_
                    refine m_pi C h 20 (v := nI 0) (by decide) rfl rfl rfl q1890 rfl rfl dX7_made_194 (fun H locs h => ?_)
                    refine lv_aload_n hx hb dX7_made_197 rfl (lv_at hl 0 rfl) ?_
                    refine lv_aload_n hx hb dX7_made_198 rfl (lv_at hl 3 rfl) ?_
                    refine lv_iload hx hb dX7_made_199 (lv_at hl 4 rfl) ?_
                    have jt : ∀ (H : Heap) (locs : List Loc), Wd D B s (mw dA h0 ad (sI M1 20 (nI 0)) ++ (F1 ++ (q1, iar dA 400 G3) :: R1)) H locs → ∀ (ls : Array Slot), lv_has ls 17 [(0, .ref h0), (1, .int (nI p9)), (2, .int (nI ty)), (3, .ref ta), (4, .int (nI lt.length)), (5, .long (lN t)), (7, .ref q7), (8, .ref q1)] → W p l e R s m args below meth c H locs (0 + 1 + 1 + 1) (0 + 20 + 400 + 15) Q (F0 m 211 ls [.int (bZ (decide (ty = 1))), .int (nI lt.length), .ref ta, .ref h0]) := by
                      intro   H locs h ls hl
                      refine call_V (As := [.ref ta, .int (nI lt.length), .int (bZ (decide (ty = 1)))]) (rest := []) (n := 3) C h (c7_sayText l D dA B Z hZ h0 ad (sI M1 20 (nI 0)) (F1 ++ (q1, iar dA 400 G3) :: R1) ta n0 g lt (decide (ty = 1)) 0 rfl (fun G v => hof _ _ (Kp.trans hK1 (((Kp.rfl' M1).sI (k := 20) (by decide)).trans (apM_kq _ G v)))) hg hlt hn0 (by omega) hltb) (lw_V q2407 q2409 qs95 q138 q2410) (by decide +kernel) (ci := 5) rfl rfl mw_mem0 (by decide) (by decide) rfl hl rfl (Nat.le_of_ble_eq_true rfl) dX7_made_211 (by omega) (fun _ H locs _ h => ?_)
                      have h : Wd D B s (mw dA h0 ad (apM (sI M1 20 (nI 0)) 21 20 0 (txS (decide (ty = 1)) lt lt.length)) ++ (F1 ++ (q1, iar dA 400 G3) :: R1)) H locs := h
                      have htxl := txS_len (decide (ty = 1)) lt lt.length
                      obtain ⟨mt, hmt⟩ : ∃ z, z = txS (decide (ty = 1)) lt lt.length := ⟨_, rfl⟩
                      rw [← hmt] at h htxl
                      have hmtb : byt mt := by rw [hmt]; exact txS_byt hltb _
                      have hG3b : ∀ j, j < 35 → G3 j < 256 := fun j hj => by
                        have e6 := sl_getD (g := G3) (a := 0) (n := 35) hj
                        rw [hG35, Nat.zero_add] at e6
                        rw [← e6]; exact byt_gD hhb j
                      refine lv_aload_n hx hb dX7_made_214 rfl (lv_at hl 0 rfl) ?_
                      refine lv_aload hx hb dX7_made_215 (lv_at hl 7 rfl) ?_
                      refine lv_iconst (v := nI 0) hx hb dX7_made_217 (by decide) ?_
                      refine lv_bipush (v := nI 35) hx hb dX7_made_218 (by decide) ?_
                      refine call_V (As := [.ref q1, .int (nI 0), .int (nI 35)]) (rest := []) (n := 3) C h (c7_sayRow l D dA B Z hZ h0 ad (apM (sI M1 20 (nI 0)) 21 20 0 (mt)) (F1 ++ (q1, iar dA 400 G3) :: R1) q1 400 G3 0 35 (0 + (mt).length) rfl (fun _ _ => List.mem_append_right _ (List.mem_append_right _ List.mem_cons_self)) (by decide) (by decide) (by decide) (by omega) hG3b) (lw_V q2256 q2258 qs69 q138 q2259) (by decide +kernel) (ci := 5) rfl rfl mw_mem0 (by decide) (by decide) rfl hl rfl (Nat.le_of_ble_eq_true rfl) dX7_made_220 (by omega) (fun _ H locs _ h => ?_)
                      rw [show (35 - 0 : Nat) = 35 from rfl, hG35] at h
                      rw [apM_app] at h
                      have h : Wd D B s (mw dA h0 ad (apM (sI M1 20 (nI 0)) 21 20 0 (mt ++ hd)) ++ (F1 ++ (q1, iar dA 400 G3) :: R1)) H locs := h
                      refine lv_aload_n hx hb dX7_made_223 rfl (lv_at hl 0 rfl) ?_
                      refine lv_iconst (v := nI 4) hx hb dX7_made_224 (by decide) ?_
                      refine call_V (As := [.int (nI 4)]) (rest := []) (n := 1) C h (c7_say l D dA B Z hZ h0 ad (apM (sI M1 20 (nI 0)) 21 20 0 (mt ++ hd)) (F1 ++ (q1, iar dA 400 G3) :: R1) _ (0 + (mt ++ hd).length) 4 rfl (by (try simp only [List.length_append, List.length_cons, List.length_nil]) <;> omega) (and255 (by decide))) (lw_V q2248 q2250 qs67 q138 q2251) (by decide +kernel) (ci := 5) rfl rfl mw_mem0 (by decide) (by decide) rfl hl rfl (Nat.le_of_ble_eq_true rfl) dX7_made_225 (by omega) (fun _ H locs _ h => ?_)
                      rw [apM_app] at h
                      have h : Wd D B s (mw dA h0 ad (apM (sI M1 20 (nI 0)) 21 20 0 (mt ++ hd ++ [4])) ++ (F1 ++ (q1, iar dA 400 G3) :: R1)) H locs := h
                      refine lv_aload_n hx hb dX7_made_228 rfl (lv_at hl 0 rfl) ?_
                      refine lv_sipush (v := nI 255) hx hb dX7_made_229 (by decide) ?_
                      refine call_V (As := [.int (nI 255)]) (rest := []) (n := 1) C h (c7_say l D dA B Z hZ h0 ad (apM (sI M1 20 (nI 0)) 21 20 0 (mt ++ hd ++ [4])) (F1 ++ (q1, iar dA 400 G3) :: R1) _ (0 + (mt ++ hd ++ [4]).length) 255 rfl (by (try simp only [List.length_append, List.length_cons, List.length_nil]) <;> omega) (and255 (by decide))) (lw_V q2248 q2250 qs67 q138 q2251) (by decide +kernel) (ci := 5) rfl rfl mw_mem0 (by decide) (by decide) rfl hl rfl (Nat.le_of_ble_eq_true rfl) dX7_made_232 (by omega) (fun _ H locs _ h => ?_)
                      rw [apM_app] at h
                      have h : Wd D B s (mw dA h0 ad (apM (sI M1 20 (nI 0)) 21 20 0 (mt ++ hd ++ [4] ++ [255])) ++ (F1 ++ (q1, iar dA 400 G3) :: R1)) H locs := h
                      refine lv_aload_n hx hb dX7_made_235 rfl (lv_at hl 0 rfl) ?_
                      refine lv_ldc2 hx hb hown (hts _ q2550) dX7_made_236 ?_
                      refine n_topl (y := lN 35) (by decide) ?_
                      refine lv_iconst (v := nI 4) hx hb dX7_made_239 (by decide) ?_
                      refine call_V (As := [.long (lN 35), .int (nI 4)]) (rest := []) (n := 2) C h (c7_sayNumber l D dA B Z hZ h0 ad (apM (sI M1 20 (nI 0)) 21 20 0 (mt ++ hd ++ [4] ++ [255])) (F1 ++ (q1, iar dA 400 G3) :: R1) 35 4 (0 + (mt ++ hd ++ [4] ++ [255]).length) rfl (by decide) (by decide) (by (try simp only [List.length_append, List.length_cons, List.length_nil]) <;> omega)) (lw_V q2252 q2254 qs68 q138 q2255) (by decide +kernel) (ci := 5) rfl rfl mw_mem0 (by decide) (by decide) rfl hl rfl (Nat.le_of_ble_eq_true rfl) dX7_made_240 (by omega) (fun _ H locs _ h => ?_)
                      rw [apM_app] at h
                      have h : Wd D B s (mw dA h0 ad (apM (sI M1 20 (nI 0)) 21 20 0 (mt ++ hd ++ [4] ++ [255] ++ be 4 35)) ++ (F1 ++ (q1, iar dA 400 G3) :: R1)) H locs := h
                      refine lv_aload_n hx hb dX7_made_243 rfl (lv_at hl 0 rfl) ?_
                      refine lv_bipush (v := nI 8) hx hb dX7_made_244 (by decide) ?_
                      obtain ⟨mg, hmg⟩ : ∃ z, z = (mt ++ hd ++ [4] ++ [255] ++ be 4 35) := ⟨_, rfl⟩
                      rw [← hmg] at h
                      have hmgl : mg.length ≤ 2 * lt.length + 41 := by rw [hmg]; simp only [List.length_append, List.length_cons, List.length_nil, be_len]; omega
                      have hmgb : byt mg := by rw [hmg]; exact byt_app (byt_app (byt_app (byt_app hmtb hhb) (byt_one (by decide))) (byt_one (by decide))) (byt_be _ _)
                      have hb1 : ∀ j, mG (apM (sI M1 20 (nI 0)) 21 20 0 mg) 21 j < 256 := fun j => (appG_byte hI1.1 hmgb j : appG (mG M1 21) 0 mg j < 256)
                      have hmsg : sl (mG (apM (sI M1 20 (nI 0)) 21 20 0 mg) 21) 0 (0 + mg.length) = mg := sl_appG (mG M1 21) 0 mg
                      refine call_V (As := [.int (nI 8)]) (rest := []) (n := 1) C h (c7_hashOf l D dA B Z hZ h0 ad (apM (sI M1 20 (nI 0)) 21 20 0 mg) (F1 ++ (q1, iar dA 400 G3) :: R1) (0 + mg.length) 8 hzR rfl (by omega) hb1 (by decide)) (lw_V q2260 q2262 qs70 q138 q2263) (by decide +kernel) (ci := 5) rfl rfl mw_mem0 (by decide) (by decide) rfl hl rfl (Nat.le_of_ble_eq_true rfl) dX7_made_246 (by omega) (fun uh2 H locs huh h => ?_)
                      obtain ⟨huh1, huh2⟩ := huh
                      rw [hmsg] at huh2
                      have e5 : hash 8 mg = sha2 mg := rfl
                      obtain ⟨dg, hdg⟩ : ∃ z, z = sha2 mg := ⟨_, rfl⟩
                      have hdgl : dg.length = 32 := by rw [hdg]; exact sha2_len mg
                      have hdgb : byt dg := by rw [hdg, ← e5]; exact hash_byt 8 mg
                      rw [e5, ← hdg] at huh2
                      obtain ⟨M2, hM2⟩ : ∃ z, z = hM (apM (sI M1 20 (nI 0)) 21 20 0 mg) uh2 := ⟨_, rfl⟩
                      have h : Wd D B s (mw dA h0 ad (hM (apM (sI M1 20 (nI 0)) 21 20 0 mg) uh2) ++ (F1 ++ (q1, iar dA 400 G3) :: R1)) H locs := h
                      rw [← hM2] at h
                      have hK2 : Kp M M2 := by rw [hM2]; exact hK1.trans (Kp.trans (((Kp.rfl' M1).sI (k := 20) (by decide)).trans (apM_kp _ 0 mg)) (hM_kp _ uh2))
                      have hI2 : MI M2 := by rw [hM2]; exact hM_kp2 _ uh2 ⟨hb1, hI1.2⟩ huh1
                      have hd2 : ∀ j, j < dg.length → mG M2 22 j = gD dg j := by rw [hM2]; intro j hj; rw [show mG (hM (apM (sI M1 20 (nI 0)) 21 20 0 mg) uh2) 22 = _ from huh2]; exact app_get0 j hj
                      have hR2 : CurR dA (F1 ++ (q1, iar dA 400 G3) :: R1) ad M2 L := hR.kp hK2 (fun z hz => List.mem_append_left _ (hFF z hz))
                      refine n_top (y := nI 32) rfl ?_
                      refine lv_istore (lv' := [(10, .int (nI 32)), (0, .ref h0), (1, .int (nI p9)), (2, .int (nI ty)), (3, .ref ta), (4, .int (nI lt.length)), (5, .long (lN t)), (7, .ref q7), (8, .ref q1)]) hx hb dX7_made_249 hl (by decide) rfl (fun ls hl => ?_)
                      refine lv_aload hx hb dX7_made_251 (lv_at hl 8 rfl) ?_
                      refine lv_bipush (v := nI 36) hx hb dX7_made_253 (by decide) ?_
                      refine lv_bipush (v := nI 10) hx hb dX7_made_255 (by decide) ?_
                      refine n_iastX C h (i := 36) (v := 10) (by omega) (by decide) dX7_made_257 (fun H locs h => ?_)
                      have e9 := appG_snoc G3 36 (([] : List Nat)) (10) (k := 36) (by simp only [List.length_append, List.length_cons, List.length_nil, sl_len])
                      have h : Wd D B s (mw dA h0 ad M2 ++ (F1 ++ (q1, iar dA 400 (appG G3 36 ([10]))) :: R1)) H locs := by rw [← appG_one]; exact h
                      clear e9
                      refine lv_aload hx hb dX7_made_258 (lv_at hl 8 rfl) ?_
                      refine lv_bipush (v := nI 37) hx hb dX7_made_260 (by decide) ?_
                      refine lv_bipush (v := nI 9) hx hb dX7_made_262 (by decide) ?_
                      refine n_iastX C h (i := 37) (v := 9) (by omega) (by decide) dX7_made_264 (fun H locs h => ?_)
                      have e9 := appG_snoc G3 36 ([10]) (9) (k := 37) (by simp only [List.length_append, List.length_cons, List.length_nil, sl_len])
                      have h : Wd D B s (mw dA h0 ad M2 ++ (F1 ++ (q1, iar dA 400 (appG G3 36 ([10] ++ [9]))) :: R1)) H locs := by rw [← appG_snoc G3 36 ([10]) (9) (k := 37) (by simp only [List.length_append, List.length_cons, List.length_nil, sl_len])]; exact h
                      clear e9
                      refine lv_aload hx hb dX7_made_265 (lv_at hl 8 rfl) ?_
                      refine lv_bipush (v := nI 38) hx hb dX7_made_267 (by decide) ?_
                      refine lv_bipush (v := nI 16) hx hb dX7_made_269 (by decide) ?_
                      refine n_iastX C h (i := 38) (v := 16) (by omega) (by decide) dX7_made_271 (fun H locs h => ?_)
                      have e9 := appG_snoc G3 36 ([10] ++ [9]) (16) (k := 38) (by simp only [List.length_append, List.length_cons, List.length_nil, sl_len])
                      have h : Wd D B s (mw dA h0 ad M2 ++ (F1 ++ (q1, iar dA 400 (appG G3 36 ([10] ++ [9] ++ [16]))) :: R1)) H locs := by rw [← appG_snoc G3 36 ([10] ++ [9]) (16) (k := 38) (by simp only [List.length_append, List.length_cons, List.length_nil, sl_len])]; exact h
                      clear e9
                      refine lv_iconst (v := nI 0) hx hb dX7_made_272 (by decide) ?_
                      refine lv_istore (lv' := [(11, .int (nI 0)), (10, .int (nI 32)), (0, .ref h0), (1, .int (nI p9)), (2, .int (nI ty)), (3, .ref ta), (4, .int (nI lt.length)), (5, .long (lN t)), (7, .ref q7), (8, .ref q1)]) hx hb dX7_made_273 hl (by decide) rfl (fun ls hl => ?_)
                      have h : Wd D B s (mw dA h0 ad M2 ++ (F1 ++ (q1, iar dA 400 (appG G3 36 ([10] ++ [9] ++ [16] ++ sl (fun j => gD pr (12 + j)) 0 0))) :: R1)) H locs := by rw [sl_0, List.append_nil]; exact h
                      have loopH : ∀ (nnH : Nat) (i : Nat), (i ≤ 8) → 8 - i < nnH → ∀ (H : Heap) (locs : List Loc), Wd D B s (mw dA h0 ad M2 ++ (F1 ++ (q1, iar dA 400 (appG G3 36 ([10] ++ [9] ++ [16] ++ sl (fun j => gD pr (12 + j)) 0 i))) :: R1)) H locs → ∀ (ls : Array Slot), lv_has ls 17 [(11, .int (nI i)), (10, .int (nI 32)), (0, .ref h0), (1, .int (nI p9)), (2, .int (nI ty)), (3, .ref ta), (4, .int (nI lt.length)), (5, .long (lN t)), (7, .ref q7), (8, .ref q1)] → W p l e R s m args below meth c H locs (0 + 1 + 1 + 1 + 0 + 0 + 0 + 0 + 0 + 0) (0 + 20 + 400 + 15 + 0 + 0 + 0 + 0 + 0 + 0) Q (F0 m 275 ls []) := by
                        intro nnH
                        induction nnH with
                        | zero => intro i  hi0 hme; exact absurd hme (Nat.not_lt_zero _)
                        | succ nnH ihH =>
                          intro i  hi0 hme H locs h ls hl
                          refine lv_iload hx hb dX7_made_275 (lv_at hl 0 rfl) ?_
                          refine lv_bipush (v := nI 8) hx hb dX7_made_277 (by decide) ?_
                          refine n_icmp_ge (tgt := 304) hx hb (by omega) (by omega) dX7_made_279 (by decide) (fun c279 => ?_) (fun c279 => ?_)
                          · have hi8 : i = 8 := by omega
                            rw [hi8] at h
                            have h : Wd D B s (mw dA h0 ad M2 ++ (F1 ++ (q1, iar dA 400 (appG G3 36 ([10] ++ [9] ++ [16] ++ sl (fun j => gD pr (12 + j)) 0 8))) :: R1)) H locs := h
                            have hl : lv_has ls 17 [(10, .int (nI 32)), (0, .ref h0), (1, .int (nI p9)), (2, .int (nI ty)), (3, .ref ta), (4, .int (nI lt.length)), (5, .long (lN t)), (7, .ref q7), (8, .ref q1)] := lv_sub hl [1, 2, 3, 4, 5, 6, 7, 8, 9] rfl
                            refine lv_aload hx hb dX7_made_304 (lv_at hl 8 rfl) ?_
                            refine lv_bipush (v := nI 47) hx hb dX7_made_306 (by decide) ?_
                            refine lv_aload_n hx hb dX7_made_308 rfl (lv_at hl 1 rfl) ?_
                            refine m_gc C h 22 (by decide) rfl rfl q1892 dX7_made_309 ?_
                            refine lv_iconst (v := nI 0) hx hb dX7_made_312 (by decide) ?_
                            refine n_iald C h (v := (mG M2 22) 0) (mw_memG (k := 22) (by decide)) (show 0 < 32 by omega) (by decide) rfl dX7_made_313 ?_
                            refine n_top (y := nI (gD dg 0)) (congrArg nI (hd2 _ (by omega))) ?_
                            refine n_iastX C h (i := 47) (v := gD dg 0) (by omega) (by decide) dX7_made_314 (fun H locs h => ?_)
                            have e9 := appG_snoc G3 36 ([10] ++ [9] ++ [16] ++ sl (fun j => gD pr (12 + j)) 0 8) (gD dg 0) (k := 47) (by simp only [List.length_append, List.length_cons, List.length_nil, sl_len])
                            have h : Wd D B s (mw dA h0 ad M2 ++ (F1 ++ (q1, iar dA 400 (appG G3 36 ([10] ++ [9] ++ [16] ++ sl (fun j => gD pr (12 + j)) 0 8 ++ [gD dg 0]))) :: R1)) H locs := by rw [← appG_snoc G3 36 ([10] ++ [9] ++ [16] ++ sl (fun j => gD pr (12 + j)) 0 8) (gD dg 0) (k := 47) (by simp only [List.length_append, List.length_cons, List.length_nil, sl_len])]; exact h
                            clear e9
                            refine lv_aload hx hb dX7_made_315 (lv_at hl 8 rfl) ?_
                            refine lv_bipush (v := nI 48) hx hb dX7_made_317 (by decide) ?_
                            refine lv_aload_n hx hb dX7_made_319 rfl (lv_at hl 1 rfl) ?_
                            refine m_gc C h 22 (by decide) rfl rfl q1892 dX7_made_320 ?_
                            refine lv_iconst (v := nI 1) hx hb dX7_made_323 (by decide) ?_
                            refine n_iald C h (v := (mG M2 22) 1) (mw_memG (k := 22) (by decide)) (show 1 < 32 by omega) (by decide) rfl dX7_made_324 ?_
                            refine n_top (y := nI (gD dg 1)) (congrArg nI (hd2 _ (by omega))) ?_
                            refine n_iastX C h (i := 48) (v := gD dg 1) (by omega) (by decide) dX7_made_325 (fun H locs h => ?_)
                            have e9 := appG_snoc G3 36 ([10] ++ [9] ++ [16] ++ sl (fun j => gD pr (12 + j)) 0 8 ++ [gD dg 0]) (gD dg 1) (k := 48) (by simp only [List.length_append, List.length_cons, List.length_nil, sl_len])
                            have h : Wd D B s (mw dA h0 ad M2 ++ (F1 ++ (q1, iar dA 400 (appG G3 36 ([10] ++ [9] ++ [16] ++ sl (fun j => gD pr (12 + j)) 0 8 ++ [gD dg 0] ++ [gD dg 1]))) :: R1)) H locs := by rw [← appG_snoc G3 36 ([10] ++ [9] ++ [16] ++ sl (fun j => gD pr (12 + j)) 0 8 ++ [gD dg 0]) (gD dg 1) (k := 48) (by simp only [List.length_append, List.length_cons, List.length_nil, sl_len])]; exact h
                            clear e9
                            obtain ⟨G5, hG5⟩ : ∃ z, z = appG G3 36 ([10] ++ [9] ++ [16] ++ sl (fun j => gD pr (12 + j)) 0 8 ++ [gD dg 0] ++ [gD dg 1]) := ⟨_, rfl⟩
                            rw [← hG5] at h
                            have h : Wd D B s (mw dA h0 ad M2 ++ (F1 ++ (q1, iar dA 400 G5) :: R1)) H locs := h
                            have hqtx5 : (qtx, ial dA tx.2.1) ∈ (F1 ++ (q1, iar dA 400 G5) :: R1) := List.mem_append_left _ (hFF _ hqtxF)
                            have hR5 : CurR dA (F1 ++ (q1, iar dA 400 G5) :: R1) ad M2 L := hR.kp hK2 (fun z hz => List.mem_append_left _ (hFF z hz))
                            refine lv_aload_n hx hb dX7_made_326 rfl (lv_at hl 1 rfl) ?_
                            refine lv_aload_n hx hb dX7_made_327 rfl (lv_at hl 1 rfl) ?_
                            refine m_gr C h 14 (by decide) rfl rfl q1884 (v := some (ad 14)) hR5.2.2.2.1 dX7_made_328 ?_
                            refine lv_iload_n hx hb dX7_made_331 rfl (lv_at hl 2 rfl) ?_
                            refine n_aald C h (v := (mA M2 14) p9) (mw_memA (k := 14) (by decide)) (show p9 < 4700 by omega) (by decide) rfl dX7_made_332 ?_
                            refine n_topv (y := .ref qtx) (congrArg va_rf ((congrFun (congrFun hK2.2.2.2.2 14) p9).trans hqtx)) ?_
                            refine lv_iconst (v := nI 0) hx hb dX7_made_333 (by decide) ?_
                            refine call_V (As := [.ref qtx, .int (nI 0)]) (rest := []) (n := 2) C h (c7_readKey l D dA B Z hZ h0 ad M2 (F1 ++ (q1, iar dA 400 G5) :: R1) qtx tx.2.1 false hqtx5 htxo.2.1 (by omega)) (lw_V q2217 q2219 qs60 q138 q2220) (by decide +kernel) (ci := 5) rfl rfl mw_mem0 (by decide) (by decide) rfl hl rfl (Nat.le_of_ble_eq_true rfl) dX7_made_334 (by omega) (fun uy H locs huy h => ?_)
                            obtain ⟨y1, y2, y3, y4, y5, y6, y7, Ey⟩ := uy
                            obtain ⟨hy1, hy4, ⟨qn, hqn, hqnE⟩, -, -⟩ := huy hgood
                            dsimp only at hy4 hqn hqnE
                            obtain ⟨M3, hM3⟩ : ∃ z, z = (yM M2 y1 y2 y3 y4 y5 y6 y7 (some qtx)) := ⟨_, rfl⟩
                            have h : Wd D B s (mw dA h0 ad (yM M2 y1 y2 y3 y4 y5 y6 y7 (some qtx)) ++ ((F1 ++ (q1, iar dA 400 G5) :: R1) ++ Ey)) H locs := h
                            rw [← hM3] at h
                            have hK3 : Kp M2 M3 := by rw [hM3]; exact yM_kp _ _ _ _ _ _ _ _ _
                            have hI3 : MI M3 := by rw [hM3]; exact hI2
                            have hKM3 : Kp M M3 := hK2.trans hK3
                            have h250 : mR M3 50 = some qn := by rw [hM3]; exact hqn
                            have hd3 : ∀ j, j < dg.length → mG M3 22 j = gD dg j := by rw [hM3]; exact hd2
                            obtain ⟨R2, hR2e⟩ : ∃ z, z = R1 ++ Ey := ⟨_, rfl⟩
                            have h : Wd D B s (mw dA h0 ad M3 ++ (F1 ++ (q1, iar dA 400 G5) :: R2)) H locs := by rw [hR2e, ← List.cons_append, ← List.append_assoc F1]; exact h
                            have hqn2 : (qn, ial dA (kN tx.2.1)) ∈ R2 := by rw [hR2e]; exact List.mem_append_right _ hqnE
                            have hR6 : CurR dA (F1 ++ (q1, iar dA 400 G5) :: R2) ad M3 L := hR.kp hKM3 (fun z hz => List.mem_append_left _ (hFF z hz))
                            refine lv_istore (lv' := [(11, .int (bZ (keyOk tx.2.1 false))), (10, .int (nI 32)), (0, .ref h0), (1, .int (nI p9)), (2, .int (nI ty)), (3, .ref ta), (4, .int (nI lt.length)), (5, .long (lN t)), (7, .ref q7), (8, .ref q1)]) hx hb dX7_made_337 hl (by decide) rfl (fun ls hl => ?_)
                            refine lv_aload_n hx hb dX7_made_339 rfl (lv_at hl 2 rfl) ?_
                            refine lv_aload_n hx hb dX7_made_340 rfl (lv_at hl 2 rfl) ?_
                            refine lv_bipush (v := nI 8) hx hb dX7_made_341 (by decide) ?_
                            refine lv_iload hx hb dX7_made_343 (lv_at hl 1 rfl) ?_
                            refine lv_aload_n hx hb dX7_made_345 rfl (lv_at hl 2 rfl) ?_
                            refine m_gr C h 50 (by decide) rfl rfl q1920 (v := some qn) h250 dX7_made_346 ?_
                            refine n_alen C h (List.mem_append_right _ (List.mem_append_right _ (List.mem_cons_of_mem _ hqn2))) dX7_made_349 ?_
                            refine call_V (As := [.int (nI 8), .int (nI 32), .int (nI ((kN tx.2.1).length))]) (rest := [.ref h0]) (n := 3) C h (hdgl ▸ c7_padded l D dA B Z hZ h0 ad M3 (F1 ++ (q1, iar dA 400 G5) :: R2) 8 (kN tx.2.1).length dg hd3 (by omega) (by decide) (by omega) (by omega)) (lw_V q2440 q2442 qs101 q138 q2443) (by decide +kernel) (ci := 5) rfl rfl mw_mem0 (by decide) (by decide) rfl hl rfl (Nat.le_of_ble_eq_true rfl) dX7_made_350 (by omega) (fun upd H locs _ h => ?_)
                            obtain ⟨qp, Ep⟩ := upd
                            have h : Wd D B s (mw dA h0 ad M3 ++ ((F1 ++ (q1, iar dA 400 G5) :: R2) ++ ([(qp, ial dA (padL (frontL 8) dg (kN tx.2.1).length))] ++ Ep))) H locs := h
                            obtain ⟨R3, hR3e⟩ : ∃ z, z = R2 ++ ([(qp, ial dA (padL (frontL 8) dg (kN tx.2.1).length))] ++ Ep) := ⟨_, rfl⟩
                            have h : Wd D B s (mw dA h0 ad M3 ++ (F1 ++ (q1, iar dA 400 G5) :: R3)) H locs := by rw [hR3e, ← List.cons_append, ← List.append_assoc F1]; exact h
                            have hqp : (qp, ial dA (padL (frontL 8) dg (kN tx.2.1).length)) ∈ R3 := by rw [hR3e]; exact List.mem_append_right _ (List.mem_append_left _ List.mem_cons_self)
                            have hqn3 : (qn, ial dA (kN tx.2.1)) ∈ R3 := by rw [hR3e]; exact List.mem_append_left _ hqn2
                            have hR7 : CurR dA (F1 ++ (q1, iar dA 400 G5) :: R3) ad M3 L := hR.kp hKM3 (fun z hz => List.mem_append_left _ (hFF z hz))
                            show W p l e R s m args below meth c H locs (0 + 1 + 1 + 1 + 0 + 0 + 0 + 0 + 0 + 0 + 6 + 2) (0 + 20 + 400 + 15 + 0 + 0 + 0 + 0 + 0 + 0 + (6 * tx.2.1.length) + ((kN tx.2.1).length + 19)) Q (F0 m 353 ls [.ref qp, .ref h0])
                            obtain ⟨-, -, hsx⟩ := hR.1 _ _ htx
                            rw [hsec] at hsx
                            obtain ⟨qs, hqs, hqsF⟩ := hsx
                            refine lv_aload_n hx hb dX7_made_353 rfl (lv_at hl 2 rfl) ?_
                            refine m_gr C h 15 (by decide) rfl rfl q1885 (v := some (ad 15)) hR7.2.2.2.2 dX7_made_354 ?_
                            refine lv_iload_n hx hb dX7_made_357 rfl (lv_at hl 3 rfl) ?_
                            refine n_aald C h (v := (mA M3 15) p9) (mw_memA (k := 15) (by decide)) (show p9 < 4700 by omega) (by decide) rfl dX7_made_358 ?_
                            refine n_topv (y := .ref qs) (congrArg va_rf ((congrFun (congrFun hKM3.2.2.2.2 15) p9).trans hqs)) ?_
                            refine lv_aload_n hx hb dX7_made_359 rfl (lv_at hl 2 rfl) ?_
                            refine m_gr C h 50 (by decide) rfl rfl q1920 (v := some qn) h250 dX7_made_360 ?_
                            have hsco := htxo.2.2.2.1 sec hsec
                            refine call_V (As := [.ref qp, .ref qs, .ref qn]) (rest := []) (n := 3) C h (c7_raise l D dA B Z hZ h0 ad M3 (F1 ++ (q1, iar dA 400 G5) :: R3) qp qs qn (padL (frontL 8) dg (kN tx.2.1).length) sec (kN tx.2.1) (List.mem_append_right _ (List.mem_cons_of_mem _ hqp)) (List.mem_append_left _ (hFF _ hqsF)) (List.mem_append_right _ (List.mem_cons_of_mem _ hqn3)) (byt_padL (byt_frontL 8) hdgb _) hsco.1 hkn.1 (by omega) (by omega) (by rw [show (padL (frontL 8) dg (kN tx.2.1).length).length = (kN tx.2.1).length from sl_len _ _ _]; omega) (by omega) hkn.2.2.2.2.2.1 (num_pad (by omega) hdgb rfl hkn.2.2.2.2.1) (by have := num_top hkn.2.2.2.2.1; have q : 256 ^ 1 ≤ 256 ^ ((kN tx.2.1).length - 1) := Nat.pow_le_pow_right (by decide) (by omega); omega)) (lw_V q2418 q2420 qs97 q138 q2421) (by decide +kernel) (ci := 5) rfl rfl mw_mem0 (by decide) (by decide) rfl hl rfl (Nat.le_of_ble_eq_true rfl) dX7_made_363 (by omega) (fun ur H locs _ h => ?_)
                            obtain ⟨qr, upp⟩ := ur
                            obtain ⟨M4, hM4⟩ : ∃ z, z = pM M3 upp := ⟨_, rfl⟩
                            have h : Wd D B s (mw dA h0 ad (pM M3 upp) ++ ((F1 ++ (q1, iar dA 400 G5) :: R3) ++ [(qr, ial dA (be (kN tx.2.1).length (num (padL (frontL 8) dg (kN tx.2.1).length) ^ num sec % num (kN tx.2.1))))])) H locs := h
                            rw [← hM4] at h
                            have hKM4 : Kp M M4 := by rw [hM4]; exact hKM3.trans (pM_kp _ _)
                            have hI4 : MI M4 := by rw [hM4]; exact hI3
                            obtain ⟨sn, hsn⟩ : ∃ z, z = (be (kN tx.2.1).length (num (padL (frontL 8) dg (kN tx.2.1).length) ^ num sec % num (kN tx.2.1))) := ⟨_, rfl⟩
                            rw [← hsn] at h
                            have hsnl : sn.length = (kN tx.2.1).length := by rw [hsn]; exact be_len _ _
                            have hsnb : byt sn := by rw [hsn]; exact byt_be _ _
                            obtain ⟨R4, hR4e⟩ : ∃ z, z = R3 ++ [(qr, ial dA sn)] := ⟨_, rfl⟩
                            have h : Wd D B s (mw dA h0 ad M4 ++ (F1 ++ (q1, iar dA 400 G5) :: R4)) H locs := by rw [hR4e, ← List.cons_append, ← List.append_assoc F1]; exact h
                            have hqr : (qr, ial dA sn) ∈ R4 := by rw [hR4e]; exact List.mem_append_right _ List.mem_cons_self
                            show W p l e R s m args below meth c H locs (0 + 1 + 1 + 1 + 0 + 0 + 0 + 0 + 0 + 0 + 6 + 2 + 1) (0 + 20 + 400 + 15 + 0 + 0 + 0 + 0 + 0 + 0 + (6 * tx.2.1.length) + ((kN tx.2.1).length + 19) + ((kN tx.2.1).length)) Q (F0 m 366 ls [.ref qr])
                            refine lv_astore (lv' := [(12, .ref qr), (11, .int (bZ (keyOk tx.2.1 false))), (10, .int (nI 32)), (0, .ref h0), (1, .int (nI p9)), (2, .int (nI ty)), (3, .ref ta), (4, .int (nI lt.length)), (5, .long (lN t)), (7, .ref q7), (8, .ref q1)]) hx hb dX7_made_366 hl (by decide) rfl (fun ls hl => ?_)
                            refine lv_iconst (v := nI 0) hx hb dX7_made_368 (by decide) ?_
                            refine lv_istore (lv' := [(13, .int (nI 0)), (12, .ref qr), (11, .int (bZ (keyOk tx.2.1 false))), (10, .int (nI 32)), (0, .ref h0), (1, .int (nI p9)), (2, .int (nI ty)), (3, .ref ta), (4, .int (nI lt.length)), (5, .long (lN t)), (7, .ref q7), (8, .ref q1)]) hx hb dX7_made_369 hl (by decide) rfl (fun ls hl => ?_)
                            have loopZ : ∀ (nnZ : Nat) (i : Nat), (i ≤ sn.length) → (∀ j, j < i → gD sn j = 0) → sn.length - i < nnZ → ∀ (H : Heap) (locs : List Loc), Wd D B s (mw dA h0 ad M4 ++ (F1 ++ (q1, iar dA 400 G5) :: R4)) H locs → ∀ (ls : Array Slot), lv_has ls 17 [(13, .int (nI i)), (12, .ref qr), (10, .int (nI 32)), (0, .ref h0), (1, .int (nI p9)), (2, .int (nI ty)), (3, .ref ta), (4, .int (nI lt.length)), (5, .long (lN t)), (7, .ref q7), (8, .ref q1)] → W p l e R s m args below meth c H locs (0 + 1 + 1 + 1 + 0 + 0 + 0 + 0 + 0 + 0 + 6 + 2 + 1) (0 + 20 + 400 + 15 + 0 + 0 + 0 + 0 + 0 + 0 + (6 * tx.2.1.length) + ((kN tx.2.1).length + 19) + ((kN tx.2.1).length)) Q (F0 m 371 ls []) := by
                              intro nnZ
                              induction nnZ with
                              | zero => intro i  hi0 hi1 hme; exact absurd hme (Nat.not_lt_zero _)
                              | succ nnZ ihZ =>
                                intro i  hi0 hi1 hme H locs h ls hl
                                refine lv_iload hx hb dX7_made_371 (lv_at hl 0 rfl) ?_
                                refine lv_aload hx hb dX7_made_373 (lv_at hl 1 rfl) ?_
                                refine n_alen C h (List.mem_append_right _ (List.mem_append_right _ (List.mem_cons_of_mem _ hqr))) dX7_made_375 ?_
                                refine n_icmp_ge (tgt := 393) hx hb (by omega) (by omega) dX7_made_376 (by decide) (fun c376 => ?_) (fun c376 => ?_)
                                · refine lv_aload hx hb dX7_made_393 (lv_at hl 1 rfl) ?_
                                  refine lv_iload hx hb dX7_made_395 (lv_at hl 0 rfl) ?_
                                  refine lv_aload hx hb dX7_made_397 (lv_at hl 1 rfl) ?_
                                  refine n_alen C h (List.mem_append_right _ (List.mem_append_right _ (List.mem_cons_of_mem _ hqr))) dX7_made_399 ?_
                                  refine lv_iload hx hb dX7_made_400 (lv_at hl 0 rfl) ?_
                                  refine lv_isub hx hb dX7_made_402 (n_top (y := nI (sn.length - i)) (pk_sub (by omega)) ?_)
                                  have hex : i = sn.length ∨ gD sn i ≠ 0 := by first | exact Or.inr c384 | exact Or.inl (by omega)
                                  have how : sl (gD sn) i (sn.length - i) = zL sn := by rw [sl_gDc sn (by omega), ← zL_drop hi0 hi1 hex, List.take_of_length_le (by rw [List.length_drop]; omega)]
                                  refine call_S (As := [.ref qr, .int (nI i), .int (nI (sn.length - i))]) (rest := []) (n := 3) C h (c7_part l D dA B Z hZ _ qr sn.length (gD sn) i (sn.length - i) (List.mem_append_right _ (List.mem_append_right _ (List.mem_cons_of_mem _ hqr))) (by omega) (by omega)) (lw_S q2208 q2209 q138 q2210) (by decide +kernel) (by decide) (by decide) rfl hl rfl (Nat.le_of_ble_eq_true rfl) dX7_made_403 (by omega) (fun qo H locs _ h => ?_)
                                  refine W.widen (k := 0 + 1 + 1 + 1 + 0 + 0 + 0 + 0 + 0 + 0 + 6 + 2 + 1 + 1) (n := 0 + 20 + 400 + 15 + 0 + 0 + 0 + 0 + 0 + 0 + (6 * tx.2.1.length) + ((kN tx.2.1).length + 19) + ((kN tx.2.1).length) + sn.length) (Nat.le_refl _) (by omega) ?_
                                  rw [how] at h
                                  obtain ⟨ow, how2⟩ : ∃ z, z = zL sn := ⟨_, rfl⟩
                                  rw [← how2] at h
                                  have howl : ow.length ≤ sn.length := by rw [how2]; exact zL_len sn
                                  have howb : byt ow := by rw [how2]; exact zL_byt hsnb
                                  have howt : 0 < ow.length → gD ow 0 ≠ 0 := by rw [how2]; exact zL_top
                                  have h : Wd D B s (mw dA h0 ad M4 ++ ((F1 ++ (q1, iar dA 400 G5) :: R4) ++ [(qo, ial dA ow)])) H locs := by rw [← List.append_assoc]; exact h
                                  obtain ⟨R5, hR5e⟩ : ∃ z, z = R4 ++ [(qo, ial dA ow)] := ⟨_, rfl⟩
                                  have h : Wd D B s (mw dA h0 ad M4 ++ (F1 ++ (q1, iar dA 400 G5) :: R5)) H locs := by rw [hR5e, ← List.cons_append, ← List.append_assoc F1]; exact h
                                  have hqo : (qo, ial dA ow) ∈ R5 := by rw [hR5e]; exact List.mem_append_right _ List.mem_cons_self
                                  have hbl8 := blen_le (v := gD ow 0) (k := 8) (byt_gD howb 0)
                                  have hbn : bitN ow ≤ 1100 := by unfold bitN; split <;> omega
                                  refine lv_astore (lv' := [(14, .ref qo), (13, .int (nI i)), (12, .ref qr), (10, .int (nI 32)), (0, .ref h0), (1, .int (nI p9)), (2, .int (nI ty)), (3, .ref ta), (4, .int (nI lt.length)), (5, .long (lN t)), (7, .ref q7), (8, .ref q1)]) hx hb dX7_made_406 hl (by decide) rfl (fun ls hl => ?_)
                                  have jo : ∀ (H : Heap) (locs : List Loc), Wd D B s (mw dA h0 ad M4 ++ (F1 ++ (q1, iar dA 400 G5) :: R5)) H locs → ∀ (ls : Array Slot), lv_has ls 17 [(14, .ref qo), (10, .int (nI 32)), (0, .ref h0), (1, .int (nI p9)), (2, .int (nI ty)), (3, .ref ta), (4, .int (nI lt.length)), (5, .long (lN t)), (7, .ref q7), (8, .ref q1)] → W p l e R s m args below meth c H locs (0 + 1 + 1 + 1 + 0 + 0 + 0 + 0 + 0 + 0 + 6 + 2 + 1 + 1) (0 + 20 + 400 + 15 + 0 + 0 + 0 + 0 + 0 + 0 + (6 * tx.2.1.length) + ((kN tx.2.1).length + 19) + ((kN tx.2.1).length) + sn.length) Q (F0 m 423 ls [.int (nI (bitN ow))]) := by
                                    intro   H locs h ls hl
                                    refine lv_istore (lv' := [(15, .int (nI (bitN ow))), (14, .ref qo), (10, .int (nI 32)), (0, .ref h0), (1, .int (nI p9)), (2, .int (nI ty)), (3, .ref ta), (4, .int (nI lt.length)), (5, .long (lN t)), (7, .ref q7), (8, .ref q1)]) hx hb dX7_made_423 hl (by decide) rfl (fun ls hl => ?_)
                                    rw [hG5] at h
                                    have h : Wd D B s (mw dA h0 ad M4 ++ (F1 ++ (q1, iar dA 400 (appG G3 36 ([10] ++ [9] ++ [16] ++ sl (fun j => gD pr (12 + j)) 0 8 ++ [gD dg 0] ++ [gD dg 1]))) :: R5)) H locs := h
                                    refine lv_aload hx hb dX7_made_425 (lv_at hl 10 rfl) ?_
                                    refine lv_bipush (v := nI 49) hx hb dX7_made_427 (by decide) ?_
                                    refine lv_iload hx hb dX7_made_429 (lv_at hl 0 rfl) ?_
                                    refine lv_sipush (v := nI 256) hx hb dX7_made_431 (by decide) ?_
                                    refine lv_idiv hx hb dX7_made_434 (by decide) (n_top (y := nI ((bitN ow) / 256)) (pk_div (by omega) (by omega) (by omega)) ?_)
                                    refine n_iastX C h (i := 49) (v := (bitN ow) / 256) (by omega) (by decide) dX7_made_435 (fun H locs h => ?_)
                                    have e9 := appG_snoc G3 36 ([10] ++ [9] ++ [16] ++ sl (fun j => gD pr (12 + j)) 0 8 ++ [gD dg 0] ++ [gD dg 1]) ((bitN ow) / 256) (k := 49) (by simp only [List.length_append, List.length_cons, List.length_nil, sl_len])
                                    have h : Wd D B s (mw dA h0 ad M4 ++ (F1 ++ (q1, iar dA 400 (appG G3 36 ([10] ++ [9] ++ [16] ++ sl (fun j => gD pr (12 + j)) 0 8 ++ [gD dg 0] ++ [gD dg 1] ++ [(bitN ow) / 256]))) :: R5)) H locs := by rw [← appG_snoc G3 36 ([10] ++ [9] ++ [16] ++ sl (fun j => gD pr (12 + j)) 0 8 ++ [gD dg 0] ++ [gD dg 1]) ((bitN ow) / 256) (k := 49) (by simp only [List.length_append, List.length_cons, List.length_nil, sl_len])]; exact h
                                    clear e9
                                    refine lv_aload hx hb dX7_made_436 (lv_at hl 10 rfl) ?_
                                    refine lv_bipush (v := nI 50) hx hb dX7_made_438 (by decide) ?_
                                    refine lv_iload hx hb dX7_made_440 (lv_at hl 0 rfl) ?_
                                    refine lv_sipush (v := nI 256) hx hb dX7_made_442 (by decide) ?_
                                    refine lv_irem hx hb dX7_made_445 (by decide) (n_top (y := nI ((bitN ow) % 256)) (pk_rem (by omega) (by omega) (by omega)) ?_)
                                    refine n_iastX C h (i := 50) (v := (bitN ow) % 256) (by omega) (by decide) dX7_made_446 (fun H locs h => ?_)
                                    have e9 := appG_snoc G3 36 ([10] ++ [9] ++ [16] ++ sl (fun j => gD pr (12 + j)) 0 8 ++ [gD dg 0] ++ [gD dg 1] ++ [(bitN ow) / 256]) ((bitN ow) % 256) (k := 50) (by simp only [List.length_append, List.length_cons, List.length_nil, sl_len])
                                    have h : Wd D B s (mw dA h0 ad M4 ++ (F1 ++ (q1, iar dA 400 (appG G3 36 ([10] ++ [9] ++ [16] ++ sl (fun j => gD pr (12 + j)) 0 8 ++ [gD dg 0] ++ [gD dg 1] ++ [(bitN ow) / 256] ++ [(bitN ow) % 256]))) :: R5)) H locs := by rw [← appG_snoc G3 36 ([10] ++ [9] ++ [16] ++ sl (fun j => gD pr (12 + j)) 0 8 ++ [gD dg 0] ++ [gD dg 1] ++ [(bitN ow) / 256]) ((bitN ow) % 256) (k := 50) (by simp only [List.length_append, List.length_cons, List.length_nil, sl_len])]; exact h
                                    clear e9
                                    refine lv_iconst (v := nI 0) hx hb dX7_made_447 (by decide) ?_
                                    refine lv_istore (lv' := [(16, .int (nI 0)), (15, .int (nI (bitN ow))), (14, .ref qo), (10, .int (nI 32)), (0, .ref h0), (1, .int (nI p9)), (2, .int (nI ty)), (3, .ref ta), (4, .int (nI lt.length)), (5, .long (lN t)), (7, .ref q7), (8, .ref q1)]) hx hb dX7_made_448 hl (by decide) rfl (fun ls hl => ?_)
                                    have h : Wd D B s (mw dA h0 ad M4 ++ (F1 ++ (q1, iar dA 400 (appG G3 36 ([10] ++ [9] ++ [16] ++ sl (fun j => gD pr (12 + j)) 0 8 ++ [gD dg 0] ++ [gD dg 1] ++ [(bitN ow) / 256] ++ [(bitN ow) % 256] ++ sl (gD ow) 0 0))) :: R5)) H locs := by rw [sl_0, List.append_nil]; exact h
                                    have loopO : ∀ (nnO : Nat) (i : Nat), (i ≤ ow.length) → ow.length - i < nnO → ∀ (H : Heap) (locs : List Loc), Wd D B s (mw dA h0 ad M4 ++ (F1 ++ (q1, iar dA 400 (appG G3 36 ([10] ++ [9] ++ [16] ++ sl (fun j => gD pr (12 + j)) 0 8 ++ [gD dg 0] ++ [gD dg 1] ++ [(bitN ow) / 256] ++ [(bitN ow) % 256] ++ sl (gD ow) 0 i))) :: R5)) H locs → ∀ (ls : Array Slot), lv_has ls 17 [(16, .int (nI i)), (14, .ref qo), (8, .ref q1)] → W p l e R s m args below meth c H locs (0 + 1 + 1 + 1 + 0 + 0 + 0 + 0 + 0 + 0 + 6 + 2 + 1 + 1) (0 + 20 + 400 + 15 + 0 + 0 + 0 + 0 + 0 + 0 + (6 * tx.2.1.length) + ((kN tx.2.1).length + 19) + ((kN tx.2.1).length) + sn.length) Q (F0 m 450 ls []) := by
                                      intro nnO
                                      induction nnO with
                                      | zero => intro i  hi0 hme; exact absurd hme (Nat.not_lt_zero _)
                                      | succ nnO ihO =>
                                        intro i  hi0 hme H locs h ls hl
                                        refine lv_iload hx hb dX7_made_450 (lv_at hl 0 rfl) ?_
                                        refine lv_aload hx hb dX7_made_452 (lv_at hl 1 rfl) ?_
                                        refine n_alen C h (List.mem_append_right _ (List.mem_append_right _ (List.mem_cons_of_mem _ hqo))) dX7_made_454 ?_
                                        refine n_icmp_ge (tgt := 477) hx hb (by omega) (by omega) dX7_made_455 (by decide) (fun c455 => ?_) (fun c455 => ?_)
                                        · refine lv_aload hx hb dX7_made_477 (lv_at hl 2 rfl) ?_
                                          refine lv_iconst (v := nI 0) hx hb dX7_made_479 (by decide) ?_
                                          refine lv_bipush (v := nI 51) hx hb dX7_made_480 (by decide) ?_
                                          refine lv_aload hx hb dX7_made_482 (lv_at hl 1 rfl) ?_
                                          refine n_alen C h (List.mem_append_right _ (List.mem_append_right _ (List.mem_cons_of_mem _ hqo))) dX7_made_484 ?_
                                          refine lv_iadd hx hb dX7_made_485 (n_top (y := nI (51 + ow.length)) (nI_add 51 ow.length) ?_)
                                          have hio : i = ow.length := by omega
                                          rw [hio, sl_gD] at h
                                          have h : Wd D B s (mw dA h0 ad M4 ++ (F1 ++ (q1, iar dA 400 (appG G3 36 ([10] ++ [9] ++ [16] ++ sl (fun j => gD pr (12 + j)) 0 8 ++ [gD dg 0] ++ [gD dg 1] ++ [(bitN ow) / 256] ++ [(bitN ow) % 256] ++ ow))) :: R5)) H locs := h
                                          have hTl : ([10] ++ [9] ++ [16] ++ sl (fun j => gD pr (12 + j)) 0 8 ++ [gD dg 0] ++ [gD dg 1] ++ [(bitN ow) / 256] ++ [(bitN ow) % 256] ++ ow).length = 15 + ow.length := by simp only [List.length_append, List.length_cons, List.length_nil, sl_len]
                                          have hfin : sl (appG G3 36 ([10] ++ [9] ++ [16] ++ sl (fun j => gD pr (12 + j)) 0 8 ++ [gD dg 0] ++ [gD dg 1] ++ [(bitN ow) / 256] ++ [(bitN ow) % 256] ++ ow)) 0 (51 + ow.length) = madeL ty t tx.2.1 sec lt := by
                                            have e1 := sl_appG G3 36 ([10] ++ [9] ++ [16] ++ sl (fun j => gD pr (12 + j)) 0 8 ++ [gD dg 0] ++ [gD dg 1] ++ [(bitN ow) / 256] ++ [(bitN ow) % 256] ++ ow)
                                            rw [hTl, show 36 + (15 + ow.length) = 51 + ow.length by omega] at e1
                                            refine e1.trans ?_
                                            rw [show (36 : Nat) = 35 + 1 from rfl, sl_succ, hG35, Nat.zero_add, hGz 35 (Nat.le_refl _)]
                                            have e2 : mg = madeM ty t pr lt := by rw [hmg, hhd, hmt]; rfl
                                            unfold madeL
                                            rw [← hpr, ← e2, ← hdg, hhd]
                                            have e3 : ow = madeN dg tx.2.1 sec := by rw [how2, hsn]; rfl
                                            rw [← e3]; rfl
                                          refine call_S (As := [.ref q1, .int (nI 0), .int (nI (51 + ow.length))]) (rest := []) (n := 3) C h (c7_part l D dA B Z hZ _ q1 400 (appG G3 36 ([10] ++ [9] ++ [16] ++ sl (fun j => gD pr (12 + j)) 0 8 ++ [gD dg 0] ++ [gD dg 1] ++ [(bitN ow) / 256] ++ [(bitN ow) % 256] ++ ow)) 0 (51 + ow.length) (List.mem_append_right _ (List.mem_append_right _ List.mem_cons_self)) (by omega) (by decide)) (lw_S q2208 q2209 q138 q2210) (by decide +kernel) (by decide) (by decide) rfl hl rfl (Nat.le_of_ble_eq_true rfl) dX7_made_486 (by omega) (fun qz H locs _ h => ?_)
                                          rw [hfin] at h
                                          subst hQ
                                          have h : Wd D B s (mw dA h0 ad M4 ++ (F ++ ([(q7, ial dA pr)] ++ (q1, iar dA 400 (appG G3 36 ([10] ++ [9] ++ [16] ++ sl (fun j => gD pr (12 + j)) 0 8 ++ [gD dg 0] ++ [gD dg 1] ++ [(bitN ow) / 256] ++ [(bitN ow) % 256] ++ ow))) :: R5) ++ [(qz, ial dA (madeL ty t tx.2.1 sec lt))])) H locs := by
                                            rw [hF1] at h
                                            simp only [List.append_assoc, List.cons_append, List.nil_append] at h ⊢; exact h
                                          exact ret_a C hr (Or.inr ⟨_, rfl⟩) hlocks h (qz, M4, ([(q7, ial dA pr)] ++ (q1, iar dA 400 (appG G3 36 ([10] ++ [9] ++ [16] ++ sl (fun j => gD pr (12 + j)) 0 8 ++ [gD dg 0] ++ [gD dg 1] ++ [(bitN ow) / 256] ++ [(bitN ow) % 256] ++ ow))) :: R5)) (⟨hI4, hKM4⟩) (Or.inr ⟨_, rfl⟩) rfl rfl (by omega) (by omega) dX7_made_489
                                        · refine lv_aload hx hb dX7_made_458 (lv_at hl 2 rfl) ?_
                                          refine lv_bipush (v := nI 51) hx hb dX7_made_460 (by decide) ?_
                                          refine lv_iload hx hb dX7_made_462 (lv_at hl 0 rfl) ?_
                                          refine lv_iadd hx hb dX7_made_464 (n_top (y := nI (51 + i)) (nI_add 51 i) ?_)
                                          refine lv_aload hx hb dX7_made_465 (lv_at hl 1 rfl) ?_
                                          refine lv_iload hx hb dX7_made_467 (lv_at hl 0 rfl) ?_
                                          refine n_iald C h (v := (gD ow) i) (List.mem_append_right _ (List.mem_append_right _ (List.mem_cons_of_mem _ hqo))) (show i < ow.length by omega) (by omega) rfl dX7_made_469 ?_
                                          refine n_iastX C h (i := 51 + i) (v := (gD ow) i) (by omega) (by decide) dX7_made_470 (fun H locs h => ?_)
                                          have e8 := sl_succ (gD ow) 0 i
                                          rw [Nat.zero_add] at e8
                                          have e9 := appG_snoc G3 36 ([10] ++ [9] ++ [16] ++ sl (fun j => gD pr (12 + j)) 0 8 ++ [gD dg 0] ++ [gD dg 1] ++ [(bitN ow) / 256] ++ [(bitN ow) % 256] ++ sl (gD ow) 0 i) ((gD ow) i) (k := 51 + i) (by rw [List.length_append, sl_len]; simp only [List.length_append, List.length_cons, List.length_nil, sl_len]; omega)
                                          have h : Wd D B s (mw dA h0 ad M4 ++ (F1 ++ (q1, iar dA 400 (appG G3 36 ([10] ++ [9] ++ [16] ++ sl (fun j => gD pr (12 + j)) 0 8 ++ [gD dg 0] ++ [gD dg 1] ++ [(bitN ow) / 256] ++ [(bitN ow) % 256] ++ sl (gD ow) 0 (i + 1)))) :: R5)) H locs := by rw [e8, ← List.append_assoc ([10] ++ [9] ++ [16] ++ sl (fun j => gD pr (12 + j)) 0 8 ++ [gD dg 0] ++ [gD dg 1] ++ [(bitN ow) / 256] ++ [(bitN ow) % 256]), ← e9]; exact h
                                          refine lv_iinc (v := nI (i + 1)) (lv' := [(16, .int (nI (i + 1))), (14, .ref qo), (8, .ref q1)]) hx hb dX7_made_471 hl (k := 0) rfl (nI_add i 1) (by decide) rfl (fun ls hl => ?_)
                                          refine lv_goto (tgt := 450) hx hb dX7_made_474 (by decide) ?_
                                          exact ihO (i + 1) (by omega) (by omega) _ _ h _ (lv_sub hl [0, 1, 2] rfl)
                                    exact loopO _ 0 (by omega) (Nat.lt_succ_self _) _ _ h _ (lv_sub hl [0, 2, 11] rfl)
                                  refine lv_aload hx hb dX7_made_408 (lv_at hl 0 rfl) ?_
                                  refine n_alen C h (List.mem_append_right _ (List.mem_append_right _ (List.mem_cons_of_mem _ hqo))) dX7_made_410 ?_
                                  refine n_if_ne (tgt := 418) hx hb (by omega) dX7_made_411 (by decide) (fun c411 => ?_) (fun c411 => ?_)
                                  · refine lv_aload hx hb dX7_made_418 (lv_at hl 0 rfl) ?_
                                    refine call_S (As := [.ref qo]) (rest := []) (n := 1) C h (c7_bitsOf l D dA B Z hZ _ qo ow.length (gD ow) (List.mem_append_right _ (List.mem_append_right _ (List.mem_cons_of_mem _ hqo))) (by omega) (by omega) (byt_gD howb 0)) (lw_S q2233 q2234 q138 q2235) (by decide +kernel) (by decide) (by decide) rfl hl rfl (Nat.le_of_ble_eq_true rfl) dX7_made_420 (by omega) (fun _ H locs _ h => ?_)
                                    refine n_top (y := nI (bitN ow)) (by unfold bitN bitsI; rw [if_neg (howt (by omega)), if_neg (by omega)]) ?_
                                    exact jo   _ _ h _ (lv_sub hl [0, 3, 4, 5, 6, 7, 8, 9, 10, 11] rfl)
                                  · refine lv_iconst (v := nI 0) hx hb dX7_made_414 (by decide) ?_
                                    refine lv_goto (tgt := 423) hx hb dX7_made_415 (by decide) ?_
                                    refine n_top (y := nI (bitN ow)) (by unfold bitN; rw [if_pos c411]) ?_
                                    exact jo   _ _ h _ (lv_sub hl [0, 3, 4, 5, 6, 7, 8, 9, 10, 11] rfl)
                                · have hbs := byt_gD hsnb i
                                  refine lv_aload hx hb dX7_made_379 (lv_at hl 1 rfl) ?_
                                  refine lv_iload hx hb dX7_made_381 (lv_at hl 0 rfl) ?_
                                  refine n_iald C h (v := (gD sn) i) (List.mem_append_right _ (List.mem_append_right _ (List.mem_cons_of_mem _ hqr))) (show i < sn.length by omega) (by omega) rfl dX7_made_383 ?_
                                  refine n_if_ne (tgt := 393) hx hb (by omega) dX7_made_384 (by decide) (fun c384 => ?_) (fun c384 => ?_)
                                  · refine lv_aload hx hb dX7_made_393 (lv_at hl 1 rfl) ?_
                                    refine lv_iload hx hb dX7_made_395 (lv_at hl 0 rfl) ?_
                                    refine lv_aload hx hb dX7_made_397 (lv_at hl 1 rfl) ?_
                                    refine n_alen C h (List.mem_append_right _ (List.mem_append_right _ (List.mem_cons_of_mem _ hqr))) dX7_made_399 ?_
                                    refine lv_iload hx hb dX7_made_400 (lv_at hl 0 rfl) ?_
                                    refine lv_isub hx hb dX7_made_402 (n_top (y := nI (sn.length - i)) (pk_sub (by omega)) ?_)
                                    have hex : i = sn.length ∨ gD sn i ≠ 0 := by first | exact Or.inr c384 | exact Or.inl (by omega)
                                    have how : sl (gD sn) i (sn.length - i) = zL sn := by rw [sl_gDc sn (by omega), ← zL_drop hi0 hi1 hex, List.take_of_length_le (by rw [List.length_drop]; omega)]
                                    refine call_S (As := [.ref qr, .int (nI i), .int (nI (sn.length - i))]) (rest := []) (n := 3) C h (c7_part l D dA B Z hZ _ qr sn.length (gD sn) i (sn.length - i) (List.mem_append_right _ (List.mem_append_right _ (List.mem_cons_of_mem _ hqr))) (by omega) (by omega)) (lw_S q2208 q2209 q138 q2210) (by decide +kernel) (by decide) (by decide) rfl hl rfl (Nat.le_of_ble_eq_true rfl) dX7_made_403 (by omega) (fun qo H locs _ h => ?_)
                                    refine W.widen (k := 0 + 1 + 1 + 1 + 0 + 0 + 0 + 0 + 0 + 0 + 6 + 2 + 1 + 1) (n := 0 + 20 + 400 + 15 + 0 + 0 + 0 + 0 + 0 + 0 + (6 * tx.2.1.length) + ((kN tx.2.1).length + 19) + ((kN tx.2.1).length) + sn.length) (Nat.le_refl _) (by omega) ?_
                                    rw [how] at h
                                    obtain ⟨ow, how2⟩ : ∃ z, z = zL sn := ⟨_, rfl⟩
                                    rw [← how2] at h
                                    have howl : ow.length ≤ sn.length := by rw [how2]; exact zL_len sn
                                    have howb : byt ow := by rw [how2]; exact zL_byt hsnb
                                    have howt : 0 < ow.length → gD ow 0 ≠ 0 := by rw [how2]; exact zL_top
                                    have h : Wd D B s (mw dA h0 ad M4 ++ ((F1 ++ (q1, iar dA 400 G5) :: R4) ++ [(qo, ial dA ow)])) H locs := by rw [← List.append_assoc]; exact h
                                    obtain ⟨R5, hR5e⟩ : ∃ z, z = R4 ++ [(qo, ial dA ow)] := ⟨_, rfl⟩
                                    have h : Wd D B s (mw dA h0 ad M4 ++ (F1 ++ (q1, iar dA 400 G5) :: R5)) H locs := by rw [hR5e, ← List.cons_append, ← List.append_assoc F1]; exact h
                                    have hqo : (qo, ial dA ow) ∈ R5 := by rw [hR5e]; exact List.mem_append_right _ List.mem_cons_self
                                    have hbl8 := blen_le (v := gD ow 0) (k := 8) (byt_gD howb 0)
                                    have hbn : bitN ow ≤ 1100 := by unfold bitN; split <;> omega
                                    refine lv_astore (lv' := [(14, .ref qo), (13, .int (nI i)), (12, .ref qr), (10, .int (nI 32)), (0, .ref h0), (1, .int (nI p9)), (2, .int (nI ty)), (3, .ref ta), (4, .int (nI lt.length)), (5, .long (lN t)), (7, .ref q7), (8, .ref q1)]) hx hb dX7_made_406 hl (by decide) rfl (fun ls hl => ?_)
                                    have jo : ∀ (H : Heap) (locs : List Loc), Wd D B s (mw dA h0 ad M4 ++ (F1 ++ (q1, iar dA 400 G5) :: R5)) H locs → ∀ (ls : Array Slot), lv_has ls 17 [(14, .ref qo), (10, .int (nI 32)), (0, .ref h0), (1, .int (nI p9)), (2, .int (nI ty)), (3, .ref ta), (4, .int (nI lt.length)), (5, .long (lN t)), (7, .ref q7), (8, .ref q1)] → W p l e R s m args below meth c H locs (0 + 1 + 1 + 1 + 0 + 0 + 0 + 0 + 0 + 0 + 6 + 2 + 1 + 1) (0 + 20 + 400 + 15 + 0 + 0 + 0 + 0 + 0 + 0 + (6 * tx.2.1.length) + ((kN tx.2.1).length + 19) + ((kN tx.2.1).length) + sn.length) Q (F0 m 423 ls [.int (nI (bitN ow))]) := by
                                      intro   H locs h ls hl
                                      refine lv_istore (lv' := [(15, .int (nI (bitN ow))), (14, .ref qo), (10, .int (nI 32)), (0, .ref h0), (1, .int (nI p9)), (2, .int (nI ty)), (3, .ref ta), (4, .int (nI lt.length)), (5, .long (lN t)), (7, .ref q7), (8, .ref q1)]) hx hb dX7_made_423 hl (by decide) rfl (fun ls hl => ?_)
                                      rw [hG5] at h
                                      have h : Wd D B s (mw dA h0 ad M4 ++ (F1 ++ (q1, iar dA 400 (appG G3 36 ([10] ++ [9] ++ [16] ++ sl (fun j => gD pr (12 + j)) 0 8 ++ [gD dg 0] ++ [gD dg 1]))) :: R5)) H locs := h
                                      refine lv_aload hx hb dX7_made_425 (lv_at hl 10 rfl) ?_
                                      refine lv_bipush (v := nI 49) hx hb dX7_made_427 (by decide) ?_
                                      refine lv_iload hx hb dX7_made_429 (lv_at hl 0 rfl) ?_
                                      refine lv_sipush (v := nI 256) hx hb dX7_made_431 (by decide) ?_
                                      refine lv_idiv hx hb dX7_made_434 (by decide) (n_top (y := nI ((bitN ow) / 256)) (pk_div (by omega) (by omega) (by omega)) ?_)
                                      refine n_iastX C h (i := 49) (v := (bitN ow) / 256) (by omega) (by decide) dX7_made_435 (fun H locs h => ?_)
                                      have e9 := appG_snoc G3 36 ([10] ++ [9] ++ [16] ++ sl (fun j => gD pr (12 + j)) 0 8 ++ [gD dg 0] ++ [gD dg 1]) ((bitN ow) / 256) (k := 49) (by simp only [List.length_append, List.length_cons, List.length_nil, sl_len])
                                      have h : Wd D B s (mw dA h0 ad M4 ++ (F1 ++ (q1, iar dA 400 (appG G3 36 ([10] ++ [9] ++ [16] ++ sl (fun j => gD pr (12 + j)) 0 8 ++ [gD dg 0] ++ [gD dg 1] ++ [(bitN ow) / 256]))) :: R5)) H locs := by rw [← appG_snoc G3 36 ([10] ++ [9] ++ [16] ++ sl (fun j => gD pr (12 + j)) 0 8 ++ [gD dg 0] ++ [gD dg 1]) ((bitN ow) / 256) (k := 49) (by simp only [List.length_append, List.length_cons, List.length_nil, sl_len])]; exact h
                                      clear e9
                                      refine lv_aload hx hb dX7_made_436 (lv_at hl 10 rfl) ?_
                                      refine lv_bipush (v := nI 50) hx hb dX7_made_438 (by decide) ?_
                                      refine lv_iload hx hb dX7_made_440 (lv_at hl 0 rfl) ?_
                                      refine lv_sipush (v := nI 256) hx hb dX7_made_442 (by decide) ?_
                                      refine lv_irem hx hb dX7_made_445 (by decide) (n_top (y := nI ((bitN ow) % 256)) (pk_rem (by omega) (by omega) (by omega)) ?_)
                                      refine n_iastX C h (i := 50) (v := (bitN ow) % 256) (by omega) (by decide) dX7_made_446 (fun H locs h => ?_)
                                      have e9 := appG_snoc G3 36 ([10] ++ [9] ++ [16] ++ sl (fun j => gD pr (12 + j)) 0 8 ++ [gD dg 0] ++ [gD dg 1] ++ [(bitN ow) / 256]) ((bitN ow) % 256) (k := 50) (by simp only [List.length_append, List.length_cons, List.length_nil, sl_len])
                                      have h : Wd D B s (mw dA h0 ad M4 ++ (F1 ++ (q1, iar dA 400 (appG G3 36 ([10] ++ [9] ++ [16] ++ sl (fun j => gD pr (12 + j)) 0 8 ++ [gD dg 0] ++ [gD dg 1] ++ [(bitN ow) / 256] ++ [(bitN ow) % 256]))) :: R5)) H locs := by rw [← appG_snoc G3 36 ([10] ++ [9] ++ [16] ++ sl (fun j => gD pr (12 + j)) 0 8 ++ [gD dg 0] ++ [gD dg 1] ++ [(bitN ow) / 256]) ((bitN ow) % 256) (k := 50) (by simp only [List.length_append, List.length_cons, List.length_nil, sl_len])]; exact h
                                      clear e9
                                      refine lv_iconst (v := nI 0) hx hb dX7_made_447 (by decide) ?_
                                      refine lv_istore (lv' := [(16, .int (nI 0)), (15, .int (nI (bitN ow))), (14, .ref qo), (10, .int (nI 32)), (0, .ref h0), (1, .int (nI p9)), (2, .int (nI ty)), (3, .ref ta), (4, .int (nI lt.length)), (5, .long (lN t)), (7, .ref q7), (8, .ref q1)]) hx hb dX7_made_448 hl (by decide) rfl (fun ls hl => ?_)
                                      have h : Wd D B s (mw dA h0 ad M4 ++ (F1 ++ (q1, iar dA 400 (appG G3 36 ([10] ++ [9] ++ [16] ++ sl (fun j => gD pr (12 + j)) 0 8 ++ [gD dg 0] ++ [gD dg 1] ++ [(bitN ow) / 256] ++ [(bitN ow) % 256] ++ sl (gD ow) 0 0))) :: R5)) H locs := by rw [sl_0, List.append_nil]; exact h
                                      have loopO : ∀ (nnO : Nat) (i : Nat), (i ≤ ow.length) → ow.length - i < nnO → ∀ (H : Heap) (locs : List Loc), Wd D B s (mw dA h0 ad M4 ++ (F1 ++ (q1, iar dA 400 (appG G3 36 ([10] ++ [9] ++ [16] ++ sl (fun j => gD pr (12 + j)) 0 8 ++ [gD dg 0] ++ [gD dg 1] ++ [(bitN ow) / 256] ++ [(bitN ow) % 256] ++ sl (gD ow) 0 i))) :: R5)) H locs → ∀ (ls : Array Slot), lv_has ls 17 [(16, .int (nI i)), (14, .ref qo), (8, .ref q1)] → W p l e R s m args below meth c H locs (0 + 1 + 1 + 1 + 0 + 0 + 0 + 0 + 0 + 0 + 6 + 2 + 1 + 1) (0 + 20 + 400 + 15 + 0 + 0 + 0 + 0 + 0 + 0 + (6 * tx.2.1.length) + ((kN tx.2.1).length + 19) + ((kN tx.2.1).length) + sn.length) Q (F0 m 450 ls []) := by
                                        intro nnO
                                        induction nnO with
                                        | zero => intro i  hi0 hme; exact absurd hme (Nat.not_lt_zero _)
                                        | succ nnO ihO =>
                                          intro i  hi0 hme H locs h ls hl
                                          refine lv_iload hx hb dX7_made_450 (lv_at hl 0 rfl) ?_
                                          refine lv_aload hx hb dX7_made_452 (lv_at hl 1 rfl) ?_
                                          refine n_alen C h (List.mem_append_right _ (List.mem_append_right _ (List.mem_cons_of_mem _ hqo))) dX7_made_454 ?_
                                          refine n_icmp_ge (tgt := 477) hx hb (by omega) (by omega) dX7_made_455 (by decide) (fun c455 => ?_) (fun c455 => ?_)
                                          · refine lv_aload hx hb dX7_made_477 (lv_at hl 2 rfl) ?_
                                            refine lv_iconst (v := nI 0) hx hb dX7_made_479 (by decide) ?_
                                            refine lv_bipush (v := nI 51) hx hb dX7_made_480 (by decide) ?_
                                            refine lv_aload hx hb dX7_made_482 (lv_at hl 1 rfl) ?_
                                            refine n_alen C h (List.mem_append_right _ (List.mem_append_right _ (List.mem_cons_of_mem _ hqo))) dX7_made_484 ?_
                                            refine lv_iadd hx hb dX7_made_485 (n_top (y := nI (51 + ow.length)) (nI_add 51 ow.length) ?_)
                                            have hio : i = ow.length := by omega
                                            rw [hio, sl_gD] at h
                                            have h : Wd D B s (mw dA h0 ad M4 ++ (F1 ++ (q1, iar dA 400 (appG G3 36 ([10] ++ [9] ++ [16] ++ sl (fun j => gD pr (12 + j)) 0 8 ++ [gD dg 0] ++ [gD dg 1] ++ [(bitN ow) / 256] ++ [(bitN ow) % 256] ++ ow))) :: R5)) H locs := h
                                            have hTl : ([10] ++ [9] ++ [16] ++ sl (fun j => gD pr (12 + j)) 0 8 ++ [gD dg 0] ++ [gD dg 1] ++ [(bitN ow) / 256] ++ [(bitN ow) % 256] ++ ow).length = 15 + ow.length := by simp only [List.length_append, List.length_cons, List.length_nil, sl_len]
                                            have hfin : sl (appG G3 36 ([10] ++ [9] ++ [16] ++ sl (fun j => gD pr (12 + j)) 0 8 ++ [gD dg 0] ++ [gD dg 1] ++ [(bitN ow) / 256] ++ [(bitN ow) % 256] ++ ow)) 0 (51 + ow.length) = madeL ty t tx.2.1 sec lt := by
                                              have e1 := sl_appG G3 36 ([10] ++ [9] ++ [16] ++ sl (fun j => gD pr (12 + j)) 0 8 ++ [gD dg 0] ++ [gD dg 1] ++ [(bitN ow) / 256] ++ [(bitN ow) % 256] ++ ow)
                                              rw [hTl, show 36 + (15 + ow.length) = 51 + ow.length by omega] at e1
                                              refine e1.trans ?_
                                              rw [show (36 : Nat) = 35 + 1 from rfl, sl_succ, hG35, Nat.zero_add, hGz 35 (Nat.le_refl _)]
                                              have e2 : mg = madeM ty t pr lt := by rw [hmg, hhd, hmt]; rfl
                                              unfold madeL
                                              rw [← hpr, ← e2, ← hdg, hhd]
                                              have e3 : ow = madeN dg tx.2.1 sec := by rw [how2, hsn]; rfl
                                              rw [← e3]; rfl
                                            refine call_S (As := [.ref q1, .int (nI 0), .int (nI (51 + ow.length))]) (rest := []) (n := 3) C h (c7_part l D dA B Z hZ _ q1 400 (appG G3 36 ([10] ++ [9] ++ [16] ++ sl (fun j => gD pr (12 + j)) 0 8 ++ [gD dg 0] ++ [gD dg 1] ++ [(bitN ow) / 256] ++ [(bitN ow) % 256] ++ ow)) 0 (51 + ow.length) (List.mem_append_right _ (List.mem_append_right _ List.mem_cons_self)) (by omega) (by decide)) (lw_S q2208 q2209 q138 q2210) (by decide +kernel) (by decide) (by decide) rfl hl rfl (Nat.le_of_ble_eq_true rfl) dX7_made_486 (by omega) (fun qz H locs _ h => ?_)
                                            rw [hfin] at h
                                            subst hQ
                                            have h : Wd D B s (mw dA h0 ad M4 ++ (F ++ ([(q7, ial dA pr)] ++ (q1, iar dA 400 (appG G3 36 ([10] ++ [9] ++ [16] ++ sl (fun j => gD pr (12 + j)) 0 8 ++ [gD dg 0] ++ [gD dg 1] ++ [(bitN ow) / 256] ++ [(bitN ow) % 256] ++ ow))) :: R5) ++ [(qz, ial dA (madeL ty t tx.2.1 sec lt))])) H locs := by
                                              rw [hF1] at h
                                              simp only [List.append_assoc, List.cons_append, List.nil_append] at h ⊢; exact h
                                            exact ret_a C hr (Or.inr ⟨_, rfl⟩) hlocks h (qz, M4, ([(q7, ial dA pr)] ++ (q1, iar dA 400 (appG G3 36 ([10] ++ [9] ++ [16] ++ sl (fun j => gD pr (12 + j)) 0 8 ++ [gD dg 0] ++ [gD dg 1] ++ [(bitN ow) / 256] ++ [(bitN ow) % 256] ++ ow))) :: R5)) (⟨hI4, hKM4⟩) (Or.inr ⟨_, rfl⟩) rfl rfl (by omega) (by omega) dX7_made_489
                                          · refine lv_aload hx hb dX7_made_458 (lv_at hl 2 rfl) ?_
                                            refine lv_bipush (v := nI 51) hx hb dX7_made_460 (by decide) ?_
                                            refine lv_iload hx hb dX7_made_462 (lv_at hl 0 rfl) ?_
                                            refine lv_iadd hx hb dX7_made_464 (n_top (y := nI (51 + i)) (nI_add 51 i) ?_)
                                            refine lv_aload hx hb dX7_made_465 (lv_at hl 1 rfl) ?_
                                            refine lv_iload hx hb dX7_made_467 (lv_at hl 0 rfl) ?_
                                            refine n_iald C h (v := (gD ow) i) (List.mem_append_right _ (List.mem_append_right _ (List.mem_cons_of_mem _ hqo))) (show i < ow.length by omega) (by omega) rfl dX7_made_469 ?_
                                            refine n_iastX C h (i := 51 + i) (v := (gD ow) i) (by omega) (by decide) dX7_made_470 (fun H locs h => ?_)
                                            have e8 := sl_succ (gD ow) 0 i
                                            rw [Nat.zero_add] at e8
                                            have e9 := appG_snoc G3 36 ([10] ++ [9] ++ [16] ++ sl (fun j => gD pr (12 + j)) 0 8 ++ [gD dg 0] ++ [gD dg 1] ++ [(bitN ow) / 256] ++ [(bitN ow) % 256] ++ sl (gD ow) 0 i) ((gD ow) i) (k := 51 + i) (by rw [List.length_append, sl_len]; simp only [List.length_append, List.length_cons, List.length_nil, sl_len]; omega)
                                            have h : Wd D B s (mw dA h0 ad M4 ++ (F1 ++ (q1, iar dA 400 (appG G3 36 ([10] ++ [9] ++ [16] ++ sl (fun j => gD pr (12 + j)) 0 8 ++ [gD dg 0] ++ [gD dg 1] ++ [(bitN ow) / 256] ++ [(bitN ow) % 256] ++ sl (gD ow) 0 (i + 1)))) :: R5)) H locs := by rw [e8, ← List.append_assoc ([10] ++ [9] ++ [16] ++ sl (fun j => gD pr (12 + j)) 0 8 ++ [gD dg 0] ++ [gD dg 1] ++ [(bitN ow) / 256] ++ [(bitN ow) % 256]), ← e9]; exact h
                                            refine lv_iinc (v := nI (i + 1)) (lv' := [(16, .int (nI (i + 1))), (14, .ref qo), (8, .ref q1)]) hx hb dX7_made_471 hl (k := 0) rfl (nI_add i 1) (by decide) rfl (fun ls hl => ?_)
                                            refine lv_goto (tgt := 450) hx hb dX7_made_474 (by decide) ?_
                                            exact ihO (i + 1) (by omega) (by omega) _ _ h _ (lv_sub hl [0, 1, 2] rfl)
                                      exact loopO _ 0 (by omega) (Nat.lt_succ_self _) _ _ h _ (lv_sub hl [0, 2, 11] rfl)
                                    refine lv_aload hx hb dX7_made_408 (lv_at hl 0 rfl) ?_
                                    refine n_alen C h (List.mem_append_right _ (List.mem_append_right _ (List.mem_cons_of_mem _ hqo))) dX7_made_410 ?_
                                    refine n_if_ne (tgt := 418) hx hb (by omega) dX7_made_411 (by decide) (fun c411 => ?_) (fun c411 => ?_)
                                    · refine lv_aload hx hb dX7_made_418 (lv_at hl 0 rfl) ?_
                                      refine call_S (As := [.ref qo]) (rest := []) (n := 1) C h (c7_bitsOf l D dA B Z hZ _ qo ow.length (gD ow) (List.mem_append_right _ (List.mem_append_right _ (List.mem_cons_of_mem _ hqo))) (by omega) (by omega) (byt_gD howb 0)) (lw_S q2233 q2234 q138 q2235) (by decide +kernel) (by decide) (by decide) rfl hl rfl (Nat.le_of_ble_eq_true rfl) dX7_made_420 (by omega) (fun _ H locs _ h => ?_)
                                      refine n_top (y := nI (bitN ow)) (by unfold bitN bitsI; rw [if_neg (howt (by omega)), if_neg (by omega)]) ?_
                                      exact jo   _ _ h _ (lv_sub hl [0, 3, 4, 5, 6, 7, 8, 9, 10, 11] rfl)
                                    · refine lv_iconst (v := nI 0) hx hb dX7_made_414 (by decide) ?_
                                      refine lv_goto (tgt := 423) hx hb dX7_made_415 (by decide) ?_
                                      refine n_top (y := nI (bitN ow)) (by unfold bitN; rw [if_pos c411]) ?_
                                      exact jo   _ _ h _ (lv_sub hl [0, 3, 4, 5, 6, 7, 8, 9, 10, 11] rfl)
                                  · refine lv_iinc (v := nI (i + 1)) (lv' := [(13, .int (nI (i + 1))), (12, .ref qr), (10, .int (nI 32)), (0, .ref h0), (1, .int (nI p9)), (2, .int (nI ty)), (3, .ref ta), (4, .int (nI lt.length)), (5, .long (lN t)), (7, .ref q7), (8, .ref q1)]) hx hb dX7_made_387 hl (k := 0) rfl (nI_add i 1) (by decide) rfl (fun ls hl => ?_)
                                    refine lv_goto (tgt := 371) hx hb dX7_made_390 (by decide) ?_
                                    exact ihZ (i + 1) (by omega) (fun j hj => by
                                      rcases Nat.lt_or_ge j i with z | z
                                      · exact hi1 j z
                                      · rw [show j = i by omega]; exact c384) (by omega) _ _ h _ (lv_sub hl [0, 1, 2, 3, 4, 5, 6, 7, 8, 9, 10] rfl)
                            exact loopZ _ 0 (by omega) (fun j hj => absurd hj (Nat.not_lt_zero _)) (Nat.lt_succ_self _) _ _ h _ (lv_sub hl [0, 1, 3, 4, 5, 6, 7, 8, 9, 10, 11] rfl)
                          · refine lv_aload hx hb dX7_made_282 (lv_at hl 9 rfl) ?_
                            refine lv_bipush (v := nI 39) hx hb dX7_made_284 (by decide) ?_
                            refine lv_iload hx hb dX7_made_286 (lv_at hl 0 rfl) ?_
                            refine lv_iadd hx hb dX7_made_288 (n_top (y := nI (39 + i)) (nI_add 39 i) ?_)
                            refine lv_aload hx hb dX7_made_289 (lv_at hl 8 rfl) ?_
                            refine lv_bipush (v := nI 12) hx hb dX7_made_291 (by decide) ?_
                            refine lv_iload hx hb dX7_made_293 (lv_at hl 0 rfl) ?_
                            refine lv_iadd hx hb dX7_made_295 (n_top (y := nI (12 + i)) (nI_add 12 i) ?_)
                            refine n_iald C h (v := (gD pr) (12 + i)) (List.mem_append_right _ (List.mem_append_left _ hq7F)) (show 12 + i < pr.length by omega) (by omega) rfl dX7_made_296 ?_
                            refine n_iastX C h (i := 39 + i) (v := (gD pr) (12 + i)) (by omega) (by decide) dX7_made_297 (fun H locs h => ?_)
                            have e8 := sl_succ (fun j => gD pr (12 + j)) 0 i
                            rw [Nat.zero_add] at e8
                            have e9 := appG_snoc G3 36 ([10] ++ [9] ++ [16] ++ sl (fun j => gD pr (12 + j)) 0 i) ((fun j => gD pr (12 + j)) i) (k := 39 + i) (by rw [List.length_append, sl_len]; simp only [List.length_append, List.length_cons, List.length_nil, sl_len]; omega)
                            have h : Wd D B s (mw dA h0 ad M2 ++ (F1 ++ (q1, iar dA 400 (appG G3 36 ([10] ++ [9] ++ [16] ++ sl (fun j => gD pr (12 + j)) 0 (i + 1)))) :: R1)) H locs := by rw [e8, ← List.append_assoc ([10] ++ [9] ++ [16]), ← e9]; exact h
                            refine lv_iinc (v := nI (i + 1)) (lv' := [(11, .int (nI (i + 1))), (10, .int (nI 32)), (0, .ref h0), (1, .int (nI p9)), (2, .int (nI ty)), (3, .ref ta), (4, .int (nI lt.length)), (5, .long (lN t)), (7, .ref q7), (8, .ref q1)]) hx hb dX7_made_298 hl (k := 0) rfl (nI_add i 1) (by decide) rfl (fun ls hl => ?_)
                            refine lv_goto (tgt := 275) hx hb dX7_made_301 (by decide) ?_
                            exact ihH (i + 1) (by omega) (by omega) _ _ h _ (lv_sub hl [0, 1, 2, 3, 4, 5, 6, 7, 8, 9] rfl)
                      exact loopH _ 0 (by omega) (Nat.lt_succ_self _) _ _ h _ (lv_sub hl [0, 1, 2, 3, 4, 5, 6, 7, 8, 9] rfl)
                    refine lv_iload_n hx hb dX7_made_201 rfl (lv_at hl 2 rfl) ?_
                    refine lv_iconst (v := nI 1) hx hb dX7_made_202 (by decide) ?_
                    refine n_icmp_ne (tgt := 210) hx hb (by omega) (by omega) dX7_made_203 (by decide) (fun c203 => ?_) (fun c203 => ?_)
                    · refine lv_iconst (v := nI 0) hx hb dX7_made_210 (by decide) ?_
                      refine n_top (y := bZ (decide (ty = 1))) (by rw [decide_eq_false c203]; rfl) ?_
                      exact jt   _ _ h _ (lv_sub hl [0, 1, 2, 3, 4, 5, 6, 7] rfl)
                    · refine lv_iconst (v := nI 1) hx hb dX7_made_206 (by decide) ?_
                      refine lv_goto (tgt := 211) hx hb dX7_made_207 (by decide) ?_
                      refine n_top (y := bZ (decide (ty = 1))) (by rw [decide_eq_true c203]; rfl) ?_
                      exact jt   _ _ h _ (lv_sub hl [0, 1, 2, 3, 4, 5, 6, 7] rfl)
                  · refine lv_aload hx hb dX7_made_173 (lv_at hl 8 rfl) ?_
                    refine lv_bipush (v := nI 15) hx hb dX7_made_175 (by decide) ?_
                    refine lv_iload hx hb dX7_made_177 (lv_at hl 0 rfl) ?_
                    refine lv_iadd hx hb dX7_made_179 (n_top (y := nI (15 + i)) (nI_add 15 i) ?_)
                    refine lv_aload hx hb dX7_made_180 (lv_at hl 7 rfl) ?_
                    refine lv_iload hx hb dX7_made_182 (lv_at hl 0 rfl) ?_
                    refine n_iald C h (v := (gD pr) i) (List.mem_append_right _ (List.mem_append_left _ hq7F)) (show i < pr.length by omega) (by omega) rfl dX7_made_184 ?_
                    refine n_iastX C h (i := 15 + i) (v := (gD pr) i) (by omega) (by decide) dX7_made_185 (fun H locs h => ?_)
                    have e9 := appG_snoc (appG (appG (fun _ => 0) 0 [4, ty, 1, 8, 0, 29, 5, 2, 0, 0, 0, 0, 22, 33, 4]) 8 (be 4 t)) 15 (sl (gD pr) 0 i) (gD pr i) (k := 15 + i) (by rw [sl_len])
                    have e8 := sl_succ (gD pr) 0 i
                    rw [Nat.zero_add] at e8
                    have h : Wd D B s (mw dA h0 ad M1 ++ (F1 ++ (q1, iar dA 400 (appG (appG (appG (fun _ => 0) 0 [4, ty, 1, 8, 0, 29, 5, 2, 0, 0, 0, 0, 22, 33, 4]) 8 (be 4 t)) 15 (sl (gD pr) 0 (i + 1)))) :: [(q2, iar dA 15 (gD [4, ty, 1, 8, 0, 29, 5, 2, 0, 0, 0, 0, 22, 33, 4]))])) H locs := by rw [e8, ← e9]; exact h
                    refine lv_iinc (v := nI (i + 1)) (lv' := [(10, .int (nI (i + 1))), (0, .ref h0), (1, .int (nI p9)), (2, .int (nI ty)), (3, .ref ta), (4, .int (nI lt.length)), (5, .long (lN t)), (7, .ref q7), (8, .ref q1)]) hx hb dX7_made_186 hl (k := 0) rfl (nI_add i 1) (by decide) rfl (fun ls hl => ?_)
                    refine lv_goto (tgt := 166) hx hb dX7_made_189 (by decide) ?_
                    exact ihD (i + 1) (by omega) (by omega) _ _ h _ (lv_sub hl [0, 1, 2, 3, 4, 5, 6, 7, 8] rfl)
              exact loopD _ 0 (by omega) (Nat.lt_succ_self _) _ _ h _ (lv_sub hl [0, 1, 2, 3, 4, 5, 6, 7, 8] rfl)
            · refine lv_aload hx hb dX7_made_133 (lv_at hl 8 rfl) ?_
              refine lv_bipush (v := nI 8) hx hb dX7_made_135 (by decide) ?_
              refine lv_iload hx hb dX7_made_137 (lv_at hl 0 rfl) ?_
              refine lv_iadd hx hb dX7_made_139 (n_top (y := nI (8 + i)) (nI_add 8 i) ?_)
              refine lv_lload hx hb dX7_made_140 (lv_at hl 6 rfl) ?_
              refine lv_bipush (v := nI 24) hx hb dX7_made_142 (by decide) ?_
              refine lv_bipush (v := nI 8) hx hb dX7_made_144 (by decide) ?_
              refine lv_iload hx hb dX7_made_146 (lv_at hl 0 rfl) ?_
              refine lv_imul hx hb dX7_made_148 (n_top (y := nI (8 * i)) (pk_mul 8 i) ?_)
              refine lv_isub hx hb dX7_made_149 (n_top (y := nI (24 - (8 * i))) (pk_sub (by omega)) ?_)
              refine n_lshr hx hb dX7_made_150 ?_
              refine lv_ldc2 hx hb hown (hts _ q2103) dX7_made_151 ?_
              refine n_topl (y := lN 255) (by decide) ?_
              refine lv_land hx hb dX7_made_154 ?_
              refine n_topl (y := lN (t / 2 ^ (8 * (4 - 1 - i)) % 256)) (lb4 ht (by omega)) ?_
              refine lv_l2i (v := nI (t / 2 ^ (8 * (4 - 1 - i)) % 256)) hx hb dX7_made_155 (lN_i _) ?_
              refine n_iastX C h (i := 8 + i) (v := t / 2 ^ (8 * (4 - 1 - i)) % 256) (by omega) (by decide) dX7_made_156 (fun H locs h => ?_)
              have e9 := appG_snoc (appG (fun _ => 0) 0 [4, ty, 1, 8, 0, 29, 5, 2, 0, 0, 0, 0, 22, 33, 4]) 8 (sl (fun j => t / 2 ^ (8 * (4 - 1 - j)) % 256) 0 i) ((fun j => t / 2 ^ (8 * (4 - 1 - j)) % 256) i) (k := 8 + i) (by rw [sl_len])
              have e8 := sl_succ (fun j => t / 2 ^ (8 * (4 - 1 - j)) % 256) 0 i
              rw [Nat.zero_add] at e8
              have h : Wd D B s (mw dA h0 ad M1 ++ (F1 ++ (q1, iar dA 400 (appG (appG (fun _ => 0) 0 [4, ty, 1, 8, 0, 29, 5, 2, 0, 0, 0, 0, 22, 33, 4]) 8 (sl (fun j => t / 2 ^ (8 * (4 - 1 - j)) % 256) 0 (i + 1)))) :: [(q2, iar dA 15 (gD [4, ty, 1, 8, 0, 29, 5, 2, 0, 0, 0, 0, 22, 33, 4]))])) H locs := by rw [e8, ← e9]; exact h
              refine lv_iinc (v := nI (i + 1)) (lv' := [(10, .int (nI (i + 1))), (0, .ref h0), (1, .int (nI p9)), (2, .int (nI ty)), (3, .ref ta), (4, .int (nI lt.length)), (5, .long (lN t)), (7, .ref q7), (8, .ref q1)]) hx hb dX7_made_157 hl (k := 0) rfl (nI_add i 1) (by decide) rfl (fun ls hl => ?_)
              refine lv_goto (tgt := 127) hx hb dX7_made_160 (by decide) ?_
              exact ihB (i + 1) (by omega) (by omega) _ _ h _ (lv_sub hl [0, 1, 2, 3, 4, 5, 6, 7, 8] rfl)
        exact loopB _ 0 (by omega) (Nat.lt_succ_self _) _ _ h _ (lv_sub hl [0, 1, 2, 3, 4, 5, 6, 7, 8] rfl)
      · refine lv_aload hx hb dX7_made_108 (lv_at hl 8 rfl) ?_
        refine lv_iload hx hb dX7_made_110 (lv_at hl 0 rfl) ?_
        refine lv_aload hx hb dX7_made_112 (lv_at hl 9 rfl) ?_
        refine lv_iload hx hb dX7_made_114 (lv_at hl 0 rfl) ?_
        refine n_iald C h (v := (gD [4, ty, 1, 8, 0, 29, 5, 2, 0, 0, 0, 0, 22, 33, 4]) i) (mem_2nd _ _ _) (show i < 15 by omega) (by decide) rfl dX7_made_116 ?_
        refine n_iastX C h (i := i) (v := (gD [4, ty, 1, 8, 0, 29, 5, 2, 0, 0, 0, 0, 22, 33, 4]) i) (by omega) (by decide) dX7_made_117 (fun H locs h => ?_)
        rw [appG_snoc _ _ _ _ (by rw [sl_len, Nat.zero_add]), show gD [4, ty, 1, 8, 0, 29, 5, 2, 0, 0, 0, 0, 22, 33, 4] i = gD [4, ty, 1, 8, 0, 29, 5, 2, 0, 0, 0, 0, 22, 33, 4] (0 + i) by rw [Nat.zero_add], ← sl_succ] at h
        refine lv_iinc (v := nI (i + 1)) (lv' := [(10, .int (nI (i + 1))), (0, .ref h0), (1, .int (nI p9)), (2, .int (nI ty)), (3, .ref ta), (4, .int (nI lt.length)), (5, .long (lN t)), (7, .ref q7), (8, .ref q1), (9, .ref q2)]) hx hb dX7_made_118 hl (k := 0) rfl (nI_add i 1) (by decide) rfl (fun ls hl => ?_)
        refine lv_goto (tgt := 101) hx hb dX7_made_121 (by decide) ?_
        exact ih (i + 1) (by omega) (by omega) _ _ h _ (lv_sub hl [0, 1, 2, 3, 4, 5, 6, 7, 8, 9] rfl)
  exact loop _ 0 (by omega) (Nat.lt_succ_self _) _ _ h _ (lv_sub hl [0, 4, 5, 6, 7, 8, 9, 3, 2, 1] rfl)
