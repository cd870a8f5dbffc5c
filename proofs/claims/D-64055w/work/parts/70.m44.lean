set_option maxRecDepth 100000
def clrH : List Nat := [45, 45, 45, 45, 45, 66, 69, 71, 73, 78, 32, 83, 69, 65, 76, 69, 68, 32, 84, 69, 88, 84, 45, 45, 45, 45, 45] ++ [10] ++ [72, 97, 115, 104, 58, 32, 83, 72, 65, 50, 53, 54] ++ [10] ++ [10]

/-- a line of a clear text: what is sealed, what goes out -/
def clN (dc : List Nat) (a : Nat) (u : List Nat × List Nat) : List Nat × List Nat :=
  (u.1 ++ (if 0 < a then [10] else []) ++ sl (gD dc) a (stripL dc a (eolL dc a) - a), u.2 ++ (if a < stripL dc a (eolL dc a) ∧ gD dc a = 45 then [45, 32] else []) ++ sl (gD dc) a (stripL dc a (eolL dc a) - a) ++ [10])
def clL (dc : List Nat) : Nat → Nat → List Nat × List Nat → List Nat × List Nat
  | 0, _, u => u
  | f + 1, a, u => if a ≤ dc.length then clL dc f (eolL dc a + 1) (clN dc a u) else u
theorem clL_end {dc : List Nat} {f a : Nat} {u : List Nat × List Nat} (h : dc.length < a) : clL dc f a u = u := by
  cases f with
  | zero => rfl
  | succ f => rw [clL, if_neg (by omega)]
theorem clL_s {dc : List Nat} {f a : Nat} {u : List Nat × List Nat} (h : a ≤ dc.length) : clL dc (f + 1) a u = clL dc f (eolL dc a + 1) (clN dc a u) := by rw [clL, if_pos h]
def clrS (dc : List Nat) : List Nat × List Nat := clL dc (dc.length + 2) 0 ([], [])
def clB (a : Nat) (u : List Nat × List Nat) : Prop := (u.1.length + 1 ≤ a ∨ (a = 0 ∧ u.1.length = 0)) ∧ u.2.length ≤ 3 * a ∧ byt u.1 ∧ byt u.2
theorem clN_b {dc : List Nat} (hb : byt dc) {a : Nat} (ha : a ≤ dc.length) {u : List Nat × List Nat} (h : clB a u) : clB (eolL dc a + 1) (clN dc a u) := by
  obtain ⟨h1, h2, h3, h4⟩ := h
  have g1 := eolL_ge dc (dc.length + 1) a (by omega)
  have g2 := stripL_le dc a (eolL dc a)
  have e1 : (if 0 < a then [10] else [] : List Nat).length ≤ 1 ∧ (a = 0 → (if 0 < a then [10] else [] : List Nat).length = 0) := by
    split
    · exact ⟨Nat.le_refl _, fun q => by omega⟩
    · exact ⟨Nat.zero_le _, fun _ => rfl⟩
  have e2 : (if a < stripL dc a (eolL dc a) ∧ gD dc a = 45 then [45, 32] else [] : List Nat).length ≤ 2 := by split <;> decide
  refine ⟨Or.inl ?_, ?_, ?_, ?_⟩
  · unfold clN; simp only [List.length_append, sl_len]; omega
  · unfold clN; simp only [List.length_append, sl_len, List.length_cons, List.length_nil]; omega
  · unfold clN
    refine byt_app (byt_app h3 ?_) (sl_byt (fun j => byt_gD hb j))
    intro x hx; split at hx
    · simp only [List.mem_cons, List.not_mem_nil, or_false] at hx; omega
    · cases hx
  · unfold clN
    refine byt_app (byt_app (byt_app h4 ?_) (sl_byt (fun j => byt_gD hb j))) (byt_one (by decide))
    intro x hx; split at hx
    · simp only [List.mem_cons, List.not_mem_nil, or_false] at hx; omega
    · cases hx
theorem clL_b {dc : List Nat} (hb : byt dc) : ∀ (f a : Nat) (u : List Nat × List Nat), a ≤ dc.length + 1 → clB a u → ∃ a', a' ≤ dc.length + 1 ∧ clB a' (clL dc f a u) := by
  intro f
  induction f with
  | zero => intro a u ha h; exact ⟨a, ha, h⟩
  | succ f ih =>
    intro a u ha h
    by_cases q : a ≤ dc.length
    · rw [clL_s q]
      have g1 := eolL_ge dc (dc.length + 1) a (by omega)
      exact ih _ _ (by omega) (clN_b hb q h)
    · rw [clL_end (by omega)]; exact ⟨a, ha, h⟩
def sclL (t : Nat) (kb sec dc : List Nat) : List Nat := clrH ++ (clrS dc).2 ++ armL 1 (pktB 2 (madeL 1 t kb sec (clrS dc).1))
theorem ap8 (M : MS) (G G' : Nat → Nat) (n : Nat) (l : List Nat) : sG (apM (sG M 8 G) 11 10 n l) 8 G' = apM (sG M 8 G') 11 10 n l := MS.ext rfl rfl rfl (by
    show upN (upN (upN M.2.2.2.1 8 G) 11 (appG (mG M 11) n l)) 8 G' = upN (upN M.2.2.2.1 8 G') 11 (appG (mG M 11) n l)
    rw [upN_comm _ _ _ (by decide : (11 : Nat) ≠ 8), upN_upN]) rfl rfl
/-- what sealing may change -/
def Ko (M M' : MS) : Prop := (∀ k, k ∉ kI → k ≠ 10 → mI M' k = mI M k) ∧ (∀ k, k ∉ kR → mR M' k = mR M k) ∧ (∀ k, k ∉ kG → k ≠ 8 → k ≠ 9 → k ≠ 11 → mG M' k = mG M k) ∧ mA M' = mA M
theorem Kp.ko {M M' : MS} (h : Kp M M') : Ko M M' := ⟨fun k a _ => h.1 k a, h.2.2.1, fun k a _ _ _ => h.2.2.2.1 k a, h.2.2.2.2⟩
theorem Ko.trans {M M' M'' : MS} (h1 : Ko M M') (h2 : Ko M' M'') : Ko M M'' := ⟨fun k a b => (h2.1 k a b).trans (h1.1 k a b), fun k a => (h2.2.1 k a).trans (h1.2.1 k a), fun k a b c d => (h2.2.2.1 k a b c d).trans (h1.2.2.1 k a b c d), h2.2.2.2.trans h1.2.2.2⟩
theorem Ko.i10 (M : MS) (v : Int32) : Ko M (sI M 10 v) := ⟨fun _ _ b => upN_n b, fun _ _ => rfl, fun _ _ _ _ _ => rfl, rfl⟩
theorem Ko.g (M : MS) {j : Nat} (v : Nat → Nat) (hj : j = 8 ∨ j = 9 ∨ j = 11) : Ko M (sG M j v) := ⟨fun _ _ _ => rfl, fun _ _ => rfl, fun _ _ b c d => upN_n (by omega), rfl⟩
theorem Ko.ap (M : MS) (n : Nat) (l : List Nat) : Ko M (apM M 11 10 n l) := (Ko.g M _ (Or.inr (Or.inr rfl))).trans (Ko.i10 _ _)
theorem MSt.ko {dA : Nat → ClassId} {F F' : va_W} {ad : Nat → Nat} {M M' : MS} {tp dc ou o : List Nat} {L : List PK} (h : MSt dA F ad M tp dc ou L) (hk : Ko M M') (hI : MI M') (hs : ∀ x ∈ F, x ∈ F') (h10 : mI M' 10 = nI o.length) (h11 : ∀ j, j < o.length → mG M' 11 j = gD o j) (hb : byt o) (hl : o.length ≤ 59000) : MSt dA F' ad M' tp dc o L := by
  obtain ⟨⟨a1, a2, a3⟩, ⟨b1, b2, b3⟩, -, ⟨d1, d2, d3⟩, ⟨e1, e2, e3, e4, e5, e6⟩, f, g, x, y, k1, k2⟩ := h
  refine ⟨⟨(hk.1 1 (by decide) (by decide)).trans a1, fun j hj => ?_, a3⟩, ⟨(hk.1 3 (by decide) (by decide)).trans b1, fun j hj => ?_, b3⟩, ⟨h10, h11, hb, hl⟩, ⟨d1.up hs (hk.2.2.1 13 (by decide) (by decide) (by decide) (by decide)) (by rw [hk.2.2.2]) (by rw [hk.2.2.2]), (hk.1 12 (by decide) (by decide)).trans d2, d3⟩, ⟨(hk.2.1 13 (by decide)).trans e1, (hk.2.1 14 (by decide)).trans e2, (hk.2.1 15 (by decide)).trans e3, (hk.2.1 17 (by decide)).trans e4, (hk.2.1 18 (by decide)).trans e5, (hk.2.1 19 (by decide)).trans e6⟩, hI, fun j => ?_, x, y, (hk.1 37 (by decide) (by decide)).trans k1, (hk.1 38 (by decide) (by decide)).trans k2⟩
  · rw [hk.2.2.1 2 (by decide) (by decide) (by decide) (by decide)]; exact a2 j hj
  · rw [hk.2.2.1 4 (by decide) (by decide) (by decide) (by decide)]; exact b2 j hj
  · rw [hk.2.2.1 6 (by decide) (by decide) (by decide) (by decide)]; exact g j
theorem CurR.ko {dA : Nat → ClassId} {F F' : va_W} {ad : Nat → Nat} {M M' : MS} {L : List PK} (h : CurR dA F ad M L) (hk : Ko M M') (hs : ∀ x ∈ F, x ∈ F') : CurR dA F' ad M' L :=
  ⟨h.1.up hs (hk.2.2.1 13 (by decide) (by decide) (by decide) (by decide)) (by rw [hk.2.2.2]) (by rw [hk.2.2.2]), (hk.1 12 (by decide) (by decide)).trans h.2.1, (hk.2.1 13 (by decide)).trans h.2.2.1, (hk.2.1 14 (by decide)).trans h.2.2.2.1, (hk.2.1 15 (by decide)).trans h.2.2.2.2⟩
theorem MI.ko {M M' : MS} (h : MI M) (h1 : mG M' 21 = mG M 21) (h2 : mG M' 70 = mG M 70) : MI M' := by unfold MI; rw [h1, h2]; exact h
theorem kp_mem {dA : Nat → ClassId} {h0 : Nat} {ad : Nat → Nat} {M M1 : MS} {F1 : va_W} {k : Nat} (hk : k ∈ mkG) (hn : k ∉ kG) (h : Kp M M1) : (ad k, iar dA (mlen k) (mG M k)) ∈ mw dA h0 ad M1 ++ F1 := by
  have := mw_memG (dA := dA) (h0 := h0) (ad := ad) (M := M1) (F := F1) hk
  rw [h.2.2.2.1 k hn] at this; exact this
theorem sl_appG2 (G : Nat → Nat) (n : Nat) (l : List Nat) : sl (appG G n l) n l.length = l := by
  refine Eq.trans (sl_congr (f := gD l) (b := 0) (fun j hj => ?_)) (sl_gD l)
  rw [appG_mid (Nat.le_add_right _ _) (by omega)]; congr 1; omega
theorem madeL_len {ty t : Nat} {kb sec lt : List Nat} (h : (kN kb).length ≤ 128) : (madeL ty t kb sec lt).length ≤ 179 := by
  unfold madeL madeT
  have h1 := hd35_len ty t (sha1_len (keyMsg kb))
  have h2 := zL_len (be (kN kb).length (num (padL (frontL 8) (sha2 (madeM ty t (sha1 (keyMsg kb)) lt)) (kN kb).length) ^ num sec % num (kN kb)))
  rw [be_len] at h2
  have h3 : (madeN (sha2 (madeM ty t (sha1 (keyMsg kb)) lt)) kb sec).length ≤ 128 := Nat.le_trans h2 h
  simp only [List.length_append, List.length_cons, List.length_nil, sl_len, h1]
  omega
theorem bitN_lt {l : List Nat} (h : byt l) (hl : l.length ≤ 128) : bitN l ≤ 1100 := by
  have := blen_le (v := gD l 0) (k := 8) (byt_gD h 0)
  unfold bitN; split <;> omega
theorem madeL_byt {ty t : Nat} {kb sec lt : List Nat} (hty : ty < 2) (h : (kN kb).length ≤ 128) : byt (madeL ty t kb sec lt) := by
  have hp := sha1_byt (keyMsg kb)
  have hd : byt (sha2 (madeM ty t (sha1 (keyMsg kb)) lt)) := hash_byt 8 (madeM ty t (sha1 (keyMsg kb)) lt)
  have ho : byt (madeN (sha2 (madeM ty t (sha1 (keyMsg kb)) lt)) kb sec) := zL_byt (byt_be _ _)
  have hl : (madeN (sha2 (madeM ty t (sha1 (keyMsg kb)) lt)) kb sec).length ≤ 128 := Nat.le_trans (zL_len _) (by rw [be_len]; exact h)
  have hb := bitN_lt ho hl
  unfold madeL madeT
  refine byt_app (byt_app (hd35_byt (by omega) hp) (byt_one (by decide))) ?_
  exact byt_app (byt_app (byt_app (byt_app (byt_app (byt_app (byt_app (byt_app (byt_one (by decide)) (byt_one (by decide))) (byt_one (by decide))) (byt_sl8 hp 12 8)) (byt_one (byt_gD hd 0))) (byt_one (byt_gD hd 1))) (byt_one (by omega))) (byt_one (by omega))) ho

set_option maxHeartbeats 3000000 in
set_option maxRecDepth 100000 in
theorem c7_sealClear (l : Launch) (D : va_G) (dA : Nat → ClassId) (B : Nat) (Z : State → Prop) (hZ : Stab B Z) (h0 : Nat) (ad : Nat → Nat) (M : MS) (F : va_W) (L : List PK) (p9 t : Nat) (tx : PK) (sec dc : List Nat) (hzs : ZS dA B Z) (hzR : ∀ U : State, Z U → ∃ t, va_Z "SignetRingModel" "ROUNDS" "[I" (.ref t) (bA B) U U.heap ∧ va_T .int t 64 (fun j => .int (K2 j)) (bA B) U U.heap) (hI : MI M) (hR : CurR dA F ad M L) (hPK : PKs L) (hLl : L.length ≤ 4650) (htx : L[p9]? = some tx) (ht6 : tx.1 = 6 ∨ tx.1 = 14) (hsec : tx.2.2 = some sec) (ht : t < 4294967296) (h1 : mI M 10 = nI 0) (h3 : mI M 3 = nI dc.length) (hdc : ∀ j, j < dc.length → mG M 4 j = gD dc j) (hdb : byt dc) (hdl : dc.length ≤ 4096) :
    Ct (S := MS × va_W) l D dA B Z yX7_sealClear cX7_sealClear 10 none 10 28 (6 * tx.2.1.length + 3500) [.ref h0, .int (nI p9), .long (lN t)] (mw dA h0 ad M ++ F) (fun u => MI u.1 ∧ Ko M u.1 ∧ mI u.1 10 = nI (sclL t tx.2.1 sec dc).length ∧ ∀ j, j < (sclL t tx.2.1 sec dc).length → mG u.1 11 j = gD (sclL t tx.2.1 sec dc) j) (fun _ => none) (fun u => mw dA h0 ad u.1 ++ (F ++ u.2)) := by
  refine Ct.mk2 (by decide) (Nat.le_of_ble_eq_true rfl) hZ ?_
  intro p e R s m args below meth c ls Q C hr hlocks hin hQ hl h
  have C0 := C
  obtain ⟨hx, hb, hml, hown, hts, -⟩ := C0
  have hl : lv_has ls 10 [(0, .ref h0), (1, .int (nI p9)), (2, .long (lN t))] := hl
  obtain ⟨sa599, sv599, hr599, hk599⟩ := hzs.2.2.1 _ (List.mem_of_getElem? (l := strTab) (i := 21) rfl)
  obtain ⟨sa651, sv651, hr651, hk651⟩ := hzs.2.2.1 _ (List.mem_of_getElem? (l := strTab) (i := 22) rfl)
  obtain ⟨sa653, sv653, hr653, hk653⟩ := hzs.2.2.1 _ (List.mem_of_getElem? (l := strTab) (i := 23) rfl)
  have hil := (List.getElem?_eq_some_iff.mp htx).1
  have hgood := (hPK.at htx).2.2.2.2.2.1 ht6
  have hbl9 := (hPK.at htx).2.2.1
  have hkn := keyOk_nums hgood (hPK.at htx).2.1 (by omega)
  have h : Wd D B s (mw dA h0 ad (apM (sG M 8 (appG (mG M 8) 0 ([] : List Nat))) 11 10 0 ([] : List Nat)) ++ F) s.heap [] := by rw [appG_nil, sG_id, apM_nil h1]; exact h
  refine lv_aload_n hx hb dX7_sealClear_0 rfl (lv_at hl 0 rfl) ?_
  refine s_ldcw C h hr599 dX7_sealClear_1 ?_
  obtain ⟨l1, hl1⟩ : ∃ z, z = [45, 45, 45, 45, 45, 66, 69, 71, 73, 78, 32, 83, 69, 65, 76, 69, 68, 32, 84, 69, 88, 84, 45, 45, 45, 45, 45] := ⟨_, rfl⟩
  have hksl1 := hk599
  have hl1b : byt l1 := by rw [hl1]; intro x hx; revert x; decide
  have hl1l : l1.length ≤ 30 := by rw [hl1]; decide
  refine call_V (As := [.ref sa599]) (rest := []) (n := 1) C h (c7_putText l D dA B Z hZ h0 ad (apM (sG M 8 (appG (mG M 8) 0 ([] : List Nat))) 11 10 0 (([] : List Nat))) F sa599 sv599 l1 (0 + (([] : List Nat)).length) hzs rfl (by rw [hl1]; exact nilup hksl1 _) hl1b (by omega) (by (try simp only [List.length_append, List.length_cons, List.length_nil]) <;> omega)) (lw_V q2536 q2538 qs120 q138 q2539) (by decide +kernel) (ci := 5) rfl rfl mw_mem0 (by decide) (by decide) rfl hl rfl (Nat.le_of_ble_eq_true rfl) dX7_sealClear_4 (by omega) (fun _ H locs _ h => ?_)
  rw [apM_app] at h
  have h : Wd D B s (mw dA h0 ad (apM (sG M 8 (appG (mG M 8) 0 ([] : List Nat))) 11 10 0 (([] : List Nat) ++ l1)) ++ F) H locs := h
  refine lv_aload_n hx hb dX7_sealClear_7 rfl (lv_at hl 0 rfl) ?_
  refine lv_bipush (v := nI 10) hx hb dX7_sealClear_8 (by decide) ?_
  refine call_V (As := [.int (nI 10)]) (rest := []) (n := 1) C h (c7_put l D dA B Z hZ h0 ad (apM (sG M 8 (appG (mG M 8) 0 ([] : List Nat))) 11 10 0 (([] : List Nat) ++ l1)) F _ (0 + (([] : List Nat) ++ l1).length) (10) rfl (by (try simp only [List.length_append, List.length_cons, List.length_nil, sl_len]) <;> omega) (and255 (by decide))) (lw_V q2540 q2542 qs121 q138 q2543) (by decide +kernel) (ci := 5) rfl rfl mw_mem0 (by decide) (by decide) rfl hl rfl (Nat.le_of_ble_eq_true rfl) dX7_sealClear_10 (by omega) (fun _ H locs _ h => ?_)
  rw [apM_app] at h
  have h : Wd D B s (mw dA h0 ad (apM (sG M 8 (appG (mG M 8) 0 ([] : List Nat))) 11 10 0 (([] : List Nat) ++ l1 ++ [10])) ++ F) H locs := h
  refine lv_aload_n hx hb dX7_sealClear_13 rfl (lv_at hl 0 rfl) ?_
  refine s_ldcw C h hr651 dX7_sealClear_14 ?_
  obtain ⟨l2, hl2⟩ : ∃ z, z = [72, 97, 115, 104, 58, 32, 83, 72, 65, 50, 53, 54] := ⟨_, rfl⟩
  have hksl2 := hk651
  have hl2b : byt l2 := by rw [hl2]; intro x hx; revert x; decide
  have hl2l : l2.length ≤ 30 := by rw [hl2]; decide
  refine call_V (As := [.ref sa651]) (rest := []) (n := 1) C h (c7_putText l D dA B Z hZ h0 ad (apM (sG M 8 (appG (mG M 8) 0 ([] : List Nat))) 11 10 0 (([] : List Nat) ++ l1 ++ [10])) F sa651 sv651 l2 (0 + (([] : List Nat) ++ l1 ++ [10]).length) hzs rfl (by rw [hl2]; exact nilup hksl2 _) hl2b (by omega) (by (try simp only [List.length_append, List.length_cons, List.length_nil]) <;> omega)) (lw_V q2536 q2538 qs120 q138 q2539) (by decide +kernel) (ci := 5) rfl rfl mw_mem0 (by decide) (by decide) rfl hl rfl (Nat.le_of_ble_eq_true rfl) dX7_sealClear_17 (by omega) (fun _ H locs _ h => ?_)
  rw [apM_app] at h
  have h : Wd D B s (mw dA h0 ad (apM (sG M 8 (appG (mG M 8) 0 ([] : List Nat))) 11 10 0 (([] : List Nat) ++ l1 ++ [10] ++ l2)) ++ F) H locs := h
  refine lv_aload_n hx hb dX7_sealClear_20 rfl (lv_at hl 0 rfl) ?_
  refine lv_bipush (v := nI 10) hx hb dX7_sealClear_21 (by decide) ?_
  refine call_V (As := [.int (nI 10)]) (rest := []) (n := 1) C h (c7_put l D dA B Z hZ h0 ad (apM (sG M 8 (appG (mG M 8) 0 ([] : List Nat))) 11 10 0 (([] : List Nat) ++ l1 ++ [10] ++ l2)) F _ (0 + (([] : List Nat) ++ l1 ++ [10] ++ l2).length) (10) rfl (by (try simp only [List.length_append, List.length_cons, List.length_nil, sl_len]) <;> omega) (and255 (by decide))) (lw_V q2540 q2542 qs121 q138 q2543) (by decide +kernel) (ci := 5) rfl rfl mw_mem0 (by decide) (by decide) rfl hl rfl (Nat.le_of_ble_eq_true rfl) dX7_sealClear_23 (by omega) (fun _ H locs _ h => ?_)
  rw [apM_app] at h
  have h : Wd D B s (mw dA h0 ad (apM (sG M 8 (appG (mG M 8) 0 ([] : List Nat))) 11 10 0 (([] : List Nat) ++ l1 ++ [10] ++ l2 ++ [10])) ++ F) H locs := h
  refine lv_aload_n hx hb dX7_sealClear_26 rfl (lv_at hl 0 rfl) ?_
  refine lv_bipush (v := nI 10) hx hb dX7_sealClear_27 (by decide) ?_
  refine call_V (As := [.int (nI 10)]) (rest := []) (n := 1) C h (c7_put l D dA B Z hZ h0 ad (apM (sG M 8 (appG (mG M 8) 0 ([] : List Nat))) 11 10 0 (([] : List Nat) ++ l1 ++ [10] ++ l2 ++ [10])) F _ (0 + (([] : List Nat) ++ l1 ++ [10] ++ l2 ++ [10]).length) (10) rfl (by (try simp only [List.length_append, List.length_cons, List.length_nil, sl_len]) <;> omega) (and255 (by decide))) (lw_V q2540 q2542 qs121 q138 q2543) (by decide +kernel) (ci := 5) rfl rfl mw_mem0 (by decide) (by decide) rfl hl rfl (Nat.le_of_ble_eq_true rfl) dX7_sealClear_29 (by omega) (fun _ H locs _ h => ?_)
  rw [apM_app] at h
  have h : Wd D B s (mw dA h0 ad (apM (sG M 8 (appG (mG M 8) 0 ([] : List Nat))) 11 10 0 (([] : List Nat) ++ l1 ++ [10] ++ l2 ++ [10] ++ [10])) ++ F) H locs := h
  refine lv_aload_n hx hb dX7_sealClear_32 rfl (lv_at hl 0 rfl) ?_
  refine m_gc C h 8 (by decide) rfl rfl q1878 dX7_sealClear_33 ?_
  refine lv_astore (lv' := [(4, .ref (ad 8)), (0, .ref h0), (1, .int (nI p9)), (2, .long (lN t))]) hx hb dX7_sealClear_36 hl (by decide) rfl (fun ls hl => ?_)
  refine lv_iconst (v := nI 0) hx hb dX7_sealClear_38 (by decide) ?_
  refine lv_istore (lv' := [(5, .int (nI 0)), (4, .ref (ad 8)), (0, .ref h0), (1, .int (nI p9)), (2, .long (lN t))]) hx hb dX7_sealClear_39 hl (by decide) rfl (fun ls hl => ?_)
  refine lv_iconst (v := nI 0) hx hb dX7_sealClear_41 (by decide) ?_
  refine lv_istore (lv' := [(6, .int (nI 0)), (5, .int (nI 0)), (4, .ref (ad 8)), (0, .ref h0), (1, .int (nI p9)), (2, .long (lN t))]) hx hb dX7_sealClear_42 hl (by decide) rfl (fun ls hl => ?_)
  have e0 : ([] : List Nat) ++ l1 ++ [10] ++ l2 ++ [10] ++ [10] = clrH ++ ([] : List Nat) := by rw [hl1, hl2]; rfl
  rw [e0] at h
  have hHl : clrH.length = 42 := rfl
  have hHb : byt clrH := by intro x hx; revert x; decide
  obtain ⟨u0, hu0⟩ : ∃ z, z = (([], []) : List Nat × List Nat) := ⟨_, rfl⟩
  obtain ⟨CH, hCH⟩ : ∃ z, z = clrH := ⟨_, rfl⟩
  rw [← hCH] at h hHl hHb
  have h : Wd D B s (mw dA h0 ad (apM (sG M 8 (appG (mG M 8) 0 (u0.1))) 11 10 0 (CH ++ u0.2)) ++ F) H locs := by rw [hu0]; exact h
  have hl : lv_has ls 10 [(6, .int (nI 0)), (5, .int (nI u0.1.length)), (4, .ref (ad 8)), (0, .ref h0), (1, .int (nI p9)), (2, .long (lN t))] := by rw [hu0]; exact hl
  have loop : ∀ (nn : Nat) (a f : Nat) (u : List Nat × List Nat), (a ≤ dc.length + 1) → (clB a u) → (clL dc f a u = clrS dc) → (dc.length + 1 ≤ f + a) → dc.length + 1 - a < nn → ∀ (H : Heap) (locs : List Loc), Wd D B s (mw dA h0 ad (apM (sG M 8 (appG (mG M 8) 0 (u.1))) 11 10 0 (CH ++ u.2)) ++ F) H locs → ∀ (ls : Array Slot), lv_has ls 10 [(6, .int (nI a)), (5, .int (nI u.1.length)), (0, .ref h0), (1, .int (nI p9)), (2, .long (lN t)), (4, .ref (ad 8))] → W p l e R s m args below meth c H locs (0 + 0 + 0 + 0 + 0 + 0) (0 + 0 + 0 + 0 + 0 + 0) Q (F0 m 44 ls []) := by
    intro nn
    induction nn with
    | zero => intro a f  u  ha hcb hcl hf hme; exact absurd hme (Nat.not_lt_zero _)
    | succ nn ih =>
      intro a f  u  ha hcb hcl hf hme H locs h ls hl
      have hcb1 := hcb.1
      have hcb2l := hcb.2.1
      refine lv_iload hx hb dX7_sealClear_44 (lv_at hl 0 rfl) ?_
      refine lv_aload_n hx hb dX7_sealClear_46 rfl (lv_at hl 2 rfl) ?_
      refine m_gi C h 3 (by decide) rfl rfl q1873 (v := nI dc.length) h3 dX7_sealClear_47 ?_
      refine n_icmp_gt (tgt := 215) hx hb (by omega) (by omega) dX7_sealClear_50 (by decide) (fun c50 => ?_) (fun c50 => ?_)
      · refine lv_aload_n hx hb dX7_sealClear_215 rfl (lv_at hl 2 rfl) ?_
        refine lv_iload_n hx hb dX7_sealClear_216 rfl (lv_at hl 3 rfl) ?_
        refine lv_iconst (v := nI 1) hx hb dX7_sealClear_217 (by decide) ?_
        refine lv_aload hx hb dX7_sealClear_218 (lv_at hl 5 rfl) ?_
        refine lv_iload hx hb dX7_sealClear_220 (lv_at hl 1 rfl) ?_
        refine lv_lload_n hx hb dX7_sealClear_222 rfl (lv_at hl 4 rfl) ?_
        have huf : u = clrS dc := by rw [← hcl, clL_end (by omega)]
        obtain ⟨-, -, hub1, hub2⟩ := hcb
        obtain ⟨M2, hM2⟩ : ∃ z, z = (apM (sG M 8 (appG (mG M 8) 0 (u.1))) 11 10 0 (CH ++ u.2)) := ⟨_, rfl⟩
        rw [← hM2] at h
        have hKo2 : Ko M M2 := by rw [hM2]; exact (Ko.g M _ (Or.inl rfl)).trans (Ko.ap _ _ _)
        have hI2 : MI M2 := by rw [hM2]; exact hI
        have hR2 : CurR dA F ad M2 L := hR.ko hKo2 (fun z hz => hz)
        have h28 : mG M2 8 = appG (mG M 8) 0 u.1 := by rw [hM2]; rfl
        have h210 : mI M2 10 = nI (CH ++ u.2).length := by rw [hM2]; exact congrArg nI (Nat.zero_add _)
        have h211 : mG M2 11 = appG (mG M 11) 0 (CH ++ u.2) := by rw [hM2]; rfl
        obtain ⟨O, hO⟩ : ∃ z, z = CH ++ u.2 := ⟨_, rfl⟩
        rw [← hO] at h210 h211
        have hOl : O.length ≤ 12400 := by rw [hO, List.length_append]; omega
        have hOb : byt O := by rw [hO]; exact byt_app hHb hub2
        have hul : u.1.length ≤ 4096 := by omega
        refine call_V (As := [.int (nI p9), .int (nI 1), .ref (ad 8), .int (nI u.1.length), .long (lN t)]) (rest := []) (n := 5) C h (c7_made l D dA B Z hZ h0 ad M2 F L p9 1 t 4097 (ad 8) (mG M2 8) u.1 sec tx hzR hI2 hR2 hPK hLl htx ht6 hsec (by decide) ht (fun M1 F1 hk => kp_mem (k := 8) (by decide) (by decide) hk) (by rw [h28]; exact app_get0) (by omega) (by decide) hub1 (by omega)) (lw_V q2546 q2548 qs122 q138 q2549) (by decide +kernel) (ci := 5) rfl rfl mw_mem0 (by decide) (by decide) rfl hl rfl (Nat.le_of_ble_eq_true rfl) dX7_sealClear_223 (by omega) (fun um H locs hum h => ?_)
        obtain ⟨qb, M3, E3⟩ := um
        obtain ⟨hI3, hK3⟩ := hum
        dsimp only at hI3 hK3
        obtain ⟨bd, hbd⟩ : ∃ z, z = madeL 1 t tx.2.1 sec u.1 := ⟨_, rfl⟩
        have h : Wd D B s (mw dA h0 ad M3 ++ (F ++ E3 ++ [(qb, ial dA (madeL 1 t tx.2.1 sec u.1))])) H locs := h
        rw [← hbd] at h
        have hbdl : bd.length ≤ 179 := by rw [hbd]; exact madeL_len hkn.2.2.2.1
        have hbdb : byt bd := by rw [hbd]; exact madeL_byt (by decide) hkn.2.2.2.1
        obtain ⟨F3, hF3⟩ : ∃ z, z = F ++ E3 ++ [(qb, ial dA bd)] := ⟨_, rfl⟩
        rw [← hF3] at h
        have hqb : (qb, ial dA bd) ∈ F3 := by rw [hF3]; exact List.mem_append_right _ List.mem_cons_self
        have h310 : mI M3 10 = nI O.length := (hK3.1 10 (by decide)).trans h210
        have h311 : mG M3 11 = appG (mG M 11) 0 O := (hK3.2.2.2.1 11 (by decide)).trans h211
        show W p l e R s m args below meth c H locs (0 + 0 + 0 + 0 + 0 + 0 + 14) (0 + 0 + 0 + 0 + 0 + 0 + (6 * tx.2.1.length + 1100)) Q (F0 m 226 ls [.ref qb])
        refine lv_astore (lv' := [(7, .ref qb), (6, .int (nI a)), (5, .int (nI u.1.length)), (0, .ref h0), (1, .int (nI p9)), (2, .long (lN t)), (4, .ref (ad 8))]) hx hb dX7_sealClear_226 hl (by decide) rfl (fun ls hl => ?_)
        refine lv_aload_n hx hb dX7_sealClear_228 rfl (lv_at hl 3 rfl) ?_
        refine m_gi C h 10 (by decide) rfl rfl q1880 (v := nI O.length) h310 dX7_sealClear_229 ?_
        refine lv_istore (lv' := [(8, .int (nI O.length)), (7, .ref qb), (6, .int (nI a)), (5, .int (nI u.1.length)), (0, .ref h0), (1, .int (nI p9)), (2, .long (lN t)), (4, .ref (ad 8))]) hx hb dX7_sealClear_232 hl (by decide) rfl (fun ls hl => ?_)
        refine lv_aload_n hx hb dX7_sealClear_234 rfl (lv_at hl 4 rfl) ?_
        refine lv_iconst (v := nI 2) hx hb dX7_sealClear_235 (by decide) ?_
        refine lv_aload hx hb dX7_sealClear_236 (lv_at hl 1 rfl) ?_
        refine call_V (As := [.int (nI 2), .ref qb]) (rest := []) (n := 2) C h (c7_putPacket l D dA B Z hZ h0 ad M3 F3 2 qb bd O.length h310 (by decide) hqb hbdb (by omega) (by omega)) (lw_V q2551 q2553 qs123 q138 q2554) (by decide +kernel) (ci := 5) rfl rfl mw_mem0 (by decide) (by decide) rfl hl rfl (Nat.le_of_ble_eq_true rfl) dX7_sealClear_238 (by omega) (fun _ H locs _ h => ?_)
        have hpl := pktB_len 2 bd
        obtain ⟨pb, hpb⟩ : ∃ z, z = pktB 2 bd := ⟨_, rfl⟩
        rw [← hpb] at h hpl
        have hpbb : byt pb := by rw [hpb]; exact pktB_byt (by decide) hbdb (by omega)
        have h : Wd D B s (mw dA h0 ad (apM M3 11 10 O.length pb) ++ F3) H locs := h
        refine lv_aload_n hx hb dX7_sealClear_241 rfl (lv_at hl 4 rfl) ?_
        refine lv_iload hx hb dX7_sealClear_242 (lv_at hl 0 rfl) ?_
        refine call_V (As := [.int (nI O.length)]) (rest := []) (n := 1) C h (c7_takeOut l D dA B Z hZ h0 ad (apM M3 11 10 O.length pb) F3 (O.length + pb.length) O.length rfl (by omega) (by omega) (by omega)) (lw_V q2563 q2565 qs126 q138 q2566) (by decide +kernel) (ci := 5) rfl rfl mw_mem0 (by decide) (by decide) rfl hl rfl (Nat.le_of_ble_eq_true rfl) dX7_sealClear_244 (by omega) (fun _ H locs _ h => ?_)
        have e5 : sl (mG (apM M3 11 10 O.length pb) 11) O.length (O.length + pb.length - O.length) = pb := by rw [Nat.add_sub_cancel_left]; exact sl_appG2 _ _ _
        rw [e5] at h
        obtain ⟨M5, hM5⟩ : ∃ z, z = sI (sG (apM M3 11 10 O.length pb) 9 (appG (mG (apM M3 11 10 O.length pb) 9) 0 pb)) 10 (nI O.length) := ⟨_, rfl⟩
        rw [← hM5] at h
        have h510 : mI M5 10 = nI O.length := by rw [hM5]; rfl
        have h59 : ∀ j, j < pb.length → mG M5 9 j = gD pb j := by rw [hM5]; exact app_get0
        have h511 : mG M5 11 = appG (appG (mG M 11) 0 O) O.length pb := by rw [hM5, ← h311]; rfl
        have hKo5 : Ko M M5 := by rw [hM5]; exact (hKo2.trans hK3.ko).trans ((Ko.ap _ _ _).trans ((Ko.g _ _ (Or.inr (Or.inl rfl))).trans (Ko.i10 _ _)))
        have hI5 : MI M5 := by rw [hM5]; exact hI3
        refine n_top (y := nI pb.length) (congrArg nI (by omega)) ?_
        refine lv_istore (lv' := [(9, .int (nI pb.length)), (8, .int (nI O.length)), (7, .ref qb), (6, .int (nI a)), (5, .int (nI u.1.length)), (0, .ref h0), (1, .int (nI p9)), (2, .long (lN t)), (4, .ref (ad 8))]) hx hb dX7_sealClear_247 hl (by decide) rfl (fun ls hl => ?_)
        refine lv_aload_n hx hb dX7_sealClear_249 rfl (lv_at hl 5 rfl) ?_
        refine lv_iload hx hb dX7_sealClear_250 (lv_at hl 0 rfl) ?_
        refine lv_iconst (v := nI 1) hx hb dX7_sealClear_252 (by decide) ?_
        refine call_V (As := [.int (nI pb.length), .int (nI 1)]) (rest := []) (n := 2) C h (c7_putSigns l D dA B Z hZ h0 ad M5 F3 pb 1 O.length hzs h510 (by decide) h59 hpbb (by omega) (by omega)) (lw_V q2567 q2569 qs127 q138 q2570) (by decide +kernel) (ci := 5) rfl rfl mw_mem0 (by decide) (by decide) rfl hl rfl (Nat.le_of_ble_eq_true rfl) dX7_sealClear_253 (by omega) (fun E6 H locs _ h => ?_)
        have h : Wd D B s (mw dA h0 ad (apM M5 11 10 O.length (armL 1 pb)) ++ (F3 ++ E6)) H locs := h
        subst hQ
        have hfin : O ++ armL 1 pb = sclL t tx.2.1 sec dc := by rw [hO, hpb, hbd, huf, hCH]; rfl
        obtain ⟨M6, hM6⟩ : ∃ z, z = apM M5 11 10 O.length (armL 1 pb) := ⟨_, rfl⟩
        rw [← hM6] at h
        have h : Wd D B s (mw dA h0 ad M6 ++ (F ++ (E3 ++ [(qb, ial dA bd)] ++ E6))) H locs := by rw [hF3] at h; simp only [List.append_assoc] at h ⊢; exact h
        have hg : ∀ j, j < (O ++ armL 1 pb).length → mG M6 11 j = gD (O ++ armL 1 pb) j := by
          rw [hM6]
          show ∀ j, j < (O ++ armL 1 pb).length → appG (mG M5 11) O.length (armL 1 pb) j = gD (O ++ armL 1 pb) j
          refine app_get (fun j hj => ?_)
          rw [h511, appG_lt hj]; exact app_get0 j hj
        exact ret_v C hr hlocks h (M6, (E3 ++ [(qb, ial dA bd)] ++ E6)) (by
          rw [← hfin]
          exact ⟨by rw [hM6]; exact hI5, by rw [hM6]; exact hKo5.trans (Ko.ap _ _ _), by rw [hM6, List.length_append]; rfl, hg⟩) rfl rfl (by omega) (by omega) dX7_sealClear_256
      · have hge := eolL_ge dc (dc.length + 1) a (by omega)
        have hst9 := stripL_le dc a (eolL dc a)
        obtain ⟨f1, rfl⟩ : ∃ z, f = z + 1 := ⟨f - 1, by omega⟩
        have hcl2 : clL dc f1 (eolL dc a + 1) (clN dc a u) = clrS dc := by rw [← hcl, clL_s (by omega)]
        have hcb2 := clN_b hdb (by omega) hcb
        refine lv_iload hx hb dX7_sealClear_53 (lv_at hl 0 rfl) ?_
        refine lv_istore (lv' := [(7, .int (nI a)), (6, .int (nI a)), (5, .int (nI u.1.length)), (0, .ref h0), (1, .int (nI p9)), (2, .long (lN t)), (4, .ref (ad 8))]) hx hb dX7_sealClear_55 hl (by decide) rfl (fun ls hl => ?_)
        have loopE : ∀ (nnE : Nat) (e9 : Nat), (a ≤ e9) → (e9 ≤ dc.length) → (eolL dc a = eolL dc e9) → dc.length - e9 < nnE → ∀ (H : Heap) (locs : List Loc), Wd D B s (mw dA h0 ad (apM (sG M 8 (appG (mG M 8) 0 (u.1))) 11 10 0 (CH ++ u.2)) ++ F) H locs → ∀ (ls : Array Slot), lv_has ls 10 [(7, .int (nI e9)), (6, .int (nI a)), (5, .int (nI u.1.length)), (0, .ref h0), (1, .int (nI p9)), (2, .long (lN t)), (4, .ref (ad 8))] → W p l e R s m args below meth c H locs (0 + 0 + 0 + 0 + 0 + 0) (0 + 0 + 0 + 0 + 0 + 0) Q (F0 m 57 ls []) := by
          intro nnE
          induction nnE with
          | zero => intro e9  he0 he1 he2 hme; exact absurd hme (Nat.not_lt_zero _)
          | succ nnE ihE =>
            intro e9  he0 he1 he2 hme H locs h ls hl
            refine lv_iload hx hb dX7_sealClear_57 (lv_at hl 0 rfl) ?_
            refine lv_aload_n hx hb dX7_sealClear_59 rfl (lv_at hl 3 rfl) ?_
            refine m_gi C h 3 (by decide) rfl rfl q1873 (v := nI dc.length) h3 dX7_sealClear_60 ?_
            refine n_icmp_ge (tgt := 84) hx hb (by omega) (by omega) dX7_sealClear_63 (by decide) (fun c63 => ?_) (fun c63 => ?_)
            · have hex : eolL dc a = e9 := by rw [he2]; exact eolL_e (by omega)
              refine lv_iload hx hb dX7_sealClear_84 (lv_at hl 0 rfl) ?_
              refine lv_istore (lv' := [(8, .int (nI e9)), (7, .int (nI e9)), (6, .int (nI a)), (5, .int (nI u.1.length)), (0, .ref h0), (1, .int (nI p9)), (2, .long (lN t)), (4, .ref (ad 8))]) hx hb dX7_sealClear_86 hl (by decide) rfl (fun ls hl => ?_)
              have hl : lv_has ls 10 [(8, .int (nI e9)), (7, .int (nI (eolL dc a))), (6, .int (nI a)), (5, .int (nI u.1.length)), (0, .ref h0), (1, .int (nI p9)), (2, .long (lN t)), (4, .ref (ad 8))] := by rw [hex]; exact hl
              have loopS : ∀ (nnS : Nat) (t9 : Nat), (a ≤ t9) → (t9 ≤ dc.length) → (stripL dc a (eolL dc a) = stripL dc a t9) → t9 < nnS → ∀ (H : Heap) (locs : List Loc), Wd D B s (mw dA h0 ad (apM (sG M 8 (appG (mG M 8) 0 (u.1))) 11 10 0 (CH ++ u.2)) ++ F) H locs → ∀ (ls : Array Slot), lv_has ls 10 [(8, .int (nI t9)), (7, .int (nI (eolL dc a))), (6, .int (nI a)), (5, .int (nI u.1.length)), (0, .ref h0), (1, .int (nI p9)), (2, .long (lN t)), (4, .ref (ad 8))] → W p l e R s m args below meth c H locs (0 + 0 + 0 + 0 + 0 + 0) (0 + 0 + 0 + 0 + 0 + 0) Q (F0 m 88 ls []) := by
                intro nnS
                induction nnS with
                | zero => intro t9  hs0 hs1 hs2 hme; exact absurd hme (Nat.not_lt_zero _)
                | succ nnS ihS =>
                  intro t9  hs0 hs1 hs2 hme H locs h ls hl
                  refine lv_iload hx hb dX7_sealClear_88 (lv_at hl 0 rfl) ?_
                  refine lv_iload hx hb dX7_sealClear_90 (lv_at hl 2 rfl) ?_
                  refine n_icmp_le (tgt := 116) hx hb (by omega) (by omega) dX7_sealClear_92 (by decide) (fun c92 => ?_) (fun c92 => ?_)
                  · have hst : stripL dc a (eolL dc a) = t9 := by rw [hs2]; exact stripL_e (by first | exact Or.inl c92 | exact Or.inr c107)
                    obtain ⟨la, hla⟩ : ∃ z, z = stripL dc a (eolL dc a) := ⟨_, rfl⟩
                    rw [← hla] at hst hst9
                    have hl : lv_has ls 10 [(8, .int (nI la)), (7, .int (nI (eolL dc a))), (6, .int (nI a)), (5, .int (nI u.1.length)), (0, .ref h0), (1, .int (nI p9)), (2, .long (lN t)), (4, .ref (ad 8))] := by rw [hst]; exact hl
                    have hNeq : clN dc a u = (u.1 ++ (if 0 < a then [10] else []) ++ sl (gD dc) a (la - a), u.2 ++ (if a < la ∧ gD dc a = 45 then [45, 32] else []) ++ sl (gD dc) a (la - a) ++ [10]) := by rw [hla]; rfl
                    have hn1 : (if 0 < a then [10] else [] : List Nat).length ≤ 1 := by split <;> decide
                    have hn2 : (if a < la ∧ gD dc a = 45 then [45, 32] else [] : List Nat).length ≤ 2 := by split <;> decide
                    obtain ⟨P1, hP1⟩ : ∃ z, z = u.1 ++ (if 0 < a then [10] else []) := ⟨_, rfl⟩
                    obtain ⟨O1, hO1⟩ : ∃ z, z = u.2 ++ (if a < la ∧ gD dc a = 45 then [45, 32] else []) := ⟨_, rfl⟩
                    rw [← hP1, ← hO1] at hNeq
                    have hP1l : P1.length ≤ a := by
                      rw [hP1, List.length_append]
                      rcases hcb1 with q | ⟨q1, q2⟩
                      · omega
                      · rw [q2, q1]; decide
                    have hO1l : O1.length ≤ 3 * a + 2 := by rw [hO1, List.length_append]; omega
                    have jp : ∀ (H : Heap) (locs : List Loc), Wd D B s (mw dA h0 ad (apM (sG M 8 (appG (mG M 8) 0 (P1))) 11 10 0 (CH ++ u.2)) ++ F) H locs → ∀ (ls : Array Slot), lv_has ls 10 [(8, .int (nI la)), (7, .int (nI (eolL dc a))), (6, .int (nI a)), (5, .int (nI P1.length)), (0, .ref h0), (1, .int (nI p9)), (2, .long (lN t)), (4, .ref (ad 8))] → W p l e R s m args below meth c H locs (0 + 0 + 0 + 0 + 0 + 0) (0 + 0 + 0 + 0 + 0 + 0) Q (F0 m 131 ls []) := by
                      intro   H locs h ls hl
                      have hb3 := byt_gD hdb a
                      have jd : ∀ (H : Heap) (locs : List Loc), Wd D B s (mw dA h0 ad (apM (sG M 8 (appG (mG M 8) 0 (P1))) 11 10 0 (CH ++ O1)) ++ F) H locs → ∀ (ls : Array Slot), lv_has ls 10 [(8, .int (nI la)), (7, .int (nI (eolL dc a))), (6, .int (nI a)), (5, .int (nI P1.length)), (0, .ref h0), (1, .int (nI p9)), (2, .long (lN t)), (4, .ref (ad 8))] → W p l e R s m args below meth c H locs (0 + 0 + 0 + 0 + 0 + 0) (0 + 0 + 0 + 0 + 0 + 0) Q (F0 m 157 ls []) := by
                        intro   H locs h ls hl
                        refine lv_iload hx hb dX7_sealClear_157 (lv_at hl 2 rfl) ?_
                        refine lv_istore (lv' := [(9, .int (nI a)), (8, .int (nI la)), (7, .int (nI (eolL dc a))), (6, .int (nI a)), (5, .int (nI P1.length)), (0, .ref h0), (1, .int (nI p9)), (2, .long (lN t)), (4, .ref (ad 8))]) hx hb dX7_sealClear_159 hl (by decide) rfl (fun ls hl => ?_)
                        have h : Wd D B s (mw dA h0 ad (apM (sG M 8 (appG (mG M 8) 0 (P1 ++ sl (gD dc) a 0))) 11 10 0 (CH ++ O1 ++ sl (gD dc) a 0)) ++ F) H locs := by rw [sl_0, List.append_nil, List.append_nil]; exact h
                        have hl : lv_has ls 10 [(9, .int (nI (a + 0))), (8, .int (nI la)), (7, .int (nI (eolL dc a))), (6, .int (nI a)), (5, .int (nI (P1.length + 0))), (0, .ref h0), (1, .int (nI p9)), (2, .long (lN t)), (4, .ref (ad 8))] := hl
                        have loopJ : ∀ (nnJ : Nat) (j : Nat), (j ≤ la - a) → la - a - j < nnJ → ∀ (H : Heap) (locs : List Loc), Wd D B s (mw dA h0 ad (apM (sG M 8 (appG (mG M 8) 0 (P1 ++ sl (gD dc) a j))) 11 10 0 (CH ++ O1 ++ sl (gD dc) a j)) ++ F) H locs → ∀ (ls : Array Slot), lv_has ls 10 [(9, .int (nI (a + j))), (8, .int (nI la)), (7, .int (nI (eolL dc a))), (6, .int (nI a)), (5, .int (nI (P1.length + j))), (0, .ref h0), (1, .int (nI p9)), (2, .long (lN t)), (4, .ref (ad 8))] → W p l e R s m args below meth c H locs (0 + 0 + 0 + 0 + 0 + 0) (0 + 0 + 0 + 0 + 0 + 0) Q (F0 m 161 ls []) := by
                          intro nnJ
                          induction nnJ with
                          | zero => intro j  hi0 hme; exact absurd hme (Nat.not_lt_zero _)
                          | succ nnJ ihJ =>
                            intro j  hi0 hme H locs h ls hl
                            have hb5 := byt_gD hdb (a + j)
                            refine lv_iload hx hb dX7_sealClear_161 (lv_at hl 0 rfl) ?_
                            refine lv_iload hx hb dX7_sealClear_163 (lv_at hl 1 rfl) ?_
                            refine n_icmp_ge (tgt := 200) hx hb (by omega) (by omega) dX7_sealClear_165 (by decide) (fun c165 => ?_) (fun c165 => ?_)
                            · have hj9 : j = la - a := by omega
                              rw [hj9] at h hl
                              have h : Wd D B s (mw dA h0 ad (apM (sG M 8 (appG (mG M 8) 0 (P1 ++ sl (gD dc) a (la - a)))) 11 10 0 (CH ++ O1 ++ sl (gD dc) a (la - a))) ++ F) H locs := h
                              have hl : lv_has ls 10 [(9, .int (nI (a + (la - a)))), (8, .int (nI la)), (7, .int (nI (eolL dc a))), (6, .int (nI a)), (5, .int (nI (P1.length + (la - a)))), (0, .ref h0), (1, .int (nI p9)), (2, .long (lN t)), (4, .ref (ad 8))] := hl
                              refine lv_aload_n hx hb dX7_sealClear_200 rfl (lv_at hl 5 rfl) ?_
                              refine lv_bipush (v := nI 10) hx hb dX7_sealClear_201 (by decide) ?_
                              refine call_V (As := [.int (nI 10)]) (rest := []) (n := 1) C h (c7_put l D dA B Z hZ h0 ad (apM (sG M 8 (appG (mG M 8) 0 (P1 ++ sl (gD dc) a (la - a)))) 11 10 0 (CH ++ O1 ++ sl (gD dc) a (la - a))) F _ (0 + (CH ++ O1 ++ sl (gD dc) a (la - a)).length) (10) rfl (by (try simp only [List.length_append, List.length_cons, List.length_nil, sl_len]) <;> omega) (and255 (by decide))) (lw_V q2540 q2542 qs121 q138 q2543) (by decide +kernel) (ci := 5) rfl rfl mw_mem0 (by decide) (by decide) rfl hl rfl (Nat.le_of_ble_eq_true rfl) dX7_sealClear_203 (by omega) (fun _ H locs _ h => ?_)
                              rw [apM_app] at h
                              have h : Wd D B s (mw dA h0 ad (apM (sG M 8 (appG (mG M 8) 0 (P1 ++ sl (gD dc) a (la - a)))) 11 10 0 (CH ++ O1 ++ sl (gD dc) a (la - a) ++ [10])) ++ F) H locs := h
                              have h : Wd D B s (mw dA h0 ad (apM (sG M 8 (appG (mG M 8) 0 ((clN dc a u).1))) 11 10 0 (CH ++ (clN dc a u).2)) ++ F) H locs := by rw [hNeq]; simp only [List.append_assoc] at h ⊢; exact h
                              have hl : lv_has ls 10 [(9, .int (nI (a + (la - a)))), (8, .int (nI la)), (7, .int (nI (eolL dc a))), (6, .int (nI a)), (5, .int (nI ((clN dc a u).1.length))), (0, .ref h0), (1, .int (nI p9)), (2, .long (lN t)), (4, .ref (ad 8))] := by rw [hNeq, show (P1 ++ sl (gD dc) a (la - a)).length = P1.length + (la - a) by rw [List.length_append, sl_len]]; exact hl
                              refine lv_iload hx hb dX7_sealClear_206 (lv_at hl 2 rfl) ?_
                              refine lv_iconst (v := nI 1) hx hb dX7_sealClear_208 (by decide) ?_
                              refine lv_iadd hx hb dX7_sealClear_209 (n_top (y := nI (eolL dc a + 1)) (nI_add (eolL dc a) 1) ?_)
                              refine lv_istore (lv' := [(6, .int (nI (eolL dc a + 1))), (9, .int (nI (a + (la - a)))), (8, .int (nI la)), (7, .int (nI (eolL dc a))), (5, .int (nI ((clN dc a u).1.length))), (0, .ref h0), (1, .int (nI p9)), (2, .long (lN t)), (4, .ref (ad 8))]) hx hb dX7_sealClear_210 hl (by decide) rfl (fun ls hl => ?_)
                              refine lv_goto (tgt := 44) hx hb dX7_sealClear_212 (by decide) ?_
                              exact ih (eolL dc a + 1) f1 (clN dc a u) (by omega) hcb2 hcl2 (by omega) (by omega) _ _ h _ (lv_sub hl [0, 4, 5, 6, 7, 8] rfl)
                            · refine lv_aload hx hb dX7_sealClear_168 (lv_at hl 8 rfl) ?_
                              refine lv_iload hx hb dX7_sealClear_170 (lv_at hl 4 rfl) ?_
                              refine lv_aload_n hx hb dX7_sealClear_172 rfl (lv_at hl 5 rfl) ?_
                              refine m_gc C h 4 (by decide) rfl rfl q1874 dX7_sealClear_173 ?_
                              refine lv_iload hx hb dX7_sealClear_176 (lv_at hl 0 rfl) ?_
                              refine n_iald C h (v := (mG M 4) (a + j)) (mw_memG (k := 4) (by decide)) (show a + j < 4096 by omega) (by decide) rfl dX7_sealClear_178 ?_
                              refine n_top (y := nI (gD dc (a + j))) (congrArg nI (hdc _ (by omega))) ?_
                              refine m_iast C h 8 (v := gD dc (a + j)) (by decide) (n := 4097) rfl (by omega) dX7_sealClear_179 (fun H locs h => ?_)
                              have e3 := appG_snoc (mG M 8) 0 (P1 ++ sl (gD dc) a j) (gD dc (a + j)) (k := P1.length + j) (by rw [List.length_append, sl_len, Nat.zero_add])
                              have e2 := sl_succ (gD dc) a j
                              have h : Wd D B s (mw dA h0 ad (apM (sG M 8 (appG (mG M 8) 0 (P1 ++ sl (gD dc) a (j + 1)))) 11 10 0 (CH ++ O1 ++ sl (gD dc) a j)) ++ F) H locs := by rw [e2, ← List.append_assoc P1, ← e3]; rw [ap8] at h; exact h
                              refine lv_iinc (v := nI (P1.length + j + 1)) (lv' := [(5, .int (nI (P1.length + j + 1))), (9, .int (nI (a + j))), (8, .int (nI la)), (7, .int (nI (eolL dc a))), (6, .int (nI a)), (0, .ref h0), (1, .int (nI p9)), (2, .long (lN t)), (4, .ref (ad 8))]) hx hb dX7_sealClear_180 hl (k := 4) rfl (nI_add (P1.length + j) 1) (by decide) rfl (fun ls hl => ?_)
                              refine lv_aload_n hx hb dX7_sealClear_183 rfl (lv_at hl 5 rfl) ?_
                              refine lv_aload_n hx hb dX7_sealClear_184 rfl (lv_at hl 5 rfl) ?_
                              refine m_gc C h 4 (by decide) rfl rfl q1874 dX7_sealClear_185 ?_
                              refine lv_iload hx hb dX7_sealClear_188 (lv_at hl 1 rfl) ?_
                              refine n_iald C h (v := (mG M 4) (a + j)) (mw_memG (k := 4) (by decide)) (show a + j < 4096 by omega) (by decide) rfl dX7_sealClear_190 ?_
                              refine n_top (y := nI (gD dc (a + j))) (congrArg nI (hdc _ (by omega))) ?_
                              refine call_V (As := [.int (nI (gD dc (a + j)))]) (rest := []) (n := 1) C h (c7_put l D dA B Z hZ h0 ad (apM (sG M 8 (appG (mG M 8) 0 (P1 ++ sl (gD dc) a (j + 1)))) 11 10 0 (CH ++ O1 ++ sl (gD dc) a j)) F _ (0 + (CH ++ O1 ++ sl (gD dc) a j).length) (gD dc (a + j)) rfl (by (try simp only [List.length_append, List.length_cons, List.length_nil, sl_len]) <;> omega) (and255 hb5)) (lw_V q2540 q2542 qs121 q138 q2543) (by decide +kernel) (ci := 5) rfl rfl mw_mem0 (by decide) (by decide) rfl hl rfl (Nat.le_of_ble_eq_true rfl) dX7_sealClear_191 (by omega) (fun _ H locs _ h => ?_)
                              rw [apM_app] at h
                              have h : Wd D B s (mw dA h0 ad (apM (sG M 8 (appG (mG M 8) 0 (P1 ++ sl (gD dc) a (j + 1)))) 11 10 0 (CH ++ O1 ++ sl (gD dc) a j ++ [gD dc (a + j)])) ++ F) H locs := h
                              have h : Wd D B s (mw dA h0 ad (apM (sG M 8 (appG (mG M 8) 0 (P1 ++ sl (gD dc) a (j + 1)))) 11 10 0 (CH ++ O1 ++ sl (gD dc) a (j + 1))) ++ F) H locs := by rw [show CH ++ O1 ++ sl (gD dc) a (j + 1) = CH ++ O1 ++ sl (gD dc) a j ++ [gD dc (a + j)] by rw [sl_succ (gD dc) a j]; simp only [List.append_assoc]]; exact h
                              refine lv_iinc (v := nI (a + j + 1)) (lv' := [(9, .int (nI (a + j + 1))), (5, .int (nI (P1.length + j + 1))), (8, .int (nI la)), (7, .int (nI (eolL dc a))), (6, .int (nI a)), (0, .ref h0), (1, .int (nI p9)), (2, .long (lN t)), (4, .ref (ad 8))]) hx hb dX7_sealClear_194 hl (k := 1) rfl (nI_add (a + j) 1) (by decide) rfl (fun ls hl => ?_)
                              refine lv_goto (tgt := 161) hx hb dX7_sealClear_197 (by decide) ?_
                              exact ihJ (j + 1) (by omega) (by omega) _ _ h _ (lv_sub hl [0, 2, 3, 4, 1, 5, 6, 7, 8] rfl)
                        exact loopJ _ 0 (by omega) (Nat.lt_succ_self _) _ _ h _ (lv_sub hl [0, 1, 2, 3, 4, 5, 6, 7, 8] rfl)
                      refine lv_iload hx hb dX7_sealClear_131 (lv_at hl 0 rfl) ?_
                      refine lv_iload hx hb dX7_sealClear_133 (lv_at hl 2 rfl) ?_
                      refine n_icmp_le (tgt := 157) hx hb (by omega) (by omega) dX7_sealClear_135 (by decide) (fun c135 => ?_) (fun c135 => ?_)
                      · have e4 : O1 = u.2 := by rw [hO1, if_neg (by first | exact fun z => absurd z.1 (by omega) | exact fun z => c147 z.2), List.append_nil]
                        have h : Wd D B s (mw dA h0 ad (apM (sG M 8 (appG (mG M 8) 0 (P1))) 11 10 0 (CH ++ O1)) ++ F) H locs := by rw [e4]; exact h
                        exact jd   _ _ h _ (lv_sub hl [0, 1, 2, 3, 4, 5, 6, 7] rfl)
                      · refine lv_aload_n hx hb dX7_sealClear_138 rfl (lv_at hl 4 rfl) ?_
                        refine m_gc C h 4 (by decide) rfl rfl q1874 dX7_sealClear_139 ?_
                        refine lv_iload hx hb dX7_sealClear_142 (lv_at hl 2 rfl) ?_
                        refine n_iald C h (v := (mG M 4) a) (mw_memG (k := 4) (by decide)) (show a < 4096 by omega) (by decide) rfl dX7_sealClear_144 ?_
                        refine n_top (y := nI (gD dc a)) (congrArg nI (hdc _ (by omega))) ?_
                        refine lv_bipush (v := nI 45) hx hb dX7_sealClear_145 (by decide) ?_
                        refine n_icmp_ne (tgt := 157) hx hb (by omega) (by omega) dX7_sealClear_147 (by decide) (fun c147 => ?_) (fun c147 => ?_)
                        · have e4 : O1 = u.2 := by rw [hO1, if_neg (by first | exact fun z => absurd z.1 (by omega) | exact fun z => c147 z.2), List.append_nil]
                          have h : Wd D B s (mw dA h0 ad (apM (sG M 8 (appG (mG M 8) 0 (P1))) 11 10 0 (CH ++ O1)) ++ F) H locs := by rw [e4]; exact h
                          exact jd   _ _ h _ (lv_sub hl [0, 1, 2, 3, 4, 5, 6, 7] rfl)
                        · refine lv_aload_n hx hb dX7_sealClear_150 rfl (lv_at hl 4 rfl) ?_
                          refine s_ldcw C h hr653 dX7_sealClear_151 ?_
                          obtain ⟨l3, hl3⟩ : ∃ z, z = [45, 32] := ⟨_, rfl⟩
                          have hksl3 := hk653
                          have hl3b : byt l3 := by rw [hl3]; intro x hx; revert x; decide
                          have hl3l : l3.length ≤ 30 := by rw [hl3]; decide
                          refine call_V (As := [.ref sa653]) (rest := []) (n := 1) C h (c7_putText l D dA B Z hZ h0 ad (apM (sG M 8 (appG (mG M 8) 0 (P1))) 11 10 0 (CH ++ u.2)) F sa653 sv653 l3 (0 + (CH ++ u.2).length) hzs rfl (by rw [hl3]; exact nilup hksl3 _) hl3b (by omega) (by (try simp only [List.length_append, List.length_cons, List.length_nil]) <;> omega)) (lw_V q2536 q2538 qs120 q138 q2539) (by decide +kernel) (ci := 5) rfl rfl mw_mem0 (by decide) (by decide) rfl hl rfl (Nat.le_of_ble_eq_true rfl) dX7_sealClear_154 (by omega) (fun _ H locs _ h => ?_)
                          rw [apM_app] at h
                          have h : Wd D B s (mw dA h0 ad (apM (sG M 8 (appG (mG M 8) 0 (P1))) 11 10 0 (CH ++ u.2 ++ l3)) ++ F) H locs := h
                          have e4 : CH ++ O1 = CH ++ u.2 ++ l3 := by rw [hO1, if_pos ⟨c135, c147⟩, hl3, List.append_assoc]
                          have h : Wd D B s (mw dA h0 ad (apM (sG M 8 (appG (mG M 8) 0 (P1))) 11 10 0 (CH ++ O1)) ++ F) H locs := by rw [e4]; exact h
                          exact jd   _ _ h _ (lv_sub hl [0, 1, 2, 3, 4, 5, 6, 7] rfl)
                    refine lv_iload hx hb dX7_sealClear_116 (lv_at hl 2 rfl) ?_
                    refine n_if_le (tgt := 131) hx hb (by omega) dX7_sealClear_118 (by decide) (fun c118 => ?_) (fun c118 => ?_)
                    · have e4 : P1 = u.1 := by rw [hP1, if_neg (by omega), List.append_nil]
                      have h : Wd D B s (mw dA h0 ad (apM (sG M 8 (appG (mG M 8) 0 (P1))) 11 10 0 (CH ++ u.2)) ++ F) H locs := by rw [e4]; exact h
                      have hl : lv_has ls 10 [(8, .int (nI la)), (7, .int (nI (eolL dc a))), (6, .int (nI a)), (5, .int (nI P1.length)), (0, .ref h0), (1, .int (nI p9)), (2, .long (lN t)), (4, .ref (ad 8))] := by rw [e4]; exact lv_sub hl [0, 1, 2, 3, 4, 5, 6, 7] rfl
                      exact jp   _ _ h _ (lv_sub hl [0, 1, 2, 3, 4, 5, 6, 7] rfl)
                    · refine lv_aload hx hb dX7_sealClear_121 (lv_at hl 7 rfl) ?_
                      refine lv_iload hx hb dX7_sealClear_123 (lv_at hl 3 rfl) ?_
                      refine lv_bipush (v := nI 10) hx hb dX7_sealClear_125 (by decide) ?_
                      refine m_iast C h 8 (v := 10) (by decide) (n := 4097) rfl (by omega) dX7_sealClear_127 (fun H locs h => ?_)
                      have e3 := appG_snoc (mG M 8) 0 u.1 10 (k := u.1.length) (by rw [Nat.zero_add])
                      have h : Wd D B s (mw dA h0 ad (apM (sG M 8 (appG (mG M 8) 0 (u.1 ++ [10]))) 11 10 0 (CH ++ u.2)) ++ F) H locs := by rw [← e3]; rw [ap8] at h; exact h
                      refine lv_iinc (v := nI (u.1.length + 1)) (lv' := [(5, .int (nI (u.1.length + 1))), (8, .int (nI la)), (7, .int (nI (eolL dc a))), (6, .int (nI a)), (0, .ref h0), (1, .int (nI p9)), (2, .long (lN t)), (4, .ref (ad 8))]) hx hb dX7_sealClear_128 hl (k := 3) rfl (nI_add u.1.length 1) (by decide) rfl (fun ls hl => ?_)
                      have e4 : P1 = u.1 ++ [10] := by rw [hP1, if_pos c118]
                      have h : Wd D B s (mw dA h0 ad (apM (sG M 8 (appG (mG M 8) 0 (P1))) 11 10 0 (CH ++ u.2)) ++ F) H locs := by rw [e4]; exact h
                      have hl : lv_has ls 10 [(8, .int (nI la)), (7, .int (nI (eolL dc a))), (6, .int (nI a)), (5, .int (nI P1.length)), (0, .ref h0), (1, .int (nI p9)), (2, .long (lN t)), (4, .ref (ad 8))] := by rw [e4, List.length_append]; exact lv_sub hl [1, 2, 3, 0, 4, 5, 6, 7] rfl
                      exact jp   _ _ h _ (lv_sub hl [0, 1, 2, 3, 4, 5, 6, 7] rfl)
                  · refine lv_aload_n hx hb dX7_sealClear_95 rfl (lv_at hl 4 rfl) ?_
                    refine m_gc C h 4 (by decide) rfl rfl q1874 dX7_sealClear_96 ?_
                    refine lv_iload hx hb dX7_sealClear_99 (lv_at hl 0 rfl) ?_
                    refine lv_iconst (v := nI 1) hx hb dX7_sealClear_101 (by decide) ?_
                    refine lv_isub hx hb dX7_sealClear_102 (n_top (y := nI (t9 - 1)) (pk_sub (by omega)) ?_)
                    refine n_iald C h (v := (mG M 4) (t9 - 1)) (mw_memG (k := 4) (by decide)) (show t9 - 1 < 4096 by omega) (by decide) rfl dX7_sealClear_103 ?_
                    refine n_top (y := nI (gD dc (t9 - 1))) (congrArg nI (hdc _ (by omega))) ?_
                    have hb2 := byt_gD hdb (t9 - 1)
                    refine call_S (As := [.int (nI (gD dc (t9 - 1)))]) (rest := []) (n := 1) C h (c7_isBlank l D dA B Z hZ _ (gD dc (t9 - 1)) (by omega)) (lw_S q2129 q2130 q138 q2131) (by decide +kernel) (by decide) (by decide) rfl hl rfl (Nat.le_of_ble_eq_true rfl) dX7_sealClear_104 (by omega) (fun _ H locs _ h => ?_)
                    refine z_if_eq (tgt := 116) hx hb dX7_sealClear_107 (by decide) (fun c107 => ?_) (fun c107 => ?_)
                    · have hst : stripL dc a (eolL dc a) = t9 := by rw [hs2]; exact stripL_e (by first | exact Or.inl c92 | exact Or.inr c107)
                      obtain ⟨la, hla⟩ : ∃ z, z = stripL dc a (eolL dc a) := ⟨_, rfl⟩
                      rw [← hla] at hst hst9
                      have hl : lv_has ls 10 [(8, .int (nI la)), (7, .int (nI (eolL dc a))), (6, .int (nI a)), (5, .int (nI u.1.length)), (0, .ref h0), (1, .int (nI p9)), (2, .long (lN t)), (4, .ref (ad 8))] := by rw [hst]; exact hl
                      have hNeq : clN dc a u = (u.1 ++ (if 0 < a then [10] else []) ++ sl (gD dc) a (la - a), u.2 ++ (if a < la ∧ gD dc a = 45 then [45, 32] else []) ++ sl (gD dc) a (la - a) ++ [10]) := by rw [hla]; rfl
                      have hn1 : (if 0 < a then [10] else [] : List Nat).length ≤ 1 := by split <;> decide
                      have hn2 : (if a < la ∧ gD dc a = 45 then [45, 32] else [] : List Nat).length ≤ 2 := by split <;> decide
                      obtain ⟨P1, hP1⟩ : ∃ z, z = u.1 ++ (if 0 < a then [10] else []) := ⟨_, rfl⟩
                      obtain ⟨O1, hO1⟩ : ∃ z, z = u.2 ++ (if a < la ∧ gD dc a = 45 then [45, 32] else []) := ⟨_, rfl⟩
                      rw [← hP1, ← hO1] at hNeq
                      have hP1l : P1.length ≤ a := by
                        rw [hP1, List.length_append]
                        rcases hcb1 with q | ⟨q1, q2⟩
                        · omega
                        · rw [q2, q1]; decide
                      have hO1l : O1.length ≤ 3 * a + 2 := by rw [hO1, List.length_append]; omega
                      have jp : ∀ (H : Heap) (locs : List Loc), Wd D B s (mw dA h0 ad (apM (sG M 8 (appG (mG M 8) 0 (P1))) 11 10 0 (CH ++ u.2)) ++ F) H locs → ∀ (ls : Array Slot), lv_has ls 10 [(8, .int (nI la)), (7, .int (nI (eolL dc a))), (6, .int (nI a)), (5, .int (nI P1.length)), (0, .ref h0), (1, .int (nI p9)), (2, .long (lN t)), (4, .ref (ad 8))] → W p l e R s m args below meth c H locs (0 + 0 + 0 + 0 + 0 + 0 + 0) (0 + 0 + 0 + 0 + 0 + 0 + 0) Q (F0 m 131 ls []) := by
                        intro   H locs h ls hl
                        have hb3 := byt_gD hdb a
                        have jd : ∀ (H : Heap) (locs : List Loc), Wd D B s (mw dA h0 ad (apM (sG M 8 (appG (mG M 8) 0 (P1))) 11 10 0 (CH ++ O1)) ++ F) H locs → ∀ (ls : Array Slot), lv_has ls 10 [(8, .int (nI la)), (7, .int (nI (eolL dc a))), (6, .int (nI a)), (5, .int (nI P1.length)), (0, .ref h0), (1, .int (nI p9)), (2, .long (lN t)), (4, .ref (ad 8))] → W p l e R s m args below meth c H locs (0 + 0 + 0 + 0 + 0 + 0 + 0) (0 + 0 + 0 + 0 + 0 + 0 + 0) Q (F0 m 157 ls []) := by
                          intro   H locs h ls hl
                          refine lv_iload hx hb dX7_sealClear_157 (lv_at hl 2 rfl) ?_
                          refine lv_istore (lv' := [(9, .int (nI a)), (8, .int (nI la)), (7, .int (nI (eolL dc a))), (6, .int (nI a)), (5, .int (nI P1.length)), (0, .ref h0), (1, .int (nI p9)), (2, .long (lN t)), (4, .ref (ad 8))]) hx hb dX7_sealClear_159 hl (by decide) rfl (fun ls hl => ?_)
                          have h : Wd D B s (mw dA h0 ad (apM (sG M 8 (appG (mG M 8) 0 (P1 ++ sl (gD dc) a 0))) 11 10 0 (CH ++ O1 ++ sl (gD dc) a 0)) ++ F) H locs := by rw [sl_0, List.append_nil, List.append_nil]; exact h
                          have hl : lv_has ls 10 [(9, .int (nI (a + 0))), (8, .int (nI la)), (7, .int (nI (eolL dc a))), (6, .int (nI a)), (5, .int (nI (P1.length + 0))), (0, .ref h0), (1, .int (nI p9)), (2, .long (lN t)), (4, .ref (ad 8))] := hl
                          have loopJ : ∀ (nnJ : Nat) (j : Nat), (j ≤ la - a) → la - a - j < nnJ → ∀ (H : Heap) (locs : List Loc), Wd D B s (mw dA h0 ad (apM (sG M 8 (appG (mG M 8) 0 (P1 ++ sl (gD dc) a j))) 11 10 0 (CH ++ O1 ++ sl (gD dc) a j)) ++ F) H locs → ∀ (ls : Array Slot), lv_has ls 10 [(9, .int (nI (a + j))), (8, .int (nI la)), (7, .int (nI (eolL dc a))), (6, .int (nI a)), (5, .int (nI (P1.length + j))), (0, .ref h0), (1, .int (nI p9)), (2, .long (lN t)), (4, .ref (ad 8))] → W p l e R s m args below meth c H locs (0 + 0 + 0 + 0 + 0 + 0 + 0) (0 + 0 + 0 + 0 + 0 + 0 + 0) Q (F0 m 161 ls []) := by
                            intro nnJ
                            induction nnJ with
                            | zero => intro j  hi0 hme; exact absurd hme (Nat.not_lt_zero _)
                            | succ nnJ ihJ =>
                              intro j  hi0 hme H locs h ls hl
                              have hb5 := byt_gD hdb (a + j)
                              refine lv_iload hx hb dX7_sealClear_161 (lv_at hl 0 rfl) ?_
                              refine lv_iload hx hb dX7_sealClear_163 (lv_at hl 1 rfl) ?_
                              refine n_icmp_ge (tgt := 200) hx hb (by omega) (by omega) dX7_sealClear_165 (by decide) (fun c165 => ?_) (fun c165 => ?_)
                              · have hj9 : j = la - a := by omega
                                rw [hj9] at h hl
                                have h : Wd D B s (mw dA h0 ad (apM (sG M 8 (appG (mG M 8) 0 (P1 ++ sl (gD dc) a (la - a)))) 11 10 0 (CH ++ O1 ++ sl (gD dc) a (la - a))) ++ F) H locs := h
                                have hl : lv_has ls 10 [(9, .int (nI (a + (la - a)))), (8, .int (nI la)), (7, .int (nI (eolL dc a))), (6, .int (nI a)), (5, .int (nI (P1.length + (la - a)))), (0, .ref h0), (1, .int (nI p9)), (2, .long (lN t)), (4, .ref (ad 8))] := hl
                                refine lv_aload_n hx hb dX7_sealClear_200 rfl (lv_at hl 5 rfl) ?_
                                refine lv_bipush (v := nI 10) hx hb dX7_sealClear_201 (by decide) ?_
                                refine call_V (As := [.int (nI 10)]) (rest := []) (n := 1) C h (c7_put l D dA B Z hZ h0 ad (apM (sG M 8 (appG (mG M 8) 0 (P1 ++ sl (gD dc) a (la - a)))) 11 10 0 (CH ++ O1 ++ sl (gD dc) a (la - a))) F _ (0 + (CH ++ O1 ++ sl (gD dc) a (la - a)).length) (10) rfl (by (try simp only [List.length_append, List.length_cons, List.length_nil, sl_len]) <;> omega) (and255 (by decide))) (lw_V q2540 q2542 qs121 q138 q2543) (by decide +kernel) (ci := 5) rfl rfl mw_mem0 (by decide) (by decide) rfl hl rfl (Nat.le_of_ble_eq_true rfl) dX7_sealClear_203 (by omega) (fun _ H locs _ h => ?_)
                                rw [apM_app] at h
                                have h : Wd D B s (mw dA h0 ad (apM (sG M 8 (appG (mG M 8) 0 (P1 ++ sl (gD dc) a (la - a)))) 11 10 0 (CH ++ O1 ++ sl (gD dc) a (la - a) ++ [10])) ++ F) H locs := h
                                have h : Wd D B s (mw dA h0 ad (apM (sG M 8 (appG (mG M 8) 0 ((clN dc a u).1))) 11 10 0 (CH ++ (clN dc a u).2)) ++ F) H locs := by rw [hNeq]; simp only [List.append_assoc] at h ⊢; exact h
                                have hl : lv_has ls 10 [(9, .int (nI (a + (la - a)))), (8, .int (nI la)), (7, .int (nI (eolL dc a))), (6, .int (nI a)), (5, .int (nI ((clN dc a u).1.length))), (0, .ref h0), (1, .int (nI p9)), (2, .long (lN t)), (4, .ref (ad 8))] := by rw [hNeq, show (P1 ++ sl (gD dc) a (la - a)).length = P1.length + (la - a) by rw [List.length_append, sl_len]]; exact hl
                                refine lv_iload hx hb dX7_sealClear_206 (lv_at hl 2 rfl) ?_
                                refine lv_iconst (v := nI 1) hx hb dX7_sealClear_208 (by decide) ?_
                                refine lv_iadd hx hb dX7_sealClear_209 (n_top (y := nI (eolL dc a + 1)) (nI_add (eolL dc a) 1) ?_)
                                refine lv_istore (lv' := [(6, .int (nI (eolL dc a + 1))), (9, .int (nI (a + (la - a)))), (8, .int (nI la)), (7, .int (nI (eolL dc a))), (5, .int (nI ((clN dc a u).1.length))), (0, .ref h0), (1, .int (nI p9)), (2, .long (lN t)), (4, .ref (ad 8))]) hx hb dX7_sealClear_210 hl (by decide) rfl (fun ls hl => ?_)
                                refine lv_goto (tgt := 44) hx hb dX7_sealClear_212 (by decide) ?_
                                exact ih (eolL dc a + 1) f1 (clN dc a u) (by omega) hcb2 hcl2 (by omega) (by omega) _ _ h _ (lv_sub hl [0, 4, 5, 6, 7, 8] rfl)
                              · refine lv_aload hx hb dX7_sealClear_168 (lv_at hl 8 rfl) ?_
                                refine lv_iload hx hb dX7_sealClear_170 (lv_at hl 4 rfl) ?_
                                refine lv_aload_n hx hb dX7_sealClear_172 rfl (lv_at hl 5 rfl) ?_
                                refine m_gc C h 4 (by decide) rfl rfl q1874 dX7_sealClear_173 ?_
                                refine lv_iload hx hb dX7_sealClear_176 (lv_at hl 0 rfl) ?_
                                refine n_iald C h (v := (mG M 4) (a + j)) (mw_memG (k := 4) (by decide)) (show a + j < 4096 by omega) (by decide) rfl dX7_sealClear_178 ?_
                                refine n_top (y := nI (gD dc (a + j))) (congrArg nI (hdc _ (by omega))) ?_
                                refine m_iast C h 8 (v := gD dc (a + j)) (by decide) (n := 4097) rfl (by omega) dX7_sealClear_179 (fun H locs h => ?_)
                                have e3 := appG_snoc (mG M 8) 0 (P1 ++ sl (gD dc) a j) (gD dc (a + j)) (k := P1.length + j) (by rw [List.length_append, sl_len, Nat.zero_add])
                                have e2 := sl_succ (gD dc) a j
                                have h : Wd D B s (mw dA h0 ad (apM (sG M 8 (appG (mG M 8) 0 (P1 ++ sl (gD dc) a (j + 1)))) 11 10 0 (CH ++ O1 ++ sl (gD dc) a j)) ++ F) H locs := by rw [e2, ← List.append_assoc P1, ← e3]; rw [ap8] at h; exact h
                                refine lv_iinc (v := nI (P1.length + j + 1)) (lv' := [(5, .int (nI (P1.length + j + 1))), (9, .int (nI (a + j))), (8, .int (nI la)), (7, .int (nI (eolL dc a))), (6, .int (nI a)), (0, .ref h0), (1, .int (nI p9)), (2, .long (lN t)), (4, .ref (ad 8))]) hx hb dX7_sealClear_180 hl (k := 4) rfl (nI_add (P1.length + j) 1) (by decide) rfl (fun ls hl => ?_)
                                refine lv_aload_n hx hb dX7_sealClear_183 rfl (lv_at hl 5 rfl) ?_
                                refine lv_aload_n hx hb dX7_sealClear_184 rfl (lv_at hl 5 rfl) ?_
                                refine m_gc C h 4 (by decide) rfl rfl q1874 dX7_sealClear_185 ?_
                                refine lv_iload hx hb dX7_sealClear_188 (lv_at hl 1 rfl) ?_
                                refine n_iald C h (v := (mG M 4) (a + j)) (mw_memG (k := 4) (by decide)) (show a + j < 4096 by omega) (by decide) rfl dX7_sealClear_190 ?_
                                refine n_top (y := nI (gD dc (a + j))) (congrArg nI (hdc _ (by omega))) ?_
                                refine call_V (As := [.int (nI (gD dc (a + j)))]) (rest := []) (n := 1) C h (c7_put l D dA B Z hZ h0 ad (apM (sG M 8 (appG (mG M 8) 0 (P1 ++ sl (gD dc) a (j + 1)))) 11 10 0 (CH ++ O1 ++ sl (gD dc) a j)) F _ (0 + (CH ++ O1 ++ sl (gD dc) a j).length) (gD dc (a + j)) rfl (by (try simp only [List.length_append, List.length_cons, List.length_nil, sl_len]) <;> omega) (and255 hb5)) (lw_V q2540 q2542 qs121 q138 q2543) (by decide +kernel) (ci := 5) rfl rfl mw_mem0 (by decide) (by decide) rfl hl rfl (Nat.le_of_ble_eq_true rfl) dX7_sealClear_191 (by omega) (fun _ H locs _ h => ?_)
                                rw [apM_app] at h
                                have h : Wd D B s (mw dA h0 ad (apM (sG M 8 (appG (mG M 8) 0 (P1 ++ sl (gD dc) a (j + 1)))) 11 10 0 (CH ++ O1 ++ sl (gD dc) a j ++ [gD dc (a + j)])) ++ F) H locs := h
                                have h : Wd D B s (mw dA h0 ad (apM (sG M 8 (appG (mG M 8) 0 (P1 ++ sl (gD dc) a (j + 1)))) 11 10 0 (CH ++ O1 ++ sl (gD dc) a (j + 1))) ++ F) H locs := by rw [show CH ++ O1 ++ sl (gD dc) a (j + 1) = CH ++ O1 ++ sl (gD dc) a j ++ [gD dc (a + j)] by rw [sl_succ (gD dc) a j]; simp only [List.append_assoc]]; exact h
                                refine lv_iinc (v := nI (a + j + 1)) (lv' := [(9, .int (nI (a + j + 1))), (5, .int (nI (P1.length + j + 1))), (8, .int (nI la)), (7, .int (nI (eolL dc a))), (6, .int (nI a)), (0, .ref h0), (1, .int (nI p9)), (2, .long (lN t)), (4, .ref (ad 8))]) hx hb dX7_sealClear_194 hl (k := 1) rfl (nI_add (a + j) 1) (by decide) rfl (fun ls hl => ?_)
                                refine lv_goto (tgt := 161) hx hb dX7_sealClear_197 (by decide) ?_
                                exact ihJ (j + 1) (by omega) (by omega) _ _ h _ (lv_sub hl [0, 2, 3, 4, 1, 5, 6, 7, 8] rfl)
                          exact loopJ _ 0 (by omega) (Nat.lt_succ_self _) _ _ h _ (lv_sub hl [0, 1, 2, 3, 4, 5, 6, 7, 8] rfl)
                        refine lv_iload hx hb dX7_sealClear_131 (lv_at hl 0 rfl) ?_
                        refine lv_iload hx hb dX7_sealClear_133 (lv_at hl 2 rfl) ?_
                        refine n_icmp_le (tgt := 157) hx hb (by omega) (by omega) dX7_sealClear_135 (by decide) (fun c135 => ?_) (fun c135 => ?_)
                        · have e4 : O1 = u.2 := by rw [hO1, if_neg (by first | exact fun z => absurd z.1 (by omega) | exact fun z => c147 z.2), List.append_nil]
                          have h : Wd D B s (mw dA h0 ad (apM (sG M 8 (appG (mG M 8) 0 (P1))) 11 10 0 (CH ++ O1)) ++ F) H locs := by rw [e4]; exact h
                          exact jd   _ _ h _ (lv_sub hl [0, 1, 2, 3, 4, 5, 6, 7] rfl)
                        · refine lv_aload_n hx hb dX7_sealClear_138 rfl (lv_at hl 4 rfl) ?_
                          refine m_gc C h 4 (by decide) rfl rfl q1874 dX7_sealClear_139 ?_
                          refine lv_iload hx hb dX7_sealClear_142 (lv_at hl 2 rfl) ?_
                          refine n_iald C h (v := (mG M 4) a) (mw_memG (k := 4) (by decide)) (show a < 4096 by omega) (by decide) rfl dX7_sealClear_144 ?_
                          refine n_top (y := nI (gD dc a)) (congrArg nI (hdc _ (by omega))) ?_
                          refine lv_bipush (v := nI 45) hx hb dX7_sealClear_145 (by decide) ?_
                          refine n_icmp_ne (tgt := 157) hx hb (by omega) (by omega) dX7_sealClear_147 (by decide) (fun c147 => ?_) (fun c147 => ?_)
                          · have e4 : O1 = u.2 := by rw [hO1, if_neg (by first | exact fun z => absurd z.1 (by omega) | exact fun z => c147 z.2), List.append_nil]
                            have h : Wd D B s (mw dA h0 ad (apM (sG M 8 (appG (mG M 8) 0 (P1))) 11 10 0 (CH ++ O1)) ++ F) H locs := by rw [e4]; exact h
                            exact jd   _ _ h _ (lv_sub hl [0, 1, 2, 3, 4, 5, 6, 7] rfl)
                          · refine lv_aload_n hx hb dX7_sealClear_150 rfl (lv_at hl 4 rfl) ?_
                            refine s_ldcw C h hr653 dX7_sealClear_151 ?_
                            obtain ⟨l3, hl3⟩ : ∃ z, z = [45, 32] := ⟨_, rfl⟩
                            have hksl3 := hk653
                            have hl3b : byt l3 := by rw [hl3]; intro x hx; revert x; decide
                            have hl3l : l3.length ≤ 30 := by rw [hl3]; decide
                            refine call_V (As := [.ref sa653]) (rest := []) (n := 1) C h (c7_putText l D dA B Z hZ h0 ad (apM (sG M 8 (appG (mG M 8) 0 (P1))) 11 10 0 (CH ++ u.2)) F sa653 sv653 l3 (0 + (CH ++ u.2).length) hzs rfl (by rw [hl3]; exact nilup hksl3 _) hl3b (by omega) (by (try simp only [List.length_append, List.length_cons, List.length_nil]) <;> omega)) (lw_V q2536 q2538 qs120 q138 q2539) (by decide +kernel) (ci := 5) rfl rfl mw_mem0 (by decide) (by decide) rfl hl rfl (Nat.le_of_ble_eq_true rfl) dX7_sealClear_154 (by omega) (fun _ H locs _ h => ?_)
                            rw [apM_app] at h
                            have h : Wd D B s (mw dA h0 ad (apM (sG M 8 (appG (mG M 8) 0 (P1))) 11 10 0 (CH ++ u.2 ++ l3)) ++ F) H locs := h
                            have e4 : CH ++ O1 = CH ++ u.2 ++ l3 := by rw [hO1, if_pos ⟨c135, c147⟩, hl3, List.append_assoc]
                            have h : Wd D B s (mw dA h0 ad (apM (sG M 8 (appG (mG M 8) 0 (P1))) 11 10 0 (CH ++ O1)) ++ F) H locs := by rw [e4]; exact h
                            exact jd   _ _ h _ (lv_sub hl [0, 1, 2, 3, 4, 5, 6, 7] rfl)
                      refine lv_iload hx hb dX7_sealClear_116 (lv_at hl 2 rfl) ?_
                      refine n_if_le (tgt := 131) hx hb (by omega) dX7_sealClear_118 (by decide) (fun c118 => ?_) (fun c118 => ?_)
                      · have e4 : P1 = u.1 := by rw [hP1, if_neg (by omega), List.append_nil]
                        have h : Wd D B s (mw dA h0 ad (apM (sG M 8 (appG (mG M 8) 0 (P1))) 11 10 0 (CH ++ u.2)) ++ F) H locs := by rw [e4]; exact h
                        have hl : lv_has ls 10 [(8, .int (nI la)), (7, .int (nI (eolL dc a))), (6, .int (nI a)), (5, .int (nI P1.length)), (0, .ref h0), (1, .int (nI p9)), (2, .long (lN t)), (4, .ref (ad 8))] := by rw [e4]; exact lv_sub hl [0, 1, 2, 3, 4, 5, 6, 7] rfl
                        exact jp   _ _ h _ (lv_sub hl [0, 1, 2, 3, 4, 5, 6, 7] rfl)
                      · refine lv_aload hx hb dX7_sealClear_121 (lv_at hl 7 rfl) ?_
                        refine lv_iload hx hb dX7_sealClear_123 (lv_at hl 3 rfl) ?_
                        refine lv_bipush (v := nI 10) hx hb dX7_sealClear_125 (by decide) ?_
                        refine m_iast C h 8 (v := 10) (by decide) (n := 4097) rfl (by omega) dX7_sealClear_127 (fun H locs h => ?_)
                        have e3 := appG_snoc (mG M 8) 0 u.1 10 (k := u.1.length) (by rw [Nat.zero_add])
                        have h : Wd D B s (mw dA h0 ad (apM (sG M 8 (appG (mG M 8) 0 (u.1 ++ [10]))) 11 10 0 (CH ++ u.2)) ++ F) H locs := by rw [← e3]; rw [ap8] at h; exact h
                        refine lv_iinc (v := nI (u.1.length + 1)) (lv' := [(5, .int (nI (u.1.length + 1))), (8, .int (nI la)), (7, .int (nI (eolL dc a))), (6, .int (nI a)), (0, .ref h0), (1, .int (nI p9)), (2, .long (lN t)), (4, .ref (ad 8))]) hx hb dX7_sealClear_128 hl (k := 3) rfl (nI_add u.1.length 1) (by decide) rfl (fun ls hl => ?_)
                        have e4 : P1 = u.1 ++ [10] := by rw [hP1, if_pos c118]
                        have h : Wd D B s (mw dA h0 ad (apM (sG M 8 (appG (mG M 8) 0 (P1))) 11 10 0 (CH ++ u.2)) ++ F) H locs := by rw [e4]; exact h
                        have hl : lv_has ls 10 [(8, .int (nI la)), (7, .int (nI (eolL dc a))), (6, .int (nI a)), (5, .int (nI P1.length)), (0, .ref h0), (1, .int (nI p9)), (2, .long (lN t)), (4, .ref (ad 8))] := by rw [e4, List.length_append]; exact lv_sub hl [1, 2, 3, 0, 4, 5, 6, 7] rfl
                        exact jp   _ _ h _ (lv_sub hl [0, 1, 2, 3, 4, 5, 6, 7] rfl)
                    · refine lv_iinc (v := nI (t9 - 1)) (lv' := [(8, .int (nI (t9 - 1))), (7, .int (nI (eolL dc a))), (6, .int (nI a)), (5, .int (nI u.1.length)), (0, .ref h0), (1, .int (nI p9)), (2, .long (lN t)), (4, .ref (ad 8))]) hx hb dX7_sealClear_110 hl (k := 0) rfl (n_dec (by omega)) (by decide) rfl (fun ls hl => ?_)
                      refine lv_goto (tgt := 88) hx hb dX7_sealClear_113 (by decide) ?_
                      exact ihS (t9 - 1) (by omega) (by omega) (by rw [hs2]; exact stripL_s (by omega) c107) (by omega) _ _ h _ (lv_sub hl [0, 1, 2, 3, 4, 5, 6, 7] rfl)
              exact loopS _ e9 he0 he1 (by rw [hex]) (Nat.lt_succ_self _) _ _ h _ (lv_sub hl [0, 1, 2, 3, 4, 5, 6, 7] rfl)
            · refine lv_aload_n hx hb dX7_sealClear_66 rfl (lv_at hl 3 rfl) ?_
              refine m_gc C h 4 (by decide) rfl rfl q1874 dX7_sealClear_67 ?_
              refine lv_iload hx hb dX7_sealClear_70 (lv_at hl 0 rfl) ?_
              refine n_iald C h (v := (mG M 4) e9) (mw_memG (k := 4) (by decide)) (show e9 < 4096 by omega) (by decide) rfl dX7_sealClear_72 ?_
              refine n_top (y := nI (gD dc e9)) (congrArg nI (hdc _ (by omega))) ?_
              have hb1 := byt_gD hdb e9
              refine lv_bipush (v := nI 10) hx hb dX7_sealClear_73 (by decide) ?_
              refine n_icmp_eq (tgt := 84) hx hb (by omega) (by omega) dX7_sealClear_75 (by decide) (fun c75 => ?_) (fun c75 => ?_)
              · have hex : eolL dc a = e9 := by rw [he2]; exact eolL_e (by omega)
                refine lv_iload hx hb dX7_sealClear_84 (lv_at hl 0 rfl) ?_
                refine lv_istore (lv' := [(8, .int (nI e9)), (7, .int (nI e9)), (6, .int (nI a)), (5, .int (nI u.1.length)), (0, .ref h0), (1, .int (nI p9)), (2, .long (lN t)), (4, .ref (ad 8))]) hx hb dX7_sealClear_86 hl (by decide) rfl (fun ls hl => ?_)
                have hl : lv_has ls 10 [(8, .int (nI e9)), (7, .int (nI (eolL dc a))), (6, .int (nI a)), (5, .int (nI u.1.length)), (0, .ref h0), (1, .int (nI p9)), (2, .long (lN t)), (4, .ref (ad 8))] := by rw [hex]; exact hl
                have loopS : ∀ (nnS : Nat) (t9 : Nat), (a ≤ t9) → (t9 ≤ dc.length) → (stripL dc a (eolL dc a) = stripL dc a t9) → t9 < nnS → ∀ (H : Heap) (locs : List Loc), Wd D B s (mw dA h0 ad (apM (sG M 8 (appG (mG M 8) 0 (u.1))) 11 10 0 (CH ++ u.2)) ++ F) H locs → ∀ (ls : Array Slot), lv_has ls 10 [(8, .int (nI t9)), (7, .int (nI (eolL dc a))), (6, .int (nI a)), (5, .int (nI u.1.length)), (0, .ref h0), (1, .int (nI p9)), (2, .long (lN t)), (4, .ref (ad 8))] → W p l e R s m args below meth c H locs (0 + 0 + 0 + 0 + 0 + 0) (0 + 0 + 0 + 0 + 0 + 0) Q (F0 m 88 ls []) := by
                  intro nnS
                  induction nnS with
                  | zero => intro t9  hs0 hs1 hs2 hme; exact absurd hme (Nat.not_lt_zero _)
                  | succ nnS ihS =>
                    intro t9  hs0 hs1 hs2 hme H locs h ls hl
                    refine lv_iload hx hb dX7_sealClear_88 (lv_at hl 0 rfl) ?_
                    refine lv_iload hx hb dX7_sealClear_90 (lv_at hl 2 rfl) ?_
                    refine n_icmp_le (tgt := 116) hx hb (by omega) (by omega) dX7_sealClear_92 (by decide) (fun c92 => ?_) (fun c92 => ?_)
                    · have hst : stripL dc a (eolL dc a) = t9 := by rw [hs2]; exact stripL_e (by first | exact Or.inl c92 | exact Or.inr c107)
                      obtain ⟨la, hla⟩ : ∃ z, z = stripL dc a (eolL dc a) := ⟨_, rfl⟩
                      rw [← hla] at hst hst9
                      have hl : lv_has ls 10 [(8, .int (nI la)), (7, .int (nI (eolL dc a))), (6, .int (nI a)), (5, .int (nI u.1.length)), (0, .ref h0), (1, .int (nI p9)), (2, .long (lN t)), (4, .ref (ad 8))] := by rw [hst]; exact hl
                      have hNeq : clN dc a u = (u.1 ++ (if 0 < a then [10] else []) ++ sl (gD dc) a (la - a), u.2 ++ (if a < la ∧ gD dc a = 45 then [45, 32] else []) ++ sl (gD dc) a (la - a) ++ [10]) := by rw [hla]; rfl
                      have hn1 : (if 0 < a then [10] else [] : List Nat).length ≤ 1 := by split <;> decide
                      have hn2 : (if a < la ∧ gD dc a = 45 then [45, 32] else [] : List Nat).length ≤ 2 := by split <;> decide
                      obtain ⟨P1, hP1⟩ : ∃ z, z = u.1 ++ (if 0 < a then [10] else []) := ⟨_, rfl⟩
                      obtain ⟨O1, hO1⟩ : ∃ z, z = u.2 ++ (if a < la ∧ gD dc a = 45 then [45, 32] else []) := ⟨_, rfl⟩
                      rw [← hP1, ← hO1] at hNeq
                      have hP1l : P1.length ≤ a := by
                        rw [hP1, List.length_append]
                        rcases hcb1 with q | ⟨q1, q2⟩
                        · omega
                        · rw [q2, q1]; decide
                      have hO1l : O1.length ≤ 3 * a + 2 := by rw [hO1, List.length_append]; omega
                      have jp : ∀ (H : Heap) (locs : List Loc), Wd D B s (mw dA h0 ad (apM (sG M 8 (appG (mG M 8) 0 (P1))) 11 10 0 (CH ++ u.2)) ++ F) H locs → ∀ (ls : Array Slot), lv_has ls 10 [(8, .int (nI la)), (7, .int (nI (eolL dc a))), (6, .int (nI a)), (5, .int (nI P1.length)), (0, .ref h0), (1, .int (nI p9)), (2, .long (lN t)), (4, .ref (ad 8))] → W p l e R s m args below meth c H locs (0 + 0 + 0 + 0 + 0 + 0) (0 + 0 + 0 + 0 + 0 + 0) Q (F0 m 131 ls []) := by
                        intro   H locs h ls hl
                        have hb3 := byt_gD hdb a
                        have jd : ∀ (H : Heap) (locs : List Loc), Wd D B s (mw dA h0 ad (apM (sG M 8 (appG (mG M 8) 0 (P1))) 11 10 0 (CH ++ O1)) ++ F) H locs → ∀ (ls : Array Slot), lv_has ls 10 [(8, .int (nI la)), (7, .int (nI (eolL dc a))), (6, .int (nI a)), (5, .int (nI P1.length)), (0, .ref h0), (1, .int (nI p9)), (2, .long (lN t)), (4, .ref (ad 8))] → W p l e R s m args below meth c H locs (0 + 0 + 0 + 0 + 0 + 0) (0 + 0 + 0 + 0 + 0 + 0) Q (F0 m 157 ls []) := by
                          intro   H locs h ls hl
                          refine lv_iload hx hb dX7_sealClear_157 (lv_at hl 2 rfl) ?_
                          refine lv_istore (lv' := [(9, .int (nI a)), (8, .int (nI la)), (7, .int (nI (eolL dc a))), (6, .int (nI a)), (5, .int (nI P1.length)), (0, .ref h0), (1, .int (nI p9)), (2, .long (lN t)), (4, .ref (ad 8))]) hx hb dX7_sealClear_159 hl (by decide) rfl (fun ls hl => ?_)
                          have h : Wd D B s (mw dA h0 ad (apM (sG M 8 (appG (mG M 8) 0 (P1 ++ sl (gD dc) a 0))) 11 10 0 (CH ++ O1 ++ sl (gD dc) a 0)) ++ F) H locs := by rw [sl_0, List.append_nil, List.append_nil]; exact h
                          have hl : lv_has ls 10 [(9, .int (nI (a + 0))), (8, .int (nI la)), (7, .int (nI (eolL dc a))), (6, .int (nI a)), (5, .int (nI (P1.length + 0))), (0, .ref h0), (1, .int (nI p9)), (2, .long (lN t)), (4, .ref (ad 8))] := hl
                          have loopJ : ∀ (nnJ : Nat) (j : Nat), (j ≤ la - a) → la - a - j < nnJ → ∀ (H : Heap) (locs : List Loc), Wd D B s (mw dA h0 ad (apM (sG M 8 (appG (mG M 8) 0 (P1 ++ sl (gD dc) a j))) 11 10 0 (CH ++ O1 ++ sl (gD dc) a j)) ++ F) H locs → ∀ (ls : Array Slot), lv_has ls 10 [(9, .int (nI (a + j))), (8, .int (nI la)), (7, .int (nI (eolL dc a))), (6, .int (nI a)), (5, .int (nI (P1.length + j))), (0, .ref h0), (1, .int (nI p9)), (2, .long (lN t)), (4, .ref (ad 8))] → W p l e R s m args below meth c H locs (0 + 0 + 0 + 0 + 0 + 0) (0 + 0 + 0 + 0 + 0 + 0) Q (F0 m 161 ls []) := by
                            intro nnJ
                            induction nnJ with
                            | zero => intro j  hi0 hme; exact absurd hme (Nat.not_lt_zero _)
                            | succ nnJ ihJ =>
                              intro j  hi0 hme H locs h ls hl
                              have hb5 := byt_gD hdb (a + j)
                              refine lv_iload hx hb dX7_sealClear_161 (lv_at hl 0 rfl) ?_
                              refine lv_iload hx hb dX7_sealClear_163 (lv_at hl 1 rfl) ?_
                              refine n_icmp_ge (tgt := 200) hx hb (by omega) (by omega) dX7_sealClear_165 (by decide) (fun c165 => ?_) (fun c165 => ?_)
                              · have hj9 : j = la - a := by omega
                                rw [hj9] at h hl
                                have h : Wd D B s (mw dA h0 ad (apM (sG M 8 (appG (mG M 8) 0 (P1 ++ sl (gD dc) a (la - a)))) 11 10 0 (CH ++ O1 ++ sl (gD dc) a (la - a))) ++ F) H locs := h
                                have hl : lv_has ls 10 [(9, .int (nI (a + (la - a)))), (8, .int (nI la)), (7, .int (nI (eolL dc a))), (6, .int (nI a)), (5, .int (nI (P1.length + (la - a)))), (0, .ref h0), (1, .int (nI p9)), (2, .long (lN t)), (4, .ref (ad 8))] := hl
                                refine lv_aload_n hx hb dX7_sealClear_200 rfl (lv_at hl 5 rfl) ?_
                                refine lv_bipush (v := nI 10) hx hb dX7_sealClear_201 (by decide) ?_
                                refine call_V (As := [.int (nI 10)]) (rest := []) (n := 1) C h (c7_put l D dA B Z hZ h0 ad (apM (sG M 8 (appG (mG M 8) 0 (P1 ++ sl (gD dc) a (la - a)))) 11 10 0 (CH ++ O1 ++ sl (gD dc) a (la - a))) F _ (0 + (CH ++ O1 ++ sl (gD dc) a (la - a)).length) (10) rfl (by (try simp only [List.length_append, List.length_cons, List.length_nil, sl_len]) <;> omega) (and255 (by decide))) (lw_V q2540 q2542 qs121 q138 q2543) (by decide +kernel) (ci := 5) rfl rfl mw_mem0 (by decide) (by decide) rfl hl rfl (Nat.le_of_ble_eq_true rfl) dX7_sealClear_203 (by omega) (fun _ H locs _ h => ?_)
                                rw [apM_app] at h
                                have h : Wd D B s (mw dA h0 ad (apM (sG M 8 (appG (mG M 8) 0 (P1 ++ sl (gD dc) a (la - a)))) 11 10 0 (CH ++ O1 ++ sl (gD dc) a (la - a) ++ [10])) ++ F) H locs := h
                                have h : Wd D B s (mw dA h0 ad (apM (sG M 8 (appG (mG M 8) 0 ((clN dc a u).1))) 11 10 0 (CH ++ (clN dc a u).2)) ++ F) H locs := by rw [hNeq]; simp only [List.append_assoc] at h ⊢; exact h
                                have hl : lv_has ls 10 [(9, .int (nI (a + (la - a)))), (8, .int (nI la)), (7, .int (nI (eolL dc a))), (6, .int (nI a)), (5, .int (nI ((clN dc a u).1.length))), (0, .ref h0), (1, .int (nI p9)), (2, .long (lN t)), (4, .ref (ad 8))] := by rw [hNeq, show (P1 ++ sl (gD dc) a (la - a)).length = P1.length + (la - a) by rw [List.length_append, sl_len]]; exact hl
                                refine lv_iload hx hb dX7_sealClear_206 (lv_at hl 2 rfl) ?_
                                refine lv_iconst (v := nI 1) hx hb dX7_sealClear_208 (by decide) ?_
                                refine lv_iadd hx hb dX7_sealClear_209 (n_top (y := nI (eolL dc a + 1)) (nI_add (eolL dc a) 1) ?_)
                                refine lv_istore (lv' := [(6, .int (nI (eolL dc a + 1))), (9, .int (nI (a + (la - a)))), (8, .int (nI la)), (7, .int (nI (eolL dc a))), (5, .int (nI ((clN dc a u).1.length))), (0, .ref h0), (1, .int (nI p9)), (2, .long (lN t)), (4, .ref (ad 8))]) hx hb dX7_sealClear_210 hl (by decide) rfl (fun ls hl => ?_)
                                refine lv_goto (tgt := 44) hx hb dX7_sealClear_212 (by decide) ?_
                                exact ih (eolL dc a + 1) f1 (clN dc a u) (by omega) hcb2 hcl2 (by omega) (by omega) _ _ h _ (lv_sub hl [0, 4, 5, 6, 7, 8] rfl)
                              · refine lv_aload hx hb dX7_sealClear_168 (lv_at hl 8 rfl) ?_
                                refine lv_iload hx hb dX7_sealClear_170 (lv_at hl 4 rfl) ?_
                                refine lv_aload_n hx hb dX7_sealClear_172 rfl (lv_at hl 5 rfl) ?_
                                refine m_gc C h 4 (by decide) rfl rfl q1874 dX7_sealClear_173 ?_
                                refine lv_iload hx hb dX7_sealClear_176 (lv_at hl 0 rfl) ?_
                                refine n_iald C h (v := (mG M 4) (a + j)) (mw_memG (k := 4) (by decide)) (show a + j < 4096 by omega) (by decide) rfl dX7_sealClear_178 ?_
                                refine n_top (y := nI (gD dc (a + j))) (congrArg nI (hdc _ (by omega))) ?_
                                refine m_iast C h 8 (v := gD dc (a + j)) (by decide) (n := 4097) rfl (by omega) dX7_sealClear_179 (fun H locs h => ?_)
                                have e3 := appG_snoc (mG M 8) 0 (P1 ++ sl (gD dc) a j) (gD dc (a + j)) (k := P1.length + j) (by rw [List.length_append, sl_len, Nat.zero_add])
                                have e2 := sl_succ (gD dc) a j
                                have h : Wd D B s (mw dA h0 ad (apM (sG M 8 (appG (mG M 8) 0 (P1 ++ sl (gD dc) a (j + 1)))) 11 10 0 (CH ++ O1 ++ sl (gD dc) a j)) ++ F) H locs := by rw [e2, ← List.append_assoc P1, ← e3]; rw [ap8] at h; exact h
                                refine lv_iinc (v := nI (P1.length + j + 1)) (lv' := [(5, .int (nI (P1.length + j + 1))), (9, .int (nI (a + j))), (8, .int (nI la)), (7, .int (nI (eolL dc a))), (6, .int (nI a)), (0, .ref h0), (1, .int (nI p9)), (2, .long (lN t)), (4, .ref (ad 8))]) hx hb dX7_sealClear_180 hl (k := 4) rfl (nI_add (P1.length + j) 1) (by decide) rfl (fun ls hl => ?_)
                                refine lv_aload_n hx hb dX7_sealClear_183 rfl (lv_at hl 5 rfl) ?_
                                refine lv_aload_n hx hb dX7_sealClear_184 rfl (lv_at hl 5 rfl) ?_
                                refine m_gc C h 4 (by decide) rfl rfl q1874 dX7_sealClear_185 ?_
                                refine lv_iload hx hb dX7_sealClear_188 (lv_at hl 1 rfl) ?_
                                refine n_iald C h (v := (mG M 4) (a + j)) (mw_memG (k := 4) (by decide)) (show a + j < 4096 by omega) (by decide) rfl dX7_sealClear_190 ?_
                                refine n_top (y := nI (gD dc (a + j))) (congrArg nI (hdc _ (by omega))) ?_
                                refine call_V (As := [.int (nI (gD dc (a + j)))]) (rest := []) (n := 1) C h (c7_put l D dA B Z hZ h0 ad (apM (sG M 8 (appG (mG M 8) 0 (P1 ++ sl (gD dc) a (j + 1)))) 11 10 0 (CH ++ O1 ++ sl (gD dc) a j)) F _ (0 + (CH ++ O1 ++ sl (gD dc) a j).length) (gD dc (a + j)) rfl (by (try simp only [List.length_append, List.length_cons, List.length_nil, sl_len]) <;> omega) (and255 hb5)) (lw_V q2540 q2542 qs121 q138 q2543) (by decide +kernel) (ci := 5) rfl rfl mw_mem0 (by decide) (by decide) rfl hl rfl (Nat.le_of_ble_eq_true rfl) dX7_sealClear_191 (by omega) (fun _ H locs _ h => ?_)
                                rw [apM_app] at h
                                have h : Wd D B s (mw dA h0 ad (apM (sG M 8 (appG (mG M 8) 0 (P1 ++ sl (gD dc) a (j + 1)))) 11 10 0 (CH ++ O1 ++ sl (gD dc) a j ++ [gD dc (a + j)])) ++ F) H locs := h
                                have h : Wd D B s (mw dA h0 ad (apM (sG M 8 (appG (mG M 8) 0 (P1 ++ sl (gD dc) a (j + 1)))) 11 10 0 (CH ++ O1 ++ sl (gD dc) a (j + 1))) ++ F) H locs := by rw [show CH ++ O1 ++ sl (gD dc) a (j + 1) = CH ++ O1 ++ sl (gD dc) a j ++ [gD dc (a + j)] by rw [sl_succ (gD dc) a j]; simp only [List.append_assoc]]; exact h
                                refine lv_iinc (v := nI (a + j + 1)) (lv' := [(9, .int (nI (a + j + 1))), (5, .int (nI (P1.length + j + 1))), (8, .int (nI la)), (7, .int (nI (eolL dc a))), (6, .int (nI a)), (0, .ref h0), (1, .int (nI p9)), (2, .long (lN t)), (4, .ref (ad 8))]) hx hb dX7_sealClear_194 hl (k := 1) rfl (nI_add (a + j) 1) (by decide) rfl (fun ls hl => ?_)
                                refine lv_goto (tgt := 161) hx hb dX7_sealClear_197 (by decide) ?_
                                exact ihJ (j + 1) (by omega) (by omega) _ _ h _ (lv_sub hl [0, 2, 3, 4, 1, 5, 6, 7, 8] rfl)
                          exact loopJ _ 0 (by omega) (Nat.lt_succ_self _) _ _ h _ (lv_sub hl [0, 1, 2, 3, 4, 5, 6, 7, 8] rfl)
                        refine lv_iload hx hb dX7_sealClear_131 (lv_at hl 0 rfl) ?_
                        refine lv_iload hx hb dX7_sealClear_133 (lv_at hl 2 rfl) ?_
                        refine n_icmp_le (tgt := 157) hx hb (by omega) (by omega) dX7_sealClear_135 (by decide) (fun c135 => ?_) (fun c135 => ?_)
                        · have e4 : O1 = u.2 := by rw [hO1, if_neg (by first | exact fun z => absurd z.1 (by omega) | exact fun z => c147 z.2), List.append_nil]
                          have h : Wd D B s (mw dA h0 ad (apM (sG M 8 (appG (mG M 8) 0 (P1))) 11 10 0 (CH ++ O1)) ++ F) H locs := by rw [e4]; exact h
                          exact jd   _ _ h _ (lv_sub hl [0, 1, 2, 3, 4, 5, 6, 7] rfl)
                        · refine lv_aload_n hx hb dX7_sealClear_138 rfl (lv_at hl 4 rfl) ?_
                          refine m_gc C h 4 (by decide) rfl rfl q1874 dX7_sealClear_139 ?_
                          refine lv_iload hx hb dX7_sealClear_142 (lv_at hl 2 rfl) ?_
                          refine n_iald C h (v := (mG M 4) a) (mw_memG (k := 4) (by decide)) (show a < 4096 by omega) (by decide) rfl dX7_sealClear_144 ?_
                          refine n_top (y := nI (gD dc a)) (congrArg nI (hdc _ (by omega))) ?_
                          refine lv_bipush (v := nI 45) hx hb dX7_sealClear_145 (by decide) ?_
                          refine n_icmp_ne (tgt := 157) hx hb (by omega) (by omega) dX7_sealClear_147 (by decide) (fun c147 => ?_) (fun c147 => ?_)
                          · have e4 : O1 = u.2 := by rw [hO1, if_neg (by first | exact fun z => absurd z.1 (by omega) | exact fun z => c147 z.2), List.append_nil]
                            have h : Wd D B s (mw dA h0 ad (apM (sG M 8 (appG (mG M 8) 0 (P1))) 11 10 0 (CH ++ O1)) ++ F) H locs := by rw [e4]; exact h
                            exact jd   _ _ h _ (lv_sub hl [0, 1, 2, 3, 4, 5, 6, 7] rfl)
                          · refine lv_aload_n hx hb dX7_sealClear_150 rfl (lv_at hl 4 rfl) ?_
                            refine s_ldcw C h hr653 dX7_sealClear_151 ?_
                            obtain ⟨l3, hl3⟩ : ∃ z, z = [45, 32] := ⟨_, rfl⟩
                            have hksl3 := hk653
                            have hl3b : byt l3 := by rw [hl3]; intro x hx; revert x; decide
                            have hl3l : l3.length ≤ 30 := by rw [hl3]; decide
                            refine call_V (As := [.ref sa653]) (rest := []) (n := 1) C h (c7_putText l D dA B Z hZ h0 ad (apM (sG M 8 (appG (mG M 8) 0 (P1))) 11 10 0 (CH ++ u.2)) F sa653 sv653 l3 (0 + (CH ++ u.2).length) hzs rfl (by rw [hl3]; exact nilup hksl3 _) hl3b (by omega) (by (try simp only [List.length_append, List.length_cons, List.length_nil]) <;> omega)) (lw_V q2536 q2538 qs120 q138 q2539) (by decide +kernel) (ci := 5) rfl rfl mw_mem0 (by decide) (by decide) rfl hl rfl (Nat.le_of_ble_eq_true rfl) dX7_sealClear_154 (by omega) (fun _ H locs _ h => ?_)
                            rw [apM_app] at h
                            have h : Wd D B s (mw dA h0 ad (apM (sG M 8 (appG (mG M 8) 0 (P1))) 11 10 0 (CH ++ u.2 ++ l3)) ++ F) H locs := h
                            have e4 : CH ++ O1 = CH ++ u.2 ++ l3 := by rw [hO1, if_pos ⟨c135, c147⟩, hl3, List.append_assoc]
                            have h : Wd D B s (mw dA h0 ad (apM (sG M 8 (appG (mG M 8) 0 (P1))) 11 10 0 (CH ++ O1)) ++ F) H locs := by rw [e4]; exact h
                            exact jd   _ _ h _ (lv_sub hl [0, 1, 2, 3, 4, 5, 6, 7] rfl)
                      refine lv_iload hx hb dX7_sealClear_116 (lv_at hl 2 rfl) ?_
                      refine n_if_le (tgt := 131) hx hb (by omega) dX7_sealClear_118 (by decide) (fun c118 => ?_) (fun c118 => ?_)
                      · have e4 : P1 = u.1 := by rw [hP1, if_neg (by omega), List.append_nil]
                        have h : Wd D B s (mw dA h0 ad (apM (sG M 8 (appG (mG M 8) 0 (P1))) 11 10 0 (CH ++ u.2)) ++ F) H locs := by rw [e4]; exact h
                        have hl : lv_has ls 10 [(8, .int (nI la)), (7, .int (nI (eolL dc a))), (6, .int (nI a)), (5, .int (nI P1.length)), (0, .ref h0), (1, .int (nI p9)), (2, .long (lN t)), (4, .ref (ad 8))] := by rw [e4]; exact lv_sub hl [0, 1, 2, 3, 4, 5, 6, 7] rfl
                        exact jp   _ _ h _ (lv_sub hl [0, 1, 2, 3, 4, 5, 6, 7] rfl)
                      · refine lv_aload hx hb dX7_sealClear_121 (lv_at hl 7 rfl) ?_
                        refine lv_iload hx hb dX7_sealClear_123 (lv_at hl 3 rfl) ?_
                        refine lv_bipush (v := nI 10) hx hb dX7_sealClear_125 (by decide) ?_
                        refine m_iast C h 8 (v := 10) (by decide) (n := 4097) rfl (by omega) dX7_sealClear_127 (fun H locs h => ?_)
                        have e3 := appG_snoc (mG M 8) 0 u.1 10 (k := u.1.length) (by rw [Nat.zero_add])
                        have h : Wd D B s (mw dA h0 ad (apM (sG M 8 (appG (mG M 8) 0 (u.1 ++ [10]))) 11 10 0 (CH ++ u.2)) ++ F) H locs := by rw [← e3]; rw [ap8] at h; exact h
                        refine lv_iinc (v := nI (u.1.length + 1)) (lv' := [(5, .int (nI (u.1.length + 1))), (8, .int (nI la)), (7, .int (nI (eolL dc a))), (6, .int (nI a)), (0, .ref h0), (1, .int (nI p9)), (2, .long (lN t)), (4, .ref (ad 8))]) hx hb dX7_sealClear_128 hl (k := 3) rfl (nI_add u.1.length 1) (by decide) rfl (fun ls hl => ?_)
                        have e4 : P1 = u.1 ++ [10] := by rw [hP1, if_pos c118]
                        have h : Wd D B s (mw dA h0 ad (apM (sG M 8 (appG (mG M 8) 0 (P1))) 11 10 0 (CH ++ u.2)) ++ F) H locs := by rw [e4]; exact h
                        have hl : lv_has ls 10 [(8, .int (nI la)), (7, .int (nI (eolL dc a))), (6, .int (nI a)), (5, .int (nI P1.length)), (0, .ref h0), (1, .int (nI p9)), (2, .long (lN t)), (4, .ref (ad 8))] := by rw [e4, List.length_append]; exact lv_sub hl [1, 2, 3, 0, 4, 5, 6, 7] rfl
                        exact jp   _ _ h _ (lv_sub hl [0, 1, 2, 3, 4, 5, 6, 7] rfl)
                    · refine lv_aload_n hx hb dX7_sealClear_95 rfl (lv_at hl 4 rfl) ?_
                      refine m_gc C h 4 (by decide) rfl rfl q1874 dX7_sealClear_96 ?_
                      refine lv_iload hx hb dX7_sealClear_99 (lv_at hl 0 rfl) ?_
                      refine lv_iconst (v := nI 1) hx hb dX7_sealClear_101 (by decide) ?_
                      refine lv_isub hx hb dX7_sealClear_102 (n_top (y := nI (t9 - 1)) (pk_sub (by omega)) ?_)
                      refine n_iald C h (v := (mG M 4) (t9 - 1)) (mw_memG (k := 4) (by decide)) (show t9 - 1 < 4096 by omega) (by decide) rfl dX7_sealClear_103 ?_
                      refine n_top (y := nI (gD dc (t9 - 1))) (congrArg nI (hdc _ (by omega))) ?_
                      have hb2 := byt_gD hdb (t9 - 1)
                      refine call_S (As := [.int (nI (gD dc (t9 - 1)))]) (rest := []) (n := 1) C h (c7_isBlank l D dA B Z hZ _ (gD dc (t9 - 1)) (by omega)) (lw_S q2129 q2130 q138 q2131) (by decide +kernel) (by decide) (by decide) rfl hl rfl (Nat.le_of_ble_eq_true rfl) dX7_sealClear_104 (by omega) (fun _ H locs _ h => ?_)
                      refine z_if_eq (tgt := 116) hx hb dX7_sealClear_107 (by decide) (fun c107 => ?_) (fun c107 => ?_)
                      · have hst : stripL dc a (eolL dc a) = t9 := by rw [hs2]; exact stripL_e (by first | exact Or.inl c92 | exact Or.inr c107)
                        obtain ⟨la, hla⟩ : ∃ z, z = stripL dc a (eolL dc a) := ⟨_, rfl⟩
                        rw [← hla] at hst hst9
                        have hl : lv_has ls 10 [(8, .int (nI la)), (7, .int (nI (eolL dc a))), (6, .int (nI a)), (5, .int (nI u.1.length)), (0, .ref h0), (1, .int (nI p9)), (2, .long (lN t)), (4, .ref (ad 8))] := by rw [hst]; exact hl
                        have hNeq : clN dc a u = (u.1 ++ (if 0 < a then [10] else []) ++ sl (gD dc) a (la - a), u.2 ++ (if a < la ∧ gD dc a = 45 then [45, 32] else []) ++ sl (gD dc) a (la - a) ++ [10]) := by rw [hla]; rfl
                        have hn1 : (if 0 < a then [10] else [] : List Nat).length ≤ 1 := by split <;> decide
                        have hn2 : (if a < la ∧ gD dc a = 45 then [45, 32] else [] : List Nat).length ≤ 2 := by split <;> decide
                        obtain ⟨P1, hP1⟩ : ∃ z, z = u.1 ++ (if 0 < a then [10] else []) := ⟨_, rfl⟩
                        obtain ⟨O1, hO1⟩ : ∃ z, z = u.2 ++ (if a < la ∧ gD dc a = 45 then [45, 32] else []) := ⟨_, rfl⟩
                        rw [← hP1, ← hO1] at hNeq
                        have hP1l : P1.length ≤ a := by
                          rw [hP1, List.length_append]
                          rcases hcb1 with q | ⟨q1, q2⟩
                          · omega
                          · rw [q2, q1]; decide
                        have hO1l : O1.length ≤ 3 * a + 2 := by rw [hO1, List.length_append]; omega
                        have jp : ∀ (H : Heap) (locs : List Loc), Wd D B s (mw dA h0 ad (apM (sG M 8 (appG (mG M 8) 0 (P1))) 11 10 0 (CH ++ u.2)) ++ F) H locs → ∀ (ls : Array Slot), lv_has ls 10 [(8, .int (nI la)), (7, .int (nI (eolL dc a))), (6, .int (nI a)), (5, .int (nI P1.length)), (0, .ref h0), (1, .int (nI p9)), (2, .long (lN t)), (4, .ref (ad 8))] → W p l e R s m args below meth c H locs (0 + 0 + 0 + 0 + 0 + 0 + 0) (0 + 0 + 0 + 0 + 0 + 0 + 0) Q (F0 m 131 ls []) := by
                          intro   H locs h ls hl
                          have hb3 := byt_gD hdb a
                          have jd : ∀ (H : Heap) (locs : List Loc), Wd D B s (mw dA h0 ad (apM (sG M 8 (appG (mG M 8) 0 (P1))) 11 10 0 (CH ++ O1)) ++ F) H locs → ∀ (ls : Array Slot), lv_has ls 10 [(8, .int (nI la)), (7, .int (nI (eolL dc a))), (6, .int (nI a)), (5, .int (nI P1.length)), (0, .ref h0), (1, .int (nI p9)), (2, .long (lN t)), (4, .ref (ad 8))] → W p l e R s m args below meth c H locs (0 + 0 + 0 + 0 + 0 + 0 + 0) (0 + 0 + 0 + 0 + 0 + 0 + 0) Q (F0 m 157 ls []) := by
                            intro   H locs h ls hl
                            refine lv_iload hx hb dX7_sealClear_157 (lv_at hl 2 rfl) ?_
                            refine lv_istore (lv' := [(9, .int (nI a)), (8, .int (nI la)), (7, .int (nI (eolL dc a))), (6, .int (nI a)), (5, .int (nI P1.length)), (0, .ref h0), (1, .int (nI p9)), (2, .long (lN t)), (4, .ref (ad 8))]) hx hb dX7_sealClear_159 hl (by decide) rfl (fun ls hl => ?_)
                            have h : Wd D B s (mw dA h0 ad (apM (sG M 8 (appG (mG M 8) 0 (P1 ++ sl (gD dc) a 0))) 11 10 0 (CH ++ O1 ++ sl (gD dc) a 0)) ++ F) H locs := by rw [sl_0, List.append_nil, List.append_nil]; exact h
                            have hl : lv_has ls 10 [(9, .int (nI (a + 0))), (8, .int (nI la)), (7, .int (nI (eolL dc a))), (6, .int (nI a)), (5, .int (nI (P1.length + 0))), (0, .ref h0), (1, .int (nI p9)), (2, .long (lN t)), (4, .ref (ad 8))] := hl
                            have loopJ : ∀ (nnJ : Nat) (j : Nat), (j ≤ la - a) → la - a - j < nnJ → ∀ (H : Heap) (locs : List Loc), Wd D B s (mw dA h0 ad (apM (sG M 8 (appG (mG M 8) 0 (P1 ++ sl (gD dc) a j))) 11 10 0 (CH ++ O1 ++ sl (gD dc) a j)) ++ F) H locs → ∀ (ls : Array Slot), lv_has ls 10 [(9, .int (nI (a + j))), (8, .int (nI la)), (7, .int (nI (eolL dc a))), (6, .int (nI a)), (5, .int (nI (P1.length + j))), (0, .ref h0), (1, .int (nI p9)), (2, .long (lN t)), (4, .ref (ad 8))] → W p l e R s m args below meth c H locs (0 + 0 + 0 + 0 + 0 + 0 + 0) (0 + 0 + 0 + 0 + 0 + 0 + 0) Q (F0 m 161 ls []) := by
                              intro nnJ
                              induction nnJ with
                              | zero => intro j  hi0 hme; exact absurd hme (Nat.not_lt_zero _)
                              | succ nnJ ihJ =>
                                intro j  hi0 hme H locs h ls hl
                                have hb5 := byt_gD hdb (a + j)
                                refine lv_iload hx hb dX7_sealClear_161 (lv_at hl 0 rfl) ?_
                                refine lv_iload hx hb dX7_sealClear_163 (lv_at hl 1 rfl) ?_
                                refine n_icmp_ge (tgt := 200) hx hb (by omega) (by omega) dX7_sealClear_165 (by decide) (fun c165 => ?_) (fun c165 => ?_)
                                · have hj9 : j = la - a := by omega
                                  rw [hj9] at h hl
                                  have h : Wd D B s (mw dA h0 ad (apM (sG M 8 (appG (mG M 8) 0 (P1 ++ sl (gD dc) a (la - a)))) 11 10 0 (CH ++ O1 ++ sl (gD dc) a (la - a))) ++ F) H locs := h
                                  have hl : lv_has ls 10 [(9, .int (nI (a + (la - a)))), (8, .int (nI la)), (7, .int (nI (eolL dc a))), (6, .int (nI a)), (5, .int (nI (P1.length + (la - a)))), (0, .ref h0), (1, .int (nI p9)), (2, .long (lN t)), (4, .ref (ad 8))] := hl
                                  refine lv_aload_n hx hb dX7_sealClear_200 rfl (lv_at hl 5 rfl) ?_
                                  refine lv_bipush (v := nI 10) hx hb dX7_sealClear_201 (by decide) ?_
                                  refine call_V (As := [.int (nI 10)]) (rest := []) (n := 1) C h (c7_put l D dA B Z hZ h0 ad (apM (sG M 8 (appG (mG M 8) 0 (P1 ++ sl (gD dc) a (la - a)))) 11 10 0 (CH ++ O1 ++ sl (gD dc) a (la - a))) F _ (0 + (CH ++ O1 ++ sl (gD dc) a (la - a)).length) (10) rfl (by (try simp only [List.length_append, List.length_cons, List.length_nil, sl_len]) <;> omega) (and255 (by decide))) (lw_V q2540 q2542 qs121 q138 q2543) (by decide +kernel) (ci := 5) rfl rfl mw_mem0 (by decide) (by decide) rfl hl rfl (Nat.le_of_ble_eq_true rfl) dX7_sealClear_203 (by omega) (fun _ H locs _ h => ?_)
                                  rw [apM_app] at h
                                  have h : Wd D B s (mw dA h0 ad (apM (sG M 8 (appG (mG M 8) 0 (P1 ++ sl (gD dc) a (la - a)))) 11 10 0 (CH ++ O1 ++ sl (gD dc) a (la - a) ++ [10])) ++ F) H locs := h
                                  have h : Wd D B s (mw dA h0 ad (apM (sG M 8 (appG (mG M 8) 0 ((clN dc a u).1))) 11 10 0 (CH ++ (clN dc a u).2)) ++ F) H locs := by rw [hNeq]; simp only [List.append_assoc] at h ⊢; exact h
                                  have hl : lv_has ls 10 [(9, .int (nI (a + (la - a)))), (8, .int (nI la)), (7, .int (nI (eolL dc a))), (6, .int (nI a)), (5, .int (nI ((clN dc a u).1.length))), (0, .ref h0), (1, .int (nI p9)), (2, .long (lN t)), (4, .ref (ad 8))] := by rw [hNeq, show (P1 ++ sl (gD dc) a (la - a)).length = P1.length + (la - a) by rw [List.length_append, sl_len]]; exact hl
                                  refine lv_iload hx hb dX7_sealClear_206 (lv_at hl 2 rfl) ?_
                                  refine lv_iconst (v := nI 1) hx hb dX7_sealClear_208 (by decide) ?_
                                  refine lv_iadd hx hb dX7_sealClear_209 (n_top (y := nI (eolL dc a + 1)) (nI_add (eolL dc a) 1) ?_)
                                  refine lv_istore (lv' := [(6, .int (nI (eolL dc a + 1))), (9, .int (nI (a + (la - a)))), (8, .int (nI la)), (7, .int (nI (eolL dc a))), (5, .int (nI ((clN dc a u).1.length))), (0, .ref h0), (1, .int (nI p9)), (2, .long (lN t)), (4, .ref (ad 8))]) hx hb dX7_sealClear_210 hl (by decide) rfl (fun ls hl => ?_)
                                  refine lv_goto (tgt := 44) hx hb dX7_sealClear_212 (by decide) ?_
                                  exact ih (eolL dc a + 1) f1 (clN dc a u) (by omega) hcb2 hcl2 (by omega) (by omega) _ _ h _ (lv_sub hl [0, 4, 5, 6, 7, 8] rfl)
                                · refine lv_aload hx hb dX7_sealClear_168 (lv_at hl 8 rfl) ?_
                                  refine lv_iload hx hb dX7_sealClear_170 (lv_at hl 4 rfl) ?_
                                  refine lv_aload_n hx hb dX7_sealClear_172 rfl (lv_at hl 5 rfl) ?_
                                  refine m_gc C h 4 (by decide) rfl rfl q1874 dX7_sealClear_173 ?_
                                  refine lv_iload hx hb dX7_sealClear_176 (lv_at hl 0 rfl) ?_
                                  refine n_iald C h (v := (mG M 4) (a + j)) (mw_memG (k := 4) (by decide)) (show a + j < 4096 by omega) (by decide) rfl dX7_sealClear_178 ?_
                                  refine n_top (y := nI (gD dc (a + j))) (congrArg nI (hdc _ (by omega))) ?_
                                  refine m_iast C h 8 (v := gD dc (a + j)) (by decide) (n := 4097) rfl (by omega) dX7_sealClear_179 (fun H locs h => ?_)
                                  have e3 := appG_snoc (mG M 8) 0 (P1 ++ sl (gD dc) a j) (gD dc (a + j)) (k := P1.length + j) (by rw [List.length_append, sl_len, Nat.zero_add])
                                  have e2 := sl_succ (gD dc) a j
                                  have h : Wd D B s (mw dA h0 ad (apM (sG M 8 (appG (mG M 8) 0 (P1 ++ sl (gD dc) a (j + 1)))) 11 10 0 (CH ++ O1 ++ sl (gD dc) a j)) ++ F) H locs := by rw [e2, ← List.append_assoc P1, ← e3]; rw [ap8] at h; exact h
                                  refine lv_iinc (v := nI (P1.length + j + 1)) (lv' := [(5, .int (nI (P1.length + j + 1))), (9, .int (nI (a + j))), (8, .int (nI la)), (7, .int (nI (eolL dc a))), (6, .int (nI a)), (0, .ref h0), (1, .int (nI p9)), (2, .long (lN t)), (4, .ref (ad 8))]) hx hb dX7_sealClear_180 hl (k := 4) rfl (nI_add (P1.length + j) 1) (by decide) rfl (fun ls hl => ?_)
                                  refine lv_aload_n hx hb dX7_sealClear_183 rfl (lv_at hl 5 rfl) ?_
                                  refine lv_aload_n hx hb dX7_sealClear_184 rfl (lv_at hl 5 rfl) ?_
                                  refine m_gc C h 4 (by decide) rfl rfl q1874 dX7_sealClear_185 ?_
                                  refine lv_iload hx hb dX7_sealClear_188 (lv_at hl 1 rfl) ?_
                                  refine n_iald C h (v := (mG M 4) (a + j)) (mw_memG (k := 4) (by decide)) (show a + j < 4096 by omega) (by decide) rfl dX7_sealClear_190 ?_
                                  refine n_top (y := nI (gD dc (a + j))) (congrArg nI (hdc _ (by omega))) ?_
                                  refine call_V (As := [.int (nI (gD dc (a + j)))]) (rest := []) (n := 1) C h (c7_put l D dA B Z hZ h0 ad (apM (sG M 8 (appG (mG M 8) 0 (P1 ++ sl (gD dc) a (j + 1)))) 11 10 0 (CH ++ O1 ++ sl (gD dc) a j)) F _ (0 + (CH ++ O1 ++ sl (gD dc) a j).length) (gD dc (a + j)) rfl (by (try simp only [List.length_append, List.length_cons, List.length_nil, sl_len]) <;> omega) (and255 hb5)) (lw_V q2540 q2542 qs121 q138 q2543) (by decide +kernel) (ci := 5) rfl rfl mw_mem0 (by decide) (by decide) rfl hl rfl (Nat.le_of_ble_eq_true rfl) dX7_sealClear_191 (by omega) (fun _ H locs _ h => ?_)
                                  rw [apM_app] at h
                                  have h : Wd D B s (mw dA h0 ad (apM (sG M 8 (appG (mG M 8) 0 (P1 ++ sl (gD dc) a (j + 1)))) 11 10 0 (CH ++ O1 ++ sl (gD dc) a j ++ [gD dc (a + j)])) ++ F) H locs := h
                                  have h : Wd D B s (mw dA h0 ad (apM (sG M 8 (appG (mG M 8) 0 (P1 ++ sl (gD dc) a (j + 1)))) 11 10 0 (CH ++ O1 ++ sl (gD dc) a (j + 1))) ++ F) H locs := by rw [show CH ++ O1 ++ sl (gD dc) a (j + 1) = CH ++ O1 ++ sl (gD dc) a j ++ [gD dc (a + j)] by rw [sl_succ (gD dc) a j]; simp only [List.append_assoc]]; exact h
                                  refine lv_iinc (v := nI (a + j + 1)) (lv' := [(9, .int (nI (a + j + 1))), (5, .int (nI (P1.length + j + 1))), (8, .int (nI la)), (7, .int (nI (eolL dc a))), (6, .int (nI a)), (0, .ref h0), (1, .int (nI p9)), (2, .long (lN t)), (4, .ref (ad 8))]) hx hb dX7_sealClear_194 hl (k := 1) rfl (nI_add (a + j) 1) (by decide) rfl (fun ls hl => ?_)
                                  refine lv_goto (tgt := 161) hx hb dX7_sealClear_197 (by decide) ?_
                                  exact ihJ (j + 1) (by omega) (by omega) _ _ h _ (lv_sub hl [0, 2, 3, 4, 1, 5, 6, 7, 8] rfl)
                            exact loopJ _ 0 (by omega) (Nat.lt_succ_self _) _ _ h _ (lv_sub hl [0, 1, 2, 3, 4, 5, 6, 7, 8] rfl)
                          refine lv_iload hx hb dX7_sealClear_131 (lv_at hl 0 rfl) ?_
                          refine lv_iload hx hb dX7_sealClear_133 (lv_at hl 2 rfl) ?_
                          refine n_icmp_le (tgt := 157) hx hb (by omega) (by omega) dX7_sealClear_135 (by decide) (fun c135 => ?_) (fun c135 => ?_)
                          · have e4 : O1 = u.2 := by rw [hO1, if_neg (by first | exact fun z => absurd z.1 (by omega) | exact fun z => c147 z.2), List.append_nil]
                            have h : Wd D B s (mw dA h0 ad (apM (sG M 8 (appG (mG M 8) 0 (P1))) 11 10 0 (CH ++ O1)) ++ F) H locs := by rw [e4]; exact h
                            exact jd   _ _ h _ (lv_sub hl [0, 1, 2, 3, 4, 5, 6, 7] rfl)
                          · refine lv_aload_n hx hb dX7_sealClear_138 rfl (lv_at hl 4 rfl) ?_
                            refine m_gc C h 4 (by decide) rfl rfl q1874 dX7_sealClear_139 ?_
                            refine lv_iload hx hb dX7_sealClear_142 (lv_at hl 2 rfl) ?_
                            refine n_iald C h (v := (mG M 4) a) (mw_memG (k := 4) (by decide)) (show a < 4096 by omega) (by decide) rfl dX7_sealClear_144 ?_
                            refine n_top (y := nI (gD dc a)) (congrArg nI (hdc _ (by omega))) ?_
                            refine lv_bipush (v := nI 45) hx hb dX7_sealClear_145 (by decide) ?_
                            refine n_icmp_ne (tgt := 157) hx hb (by omega) (by omega) dX7_sealClear_147 (by decide) (fun c147 => ?_) (fun c147 => ?_)
                            · have e4 : O1 = u.2 := by rw [hO1, if_neg (by first | exact fun z => absurd z.1 (by omega) | exact fun z => c147 z.2), List.append_nil]
                              have h : Wd D B s (mw dA h0 ad (apM (sG M 8 (appG (mG M 8) 0 (P1))) 11 10 0 (CH ++ O1)) ++ F) H locs := by rw [e4]; exact h
                              exact jd   _ _ h _ (lv_sub hl [0, 1, 2, 3, 4, 5, 6, 7] rfl)
                            · refine lv_aload_n hx hb dX7_sealClear_150 rfl (lv_at hl 4 rfl) ?_
                              refine s_ldcw C h hr653 dX7_sealClear_151 ?_
                              obtain ⟨l3, hl3⟩ : ∃ z, z = [45, 32] := ⟨_, rfl⟩
                              have hksl3 := hk653
                              have hl3b : byt l3 := by rw [hl3]; intro x hx; revert x; decide
                              have hl3l : l3.length ≤ 30 := by rw [hl3]; decide
                              refine call_V (As := [.ref sa653]) (rest := []) (n := 1) C h (c7_putText l D dA B Z hZ h0 ad (apM (sG M 8 (appG (mG M 8) 0 (P1))) 11 10 0 (CH ++ u.2)) F sa653 sv653 l3 (0 + (CH ++ u.2).length) hzs rfl (by rw [hl3]; exact nilup hksl3 _) hl3b (by omega) (by (try simp only [List.length_append, List.length_cons, List.length_nil]) <;> omega)) (lw_V q2536 q2538 qs120 q138 q2539) (by decide +kernel) (ci := 5) rfl rfl mw_mem0 (by decide) (by decide) rfl hl rfl (Nat.le_of_ble_eq_true rfl) dX7_sealClear_154 (by omega) (fun _ H locs _ h => ?_)
                              rw [apM_app] at h
                              have h : Wd D B s (mw dA h0 ad (apM (sG M 8 (appG (mG M 8) 0 (P1))) 11 10 0 (CH ++ u.2 ++ l3)) ++ F) H locs := h
                              have e4 : CH ++ O1 = CH ++ u.2 ++ l3 := by rw [hO1, if_pos ⟨c135, c147⟩, hl3, List.append_assoc]
                              have h : Wd D B s (mw dA h0 ad (apM (sG M 8 (appG (mG M 8) 0 (P1))) 11 10 0 (CH ++ O1)) ++ F) H locs := by rw [e4]; exact h
                              exact jd   _ _ h _ (lv_sub hl [0, 1, 2, 3, 4, 5, 6, 7] rfl)
                        refine lv_iload hx hb dX7_sealClear_116 (lv_at hl 2 rfl) ?_
                        refine n_if_le (tgt := 131) hx hb (by omega) dX7_sealClear_118 (by decide) (fun c118 => ?_) (fun c118 => ?_)
                        · have e4 : P1 = u.1 := by rw [hP1, if_neg (by omega), List.append_nil]
                          have h : Wd D B s (mw dA h0 ad (apM (sG M 8 (appG (mG M 8) 0 (P1))) 11 10 0 (CH ++ u.2)) ++ F) H locs := by rw [e4]; exact h
                          have hl : lv_has ls 10 [(8, .int (nI la)), (7, .int (nI (eolL dc a))), (6, .int (nI a)), (5, .int (nI P1.length)), (0, .ref h0), (1, .int (nI p9)), (2, .long (lN t)), (4, .ref (ad 8))] := by rw [e4]; exact lv_sub hl [0, 1, 2, 3, 4, 5, 6, 7] rfl
                          exact jp   _ _ h _ (lv_sub hl [0, 1, 2, 3, 4, 5, 6, 7] rfl)
                        · refine lv_aload hx hb dX7_sealClear_121 (lv_at hl 7 rfl) ?_
                          refine lv_iload hx hb dX7_sealClear_123 (lv_at hl 3 rfl) ?_
                          refine lv_bipush (v := nI 10) hx hb dX7_sealClear_125 (by decide) ?_
                          refine m_iast C h 8 (v := 10) (by decide) (n := 4097) rfl (by omega) dX7_sealClear_127 (fun H locs h => ?_)
                          have e3 := appG_snoc (mG M 8) 0 u.1 10 (k := u.1.length) (by rw [Nat.zero_add])
                          have h : Wd D B s (mw dA h0 ad (apM (sG M 8 (appG (mG M 8) 0 (u.1 ++ [10]))) 11 10 0 (CH ++ u.2)) ++ F) H locs := by rw [← e3]; rw [ap8] at h; exact h
                          refine lv_iinc (v := nI (u.1.length + 1)) (lv' := [(5, .int (nI (u.1.length + 1))), (8, .int (nI la)), (7, .int (nI (eolL dc a))), (6, .int (nI a)), (0, .ref h0), (1, .int (nI p9)), (2, .long (lN t)), (4, .ref (ad 8))]) hx hb dX7_sealClear_128 hl (k := 3) rfl (nI_add u.1.length 1) (by decide) rfl (fun ls hl => ?_)
                          have e4 : P1 = u.1 ++ [10] := by rw [hP1, if_pos c118]
                          have h : Wd D B s (mw dA h0 ad (apM (sG M 8 (appG (mG M 8) 0 (P1))) 11 10 0 (CH ++ u.2)) ++ F) H locs := by rw [e4]; exact h
                          have hl : lv_has ls 10 [(8, .int (nI la)), (7, .int (nI (eolL dc a))), (6, .int (nI a)), (5, .int (nI P1.length)), (0, .ref h0), (1, .int (nI p9)), (2, .long (lN t)), (4, .ref (ad 8))] := by rw [e4, List.length_append]; exact lv_sub hl [1, 2, 3, 0, 4, 5, 6, 7] rfl
                          exact jp   _ _ h _ (lv_sub hl [0, 1, 2, 3, 4, 5, 6, 7] rfl)
                      · refine lv_iinc (v := nI (t9 - 1)) (lv' := [(8, .int (nI (t9 - 1))), (7, .int (nI (eolL dc a))), (6, .int (nI a)), (5, .int (nI u.1.length)), (0, .ref h0), (1, .int (nI p9)), (2, .long (lN t)), (4, .ref (ad 8))]) hx hb dX7_sealClear_110 hl (k := 0) rfl (n_dec (by omega)) (by decide) rfl (fun ls hl => ?_)
                        refine lv_goto (tgt := 88) hx hb dX7_sealClear_113 (by decide) ?_
                        exact ihS (t9 - 1) (by omega) (by omega) (by rw [hs2]; exact stripL_s (by omega) c107) (by omega) _ _ h _ (lv_sub hl [0, 1, 2, 3, 4, 5, 6, 7] rfl)
                exact loopS _ e9 he0 he1 (by rw [hex]) (Nat.lt_succ_self _) _ _ h _ (lv_sub hl [0, 1, 2, 3, 4, 5, 6, 7] rfl)
              · refine lv_iinc (v := nI (e9 + 1)) (lv' := [(7, .int (nI (e9 + 1))), (6, .int (nI a)), (5, .int (nI u.1.length)), (0, .ref h0), (1, .int (nI p9)), (2, .long (lN t)), (4, .ref (ad 8))]) hx hb dX7_sealClear_78 hl (k := 0) rfl (nI_add e9 1) (by decide) rfl (fun ls hl => ?_)
                refine lv_goto (tgt := 57) hx hb dX7_sealClear_81 (by decide) ?_
                exact ihE (e9 + 1) (by omega) (by omega) (by rw [he2, eolL_s c63 c75]) (by omega) _ _ h _ (lv_sub hl [0, 1, 2, 3, 4, 5, 6] rfl)
        exact loopE _ a (Nat.le_refl _) (by omega) rfl (Nat.lt_succ_self _) _ _ h _ (lv_sub hl [0, 1, 2, 3, 4, 5, 6] rfl)
  exact loop _ 0 (dc.length + 2) u0 (by omega) (by rw [hu0]; exact ⟨Or.inr ⟨rfl, rfl⟩, Nat.le_refl _, fun x hx => absurd hx List.not_mem_nil, fun x hx => absurd hx List.not_mem_nil⟩) (by rw [hu0]; rfl) (by omega) (Nat.lt_succ_self _) _ _ h _ (lv_sub hl [0, 1, 3, 4, 5, 2] rfl)
