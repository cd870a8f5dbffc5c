set_option maxRecDepth 100000
theorem yM_kp (M : MS) (x48 : Int32) (x54 : Int32) (x55 : Int32) (x49 : Int64) (x50 : Option Nat) (x51 : Option Nat) (x52 : Option Nat) (x53 : Option Nat) : Kp M (yM M x48 x54 x55 x49 x50 x51 x52 x53) := ((((((((Kp.rfl' M).sI (by decide)).sI (by decide)).sI (by decide)).sL (by decide)).sR (by decide)).sR (by decide)).sR (by decide)).sR (by decide)

theorem apM_kp (M : MS) (n : Nat) (l : List Nat) : Kp M (apM M 21 20 n l) := ((Kp.rfl' M).sG (by decide)).sI (by decide)
theorem hM_kp (M : MS) (u : HU) : Kp M (hM M u) := ((((((Kp.rfl' M).sW).sW).sW).sG (k := 21) (v := u.1) (by decide)).sG (k := 22) (v := u.2.2.2.2.2) (by decide)).sI (k := 20) (v := u.2.1) (by decide)
theorem pM_kp (M : MS) (u : PU) : Kp M (pM M u) := (((((((Kp.rfl' M).sI (by decide)).sL (by decide)).sG (by decide)).sG (by decide)).sG (by decide)).sG (by decide)).sG (by decide)
theorem blen_le {v k : Nat} (h : v < 2 ^ k) : blen v ≤ k := by
  induction k generalizing v with
  | zero => rw [show v = 0 by omega, blen]; simp
  | succ k ih =>
    rw [blen]
    split
    · omega
    · have := ih (v := v / 2) (by rw [Nat.pow_succ] at h; omega); omega
theorem blen_pos {v : Nat} (h : v ≠ 0) : 1 ≤ blen v := by rw [blen, dif_neg h]; omega
theorem bits_ge {x n k : Nat} (hx : x < 256) (hn0 : 0 < n) (hn : n < 1000000) (hk : k < 1000000) (h : ¬ bitsI x n < nI k) : x ≠ 0 ∧ k ≤ 8 * n := by
  unfold bitsI at h
  split at h
  · exact absurd (Int32.lt_iff_toInt_lt.mpr (by rw [nI_toInt (by omega)]; have : (-1 : Int32).toInt = -1 := by decide
                                                rw [this]; omega)) h
  · next q =>
    have h1 := blen_le (v := x) (k := 8) hx
    refine ⟨q, ?_⟩
    rcases Nat.lt_or_ge (8 * n) k with r | r
    · exact absurd ((nI_ltI (by omega) (by omega)).mpr (by omega)) h
    · exact r
theorem bits_le {x n k : Nat} (hx0 : x ≠ 0) (hn : n < 1000000) (hx : x < 256) (hk : k < 1000000) (h : ¬ nI k < bitsI x n) : 8 * n ≤ k + 7 := by
  unfold bitsI at h
  rw [if_neg hx0] at h
  have h1 := blen_le (v := x) (k := 8) hx
  have h2 := blen_pos hx0
  rcases Nat.lt_or_ge (k + 7) (8 * n) with r | r
  · exact absurd ((nI_ltI (by omega) (by omega)).mpr (by omega)) h
  · exact r
theorem keyOk_nums {l : List Nat} {hs : Bool} (h : keyOk l hs = true) (hb : byt l) (hl : l.length ≤ 5000) : byt (kN l) ∧ byt (kE l) ∧ 63 ≤ (kN l).length ∧ (kN l).length ≤ 128 ∧ gD (kN l) 0 ≠ 0 ∧ gD (kN l) ((kN l).length - 1) % 2 = 1 ∧ (kE l).length ≤ 4 ∧ 0 < (kE l).length ∧ gD (kE l) ((kE l).length - 1) % 2 = 1 := by
  have l1 : (kU1 l).2.1 ≤ l.length := (oneS_le (Nat.zero_le _)).1
  have l2 : (kU2 l).2.1 ≤ l.length := (someS_ok hb 4 0 0 _ l1 (by decide)).2.1
  have l3 : (kU3 l).2.1 ≤ l.length := (oneS_le l2).1
  have n4 := numS_ok hb _ l3
  have n5 := numS_ok hb (kU4 l).2 n4.1
  have b4 : byt (kN l) := n4.2.1
  have b5 : byt (kE l) := n5.2.1
  have s4 : (kN l).length ≤ l.length := n4.2.2.1
  have s5 : (kE l).length ≤ l.length := n5.2.2.1
  unfold keyOk kNums kHead bitsL at h
  simp only [Bool.and_eq_true, decide_eq_true_eq, Bool.not_eq_true', decide_eq_false_iff_not] at h
  obtain ⟨⟨⟨⟨-, e4⟩, e5⟩, ⟨⟨⟨⟨f1, f2⟩, f3⟩, f4⟩, f5⟩⟩, -⟩ := h
  have g1 := bits_ge (byt_gD b4 0) (by omega) (by omega) (by omega) f1
  have g2 := bits_le g1.1 (by omega) (byt_gD b4 0) (by omega) f2
  have g3 := bits_ge (byt_gD b5 0) (by omega) (by omega) (by omega) f3
  have g4 := bits_le g3.1 (by omega) (byt_gD b5 0) (by omega) f4
  exact ⟨b4, b5, by omega, by omega, g1.1, f5.1, by omega, by omega, f5.2⟩
theorem lexlt_num : ∀ (l k : List Nat), l.length = k.length → byt l → byt k → lexlt l k = true → num l < num k := by
  intro l
  induction l with
  | nil => intro k hk _ _ h; cases k with
    | nil => exact absurd h (by decide)
    | cons => cases hk
  | cons x l ih =>
    intro k hk hb hc h
    cases k with
    | nil => cases hk
    | cons y k =>
      have hl : l.length = k.length := Nat.succ.inj hk
      have hb' : byt l := fun z hz => hb z (List.mem_cons_of_mem _ hz)
      have hc' : byt k := fun z hz => hc z (List.mem_cons_of_mem _ hz)
      rw [num_cons, num_cons]
      unfold lexlt at h
      have h1 := num_lt hb'
      rw [hl] at h1
      rw [hl]
      by_cases e : x = y
      · rw [if_pos e] at h
        have := ih k hl hb' hc' h
        rw [e]; omega
      · rw [if_neg e] at h
        have h2 : x < y := of_decide_eq_true h
        have h3 : (x + 1) * 256 ^ k.length ≤ y * 256 ^ k.length := Nat.mul_le_mul_right _ h2
        rw [Nat.add_mul, Nat.one_mul] at h3
        omega
theorem num_top {k : List Nat} (h0 : gD k 0 ≠ 0) : 256 ^ (k.length - 1) ≤ num k := by
  cases k with
  | nil => exact absurd rfl h0
  | cons y k =>
    rw [num_cons]
    have h1 : 1 * 256 ^ k.length ≤ y * 256 ^ k.length := Nat.mul_le_mul_right _ (Nat.one_le_iff_ne_zero.mpr h0)
    show 256 ^ k.length ≤ _
    omega
theorem belowL_num {l k : List Nat} (hb : byt l) (hc : byt k) (h0 : gD k 0 ≠ 0) (h : belowL l k = true) : num l < num k ∧ l.length ≤ k.length := by
  unfold belowL at h
  split at h
  · next q => exact ⟨lexlt_num l k q hb hc h, by omega⟩
  · have h1 : l.length < k.length := of_decide_eq_true h
    have h2 := num_lt hb
    have h3 := num_top h0
    have h4 : 256 ^ l.length ≤ 256 ^ (k.length - 1) := Nat.pow_le_pow_right (by decide) (by omega)
    exact ⟨by omega, by omega⟩
theorem sEnd_le {b : List Nat} (hb : byt b) : sEnd b ≤ b.length := notesR_le hb true _ (oneS_le (oneS_le (oneS_le (oneS_le (Nat.zero_le _)).1).1).1).1
theorem byt_app {l k : List Nat} (h1 : byt l) (h2 : byt k) : byt (l ++ k) := fun x hx => (List.mem_append.mp hx).elim (h1 x) (h2 x)
theorem byt_be (n v : Nat) : byt (be n v) := by
  intro x hx
  unfold be sl at hx
  obtain ⟨j, -, rfl⟩ := List.mem_map.mp hx
  exact Nat.mod_lt _ (by decide)
theorem byt_frontL (w : Nat) : byt (frontL w) := by
  unfold frontL
  split
  · intro x hx; revert x; decide
  · intro x hx; revert x; decide
theorem byt_padL {fr dg : List Nat} (hf : byt fr) (hd : byt dg) (n : Nat) : byt (padL fr dg n) := by
  refine sl_byt (fun j => ?_)
  unfold padF
  repeat' split
  all_goals first | decide | exact byt_gD hf _ | exact byt_gD hd _
def sealMsg (msg b : List Nat) : List Nat := msg ++ (sl (gD b) 0 (sEnd b) ++ [4] ++ [255] ++ be 4 (sEnd b))
def trueS (msg b kb : List Nat) : Bool :=
  keyOk kb false && (decide (sLeft b = 256 * gD (hash (sHash b) (sealMsg msg b)) 0 + gD (hash (sHash b) (sealMsg msg b)) 1) && belowL (sNum b) (kN kb)) && decide (0 < sEnd b) &&
    decide (be (kN kb).length (num (sNum b) ^ num (kE kb) % num (kN kb)) = padL (frontL (sHash b)) (hash (sHash b) (sealMsg msg b)) (kN kb).length)
/-- what isTrue leaves of a seal -/
def Ks (M M' : MS) : Prop := (∀ k, k ∈ [56, 57, 58, 59, 67, 68, 69] → mI M' k = mI M k) ∧ (∀ k, k ∈ [61, 62, 63] → mL M' k = mL M k) ∧ (∀ k, k ∈ [60, 64, 65, 66] → mR M' k = mR M k)

set_option maxHeartbeats 400000 in
set_option maxRecDepth 100000 in
theorem c7_isTrue (l : Launch) (D : va_G) (dA : Nat → ClassId) (B : Nat) (Z : State → Prop) (hZ : Stab B Z) (h0 : Nat) (ad : Nat → Nat) (M : MS) (F : va_W) (msg b kb : List Nat) (sa ka : Nat) (hzR : ∀ U : State, Z U → ∃ t, va_Z "SignetRingModel" "ROUNDS" "[I" (.ref t) (bA B) U U.heap ∧ va_T .int t 64 (fun j => .int (K2 j)) (bA B) U U.heap) (hI : MI M) (h20 : mI M 20 = nI msg.length) (hmsg : sl (mG M 21) 0 msg.length = msg) (hml9 : msg.length ≤ 20000) (hS : SealIs dA F M b) (hsF : (sa, ial dA b) ∈ F) (hsb : byt b) (hsl : b.length ≤ 5000) (hkF : (ka, ial dA kb) ∈ F) (hkb : byt kb) (hkl : kb.length ≤ 5000) :
    Ct (S := MS × va_W) l D dA B Z yX7_isTrue cX7_isTrue 8 (some .boolean) 6 9 (6 * kb.length + 300) [.ref h0, .ref sa, .ref ka] (mw dA h0 ad M ++ F) (fun u => MI u.1 ∧ Kp M u.1 ∧ Ks M u.1) (fun _ => some (.int (bZ (trueS msg b kb)))) (fun u => mw dA h0 ad u.1 ++ (F ++ u.2)) := by
  refine Ct.mk2 (by decide) (Nat.le_of_ble_eq_true rfl) hZ ?_
  intro p e R s m args below meth c ls Q C hr hlocks hin hQ hl h
  have C0 := C
  obtain ⟨hx, hb, hml, hown, hts, -⟩ := C0
  have hl : lv_has ls 8 [(0, .ref h0), (1, .ref sa), (2, .ref ka)] := hl
  have hse := sEnd_le hsb
  obtain ⟨n, hn⟩ : ∃ z, z = msg.length := ⟨_, rfl⟩
  rw [← hn] at h20 hmsg hml9
  obtain ⟨X1, hX1⟩ : ∃ z, z = sl (gD b) 0 (sEnd b) := ⟨_, rfl⟩
  have hX1l : X1.length = sEnd b := by rw [hX1, sl_len]
  have hhs : sHash b < 256 := oneS_lt hsb _
  refine lv_aload_n hx hb dX7_isTrue_0 rfl (lv_at hl 0 rfl) ?_
  refine lv_aload_n hx hb dX7_isTrue_1 rfl (lv_at hl 1 rfl) ?_
  refine lv_iconst (v := nI 0) hx hb dX7_isTrue_2 (by decide) ?_
  refine lv_aload_n hx hb dX7_isTrue_3 rfl (lv_at hl 0 rfl) ?_
  refine m_gi C h 58 (by decide) rfl rfl q1928 (v := nI (sEnd b)) hS.2.2.1 dX7_isTrue_4 ?_
  refine call_V (As := [.ref sa, .int (nI 0), .int (nI (sEnd b))]) (rest := []) (n := 3) C h (c7_sayRow l D dA B Z hZ h0 ad M F sa b.length (gD b) 0 (sEnd b) n h20 (fun G1 v => List.mem_append_right _ hsF) (Nat.zero_le _) hse (by omega) (by omega) (fun j _ => byt_gD hsb j)) (lw_V q2256 q2258 qs69 q138 q2259) (by decide +kernel) (ci := 5) rfl rfl mw_mem0 (by decide) (by decide) rfl hl rfl (Nat.le_of_ble_eq_true rfl) dX7_isTrue_7 (by omega) (fun _ H locs _ h => ?_)
  rw [Nat.sub_zero, ← hX1] at h
  refine lv_aload_n hx hb dX7_isTrue_10 rfl (lv_at hl 0 rfl) ?_
  refine lv_iconst (v := nI 4) hx hb dX7_isTrue_11 (by decide) ?_
  refine call_V (As := [.int (nI 4)]) (rest := []) (n := 1) C h (c7_say l D dA B Z hZ h0 ad (apM M 21 20 n (X1)) F _ (n + (X1).length) 4 rfl (by first | omega | (simp; omega)) (and255 (by decide))) (lw_V q2248 q2250 qs67 q138 q2251) (by decide +kernel) (ci := 5) rfl rfl mw_mem0 (by decide) (by decide) rfl hl rfl (Nat.le_of_ble_eq_true rfl) dX7_isTrue_12 (by omega) (fun _ H locs _ h => ?_)
  rw [apM_app] at h
  refine lv_aload_n hx hb dX7_isTrue_15 rfl (lv_at hl 0 rfl) ?_
  refine lv_sipush (v := nI 255) hx hb dX7_isTrue_16 (by decide) ?_
  refine call_V (As := [.int (nI 255)]) (rest := []) (n := 1) C h (c7_say l D dA B Z hZ h0 ad (apM M 21 20 n (X1 ++ [4])) F _ (n + (X1 ++ [4]).length) 255 rfl (by first | omega | (simp; omega)) (and255 (by decide))) (lw_V q2248 q2250 qs67 q138 q2251) (by decide +kernel) (ci := 5) rfl rfl mw_mem0 (by decide) (by decide) rfl hl rfl (Nat.le_of_ble_eq_true rfl) dX7_isTrue_19 (by omega) (fun _ H locs _ h => ?_)
  rw [apM_app] at h
  refine lv_aload_n hx hb dX7_isTrue_22 rfl (lv_at hl 0 rfl) ?_
  refine lv_aload_n hx hb dX7_isTrue_23 rfl (lv_at hl 0 rfl) ?_
  refine m_gi C h 58 (by decide) rfl rfl q1928 (v := nI (sEnd b)) hS.2.2.1 dX7_isTrue_24 ?_
  refine lv_i2l (v := lN (sEnd b)) hx hb dX7_isTrue_27 (nI_l (by omega)) ?_
  refine lv_iconst (v := nI 4) hx hb dX7_isTrue_28 (by decide) ?_
  refine call_V (As := [.long (lN (sEnd b)), .int (nI 4)]) (rest := []) (n := 2) C h (c7_sayNumber l D dA B Z hZ h0 ad (apM M 21 20 n (X1 ++ [4] ++ [255])) F (sEnd b) 4 (n + (X1 ++ [4] ++ [255]).length) rfl (by omega) (by decide) (by first | omega | (simp; omega))) (lw_V q2252 q2254 qs68 q138 q2255) (by decide +kernel) (ci := 5) rfl rfl mw_mem0 (by decide) (by decide) rfl hl rfl (Nat.le_of_ble_eq_true rfl) dX7_isTrue_29 (by omega) (fun _ H locs _ h => ?_)
  rw [apM_app] at h
  obtain ⟨X4, hX4⟩ : ∃ z, z = X1 ++ [4] ++ [255] ++ be 4 (sEnd b) := ⟨_, rfl⟩
  rw [← hX4] at h
  have hX4l : X4.length = sEnd b + 6 := by rw [hX4]; simp [be_len, hX1l]
  have hX4b : byt X4 := by rw [hX4, hX1]; exact byt_app (byt_app (byt_app (sl_byt (byt_gD hsb)) (by intro x hx; revert x; decide)) (by intro x hx; revert x; decide)) (byt_be _ _)
  have hmg : sl (mG (apM M 21 20 n X4) 21) 0 (n + X4.length) = sealMsg msg b := by
    show sl (appG (mG M 21) n X4) 0 _ = _
    rw [sl_appG, hmsg, hX4, hX1]; rfl
  refine lv_aload_n hx hb dX7_isTrue_32 rfl (lv_at hl 0 rfl) ?_
  refine lv_aload_n hx hb dX7_isTrue_33 rfl (lv_at hl 0 rfl) ?_
  refine m_gi C h 57 (by decide) rfl rfl q1927 (v := nI (sHash b)) hS.2.1 dX7_isTrue_34 ?_
  refine call_V (As := [.int (nI (sHash b))]) (rest := []) (n := 1) C h (c7_hashOf l D dA B Z hZ h0 ad (apM M 21 20 n X4) F (n + X4.length) (sHash b) hzR rfl (by omega) (appG_byte hI.1 hX4b) (by omega)) (lw_V q2260 q2262 qs70 q138 q2263) (by decide +kernel) (ci := 5) rfl rfl mw_mem0 (by decide) (by decide) rfl hl rfl (Nat.le_of_ble_eq_true rfl) dX7_isTrue_37 (by omega) (fun uh H locs hu h => ?_)
  obtain ⟨hu1, hu2⟩ := hu
  rw [hmg] at hu2
  obtain ⟨dg, hdg⟩ : ∃ z, z = hash (sHash b) (sealMsg msg b) := ⟨_, rfl⟩
  rw [← hdg] at hu2
  have hdl : dg.length = hsize (sHash b) := by rw [hdg, hash_len]
  have hdl2 : (sHash b = 2 ∧ dg.length = 20) ∨ (sHash b ≠ 2 ∧ dg.length = 32) := by
    rw [hdl]; unfold hsize
    by_cases q : sHash b = 2
    · exact Or.inl ⟨q, if_pos q⟩
    · exact Or.inr ⟨q, if_neg q⟩
  have hdb : byt dg := by rw [hdg]; exact hash_byt _ _
  have hS5 : SealIs dA F (hM (apM M 21 20 n X4) uh) b := hS
  have hK5 : Kp M (hM (apM M 21 20 n X4) uh) := (apM_kp _ _ _).trans (hM_kp _ _)
  have hI5 : MI (hM (apM M 21 20 n X4) uh) := ⟨hu1, hI.2⟩
  have hs5 : Ks M (hM (apM M 21 20 n X4) uh) := by
    refine ⟨fun k hk => ?_, fun k hk => ?_, fun k hk => ?_⟩
    all_goals simp only [List.mem_cons, List.not_mem_nil, or_false] at hk
    · rcases hk with rfl | rfl | rfl | rfl | rfl | rfl | rfl <;> rfl
    · rcases hk with rfl | rfl | rfl <;> rfl
    · rcases hk with rfl | rfl | rfl | rfl <;> rfl
  have hd5 : mG (hM (apM M 21 20 n X4) uh) 22 = appG (mG M 22) 0 dg := hu2
  obtain ⟨M5, hM5⟩ : ∃ z, z = hM (apM M 21 20 n X4) uh := ⟨_, rfl⟩
  rw [← hM5] at h hS5 hK5 hI5 hd5 hs5
  refine n_top (y := nI dg.length) (by rw [hdl]) ?_
  refine lv_istore_n (lv' := [(3, .int (nI dg.length)), (0, .ref h0), (1, .ref sa), (2, .ref ka)]) hx hb dX7_isTrue_40 rfl hl (by decide) rfl (fun ls hl => ?_)
  refine lv_null hx hb dX7_isTrue_41 ?_
  refine lv_astoreN (lv' := [(4, .null), (3, .int (nI dg.length)), (0, .ref h0), (1, .ref sa), (2, .ref ka)]) hx hb dX7_isTrue_42 hl (by decide) rfl (fun ls hl => ?_)
  refine lv_null hx hb dX7_isTrue_44 ?_
  refine lv_astoreN (lv' := [(5, .null), (4, .null), (3, .int (nI dg.length)), (0, .ref h0), (1, .ref sa), (2, .ref ka)]) hx hb dX7_isTrue_45 hl (by decide) rfl (fun ls hl => ?_)
  refine lv_aload_n hx hb dX7_isTrue_47 rfl (lv_at hl 3 rfl) ?_
  refine m_gi C h 58 (by decide) rfl rfl q1928 (v := nI (sEnd b)) hS5.2.2.1 dX7_isTrue_48 ?_
  refine lv_istore (lv' := [(6, .int (nI (sEnd b))), (5, .null), (4, .null), (3, .int (nI dg.length)), (0, .ref h0), (1, .ref sa), (2, .ref ka)]) hx hb dX7_isTrue_51 hl (by decide) rfl (fun ls hl => ?_)
  refine lv_aload_n hx hb dX7_isTrue_53 rfl (lv_at hl 4 rfl) ?_
  refine lv_aload_n hx hb dX7_isTrue_54 rfl (lv_at hl 6 rfl) ?_
  refine lv_iconst (v := bZ false) hx hb dX7_isTrue_55 (by decide) ?_
  refine call_V (As := [.ref ka, .int (bZ false)]) (rest := []) (n := 2) C h (c7_readKey l D dA B Z hZ h0 ad M5 F ka kb false hkF hkb hkl) (lw_V q2217 q2219 qs60 q138 q2220) (by decide +kernel) (ci := 5) rfl rfl mw_mem0 (by decide) (by decide) rfl hl rfl (Nat.le_of_ble_eq_true rfl) dX7_isTrue_56 (by omega) (fun uk H locs huk h => ?_)
  obtain ⟨x48, x54, x55, x49, r50, r51, r52, E⟩ := uk
  have hS6 : SealIs dA F (yM M5 x48 x54 x55 x49 r50 r51 r52 (some ka)) b := hS5
  have hK6 : Kp M (yM M5 x48 x54 x55 x49 r50 r51 r52 (some ka)) := hK5.trans (yM_kp _ _ _ _ _ _ _ _ _)
  have hI6 : MI (yM M5 x48 x54 x55 x49 r50 r51 r52 (some ka)) := hI5
  have hd6 : mG (yM M5 x48 x54 x55 x49 r50 r51 r52 (some ka)) 22 = appG (mG M 22) 0 dg := hd5
  have hs6 : Ks M (yM M5 x48 x54 x55 x49 r50 r51 r52 (some ka)) := by
    refine ⟨fun k hk => ?_, fun k hk => ?_, fun k hk => ?_⟩
    · rw [← hs5.1 k hk]
      simp only [List.mem_cons, List.not_mem_nil, or_false] at hk
      rcases hk with rfl | rfl | rfl | rfl | rfl | rfl | rfl <;> rfl
    · rw [← hs5.2.1 k hk]
      simp only [List.mem_cons, List.not_mem_nil, or_false] at hk
      rcases hk with rfl | rfl | rfl <;> rfl
    · rw [← hs5.2.2 k hk]
      simp only [List.mem_cons, List.not_mem_nil, or_false] at hk
      rcases hk with rfl | rfl | rfl | rfl <;> rfl
  have h50 : mR (yM M5 x48 x54 x55 x49 r50 r51 r52 (some ka)) 50 = r50 := rfl
  have h51 : mR (yM M5 x48 x54 x55 x49 r50 r51 r52 (some ka)) 51 = r51 := rfl
  obtain ⟨M6, hM6⟩ : ∃ z, z = (yM M5 x48 x54 x55 x49 r50 r51 r52 (some ka)) := ⟨_, rfl⟩
  have h : Wd D B s (mw dA h0 ad (yM M5 x48 x54 x55 x49 r50 r51 r52 (some ka)) ++ (F ++ E)) H locs := h
  rw [← hM6] at h hS6 hK6 hI6 hd6 hs6 h50 h51
  show W p l e R s m args below meth c H locs (0 + 0 + 0 + 0 + 0 + 0 + 6) (0 + 0 + 0 + 0 + 0 + 0 + (6 * kb.length)) Q (F0 m 59 ls [.int (bZ (keyOk kb false))])
  refine z_if_ne (tgt := 64) hx hb dX7_isTrue_59 (by decide) (fun c59 => ?_) (fun c59 => ?_)
  · obtain ⟨-, -, ⟨qn, e50, hqn⟩, ⟨qe, e51, hqe⟩, -⟩ := huk c59
    have hqn : (qn, ial dA (kN kb)) ∈ E := hqn
    have hqe : (qe, ial dA (kE kb)) ∈ E := hqe
    have h50 : mR M6 50 = some qn := h50.trans e50
    have h51 : mR M6 51 = some qe := h51.trans e51
    obtain ⟨qs, hs60, hqs⟩ := hS6.2.2.2.2.1
    obtain ⟨nb, eb, nl1, nl2, nt, nodd, el1, el2, -⟩ := keyOk_nums c59 hkb hkl
    have hsl8 := someS_ok hsb 2 0 0 (sX6 b).1.2 (notesR_le hsb false _ (notesR_le hsb true _ (oneS_le (oneS_le (oneS_le (oneS_le (Nat.zero_le _)).1).1).1).1)) (by decide)
    have hsl9 : sLeft b < 65536 := hsl8.1
    have hsnb := numS_ok hsb (sU7 b).2 hsl8.2.1
    have hsn1 : byt (sNum b) := hsnb.2.1
    have hsn2 : (sNum b).length ≤ b.length := hsnb.2.2.1
    have hd0 := byt_gD hdb 0
    have hd1 := byt_gD hdb 1
    have hfl : (sHash b = 2 ∧ (frontL (sHash b)).length = 15) ∨ (sHash b ≠ 2 ∧ (frontL (sHash b)).length = 19) := by
      rw [frontL_len]
      by_cases q : sHash b = 2
      · exact Or.inl ⟨q, if_pos q⟩
      · exact Or.inr ⟨q, if_neg q⟩
    refine lv_aload_n hx hb dX7_isTrue_64 rfl (lv_at hl 4 rfl) ?_
    refine m_gr C h 50 (by decide) rfl rfl q1920 (v := some qn) h50 dX7_isTrue_65 ?_
    refine lv_astore (lv' := [(4, .ref qn), (6, .int (nI (sEnd b))), (5, .null), (3, .int (nI dg.length)), (0, .ref h0), (1, .ref sa), (2, .ref ka)]) hx hb dX7_isTrue_68 hl (by decide) rfl (fun ls hl => ?_)
    refine lv_aload_n hx hb dX7_isTrue_70 rfl (lv_at hl 4 rfl) ?_
    refine m_gr C h 51 (by decide) rfl rfl q1921 (v := some qe) h51 dX7_isTrue_71 ?_
    refine lv_astore (lv' := [(5, .ref qe), (4, .ref qn), (6, .int (nI (sEnd b))), (3, .int (nI dg.length)), (0, .ref h0), (1, .ref sa), (2, .ref ka)]) hx hb dX7_isTrue_74 hl (by decide) rfl (fun ls hl => ?_)
    refine lv_aload_n hx hb dX7_isTrue_76 rfl (lv_at hl 4 rfl) ?_
    refine m_gi C h 59 (by decide) rfl rfl q1929 (v := nI (sLeft b)) hS6.2.2.2.1 dX7_isTrue_77 ?_
    refine lv_sipush (v := nI 256) hx hb dX7_isTrue_80 (by decide) ?_
    refine lv_aload_n hx hb dX7_isTrue_83 rfl (lv_at hl 4 rfl) ?_
    refine m_gc C h 22 (by decide) rfl rfl q1892 dX7_isTrue_84 ?_
    refine lv_iconst (v := nI 0) hx hb dX7_isTrue_87 (by decide) ?_
    refine n_iald C h (v := (appG (mG M 22) 0 dg) 0) (mw_memG (k := 22) (by decide)) (show 0 < 32 by omega) (by decide) (congrFun hd6 _) dX7_isTrue_88 ?_
    refine n_top (y := nI (gD dg 0)) (congrArg nI (appG_mid (Nat.zero_le _) (by omega))) ?_
    refine lv_imul hx hb dX7_isTrue_89 (n_top (y := nI (256 * (gD dg 0))) (pk_mul 256 (gD dg 0)) ?_)
    refine lv_aload_n hx hb dX7_isTrue_90 rfl (lv_at hl 4 rfl) ?_
    refine m_gc C h 22 (by decide) rfl rfl q1892 dX7_isTrue_91 ?_
    refine lv_iconst (v := nI 1) hx hb dX7_isTrue_94 (by decide) ?_
    refine n_iald C h (v := (appG (mG M 22) 0 dg) 1) (mw_memG (k := 22) (by decide)) (show 1 < 32 by omega) (by decide) (congrFun hd6 _) dX7_isTrue_95 ?_
    refine n_top (y := nI (gD dg 1)) (congrArg nI (appG_mid (Nat.zero_le _) (by omega))) ?_
    refine lv_iadd hx hb dX7_isTrue_96 (n_top (y := nI ((256 * (gD dg 0)) + gD dg 1)) (nI_add (256 * (gD dg 0)) (gD dg 1)) ?_)
    refine n_icmp_ne (tgt := 112) hx hb (by omega) (by omega) dX7_isTrue_97 (by decide) (fun c97 => ?_) (fun c97 => ?_)
    · refine lv_iconst (v := nI 0) hx hb dX7_isTrue_112 (by decide) ?_
      subst hQ
      have hfin : trueS msg b kb = false := by unfold trueS; first | (rw [← hdg, decide_eq_false c97, Bool.false_and, Bool.and_false]; rfl) | (rw [show belowL (sNum b) (kN kb) = false from c109, Bool.and_false, Bool.and_false]; rfl)
      refine n_top (y := bZ false) rfl ?_
      exact ret_z C hr hlocks h (M6, E) (⟨hI6, hK6, hs6⟩) (by rw [hfin]) rfl (by omega) (by omega) dX7_isTrue_113
    · refine lv_aload_n hx hb dX7_isTrue_100 rfl (lv_at hl 4 rfl) ?_
      refine m_gr C h 60 (by decide) rfl rfl q1930 (v := some qs) hs60 dX7_isTrue_101 ?_
      refine lv_aload hx hb dX7_isTrue_104 (lv_at hl 1 rfl) ?_
      refine call_S (As := [.ref qs, .ref qn]) (rest := []) (n := 2) C h (c7_isBelow l D dA B Z hZ _ qs qn (sNum b) (kN kb) (List.mem_append_right _ (List.mem_append_left _ hqs)) (List.mem_append_right _ (List.mem_append_right _ hqn)) (by omega) (by omega) hsn1 nb) (lw_S q2415 q2416 q138 q2417) (by decide +kernel) (by decide) (by decide) rfl hl rfl (Nat.le_of_ble_eq_true rfl) dX7_isTrue_106 (by omega) (fun _ H locs _ h => ?_)
      refine z_if_ne (tgt := 114) hx hb dX7_isTrue_109 (by decide) (fun c109 => ?_) (fun c109 => ?_)
      · have hbn := belowL_num hsn1 nb nt c109
        refine lv_aload hx hb dX7_isTrue_114 (lv_at hl 1 rfl) ?_
        refine n_alen C h (List.mem_append_right _ (List.mem_append_right _ hqn)) dX7_isTrue_116 ?_
        refine lv_iconst (v := nI 3) hx hb dX7_isTrue_117 (by decide) ?_
        refine lv_isub hx hb dX7_isTrue_118 (n_top (y := nI (((kN kb).length) - 3)) (pk_sub (by omega)) ?_)
        refine lv_iload_n hx hb dX7_isTrue_119 rfl (lv_at hl 3 rfl) ?_
        refine lv_isub hx hb dX7_isTrue_120 (n_top (y := nI ((((kN kb).length) - 3) - dg.length)) (pk_sub (by omega)) ?_)
        have jfr : ∀ (H : Heap) (locs : List Loc), Wd D B s (mw dA h0 ad M6 ++ (F ++ E)) H locs → ∀ (ls : Array Slot), lv_has ls 8 [(5, .ref qe), (4, .ref qn), (6, .int (nI (sEnd b))), (3, .int (nI dg.length)), (0, .ref h0), (1, .ref sa), (2, .ref ka)] → W p l e R s m args below meth c H locs (0 + 0 + 0 + 0 + 0 + 0 + 6 + 0) (0 + 0 + 0 + 0 + 0 + 0 + (6 * kb.length) + 0) Q (F0 m 136 ls [.int (nI ((frontL (sHash b)).length)), .int (nI ((((kN kb).length) - 3) - dg.length))]) := by
          intro   H locs h ls hl
          refine lv_isub hx hb dX7_isTrue_136 (n_top (y := nI (((((kN kb).length) - 3) - dg.length) - ((frontL (sHash b)).length))) (pk_sub (by omega)) ?_)
          refine lv_istore (lv' := [(7, .int (nI (((((kN kb).length) - 3) - dg.length) - ((frontL (sHash b)).length)))), (5, .ref qe), (4, .ref qn), (6, .int (nI (sEnd b))), (3, .int (nI dg.length)), (0, .ref h0), (1, .ref sa), (2, .ref ka)]) hx hb dX7_isTrue_137 hl (by decide) rfl (fun ls hl => ?_)
          refine lv_iload hx hb dX7_isTrue_139 (lv_at hl 0 rfl) ?_
          refine lv_bipush (v := nI 8) hx hb dX7_isTrue_141 (by decide) ?_
          refine n_icmp_lt (tgt := 185) hx hb (by omega) (by omega) dX7_isTrue_143 (by decide) (fun c143 => by exfalso; omega) (fun c143 => ?_)
          refine lv_iload hx hb dX7_isTrue_146 (lv_at hl 3 rfl) ?_
          refine n_if_le (tgt := 185) hx hb (by omega) dX7_isTrue_148 (by decide) (fun c148 => ?_) (fun c148 => ?_)
          · refine lv_iconst (v := nI 0) hx hb dX7_isTrue_185 (by decide) ?_
            subst hQ
            have hfin : trueS msg b kb = false := by unfold trueS; rw [decide_eq_false (show ¬ 0 < sEnd b by omega), Bool.and_false, Bool.false_and]
            refine n_top (y := bZ false) rfl ?_
            exact ret_z C hr hlocks h (M6, E) (⟨hI6, hK6, hs6⟩) (by rw [hfin]) rfl (by omega) (by omega) dX7_isTrue_186
          · refine lv_aload_n hx hb dX7_isTrue_151 rfl (lv_at hl 5 rfl) ?_
            refine lv_aload_n hx hb dX7_isTrue_152 rfl (lv_at hl 5 rfl) ?_
            refine m_gr C h 60 (by decide) rfl rfl q1930 (v := some qs) hs60 dX7_isTrue_153 ?_
            refine lv_aload hx hb dX7_isTrue_156 (lv_at hl 1 rfl) ?_
            refine lv_aload hx hb dX7_isTrue_158 (lv_at hl 2 rfl) ?_
            refine call_V (As := [.ref qs, .ref qe, .ref qn]) (rest := []) (n := 3) C h (c7_raise l D dA B Z hZ h0 ad M6 (F ++ E) qs qe qn (sNum b) (kE kb) (kN kb) (List.mem_append_left _ hqs) (List.mem_append_right _ hqe) (List.mem_append_right _ hqn) hsn1 eb nb (by omega) nl2 (by omega) (by omega) nodd hbn.1 (by have := num_top nt; have q : 256 ^ 1 ≤ 256 ^ ((kN kb).length - 1) := Nat.pow_le_pow_right (by decide) (by omega); omega)) (lw_V q2418 q2420 qs97 q138 q2421) (by decide +kernel) (ci := 5) rfl rfl mw_mem0 (by decide) (by decide) rfl hl rfl (Nat.le_of_ble_eq_true rfl) dX7_isTrue_160 (by omega) (fun ur H locs _ h => ?_)
            obtain ⟨qr, pu⟩ := ur
            have hK7 : Kp M (pM M6 pu) := hK6.trans (pM_kp _ _)
            have hI7 : MI (pM M6 pu) := hI6
            have hS7 : SealIs dA F (pM M6 pu) b := hS6
            have hd7 : mG (pM M6 pu) 22 = appG (mG M 22) 0 dg := hd6
            have hs7 : Ks M (pM M6 pu) := by
              refine ⟨fun k hk => ?_, fun k hk => ?_, fun k hk => ?_⟩
              · rw [← hs6.1 k hk]
                simp only [List.mem_cons, List.not_mem_nil, or_false] at hk
                rcases hk with rfl | rfl | rfl | rfl | rfl | rfl | rfl <;> rfl
              · rw [← hs6.2.1 k hk]
                simp only [List.mem_cons, List.not_mem_nil, or_false] at hk
                rcases hk with rfl | rfl | rfl <;> rfl
              · rw [← hs6.2.2 k hk]
                simp only [List.mem_cons, List.not_mem_nil, or_false] at hk
                rcases hk with rfl | rfl | rfl | rfl <;> rfl
            obtain ⟨M7, hM7⟩ : ∃ z, z = pM M6 pu := ⟨_, rfl⟩
            have h : Wd D B s (mw dA h0 ad (pM M6 pu) ++ (F ++ E ++ [(qr, ial dA (be (kN kb).length (num (sNum b) ^ num (kE kb) % num (kN kb))))])) H locs := h
            rw [← hM7] at h hK7 hI7 hS7 hd7 hs7
            show W p l e R s m args below meth c H locs (0 + 0 + 0 + 0 + 0 + 0 + 6 + 0 + 1) (0 + 0 + 0 + 0 + 0 + 0 + (6 * kb.length) + 0 + ((kN kb).length)) Q (F0 m 163 ls [.ref qr])
            refine lv_aload_n hx hb dX7_isTrue_163 rfl (lv_at hl 5 rfl) ?_
            refine lv_aload_n hx hb dX7_isTrue_164 rfl (lv_at hl 5 rfl) ?_
            refine m_gi C h 57 (by decide) rfl rfl q1927 (v := nI (sHash b)) hS7.2.1 dX7_isTrue_165 ?_
            refine lv_iload_n hx hb dX7_isTrue_168 rfl (lv_at hl 4 rfl) ?_
            refine lv_aload hx hb dX7_isTrue_169 (lv_at hl 2 rfl) ?_
            refine n_alen C h (List.mem_append_right _ (List.mem_append_left _ (List.mem_append_right _ hqn))) dX7_isTrue_171 ?_
            refine call_V (As := [.int (nI (sHash b)), .int (nI dg.length), .int (nI ((kN kb).length))]) (rest := [.ref qr]) (n := 3) C h (c7_padded l D dA B Z hZ h0 ad M7 (F ++ E ++ [(qr, ial dA (be (kN kb).length (num (sNum b) ^ num (kE kb) % num (kN kb))))]) (sHash b) (kN kb).length dg (fun j hj => by rw [hd7, appG_mid (Nat.zero_le _) (by omega)]; rfl) (by omega) (by omega) (by omega) (by omega)) (lw_V q2440 q2442 qs101 q138 q2443) (by decide +kernel) (ci := 5) rfl rfl mw_mem0 (by decide) (by decide) rfl hl rfl (Nat.le_of_ble_eq_true rfl) dX7_isTrue_172 (by omega) (fun up H locs _ h => ?_)
            obtain ⟨qp, E9⟩ := up
            have h : Wd D B s (mw dA h0 ad M7 ++ (F ++ E ++ [(qr, ial dA (be (kN kb).length (num (sNum b) ^ num (kE kb) % num (kN kb))))] ++ ([(qp, ial dA (padL (frontL (sHash b)) dg (kN kb).length))] ++ E9))) H locs := h
            show W p l e R s m args below meth c H locs (0 + 0 + 0 + 0 + 0 + 0 + 6 + 0 + 1 + 2) (0 + 0 + 0 + 0 + 0 + 0 + (6 * kb.length) + 0 + ((kN kb).length) + ((kN kb).length + 19)) Q (F0 m 175 ls [.ref qp, .ref qr])
            refine call_S (As := [.ref qr, .ref qp]) (rest := []) (n := 2) C h (c7_areSame l D dA B Z hZ _ qr qp (be (kN kb).length (num (sNum b) ^ num (kE kb) % num (kN kb))).length (padL (frontL (sHash b)) dg (kN kb).length).length (gD (be (kN kb).length (num (sNum b) ^ num (kE kb) % num (kN kb)))) (gD (padL (frontL (sHash b)) dg (kN kb).length)) (List.mem_append_right _ (List.mem_append_left _ (List.mem_append_right _ List.mem_cons_self))) (List.mem_append_right _ (List.mem_append_right _ (List.mem_append_left _ List.mem_cons_self))) (by rw [be_len]; omega) (by unfold padL; rw [sl_len]; omega) (fun j _ => Nat.lt_trans (byt_gD (byt_be _ _) j) (by decide)) (fun j _ => Nat.lt_trans (byt_gD (byt_padL (byt_frontL _) hdb _) j) (by decide))) (lw_S q2310 q2311 q138 q2312) (by decide +kernel) (by decide) (by decide) rfl hl rfl (Nat.le_of_ble_eq_true rfl) dX7_isTrue_175 (by omega) (fun _ H locs _ h => ?_)
            rw [sl_gD, sl_gD]
            refine z_if_eq (tgt := 185) hx hb dX7_isTrue_178 (by decide) (fun c178 => ?_) (fun c178 => ?_)
            · refine lv_iconst (v := nI 0) hx hb dX7_isTrue_185 (by decide) ?_
              subst hQ
              have hfin : trueS msg b kb = false := by unfold trueS; rw [← hdg, c59, c109, decide_eq_true c97, decide_eq_true (show 0 < sEnd b by omega), show decide ((be (kN kb).length (num (sNum b) ^ num (kE kb) % num (kN kb))) = (padL (frontL (sHash b)) dg (kN kb).length)) = false from c178]; rfl
              have h : Wd D B s (mw dA h0 ad M7 ++ (F ++ (E ++ [(qr, ial dA (be (kN kb).length (num (sNum b) ^ num (kE kb) % num (kN kb))))] ++ ([(qp, ial dA (padL (frontL (sHash b)) dg (kN kb).length))] ++ E9)))) H locs := by
                simp only [List.append_assoc] at h ⊢; exact h
              refine n_top (y := bZ false) rfl ?_
              exact ret_z C hr hlocks h (M7, E ++ [(qr, ial dA (be (kN kb).length (num (sNum b) ^ num (kE kb) % num (kN kb))))] ++ ([(qp, ial dA (padL (frontL (sHash b)) dg (kN kb).length))] ++ E9)) (⟨hI7, hK7, hs7⟩) (by rw [hfin]) rfl (by omega) (by omega) dX7_isTrue_186
            · refine lv_iconst (v := nI 1) hx hb dX7_isTrue_181 (by decide) ?_
              refine lv_goto (tgt := 186) hx hb dX7_isTrue_182 (by decide) ?_
              subst hQ
              have hfin : trueS msg b kb = true := by unfold trueS; rw [← hdg, c59, c109, decide_eq_true c97, decide_eq_true (show 0 < sEnd b by omega), show decide ((be (kN kb).length (num (sNum b) ^ num (kE kb) % num (kN kb))) = (padL (frontL (sHash b)) dg (kN kb).length)) = true from c178]; rfl
              have h : Wd D B s (mw dA h0 ad M7 ++ (F ++ (E ++ [(qr, ial dA (be (kN kb).length (num (sNum b) ^ num (kE kb) % num (kN kb))))] ++ ([(qp, ial dA (padL (frontL (sHash b)) dg (kN kb).length))] ++ E9)))) H locs := by
                simp only [List.append_assoc] at h ⊢; exact h
              refine n_top (y := bZ true) rfl ?_
              exact ret_z C hr hlocks h (M7, E ++ [(qr, ial dA (be (kN kb).length (num (sNum b) ^ num (kE kb) % num (kN kb))))] ++ ([(qp, ial dA (padL (frontL (sHash b)) dg (kN kb).length))] ++ E9)) (⟨hI7, hK7, hs7⟩) (by rw [hfin]) rfl (by omega) (by omega) dX7_isTrue_186
        refine lv_aload_n hx hb dX7_isTrue_121 rfl (lv_at hl 4 rfl) ?_
        refine m_gi C h 57 (by decide) rfl rfl q1927 (v := nI (sHash b)) hS6.2.1 dX7_isTrue_122 ?_
        refine lv_iconst (v := nI 2) hx hb dX7_isTrue_125 (by decide) ?_
        refine n_icmp_ne (tgt := 134) hx hb (by omega) (by omega) dX7_isTrue_126 (by decide) (fun c126 => ?_) (fun c126 => ?_)
        · refine lv_bipush (v := nI 19) hx hb dX7_isTrue_134 (by decide) ?_
          refine n_top (y := nI ((frontL (sHash b)).length)) (by rw [frontL_len, if_neg c126]) ?_
          exact jfr   _ _ h _ (lv_sub hl [0, 1, 2, 3, 4, 5, 6] rfl)
        · refine lv_bipush (v := nI 15) hx hb dX7_isTrue_129 (by decide) ?_
          refine lv_goto (tgt := 136) hx hb dX7_isTrue_131 (by decide) ?_
          refine n_top (y := nI ((frontL (sHash b)).length)) (by rw [frontL_len, if_pos c126]) ?_
          exact jfr   _ _ h _ (lv_sub hl [0, 1, 2, 3, 4, 5, 6] rfl)
      · refine lv_iconst (v := nI 0) hx hb dX7_isTrue_112 (by decide) ?_
        subst hQ
        have hfin : trueS msg b kb = false := by unfold trueS; first | (rw [← hdg, decide_eq_false c97, Bool.false_and, Bool.and_false]; rfl) | (rw [show belowL (sNum b) (kN kb) = false from c109, Bool.and_false, Bool.and_false]; rfl)
        refine n_top (y := bZ false) rfl ?_
        exact ret_z C hr hlocks h (M6, E) (⟨hI6, hK6, hs6⟩) (by rw [hfin]) rfl (by omega) (by omega) dX7_isTrue_113
  · refine lv_iconst (v := nI 0) hx hb dX7_isTrue_62 (by decide) ?_
    subst hQ
    have hfin : trueS msg b kb = false := by unfold trueS; rw [show keyOk kb false = false from c59]; rfl
    refine n_top (y := bZ false) rfl ?_
    exact ret_z C hr hlocks h (M6, E) (⟨hI6, hK6, hs6⟩) (by rw [hfin]) rfl (by omega) (by omega) dX7_isTrue_63
