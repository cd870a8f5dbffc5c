set_option maxRecDepth 100000
def oM (M : MS) (x54 : Int32) (x55 : Int32) : MS := sI (sI M 54 x54) 55 x55
theorem oM_id (M : MS) : oM M (mI M 54) (mI M 55) = M := MS.ext (by
    show upN (upN M.1 54 (M.1 54)) 55 (M.1 55) = M.1
    rw [upN_same M.1 54 _ rfl, upN_same M.1 55 _ rfl]) rfl rfl rfl rfl rfl
theorem oM_54 (M : MS) (x54 : Int32) (x55 : Int32) (y : Int32) : sI (oM M x54 x55) 54 y = oM M y x55 := MS.ext (by
    show upN (upN (upN M.1 54 x54) 55 x55) 54 y = upN (upN M.1 54 y) 55 x55
    rw [upN_comm _ _ _ (by decide : (55 : Nat) ≠ 54), upN_upN]) rfl rfl rfl rfl rfl
theorem oM_55 (M : MS) (x54 : Int32) (x55 : Int32) (y : Int32) : sI (oM M x54 x55) 55 y = oM M x54 y := MS.ext (by
    show upN (upN (upN M.1 54 x54) 55 x55) 55 y = upN (upN M.1 54 x54) 55 y
    rw [upN_upN]) rfl rfl rfl rfl rfl
theorem oM_re (M : MS) (x54 : Int32) (x55 : Int32) (y54 : Int32) (y55 : Int32) : oM (oM M x54 x55) y54 y55 = oM M y54 y55 := by
  show sI (sI (oM M x54 x55) 54 y54) 55 y55 = _
  rw [oM_54, oM_55]

/-- reading on: place, all right so far -/
abbrev OU : Type := Nat × Bool
def oneS (l : List Nat) (u : OU) : Nat × OU := if l.length ≤ u.1 then (0, (u.1, false)) else (gD l u.1, (u.1 + 1, u.2))
def someS (l : List Nat) : Nat → Nat → OU → Nat × OU
  | 0, v, u => (v, u)
  | n + 1, v, u => someS l n (v * 256 + (oneS l u).1) (oneS l u).2
def numS (l : List Nat) (u : OU) : List Nat × OU :=
  if l.length - (someS l 2 0 u).2.1 < ((someS l 2 0 u).1 + 7) / 8 then ([], ((someS l 2 0 u).2.1, false))
  else (sliceL l (someS l 2 0 u).2.1 (((someS l 2 0 u).1 + 7) / 8), ((someS l 2 0 u).2.1 + ((someS l 2 0 u).1 + 7) / 8, (someS l 2 0 u).2.2 && (decide (((someS l 2 0 u).1 + 7) / 8 = 0) || decide (bitsI (gD l (someS l 2 0 u).2.1) (((someS l 2 0 u).1 + 7) / 8) = nI (someS l 2 0 u).1))))
theorem oneS_lt {l : List Nat} (h : byt l) (u : OU) : (oneS l u).1 < 256 := by
  unfold oneS
  split
  · exact (by decide : 0 < 256)
  · exact byt_gD h _
theorem oneS_le {l : List Nat} {u : OU} (h : u.1 ≤ l.length) : (oneS l u).2.1 ≤ l.length ∧ u.1 ≤ (oneS l u).2.1 := by
  unfold oneS
  split
  · exact ⟨h, Nat.le_refl _⟩
  · exact ⟨by show u.1 + 1 ≤ _; omega, Nat.le_succ _⟩
theorem someS_ok {l : List Nat} (hb : byt l) : ∀ (n v k : Nat) (u : OU), u.1 ≤ l.length → v < 256 ^ k → (someS l n v u).1 < 256 ^ (k + n) ∧ (someS l n v u).2.1 ≤ l.length ∧ u.1 ≤ (someS l n v u).2.1 := by
  intro n
  induction n with
  | zero => intro v k u h hv; exact ⟨hv, h, Nat.le_refl _⟩
  | succ n ih =>
    intro v k u h hv
    have h1 := oneS_lt hb u
    have h2 := oneS_le h
    rw [someS]
    have h3 := ih (v * 256 + (oneS l u).1) (k + 1) (oneS l u).2 h2.1 (by rw [Nat.pow_succ]; omega)
    rw [show k + (n + 1) = k + 1 + n by omega]
    exact ⟨h3.1, h3.2.1, Nat.le_trans h2.2 h3.2.2⟩
theorem numS_ok {l : List Nat} (hb : byt l) (u : OU) (h : u.1 ≤ l.length) : (numS l u).2.1 ≤ l.length ∧ byt (numS l u).1 ∧ (numS l u).1.length ≤ l.length ∧ u.1 ≤ (numS l u).2.1 := by
  have h1 := someS_ok hb 2 0 0 u h (by decide)
  unfold numS
  split
  · exact ⟨h1.2.1, (fun x hx => absurd hx List.not_mem_nil), Nat.zero_le _, h1.2.2⟩
  · next q =>
    refine ⟨by show _ + _ ≤ _; omega, fun x hx => ?_, ?_, by show _ ≤ _ + _; omega⟩
    · exact hb x (List.mem_of_mem_drop (List.mem_of_mem_take hx))
    · show (sliceL _ _ _).length ≤ _
      rw [sliceL_len (by omega)]; omega

set_option maxHeartbeats 400000 in
set_option maxRecDepth 100000 in
theorem c7_one (l : Launch) (D : va_G) (dA : Nat → ClassId) (B : Nat) (Z : State → Prop) (hZ : Stab B Z) (h0 : Nat) (ad : Nat → Nat) (M : MS) (F : va_W) (oa : Nat) (lb : List Nat) (u : OU) (hof : mR M 53 = some oa) (hoF : (oa, ial dA lb) ∈ F) (hob : byt lb) (hol : lb.length ≤ 5000) (hu : u.1 ≤ lb.length) :
    Ct (S := Unit) l D dA B Z yX7_one cX7_one 1 (some .int) 1 0 0 [.ref h0] (mw dA h0 ad (oM M (nI u.1) (bZ u.2)) ++ F) (fun _ => True) (fun _ => some (.int (nI (oneS lb u).1))) (fun _ => mw dA h0 ad (oM M (nI (oneS lb u).2.1) (bZ (oneS lb u).2.2)) ++ F) := by
  refine Ct.mk2 (by decide) (Nat.le_of_ble_eq_true rfl) hZ ?_
  intro p e R s m args below meth c ls Q C hr hlocks hin hQ hl h
  have C0 := C
  obtain ⟨hx, hb, hml, hown, hts, -⟩ := C0
  have hl : lv_has ls 1 [(0, .ref h0)] := hl
  refine lv_aload_n hx hb dX7_one_0 rfl (lv_at hl 0 rfl) ?_
  refine m_gi C h 54 (by decide) rfl rfl q1924 (v := nI u.1) rfl dX7_one_1 ?_
  refine lv_aload_n hx hb dX7_one_4 rfl (lv_at hl 0 rfl) ?_
  refine m_gr C h 53 (by decide) rfl rfl q1923 (v := some oa) hof dX7_one_5 ?_
  refine n_alen C h (List.mem_append_right _ hoF) dX7_one_8 ?_
  refine n_icmp_lt (tgt := 19) hx hb (by omega) (by omega) dX7_one_9 (by decide) (fun c9 => ?_) (fun c9 => ?_)
  · refine lv_aload_n hx hb dX7_one_19 rfl (lv_at hl 0 rfl) ?_
    refine lv_dup hx hb dX7_one_20 rfl ?_
    refine m_gi C h 54 (by decide) rfl rfl q1924 (v := nI u.1) rfl dX7_one_21 ?_
    refine lv_iconst (v := nI 1) hx hb dX7_one_24 (by decide) ?_
    refine lv_iadd hx hb dX7_one_25 (n_top (y := nI (u.1 + 1)) (nI_add u.1 1) ?_)
    refine m_pi C h 54 (v := nI (u.1 + 1)) (by decide) rfl rfl rfl q1924 rfl rfl dX7_one_26 (fun H locs h => ?_)
    rw [oM_54] at h
    have h : Wd D B s (mw dA h0 ad (oM M (nI (u.1 + 1)) (bZ u.2)) ++ F) H locs := h
    refine lv_aload_n hx hb dX7_one_29 rfl (lv_at hl 0 rfl) ?_
    refine m_gr C h 53 (by decide) rfl rfl q1923 (v := some oa) hof dX7_one_30 ?_
    refine lv_aload_n hx hb dX7_one_33 rfl (lv_at hl 0 rfl) ?_
    refine m_gi C h 54 (by decide) rfl rfl q1924 (v := nI (u.1 + 1)) rfl dX7_one_34 ?_
    refine lv_iconst (v := nI 1) hx hb dX7_one_37 (by decide) ?_
    refine lv_isub hx hb dX7_one_38 (n_top (y := nI u.1) (by rw [pk_sub (by omega)]; congr 1) ?_)
    refine n_iald C h (v := (gD lb) u.1) (List.mem_append_right _ hoF) (show u.1 < lb.length by omega) (by omega) rfl dX7_one_39 ?_
    subst hQ
    exact ret_i C hr hlocks h () trivial (by unfold oneS; rw [if_neg (by omega)]) (by unfold oneS; rw [if_neg (by omega)]) (by omega) (by omega) dX7_one_40
  · refine lv_aload_n hx hb dX7_one_12 rfl (lv_at hl 0 rfl) ?_
    refine lv_iconst (v := bZ false) hx hb dX7_one_13 (by decide) ?_
    refine m_pi C h 55 (v := bZ false) (by decide) rfl rfl rfl q1925 (bZ_nar _) (bZ_fit _) dX7_one_14 (fun H locs h => ?_)
    rw [oM_55] at h
    have h : Wd D B s (mw dA h0 ad (oM M (nI u.1) (bZ false)) ++ F) H locs := h
    refine lv_iconst (v := nI 0) hx hb dX7_one_17 (by decide) ?_
    subst hQ
    exact ret_i C hr hlocks h () trivial (by unfold oneS; rw [if_pos c9]) (by unfold oneS; rw [if_pos c9]) (by omega) (by omega) dX7_one_18
set_option maxHeartbeats 400000 in
set_option maxRecDepth 100000 in
theorem c7_some (l : Launch) (D : va_G) (dA : Nat → ClassId) (B : Nat) (Z : State → Prop) (hZ : Stab B Z) (h0 : Nat) (ad : Nat → Nat) (M : MS) (F : va_W) (oa : Nat) (lb : List Nat) (u : OU) (n : Nat) (hof : mR M 53 = some oa) (hoF : (oa, ial dA lb) ∈ F) (hob : byt lb) (hol : lb.length ≤ 5000) (hu : u.1 ≤ lb.length) (hn : n ≤ 4) :
    Ct (S := Unit) l D dA B Z yX7_some cX7_some 5 (some .long) 2 0 0 [.ref h0, .int (nI n)] (mw dA h0 ad (oM M (nI u.1) (bZ u.2)) ++ F) (fun _ => True) (fun _ => some (.long (lN (someS lb n 0 u).1))) (fun _ => mw dA h0 ad (oM M (nI (someS lb n 0 u).2.1) (bZ (someS lb n 0 u).2.2)) ++ F) := by
  refine Ct.mk2 (by decide) (Nat.le_of_ble_eq_true rfl) hZ ?_
  intro p e R s m args below meth c ls Q C hr hlocks hin hQ hl h
  have C0 := C
  obtain ⟨hx, hb, hml, hown, hts, -⟩ := C0
  have hl : lv_has ls 5 [(0, .ref h0), (1, .int (nI n))] := hl
  refine lv_lconst (v := lN 0) hx hb dX7_some_0 (by decide) ?_
  refine lv_lstore_n (lv' := [(2, .long (lN 0)), (0, .ref h0), (1, .int (nI n))]) hx hb dX7_some_1 rfl hl (by decide) rfl (fun ls hl => ?_)
  refine lv_iconst (v := nI 0) hx hb dX7_some_2 (by decide) ?_
  refine lv_istore (lv' := [(4, .int (nI 0)), (2, .long (lN 0)), (0, .ref h0), (1, .int (nI n))]) hx hb dX7_some_3 hl (by decide) rfl (fun ls hl => ?_)
  have loop : ∀ (nn : Nat) (i v : Nat) (q : OU), (i ≤ n) → (someS lb n 0 u = someS lb (n - i) v q) → (q.1 ≤ lb.length) → n - i < nn → ∀ (H : Heap) (locs : List Loc), Wd D B s (mw dA h0 ad (oM M (nI q.1) (bZ q.2)) ++ F) H locs → ∀ (ls : Array Slot), lv_has ls 5 [(4, .int (nI i)), (2, .long (lN v)), (0, .ref h0), (1, .int (nI n))] → W p l e R s m args below meth c H locs 0 0 Q (F0 m 5 ls []) := by
    intro nn
    induction nn with
    | zero => intro i v  q  hi0 hi1 hi2 hme; exact absurd hme (Nat.not_lt_zero _)
    | succ nn ih =>
      intro i v  q  hi0 hi1 hi2 hme H locs h ls hl
      refine lv_iload hx hb dX7_some_5 (lv_at hl 0 rfl) ?_
      refine lv_iload_n hx hb dX7_some_7 rfl (lv_at hl 3 rfl) ?_
      refine n_icmp_ge (tgt := 29) hx hb (by omega) (by omega) dX7_some_8 (by decide) (fun c8 => ?_) (fun c8 => ?_)
      · refine lv_lload_n hx hb dX7_some_29 rfl (lv_at hl 1 rfl) ?_
        subst hQ
        have hfin : someS lb n 0 u = (v, q) := by rw [hi1, show n - i = 0 by omega]; rfl
        exact ret_l C hr hlocks h () trivial (by rw [hfin]) (by rw [hfin]) (by omega) (by omega) dX7_some_30
      · refine lv_lload_n hx hb dX7_some_11 rfl (lv_at hl 1 rfl) ?_
        refine lv_ldc2 hx hb hown (hts _ q2201) dX7_some_12 ?_
        refine n_topl (y := lN 256) (by decide) ?_
        refine lv_lmul hx hb dX7_some_15 (n_topl (y := lN (v * 256)) (lN_mul v 256) ?_)
        refine lv_aload_n hx hb dX7_some_16 rfl (lv_at hl 2 rfl) ?_
        refine call_V (As := []) (rest := [.long (lN (v * 256))]) (n := 0) C h (c7_one l D dA B Z hZ h0 ad M F oa lb q hof hoF hob hol hi2) (lw_V q2221 q2223 qs61 q138 q2224) (by decide +kernel) (ci := 5) rfl rfl mw_mem0 (by decide) (by decide) rfl hl rfl (Nat.le_of_ble_eq_true rfl) dX7_some_17 (by omega) (fun _ H locs _ h => ?_)
        have h1b := oneS_lt hob q
        refine lv_i2l (v := lN ((oneS lb q).1)) hx hb dX7_some_20 (nI_l (by omega)) ?_
        refine lv_ladd hx hb dX7_some_21 (n_topl (y := lN ((v * 256) + ((oneS lb q).1))) (lN_add (v * 256) ((oneS lb q).1)) ?_)
        refine lv_lstore_n (lv' := [(2, .long (lN ((v * 256) + ((oneS lb q).1)))), (4, .int (nI i)), (0, .ref h0), (1, .int (nI n))]) hx hb dX7_some_22 rfl hl (by decide) rfl (fun ls hl => ?_)
        refine lv_iinc (v := nI (i + 1)) (lv' := [(4, .int (nI (i + 1))), (2, .long (lN ((v * 256) + ((oneS lb q).1)))), (0, .ref h0), (1, .int (nI n))]) hx hb dX7_some_23 hl (k := 1) rfl (nI_add i 1) (by decide) rfl (fun ls hl => ?_)
        refine lv_goto (tgt := 5) hx hb dX7_some_26 (by decide) ?_
        exact ih (i + 1) _ _ (by omega) (by rw [hi1, show n - i = n - (i + 1) + 1 by omega, someS]) ((oneS_le hi2).1) (by omega) _ _ h _ (lv_sub hl [0, 1, 2, 3] rfl)
  exact loop _ 0 0 u (by omega) rfl hu (Nat.lt_succ_self _) _ _ h _ (lv_sub hl [0, 1, 2, 3] rfl)
set_option maxHeartbeats 400000 in
set_option maxRecDepth 100000 in
theorem c7_numberOf (l : Launch) (D : va_G) (dA : Nat → ClassId) (B : Nat) (Z : State → Prop) (hZ : Stab B Z) (h0 : Nat) (ad : Nat → Nat) (M : MS) (F : va_W) (oa : Nat) (lb : List Nat) (u : OU) (hof : mR M 53 = some oa) (hoF : (oa, ial dA lb) ∈ F) (hob : byt lb) (hol : lb.length ≤ 5000) (hu : u.1 ≤ lb.length) :
    Ct (S := Nat) l D dA B Z yX7_numberOf cX7_numberOf 4 (some ((.array .int))) 3 1 lb.length [.ref h0] (mw dA h0 ad (oM M (nI u.1) (bZ u.2)) ++ F) (fun _ => True) (fun q => some (.ref q)) (fun q => mw dA h0 ad (oM M (nI (numS lb u).2.1) (bZ (numS lb u).2.2)) ++ (F ++ [(q, ial dA (numS lb u).1)])) := by
  refine Ct.mk2 (by decide) (Nat.le_of_ble_eq_true rfl) hZ ?_
  intro p e R s m args below meth c ls Q C hr hlocks hin hQ hl h
  have C0 := C
  obtain ⟨hx, hb, hml, hown, hts, -⟩ := C0
  have hl : lv_has ls 4 [(0, .ref h0)] := hl
  refine lv_aload_n hx hb dX7_numberOf_0 rfl (lv_at hl 0 rfl) ?_
  refine lv_iconst (v := nI 2) hx hb dX7_numberOf_1 (by decide) ?_
  refine call_V (As := [.int (nI 2)]) (rest := []) (n := 1) C h (c7_some l D dA B Z hZ h0 ad M F oa lb u 2 hof hoF hob hol hu (by decide)) (lw_V q2225 q2227 qs62 q138 q2228) (by decide +kernel) (ci := 5) rfl rfl mw_mem0 (by decide) (by decide) rfl hl rfl (Nat.le_of_ble_eq_true rfl) dX7_numberOf_2 (by omega) (fun _ H locs _ h => ?_)
  have hs := someS_ok hob 2 0 0 u hu (by decide)
  obtain ⟨bi, v, hbv⟩ : ∃ bi v, someS lb 2 0 u = (bi, v) := ⟨_, _, rfl⟩
  rw [hbv] at hs h ⊢
  obtain ⟨hs1, hs2, hs3⟩ := hs
  have hs1 : bi < 65536 := hs1
  have hs2 : v.1 ≤ lb.length := hs2
  show W p l e R s m args below meth c H locs (0 + 0) (0 + 0) Q (F0 m 5 ls [.long (lN bi)])
  have h : Wd D B s (mw dA h0 ad (oM M (nI v.1) (bZ v.2)) ++ F) H locs := h
  refine lv_l2i (v := nI bi) hx hb dX7_numberOf_5 (lN_i _) ?_
  refine lv_istore_n (lv' := [(1, .int (nI bi)), (0, .ref h0)]) hx hb dX7_numberOf_6 rfl hl (by decide) rfl (fun ls hl => ?_)
  refine lv_iload_n hx hb dX7_numberOf_7 rfl (lv_at hl 0 rfl) ?_
  refine lv_bipush (v := nI 7) hx hb dX7_numberOf_8 (by decide) ?_
  refine lv_iadd hx hb dX7_numberOf_10 (n_top (y := nI (bi + 7)) (nI_add bi 7) ?_)
  refine lv_bipush (v := nI 8) hx hb dX7_numberOf_11 (by decide) ?_
  refine lv_idiv hx hb dX7_numberOf_13 (by decide) (n_top (y := nI ((bi + 7) / 8)) (pk_div (by omega) (by omega) (by omega)) ?_)
  refine lv_istore_n (lv' := [(2, .int (nI ((bi + 7) / 8))), (1, .int (nI bi)), (0, .ref h0)]) hx hb dX7_numberOf_14 rfl hl (by decide) rfl (fun ls hl => ?_)
  refine lv_iload_n hx hb dX7_numberOf_15 rfl (lv_at hl 0 rfl) ?_
  refine lv_aload_n hx hb dX7_numberOf_16 rfl (lv_at hl 2 rfl) ?_
  refine m_gr C h 53 (by decide) rfl rfl q1923 (v := some oa) hof dX7_numberOf_17 ?_
  refine n_alen C h (List.mem_append_right _ hoF) dX7_numberOf_20 ?_
  refine lv_aload_n hx hb dX7_numberOf_21 rfl (lv_at hl 2 rfl) ?_
  refine m_gi C h 54 (by decide) rfl rfl q1924 (v := nI v.1) rfl dX7_numberOf_22 ?_
  refine lv_isub hx hb dX7_numberOf_25 (n_top (y := nI (lb.length - v.1)) (pk_sub (by omega)) ?_)
  refine n_icmp_le (tgt := 38) hx hb (by omega) (by omega) dX7_numberOf_26 (by decide) (fun c26 => ?_) (fun c26 => ?_)
  · refine lv_aload_n hx hb dX7_numberOf_38 rfl (lv_at hl 2 rfl) ?_
    refine m_gr C h 53 (by decide) rfl rfl q1923 (v := some oa) hof dX7_numberOf_39 ?_
    refine lv_aload_n hx hb dX7_numberOf_42 rfl (lv_at hl 2 rfl) ?_
    refine m_gi C h 54 (by decide) rfl rfl q1924 (v := nI v.1) rfl dX7_numberOf_43 ?_
    refine lv_iload_n hx hb dX7_numberOf_46 rfl (lv_at hl 0 rfl) ?_
    refine call_S (As := [.ref oa, .int (nI v.1), .int (nI ((bi + 7) / 8))]) (rest := []) (n := 3) C h (c7_part l D dA B Z hZ _ oa lb.length (gD lb) v.1 ((bi + 7) / 8) (List.mem_append_right _ hoF) (by omega) (by omega)) (lw_S q2208 q2209 q138 q2210) (by decide +kernel) (by decide) (by decide) rfl hl rfl (Nat.le_of_ble_eq_true rfl) dX7_numberOf_47 (by omega) (fun q9 H locs _ h => ?_)
    rw [List.append_assoc, ← sliceL_sl (by omega)] at h
    refine lv_astore_n (lv' := [(3, .ref q9), (2, .int (nI ((bi + 7) / 8))), (1, .int (nI bi)), (0, .ref h0)]) hx hb dX7_numberOf_50 rfl hl (by decide) rfl (fun ls hl => ?_)
    refine lv_aload_n hx hb dX7_numberOf_51 rfl (lv_at hl 3 rfl) ?_
    refine lv_aload_n hx hb dX7_numberOf_52 rfl (lv_at hl 3 rfl) ?_
    refine m_gi C h 54 (by decide) rfl rfl q1924 (v := nI v.1) rfl dX7_numberOf_53 ?_
    refine lv_iload_n hx hb dX7_numberOf_56 rfl (lv_at hl 1 rfl) ?_
    refine lv_iadd hx hb dX7_numberOf_57 (n_top (y := nI (v.1 + ((bi + 7) / 8))) (nI_add v.1 ((bi + 7) / 8)) ?_)
    refine m_pi C h 54 (v := nI (v.1 + ((bi + 7) / 8))) (by decide) rfl rfl rfl q1924 rfl rfl dX7_numberOf_58 (fun H locs h => ?_)
    rw [oM_54] at h
    have h : Wd D B s (mw dA h0 ad (oM M (nI (v.1 + ((bi + 7) / 8))) (bZ v.2)) ++ (F ++ [(q9, ial dA (sliceL lb v.1 ((bi + 7) / 8)))])) H locs := h
    refine lv_aload_n hx hb dX7_numberOf_61 rfl (lv_at hl 3 rfl) ?_
    have hsl := sliceL_len (l := lb) (a := v.1) (n := (bi + 7) / 8) (by omega)
    have jr : ∀ (H : Heap) (locs : List Loc), Wd D B s (mw dA h0 ad (oM M (nI (v.1 + ((bi + 7) / 8))) (bZ v.2)) ++ (F ++ [(q9, ial dA (sliceL lb v.1 ((bi + 7) / 8)))])) H locs → ∀ (ls : Array Slot), lv_has ls 4 [(3, .ref q9), (2, .int (nI ((bi + 7) / 8))), (1, .int (nI bi)), (0, .ref h0)] → W p l e R s m args below meth c H locs (0 + 0 + 1) (0 + 0 + ((bi + 7) / 8)) Q (F0 m 86 ls [.int (bZ (v.2 && (decide ((bi + 7) / 8 = 0) || decide (bitsI (gD lb v.1) ((bi + 7) / 8) = nI bi)))), .ref h0]) := by
      intro   H locs h ls hl
      refine m_pi C h 55 (v := bZ (v.2 && (decide ((bi + 7) / 8 = 0) || decide (bitsI (gD lb v.1) ((bi + 7) / 8) = nI bi)))) (by decide) rfl rfl rfl q1925 (bZ_nar _) (bZ_fit _) dX7_numberOf_86 (fun H locs h => ?_)
      rw [oM_55] at h
      have h : Wd D B s (mw dA h0 ad (oM M (nI (v.1 + ((bi + 7) / 8))) (bZ (v.2 && (decide ((bi + 7) / 8 = 0) || decide (bitsI (gD lb v.1) ((bi + 7) / 8) = nI bi))))) ++ (F ++ [(q9, ial dA (sliceL lb v.1 ((bi + 7) / 8)))])) H locs := h
      refine lv_aload_n hx hb dX7_numberOf_89 rfl (lv_at hl 0 rfl) ?_
      subst hQ
      have hfin : numS lb u = (sliceL lb v.1 ((bi + 7) / 8), (v.1 + (bi + 7) / 8, (v.2 && (decide ((bi + 7) / 8 = 0) || decide (bitsI (gD lb v.1) ((bi + 7) / 8) = nI bi))))) := by unfold numS; rw [hbv]; exact if_neg (by show ¬ lb.length - v.1 < (bi + 7) / 8; omega)
      exact ret_a C hr (Or.inr ⟨_, rfl⟩) hlocks h q9 trivial (Or.inr ⟨_, rfl⟩) rfl (by rw [hfin]) (by omega) (by omega) dX7_numberOf_90
    refine lv_aload_n hx hb dX7_numberOf_62 rfl (lv_at hl 3 rfl) ?_
    refine m_gi C h 55 (by decide) rfl rfl q1925 (v := bZ v.2) rfl dX7_numberOf_63 ?_
    refine z_if_eq (tgt := 85) hx hb dX7_numberOf_66 (by decide) (fun c66 => ?_) (fun c66 => ?_)
    · refine lv_iconst (v := nI 0) hx hb dX7_numberOf_85 (by decide) ?_
      refine n_top (y := bZ (v.2 && (decide ((bi + 7) / 8 = 0) || decide (bitsI (gD lb v.1) ((bi + 7) / 8) = nI bi)))) (by simp [*]; try rfl) ?_
      exact jr   _ _ h _ (lv_sub hl [0, 1, 2, 3] rfl)
    · refine lv_iload_n hx hb dX7_numberOf_69 rfl (lv_at hl 1 rfl) ?_
      refine n_if_eq (tgt := 81) hx hb (by omega) dX7_numberOf_70 (by decide) (fun c70 => ?_) (fun c70 => ?_)
      · refine lv_iconst (v := nI 1) hx hb dX7_numberOf_81 (by decide) ?_
        refine lv_goto (tgt := 86) hx hb dX7_numberOf_82 (by decide) ?_
        refine n_top (y := bZ (v.2 && (decide ((bi + 7) / 8 = 0) || decide (bitsI (gD lb v.1) ((bi + 7) / 8) = nI bi)))) (by simp [*]; try rfl) ?_
        exact jr   _ _ h _ (lv_sub hl [0, 1, 2, 3] rfl)
      · refine lv_aload_n hx hb dX7_numberOf_73 rfl (lv_at hl 0 rfl) ?_
        refine call_S (As := [.ref q9]) (rest := [.ref h0]) (n := 1) C h (c7_bitsOf l D dA B Z hZ _ q9 (sliceL lb v.1 ((bi + 7) / 8)).length (gD (sliceL lb v.1 ((bi + 7) / 8))) (mem_last [] _) (by omega) (by omega) (byt_gD (fun x hx => hob x (List.mem_of_mem_drop (List.mem_of_mem_take hx))) 0)) (lw_S q2233 q2234 q138 q2235) (by decide +kernel) (by decide) (by decide) rfl hl rfl (Nat.le_of_ble_eq_true rfl) dX7_numberOf_74 (by omega) (fun _ H locs _ h => ?_)
        refine n_top (y := bitsI (gD lb v.1) ((bi + 7) / 8)) (by
          rw [hsl, sliceL_sl (by omega)]; congr 1
          show (sl _ _ _).getD 0 0 = _
          rw [sl_getD (by omega), Nat.add_zero]) ?_
        refine lv_iload_n hx hb dX7_numberOf_77 rfl (lv_at hl 2 rfl) ?_
        refine lv_icmp_ne (tgt := 85) hx hb dX7_numberOf_78 (by decide) (fun c78 => ?_) (fun c78 => ?_)
        · refine lv_iconst (v := nI 0) hx hb dX7_numberOf_85 (by decide) ?_
          refine n_top (y := bZ (v.2 && (decide ((bi + 7) / 8 = 0) || decide (bitsI (gD lb v.1) ((bi + 7) / 8) = nI bi)))) (by simp [*]; try rfl) ?_
          exact jr   _ _ h _ (lv_sub hl [0, 1, 2, 3] rfl)
        · refine lv_iconst (v := nI 1) hx hb dX7_numberOf_81 (by decide) ?_
          refine lv_goto (tgt := 86) hx hb dX7_numberOf_82 (by decide) ?_
          refine n_top (y := bZ (v.2 && (decide ((bi + 7) / 8 = 0) || decide (bitsI (gD lb v.1) ((bi + 7) / 8) = nI bi)))) (by simp [*]; try rfl) ?_
          exact jr   _ _ h _ (lv_sub hl [0, 1, 2, 3] rfl)
  · refine lv_aload_n hx hb dX7_numberOf_29 rfl (lv_at hl 2 rfl) ?_
    refine lv_iconst (v := bZ false) hx hb dX7_numberOf_30 (by decide) ?_
    refine m_pi C h 55 (v := bZ false) (by decide) rfl rfl rfl q1925 (bZ_nar _) (bZ_fit _) dX7_numberOf_31 (fun H locs h => ?_)
    rw [oM_55] at h
    have h : Wd D B s (mw dA h0 ad (oM M (nI v.1) (bZ false)) ++ F) H locs := h
    refine lv_iconst (v := nI 0) hx hb dX7_numberOf_34 (by decide) ?_
    refine n_newa C h (n := 0) (by omega) (by omega) (by omega) dX7_numberOf_35 (fun q1 H h => ?_)
    have h : Wd D B s (mw dA h0 ad (oM M (nI v.1) (bZ false)) ++ (F ++ [(q1, iar dA 0 (fun _ => 0))])) H locs := by simpa only [List.append_assoc] using h
    subst hQ
    have hfin : numS lb u = ([], (v.1, false)) := by unfold numS; rw [hbv]; exact if_pos (by omega)
    have e0 : iar dA 0 (fun _ => 0) = ial dA [] := by
      unfold ial; congr 1
    rw [e0] at h
    exact ret_a C hr (Or.inr ⟨_, rfl⟩) hlocks h q1 trivial (Or.inr ⟨_, rfl⟩) rfl (by rw [hfin]) (by omega) (by omega) dX7_numberOf_37
