set_option maxRecDepth 100000
def dM (M : MS) (x13 : Nat → Nat) (x14 : Nat → Option Nat) (x15 : Nat → Option Nat) : MS := sA (sA (sG M 13 x13) 14 x14) 15 x15
theorem dM_id (M : MS) : dM M (mG M 13) (mA M 14) (mA M 15) = M := MS.ext rfl rfl rfl (by
    show upN M.2.2.2.1 13 (M.2.2.2.1 13) = M.2.2.2.1
    rw [upN_same M.2.2.2.1 13 _ rfl]) rfl (by
    show upN (upN M.2.2.2.2.2 14 (M.2.2.2.2.2 14)) 15 (M.2.2.2.2.2 15) = M.2.2.2.2.2
    rw [upN_same M.2.2.2.2.2 14 _ rfl, upN_same M.2.2.2.2.2 15 _ rfl])
theorem dM_13 (M : MS) (x13 : Nat → Nat) (x14 : Nat → Option Nat) (x15 : Nat → Option Nat) (y : Nat → Nat) : sG (dM M x13 x14 x15) 13 y = dM M y x14 x15 := MS.ext rfl rfl rfl (by
    show upN (upN M.2.2.2.1 13 x13) 13 y = upN M.2.2.2.1 13 y
    rw [upN_upN]) rfl rfl
theorem dM_14 (M : MS) (x13 : Nat → Nat) (x14 : Nat → Option Nat) (x15 : Nat → Option Nat) (y : Nat → Option Nat) : sA (dM M x13 x14 x15) 14 y = dM M x13 y x15 := MS.ext rfl rfl rfl rfl rfl (by
    show upN (upN (upN M.2.2.2.2.2 14 x14) 15 x15) 14 y = upN (upN M.2.2.2.2.2 14 y) 15 x15
    rw [upN_comm _ _ _ (by decide : (15 : Nat) ≠ 14), upN_upN])
theorem dM_15 (M : MS) (x13 : Nat → Nat) (x14 : Nat → Option Nat) (x15 : Nat → Option Nat) (y : Nat → Option Nat) : sA (dM M x13 x14 x15) 15 y = dM M x13 x14 y := MS.ext rfl rfl rfl rfl rfl (by
    show upN (upN (upN M.2.2.2.2.2 14 x14) 15 x15) 15 y = upN (upN M.2.2.2.2.2 14 x14) 15 y
    rw [upN_upN])
theorem dM_re (M : MS) (x13 : Nat → Nat) (x14 : Nat → Option Nat) (x15 : Nat → Option Nat) (y13 : Nat → Nat) (y14 : Nat → Option Nat) (y15 : Nat → Option Nat) : dM (dM M x13 x14 x15) y13 y14 y15 = dM M y13 y14 y15 := by
  show sA (sA (sG (dM M x13 x14 x15) 13 y13) 14 y14) 15 y15 = _
  rw [dM_13, dM_14, dM_15]

theorem pk_body {dA : Nat → ClassId} {F : va_W} {o : Option Nat} {b : List Nat} (h : refIs dA F o (some b)) : ∃ a, o = some a ∧ (a, ial dA b) ∈ F := h
/-- packets in a row, as they go out -/
def xpS (L : List PK) (q : Nat) : Nat → List Nat
  | 0 => []
  | i + 1 => xpS L q i ++ (match L[q + i]? with | none => [] | some x => pktB x.1 x.2.1)
theorem xpS_s {L : List PK} {q i : Nat} {x : PK} (h : L[q + i]? = some x) : xpS L q (i + 1) = xpS L q i ++ pktB x.1 x.2.1 := by rw [xpS, h]
theorem xpS_byt {L : List PK} (hP : PKs L) (q i : Nat) : byt (xpS L q i) := by
  induction i with
  | zero => intro x hx; cases hx
  | succ i ih =>
    rw [xpS]
    refine byt_app ih ?_
    cases h : L[q + i]? with
    | none => intro x hx; cases hx
    | some x =>
      have ho := hP.at h
      have hk : x.1 < 64 := by
        rcases ho.2.2.2.2.2.2 with e | e | e | e <;> rw [e] <;> decide
      exact pktB_byt hk ho.2.1 (Nat.lt_of_le_of_lt ho.2.2.1 (by decide))
/-- thrown, told, and the out, by export -/
def xptS (L : List PK) (ou : List Nat) (x : Int32) : Nat × Nat × List Nat := match placeS L x with
  | none => (1, 0, ou)
  | some q => (0, (xpS L q (sk (notK 6) L (q + 1) - q)).length, xpS L q (sk (notK 6) L (q + 1) - q))
theorem xptS_n {L : List PK} {ou : List Nat} {x : Int32} (h : placeS L x = none) : xptS L ou x = (1, 0, ou) := by unfold xptS; rw [h]
theorem xptS_s {L : List PK} {ou : List Nat} {x : Int32} {q : Nat} (h : placeS L x = some q) : xptS L ou x = (0, (xpS L q (sk (notK 6) L (q + 1) - q)).length, xpS L q (sk (notK 6) L (q + 1) - q)) := by unfold xptS; rw [h]
theorem MSt.outq {dA : Nat → ClassId} {F : va_W} {ad : Nat → Nat} {M : MS} {tp dc ou : List Nat} {L : List PK} (h : MSt dA F ad M tp dc ou L) (v : Int32) {l : List Nat} (hb : byt l) (hl : l.length ≤ 59000) : MSt dA F ad (apM (sI (sI M 0 v) 10 (nI 0)) 11 10 0 l) tp dc l L :=
  ⟨h.1, h.2.1, ⟨by rw [show l.length = 0 + l.length by rw [Nat.zero_add]]; rfl, app_get0, hb, hl⟩, h.2.2.2⟩
theorem sk_ge {P : PK → Bool} {L : List PK} {q : Nat} : q ≤ sk P L q := Nat.le_add_right _ _
/-- shifted down by n from q on, for i places -/
def shF {α : Type} (q n i : Nat) (g : Nat → α) : Nat → α := fun j => if q ≤ j ∧ j < q + i then g (j + n) else g j
theorem shF_0 {α : Type} (q n : Nat) (g : Nat → α) : shF q n 0 g = g := by funext j; unfold shF; rw [if_neg (by omega)]
theorem shF_r {α : Type} (q n i : Nat) (g : Nat → α) : shF q n i g (q + i + n) = g (q + i + n) := by
  unfold shF
  split
  · next h => rw [show n = 0 by omega]
  · rfl
theorem shF_s {α : Type} (q n i : Nat) (g : Nat → α) : upN (shF q n i g) (q + i) (g (q + i + n)) = shF q n (i + 1) g := by
  funext j
  rw [upN_if]
  unfold shF
  by_cases h : j = q + i
  · subst h; rw [if_pos rfl, if_pos (by omega)]
  · rw [if_neg h]
    by_cases h2 : q ≤ j ∧ j < q + i
    · rw [if_pos h2, if_pos (by omega)]
    · rw [if_neg h2, if_neg (by omega)]
def cutL (L : List PK) (q n : Nat) : List PK := L.take q ++ L.drop (q + n)
theorem cutL_get {L : List PK} {q n j : Nat} (hq : q + n ≤ L.length) : (cutL L q n)[j]? = if j < q then L[j]? else L[j + n]? := by
  unfold cutL
  have hl : (L.take q).length = q := by rw [List.length_take]; omega
  by_cases h : j < q
  · rw [if_pos h, List.getElem?_append_left (by rw [hl]; exact h), List.getElem?_take_of_lt h]
  · rw [if_neg h, List.getElem?_append_right (by rw [hl]; omega), hl, List.getElem?_drop]
    congr 1; omega
theorem cutL_len {L : List PK} {q n : Nat} (hq : q + n ≤ L.length) : (cutL L q n).length = L.length - n := by
  unfold cutL
  rw [List.length_append, List.length_take, List.length_drop]; omega
theorem cutL_mem {L : List PK} {q n : Nat} {x : PK} (h : x ∈ cutL L q n) : x ∈ L := (List.mem_append.mp h).elim List.mem_of_mem_take List.mem_of_mem_drop
theorem RingAt.cut {dA : Nat → ClassId} {F : va_W} {M M' : MS} {k b c : Nat} {L : List PK} (h : RingAt dA F M k b c L) {q n : Nat} (hq : q + n ≤ L.length) (h1 : mG M' k = shF q n (L.length - n - q) (mG M k)) (h2 : mA M' b = shF q n (L.length - n - q) (mA M b)) (h3 : mA M' c = shF q n (L.length - n - q) (mA M c)) : RingAt dA F M' k b c (cutL L q n) := by
  intro j p hj
  have hjl : j < L.length - n := by
    have := (List.getElem?_eq_some_iff.mp hj).1
    rwa [cutL_len hq] at this
  rw [cutL_get hq] at hj
  rw [h1, h2, h3]
  unfold shF
  by_cases hs : j < q
  · rw [if_pos hs] at hj
    rw [if_neg (by omega), if_neg (by omega), if_neg (by omega)]; exact h j p hj
  · rw [if_neg hs] at hj
    rw [if_pos (by omega), if_pos (by omega), if_pos (by omega)]; exact h (j + n) p hj
/-- thrown, told, and the ring, by drop -/
def dropS (L : List PK) (x : Int32) : Nat × Nat × List PK := match placeS L x with
  | none => (1, 0, L)
  | some q => (0, cntF (cutL L q (sk (notK 6) L (q + 1) - q)) 6 (cutL L q (sk (notK 6) L (q + 1) - q)).length 0, cutL L q (sk (notK 6) L (q + 1) - q))
theorem dropS_n {L : List PK} {x : Int32} (h : placeS L x = none) : dropS L x = (1, 0, L) := by unfold dropS; rw [h]
theorem dropS_s {L : List PK} {x : Int32} {q : Nat} (h : placeS L x = some q) : dropS L x = (0, cntF (cutL L q (sk (notK 6) L (q + 1) - q)) 6 (cutL L q (sk (notK 6) L (q + 1) - q)).length 0, cutL L q (sk (notK 6) L (q + 1) - q)) := by unfold dropS; rw [h]
theorem MSt.ring {dA : Nat → ClassId} {F : va_W} {ad : Nat → Nat} {M : MS} {tp dc ou : List Nat} {L L' : List PK} (h : MSt dA F ad M tp dc ou L) {v w : Int32} {g1 : Nat → Nat} {g2 g3 : Nat → Option Nat} (hw : w = nI L'.length) (hP : PKs L') (hr : RingAt dA F (dM (sI (sI M 0 v) 12 w) g1 g2 g3) 13 14 15 L') : MSt dA F ad (dM (sI (sI M 0 v) 12 w) g1 g2 g3) tp dc ou L' :=
  ⟨h.1, h.2.1, h.2.2.1, ⟨hr, hw, hP⟩, h.2.2.2.2⟩
/-- thrown and told by key -/
def keyV (L : List PK) (q : Nat) (kx : PK) (k : Nat) : Int64 :=
  if k = 0 then lN (kMade kx.2.1) else if k = 1 then (bitsI (gD (kN kx.2.1) 0) (kN kx.2.1).length).toInt64
  else if k = 2 then lN (cntF L 13 (sk (notK 6) L (q + 1) - (q + 1)) (q + 1)) else if k = 3 then lN (cntF L 14 (sk (notK 6) L (q + 1) - (q + 1)) (q + 1))
  else if k = 4 then lN (cntF L 2 (sk (notK 6) L (q + 1) - (q + 1)) (q + 1)) else if kx.2.2 = none then lN 0 else lN 1
def keyS (L : List PK) (x y : Int32) : Nat × Int64 := match placeS L x with
  | none => (1, lN 0)
  | some q => if y < 0 ∨ nI 5 < y then (1, lN 0) else (0, match L[q]? with | none => lN 0 | some kx => keyV L q kx y.toInt.toNat)
theorem keyS_n {L : List PK} {x y : Int32} (h : placeS L x = none) : keyS L x y = (1, lN 0) := by unfold keyS; rw [h]
theorem keyS_b {L : List PK} {x y : Int32} {q : Nat} (h : placeS L x = some q) (hy : y < 0 ∨ nI 5 < y) : keyS L x y = (1, lN 0) := by unfold keyS; rw [h]; exact if_pos hy
theorem keyS_s {L : List PK} {x y : Int32} {q k : Nat} {kx : PK} (h : placeS L x = some q) (h1 : ¬ y < 0) (h2 : ¬ nI 5 < y) (hk : y.toInt.toNat = k) (hq : L[q]? = some kx) : keyS L x y = (0, keyV L q kx k) := by
  unfold keyS; rw [h]
  refine (if_neg (fun z => z.elim h1 h2)).trans ?_
  rw [hq, hk]

set_option maxHeartbeats 400000 in
set_option maxRecDepth 100000 in
theorem c7_export (l : Launch) (D : va_G) (dA : Nat → ClassId) (B : Nat) (Z : State → Prop) (hZ : Stab B Z) (h0 : Nat) (ad : Nat → Nat) (M : MS) (F : va_W) (tp dc ou : List Nat) (L : List PK) (x : Int32) (hS : MSt dA F ad M tp dc ou L) (hLl : L.length ≤ 4650) (hxp : ∀ q i, (xpS L q i).length ≤ 59000) :
    Ct (S := MS) l D dA B Z yX7_export cX7_export 5 (some .int) 5 0 0 [.ref h0, .int x] (mw dA h0 ad M ++ F) (fun u => MSt dA F ad u tp dc ((xptS L ou x).2.2) L ∧ mI u 0 = nI (xptS L ou x).1) (fun _ => some (.int (nI (xptS L ou x).2.1))) (fun u => mw dA h0 ad u ++ F) := by
  refine Ct.mk2 (by decide) (Nat.le_of_ble_eq_true rfl) hZ ?_
  intro p e R s m args below meth c ls Q C hr hlocks hin hQ hl h
  have C0 := C
  obtain ⟨hx, hb, hml, hown, hts, -⟩ := C0
  have hl : lv_has ls 5 [(0, .ref h0), (1, .int x)] := hl
  have hR : CurR dA F ad M L := hS.cur
  have hPK := hS.2.2.2.1.2.2
  have hpl : ∀ i, placeS L x = some i → i < 100000 := by
    intro i9 hi9
    obtain ⟨kx8, h8, _⟩ := placeS_k hi9
    have := (List.getElem?_eq_some_iff.mp h8).1
    omega
  refine lv_aload_n hx hb dX7_export_0 rfl (lv_at hl 0 rfl) ?_
  refine lv_iload_n hx hb dX7_export_1 rfl (lv_at hl 1 rfl) ?_
  refine call_V (As := [.int x]) (rest := []) (n := 1) C h (c7_placeOf l D dA B Z hZ h0 ad M F L x hR hPK hLl) (lw_V q2504 q2506 qs115 q138 q2507) (by decide +kernel) (ci := 5) rfl rfl mw_mem0 (by decide) (by decide) rfl hl rfl (Nat.le_of_ble_eq_true rfl) dX7_export_2 (by omega) (fun _ H locs _ h => ?_)
  refine lv_istore_n (lv' := [(2, .int (oI (placeS L x))), (0, .ref h0), (1, .int x)]) hx hb dX7_export_5 rfl hl (by decide) rfl (fun ls hl => ?_)
  refine lv_aload_n hx hb dX7_export_6 rfl (lv_at hl 1 rfl) ?_
  refine lv_iload_n hx hb dX7_export_7 rfl (lv_at hl 0 rfl) ?_
  refine lv_iconst (v := -1) hx hb dX7_export_8 (by decide) ?_
  refine lv_icmp_ne (tgt := 16) hx hb dX7_export_9 (by decide) (fun c9 => ?_) (fun c9 => ?_)
  · obtain ⟨q, hq⟩ : ∃ z, placeS L x = some z := by
      cases q9 : placeS L x with
      | none => rw [q9] at c9; exact absurd rfl c9
      | some z => exact ⟨z, rfl⟩
    obtain ⟨kx, hkx, hk6⟩ := placeS_k hq
    have hql := (List.getElem?_eq_some_iff.mp hkx).1
    have hU := xptS_s (ou := ou) hq
    have hl : lv_has ls 5 [(2, .int (nI q)), (0, .ref h0), (1, .int x)] := by rw [hq] at hl; exact hl
    refine lv_iconst (v := nI 0) hx hb dX7_export_16 (by decide) ?_
    refine m_pi C h 0 (v := nI 0) (by decide) rfl rfl rfl q1870 rfl rfl dX7_export_17 (fun H locs h => ?_)
    refine lv_aload_n hx hb dX7_export_20 rfl (lv_at hl 1 rfl) ?_
    refine m_gi C h 0 (by decide) rfl rfl q1870 (v := nI 0) rfl dX7_export_21 ?_
    refine n_if_le (tgt := 29) hx hb (by omega) dX7_export_24 (by decide) (fun c24 => ?_) (fun c24 => by exfalso; omega)
    refine lv_aload_n hx hb dX7_export_29 rfl (lv_at hl 1 rfl) ?_
    refine lv_iconst (v := nI 0) hx hb dX7_export_30 (by decide) ?_
    refine m_pi C h 10 (v := nI 0) (by decide) rfl rfl rfl q1880 rfl rfl dX7_export_31 (fun H locs h => ?_)
    refine lv_aload_n hx hb dX7_export_34 rfl (lv_at hl 1 rfl) ?_
    refine lv_iload_n hx hb dX7_export_35 rfl (lv_at hl 0 rfl) ?_
    refine call_V (As := [.int (nI q)]) (rest := []) (n := 1) C h (c7_lastOf l D dA B Z hZ h0 ad (sI (sI M 0 (nI 0)) 10 (nI 0)) F L q hR hPK hLl hql) (lw_V q2476 q2478 qs110 q138 q2479) (by decide +kernel) (ci := 5) rfl rfl mw_mem0 (by decide) (by decide) rfl hl rfl (Nat.le_of_ble_eq_true rfl) dX7_export_36 (by omega) (fun _ H locs _ h => ?_)
    refine lv_istore_n (lv' := [(3, .int (nI (sk (notK 6) L (q + 1)))), (2, .int (nI q)), (0, .ref h0), (1, .int x)]) hx hb dX7_export_39 rfl hl (by decide) rfl (fun ls hl => ?_)
    refine lv_iload_n hx hb dX7_export_40 rfl (lv_at hl 1 rfl) ?_
    refine lv_istore (lv' := [(4, .int (nI q)), (3, .int (nI (sk (notK 6) L (q + 1)))), (2, .int (nI q)), (0, .ref h0), (1, .int x)]) hx hb dX7_export_41 hl (by decide) rfl (fun ls hl => ?_)
    have hsk := sk_ge (P := notK 6) (L := L) (q := q + 1)
    have hsl := sk_le (P := notK 6) (L := L) (q := q + 1) (by omega)
    have hl : lv_has ls 5 [(4, .int (nI (q + 0))), (3, .int (nI (sk (notK 6) L (q + 1)))), (2, .int (nI q)), (0, .ref h0), (1, .int x)] := hl
    have h : Wd D B s (mw dA h0 ad (apM (sI (sI M 0 (nI 0)) 10 (nI 0)) 11 10 0 (xpS L q 0)) ++ F) H locs := by rw [xpS, apM_nil rfl]; exact h
    have loop : ∀ (nn : Nat) (i : Nat), (i ≤ (sk (notK 6) L (q + 1) - q)) → (sk (notK 6) L (q + 1) - q) - i < nn → ∀ (H : Heap) (locs : List Loc), Wd D B s (mw dA h0 ad (apM (sI (sI M 0 (nI 0)) 10 (nI 0)) 11 10 0 (xpS L q i)) ++ F) H locs → ∀ (ls : Array Slot), lv_has ls 5 [(4, .int (nI (q + i))), (0, .ref h0), (2, .int (nI q)), (3, .int (nI (sk (notK 6) L (q + 1))))] → W p l e R s m args below meth c H locs (0 + 0 + 0) (0 + 0 + 0) Q (F0 m 43 ls []) := by
      intro nn
      induction nn with
      | zero => intro i  hi0 hme; exact absurd hme (Nat.not_lt_zero _)
      | succ nn ih =>
        intro i  hi0 hme H locs h ls hl
        refine lv_iload hx hb dX7_export_43 (lv_at hl 0 rfl) ?_
        refine lv_iload_n hx hb dX7_export_45 rfl (lv_at hl 3 rfl) ?_
        refine n_icmp_ge (tgt := 73) hx hb (by omega) (by omega) dX7_export_46 (by decide) (fun c46 => ?_) (fun c46 => ?_)
        · refine lv_aload_n hx hb dX7_export_73 rfl (lv_at hl 1 rfl) ?_
          refine m_gi C h 10 (by decide) rfl rfl q1880 (v := nI (0 + (xpS L q i).length)) rfl dX7_export_74 ?_
          subst hQ
          have hie : i = (sk (notK 6) L (q + 1) - q) := by omega
          rw [hie] at h
          have h : Wd D B s (mw dA h0 ad (apM (sI (sI M 0 (nI 0)) 10 (nI 0)) 11 10 0 (xpS L q (sk (notK 6) L (q + 1) - q))) ++ F) H locs := h
          rw [hie]
          exact ret_i C hr hlocks h (apM (sI (sI M 0 (nI 0)) 10 (nI 0)) 11 10 0 (xpS L q (sk (notK 6) L (q + 1) - q))) (⟨by rw [hU]; exact MSt.outq hS (nI 0) (xpS_byt hPK _ _) (hxp _ _), by rw [hU]; rfl⟩) (by rw [hU, Nat.zero_add]) rfl (by omega) (by omega) dX7_export_77
        · obtain ⟨x9, hx9⟩ : ∃ z, L[q + i]? = some z := ⟨_, List.getElem?_eq_getElem (by omega)⟩
          obtain ⟨hx9k, ⟨qb, hqb, hqbF⟩, hx9s⟩ := hR.1 _ _ hx9
          have ho9 := hPK.at hx9
          have hxl := hxp q (i + 1)
          have hkd : x9.1 < 64 := by
            rcases ho9.2.2.2.2.2.2 with e | e | e | e <;> rw [e] <;> decide
          have hpl9 := pktB_len x9.1 x9.2.1
          rw [xpS_s hx9, List.length_append] at hxl
          have hbl := ho9.2.2.1
          refine lv_aload_n hx hb dX7_export_49 rfl (lv_at hl 1 rfl) ?_
          refine lv_aload_n hx hb dX7_export_50 rfl (lv_at hl 1 rfl) ?_
          refine m_gr C h 13 (by decide) rfl rfl q1883 (v := some (ad 13)) hR.2.2.1 dX7_export_51 ?_
          refine lv_iload hx hb dX7_export_54 (lv_at hl 0 rfl) ?_
          refine n_iald C h (v := (mG M 13) (q + i)) (mw_memG (k := 13) (by decide)) (show q + i < 4700 by omega) (by decide) rfl dX7_export_56 ?_
          refine n_top (y := nI x9.1) (congrArg nI hx9k) ?_
          refine lv_aload_n hx hb dX7_export_57 rfl (lv_at hl 1 rfl) ?_
          refine m_gr C h 14 (by decide) rfl rfl q1884 (v := some (ad 14)) hR.2.2.2.1 dX7_export_58 ?_
          refine lv_iload hx hb dX7_export_61 (lv_at hl 0 rfl) ?_
          refine n_aald C h (v := (mA M 14) (q + i)) (mw_memA (k := 14) (by decide)) (show q + i < 4700 by omega) (by decide) rfl dX7_export_63 ?_
          refine n_topv (y := .ref qb) (by rw [hqb]; rfl) ?_
          refine call_V (As := [.int (nI x9.1), .ref qb]) (rest := []) (n := 2) C h (c7_putPacket l D dA B Z hZ h0 ad (apM (sI (sI M 0 (nI 0)) 10 (nI 0)) 11 10 0 (xpS L q i)) F x9.1 qb x9.2.1 (0 + (xpS L q i).length) rfl hkd hqbF ho9.2.1 (by omega) (by omega)) (lw_V q2551 q2553 qs123 q138 q2554) (by decide +kernel) (ci := 5) rfl rfl mw_mem0 (by decide) (by decide) rfl hl rfl (Nat.le_of_ble_eq_true rfl) dX7_export_64 (by omega) (fun _ H locs _ h => ?_)
          rw [apM_app, ← xpS_s hx9] at h
          refine lv_iinc (v := nI (q + i + 1)) (lv' := [(4, .int (nI (q + i + 1))), (0, .ref h0), (2, .int (nI q)), (3, .int (nI (sk (notK 6) L (q + 1))))]) hx hb dX7_export_67 hl (k := 0) rfl (nI_add (q + i) 1) (by decide) rfl (fun ls hl => ?_)
          refine lv_goto (tgt := 43) hx hb dX7_export_70 (by decide) ?_
          exact ih (i + 1) (by omega) (by omega) _ _ h _ (lv_sub hl [0, 1, 2, 3] rfl)
    exact loop _ 0 (by omega) (Nat.lt_succ_self _) _ _ h _ (lv_sub hl [0, 3, 2, 1] rfl)
  · have hpn := (oI_ne hpl).mp c9
    have hU := xptS_n (ou := ou) hpn
    refine lv_iconst (v := nI 1) hx hb dX7_export_12 (by decide) ?_
    refine lv_goto (tgt := 17) hx hb dX7_export_13 (by decide) ?_
    refine m_pi C h 0 (v := nI 1) (by decide) rfl rfl rfl q1870 rfl rfl dX7_export_17 (fun H locs h => ?_)
    refine lv_aload_n hx hb dX7_export_20 rfl (lv_at hl 1 rfl) ?_
    refine m_gi C h 0 (by decide) rfl rfl q1870 (v := nI 1) rfl dX7_export_21 ?_
    refine n_if_le (tgt := 29) hx hb (by omega) dX7_export_24 (by decide) (fun c24 => by exfalso; omega) (fun c24 => ?_)
    refine lv_iconst (v := nI 0) hx hb dX7_export_27 (by decide) ?_
    subst hQ
    exact ret_i C hr hlocks h (sI M 0 (nI 1)) (⟨by rw [hU]; exact hS, by rw [hU]; rfl⟩) (by rw [hU]) rfl (by omega) (by omega) dX7_export_28
set_option maxHeartbeats 1000000 in
set_option maxRecDepth 100000 in
theorem c7_drop (l : Launch) (D : va_G) (dA : Nat → ClassId) (B : Nat) (Z : State → Prop) (hZ : Stab B Z) (h0 : Nat) (ad : Nat → Nat) (M : MS) (F : va_W) (tp dc ou : List Nat) (L : List PK) (x : Int32) (hzs : ZS dA B Z) (hS : MSt dA F ad M tp dc ou L) (hLl : L.length ≤ 4650) :
    Ct (S := MS) l D dA B Z yX7_drop cX7_drop 5 (some .int) 3 0 0 [.ref h0, .int x] (mw dA h0 ad M ++ F) (fun u => MSt dA F ad u tp dc ou ((dropS L x).2.2) ∧ mI u 0 = nI (dropS L x).1) (fun _ => some (.int (nI (dropS L x).2.1))) (fun u => mw dA h0 ad u ++ F) := by
  refine Ct.mk2 (by decide) (Nat.le_of_ble_eq_true rfl) hZ ?_
  intro p e R s m args below meth c ls Q C hr hlocks hin hQ hl h
  have C0 := C
  obtain ⟨hx, hb, hml, hown, hts, -⟩ := C0
  have hl : lv_has ls 5 [(0, .ref h0), (1, .int x)] := hl
  have hR : CurR dA F ad M L := hS.cur
  have hPK := hS.2.2.2.1.2.2
  have hpl : ∀ i, placeS L x = some i → i < 100000 := by
    intro i9 hi9
    obtain ⟨kx8, h8, _⟩ := placeS_k hi9
    have := (List.getElem?_eq_some_iff.mp h8).1
    omega
  refine lv_aload_n hx hb dX7_drop_0 rfl (lv_at hl 0 rfl) ?_
  refine lv_iload_n hx hb dX7_drop_1 rfl (lv_at hl 1 rfl) ?_
  refine call_V (As := [.int x]) (rest := []) (n := 1) C h (c7_placeOf l D dA B Z hZ h0 ad M F L x hR hPK hLl) (lw_V q2504 q2506 qs115 q138 q2507) (by decide +kernel) (ci := 5) rfl rfl mw_mem0 (by decide) (by decide) rfl hl rfl (Nat.le_of_ble_eq_true rfl) dX7_drop_2 (by omega) (fun _ H locs _ h => ?_)
  refine lv_istore_n (lv' := [(2, .int (oI (placeS L x))), (0, .ref h0), (1, .int x)]) hx hb dX7_drop_5 rfl hl (by decide) rfl (fun ls hl => ?_)
  refine lv_aload_n hx hb dX7_drop_6 rfl (lv_at hl 1 rfl) ?_
  refine lv_iload_n hx hb dX7_drop_7 rfl (lv_at hl 0 rfl) ?_
  refine lv_iconst (v := -1) hx hb dX7_drop_8 (by decide) ?_
  refine lv_icmp_ne (tgt := 16) hx hb dX7_drop_9 (by decide) (fun c9 => ?_) (fun c9 => ?_)
  · obtain ⟨q, hq⟩ : ∃ z, placeS L x = some z := by
      cases q9 : placeS L x with
      | none => rw [q9] at c9; exact absurd rfl c9
      | some z => exact ⟨z, rfl⟩
    obtain ⟨kx, hkx, hk6⟩ := placeS_k hq
    have hql := (List.getElem?_eq_some_iff.mp hkx).1
    have hU := dropS_s hq
    have hl : lv_has ls 5 [(2, .int (nI q)), (0, .ref h0), (1, .int x)] := by rw [hq] at hl; exact hl
    refine lv_iconst (v := nI 0) hx hb dX7_drop_16 (by decide) ?_
    refine m_pi C h 0 (v := nI 0) (by decide) rfl rfl rfl q1870 rfl rfl dX7_drop_17 (fun H locs h => ?_)
    refine lv_aload_n hx hb dX7_drop_20 rfl (lv_at hl 1 rfl) ?_
    refine m_gi C h 0 (by decide) rfl rfl q1870 (v := nI 0) rfl dX7_drop_21 ?_
    refine n_if_le (tgt := 29) hx hb (by omega) dX7_drop_24 (by decide) (fun c24 => ?_) (fun c24 => by exfalso; omega)
    refine lv_aload_n hx hb dX7_drop_29 rfl (lv_at hl 1 rfl) ?_
    refine lv_iload_n hx hb dX7_drop_30 rfl (lv_at hl 0 rfl) ?_
    refine call_V (As := [.int (nI q)]) (rest := []) (n := 1) C h (c7_lastOf l D dA B Z hZ h0 ad (sI M 0 (nI 0)) F L q hR hPK hLl hql) (lw_V q2476 q2478 qs110 q138 q2479) (by decide +kernel) (ci := 5) rfl rfl mw_mem0 (by decide) (by decide) rfl hl rfl (Nat.le_of_ble_eq_true rfl) dX7_drop_31 (by omega) (fun _ H locs _ h => ?_)
    have hsk := sk_ge (P := notK 6) (L := L) (q := q + 1)
    have hsl := sk_le (P := notK 6) (L := L) (q := q + 1) (by omega)
    refine lv_iload_n hx hb dX7_drop_34 rfl (lv_at hl 0 rfl) ?_
    refine lv_isub hx hb dX7_drop_35 (n_top (y := nI ((sk (notK 6) L (q + 1)) - q)) (pk_sub (by omega)) ?_)
    refine lv_istore_n (lv' := [(3, .int (nI ((sk (notK 6) L (q + 1)) - q))), (2, .int (nI q)), (0, .ref h0), (1, .int x)]) hx hb dX7_drop_36 rfl hl (by decide) rfl (fun ls hl => ?_)
    obtain ⟨n9, hn9⟩ : ∃ z, z = (sk (notK 6) L (q + 1) - q) := ⟨_, rfl⟩
    rw [← hn9] at hl hU
    have hl : lv_has ls 5 [(3, .int (nI n9)), (2, .int (nI q)), (0, .ref h0), (1, .int x)] := hl
    refine lv_aload_n hx hb dX7_drop_37 rfl (lv_at hl 2 rfl) ?_
    refine lv_aload_n hx hb dX7_drop_38 rfl (lv_at hl 2 rfl) ?_
    refine m_gi C h 12 (by decide) rfl rfl q1882 (v := nI L.length) hR.2.1 dX7_drop_39 ?_
    refine lv_iload_n hx hb dX7_drop_42 rfl (lv_at hl 0 rfl) ?_
    refine lv_isub hx hb dX7_drop_43 (n_top (y := nI (L.length - n9)) (pk_sub (by omega)) ?_)
    refine m_pi C h 12 (v := nI (L.length - n9)) (by decide) rfl rfl rfl q1882 rfl rfl dX7_drop_44 (fun H locs h => ?_)
    refine lv_iload_n hx hb dX7_drop_47 rfl (lv_at hl 1 rfl) ?_
    refine lv_istore (lv' := [(4, .int (nI q)), (3, .int (nI n9)), (2, .int (nI q)), (0, .ref h0), (1, .int x)]) hx hb dX7_drop_48 hl (by decide) rfl (fun ls hl => ?_)
    have hl : lv_has ls 5 [(4, .int (nI (q + 0))), (3, .int (nI n9)), (2, .int (nI q)), (0, .ref h0), (1, .int x)] := hl
    have h : Wd D B s (mw dA h0 ad (dM (sI (sI M 0 (nI 0)) 12 (nI (L.length - n9))) (shF q n9 0 (mG M 13)) (shF q n9 0 (mA M 14)) (shF q n9 0 (mA M 15))) ++ F) H locs := by
      have e9 := dM_id (sI (sI M 0 (nI 0)) 12 (nI (L.length - n9)))
      rw [shF_0, shF_0, shF_0]
      rw [show dM (sI (sI M 0 (nI 0)) 12 (nI (L.length - n9))) (mG M 13) (mA M 14) (mA M 15) = (sI (sI M 0 (nI 0)) 12 (nI (L.length - n9))) from e9]; exact h
    have loop : ∀ (nn : Nat) (i : Nat), (i ≤ L.length - n9 - q) → L.length - n9 - q - i < nn → ∀ (H : Heap) (locs : List Loc), Wd D B s (mw dA h0 ad (dM (sI (sI M 0 (nI 0)) 12 (nI (L.length - n9))) (shF q n9 i (mG M 13)) (shF q n9 i (mA M 14)) (shF q n9 i (mA M 15))) ++ F) H locs → ∀ (ls : Array Slot), lv_has ls 5 [(4, .int (nI (q + i))), (0, .ref h0), (2, .int (nI q)), (3, .int (nI n9))] → W p l e R s m args below meth c H locs (0 + 0 + 0) (0 + 0 + 0) Q (F0 m 50 ls []) := by
      intro nn
      induction nn with
      | zero => intro i  hi0 hme; exact absurd hme (Nat.not_lt_zero _)
      | succ nn ih =>
        intro i  hi0 hme H locs h ls hl
        refine lv_iload hx hb dX7_drop_50 (lv_at hl 0 rfl) ?_
        refine lv_aload_n hx hb dX7_drop_52 rfl (lv_at hl 1 rfl) ?_
        refine m_gi C h 12 (by decide) rfl rfl q1882 (v := nI (L.length - n9)) rfl dX7_drop_53 ?_
        refine n_icmp_ge (tgt := 113) hx hb (by omega) (by omega) dX7_drop_56 (by decide) (fun c56 => ?_) (fun c56 => ?_)
        · refine lv_aload_n hx hb dX7_drop_113 rfl (lv_at hl 1 rfl) ?_
          have hie : i = L.length - n9 - q := by omega
          rw [hie] at h
          have hqn : q + n9 ≤ L.length := by omega
          obtain ⟨M2, hM2⟩ : ∃ z, z = (dM (sI (sI M 0 (nI 0)) 12 (nI (L.length - n9))) (shF q n9 (L.length - n9 - q) (mG M 13)) (shF q n9 (L.length - n9 - q) (mA M 14)) (shF q n9 (L.length - n9 - q) (mA M 15))) := ⟨_, rfl⟩
          rw [← hM2] at h
          have hS2 : MSt dA F ad M2 tp dc ou (cutL L q n9) := by
            rw [hM2]
            exact MSt.ring hS (by rw [cutL_len hqn]) (fun x hx => hPK x (cutL_mem hx)) (RingAt.cut hR.1 hqn rfl rfl rfl)
          have hcl := cutL_len hqn
          refine call_V (As := []) (rest := []) (n := 0) C h (c7_keys l D dA B Z hZ h0 ad M2 F tp dc ou (cutL L q n9) hS2 hS2.cur hS2.2.2.2.1.2.2 (by omega)) (lw_V q2598 q2497 q2498 q138 q2499) (by decide +kernel) (ci := 5) rfl rfl mw_mem0 (by decide) (by decide) rfl hl rfl (Nat.le_of_ble_eq_true rfl) dX7_drop_114 (by omega) (fun _ H locs _ h => ?_)
          have h : Wd D B s (mw dA h0 ad (sI M2 0 (nI 0)) ++ F) H locs := h
          subst hQ
          exact ret_i C hr hlocks h (sI M2 0 (nI 0)) (⟨by rw [hU]; exact hS2, by rw [hU]; rfl⟩) (by rw [hU]) rfl (by omega) (by omega) dX7_drop_117
        · obtain ⟨x9, hx9⟩ : ∃ z, L[q + i + n9]? = some z := ⟨_, List.getElem?_eq_getElem (by omega)⟩
          obtain ⟨hx9k, ⟨qb, hqb, hqbF⟩, hx9s⟩ := hR.1 _ _ hx9
          refine lv_aload_n hx hb dX7_drop_59 rfl (lv_at hl 1 rfl) ?_
          refine m_gr C h 13 (by decide) rfl rfl q1883 (v := some (ad 13)) hR.2.2.1 dX7_drop_60 ?_
          refine lv_iload hx hb dX7_drop_63 (lv_at hl 0 rfl) ?_
          refine lv_aload_n hx hb dX7_drop_65 rfl (lv_at hl 1 rfl) ?_
          refine m_gr C h 13 (by decide) rfl rfl q1883 (v := some (ad 13)) hR.2.2.1 dX7_drop_66 ?_
          refine lv_iload hx hb dX7_drop_69 (lv_at hl 0 rfl) ?_
          refine lv_iload_n hx hb dX7_drop_71 rfl (lv_at hl 3 rfl) ?_
          refine lv_iadd hx hb dX7_drop_72 (n_top (y := nI (q + i + n9)) (nI_add (q + i) n9) ?_)
          refine n_iald C h (v := (shF q n9 i (mG M 13)) (q + i + n9)) (mw_memG (k := 13) (by decide)) (show q + i + n9 < 4700 by omega) (by decide) rfl dX7_drop_73 ?_
          refine n_top (y := nI (mG M 13 (q + i + n9))) (congrArg nI (shF_r _ _ _ _)) ?_
          refine m_iast C h 13 (v := mG M 13 (q + i + n9)) (by decide) (n := 4700) rfl (by omega) dX7_drop_74 (fun H locs h => ?_)
          rw [dM_13] at h
          have h : Wd D B s (mw dA h0 ad (dM (sI (sI M 0 (nI 0)) 12 (nI (L.length - n9))) (upN (shF q n9 i (mG M 13)) (q + i) (mG M 13 (q + i + n9))) (shF q n9 i (mA M 14)) (shF q n9 i (mA M 15))) ++ F) H locs := h
          rw [shF_s q n9 i (mG M 13)] at h
          have h : Wd D B s (mw dA h0 ad (dM (sI (sI M 0 (nI 0)) 12 (nI (L.length - n9))) (shF q n9 (i + 1) (mG M 13)) (shF q n9 i (mA M 14)) (shF q n9 i (mA M 15))) ++ F) H locs := h
          refine lv_aload_n hx hb dX7_drop_75 rfl (lv_at hl 1 rfl) ?_
          refine m_gr C h 14 (by decide) rfl rfl q1884 (v := some (ad 14)) hR.2.2.2.1 dX7_drop_76 ?_
          refine lv_iload hx hb dX7_drop_79 (lv_at hl 0 rfl) ?_
          refine lv_aload_n hx hb dX7_drop_81 rfl (lv_at hl 1 rfl) ?_
          refine m_gr C h 14 (by decide) rfl rfl q1884 (v := some (ad 14)) hR.2.2.2.1 dX7_drop_82 ?_
          refine lv_iload hx hb dX7_drop_85 (lv_at hl 0 rfl) ?_
          refine lv_iload_n hx hb dX7_drop_87 rfl (lv_at hl 3 rfl) ?_
          refine lv_iadd hx hb dX7_drop_88 (n_top (y := nI (q + i + n9)) (nI_add (q + i) n9) ?_)
          refine n_aald C h (v := (shF q n9 i (mA M 14)) (q + i + n9)) (mw_memA (k := 14) (by decide)) (show q + i + n9 < 4700 by omega) (by decide) rfl dX7_drop_89 ?_
          refine n_topv (y := .ref qb) (by rw [shF_r, hqb]; rfl) ?_
          refine m_aast C h 14 (o := some qb) hzs (by decide) (n := 4700) rfl (by omega) (fun a e9 => by cases e9; exact ⟨_, _, List.mem_append_right _ hqbF⟩) dX7_drop_90 (fun H locs h => ?_)
          rw [dM_14] at h
          have h : Wd D B s (mw dA h0 ad (dM (sI (sI M 0 (nI 0)) 12 (nI (L.length - n9))) (shF q n9 (i + 1) (mG M 13)) (upN (shF q n9 i (mA M 14)) (q + i) (mA M 14 (q + i + n9))) (shF q n9 i (mA M 15))) ++ F) H locs := by rw [hqb]; exact h
          rw [shF_s q n9 i (mA M 14)] at h
          have h : Wd D B s (mw dA h0 ad (dM (sI (sI M 0 (nI 0)) 12 (nI (L.length - n9))) (shF q n9 (i + 1) (mG M 13)) (shF q n9 (i + 1) (mA M 14)) (shF q n9 i (mA M 15))) ++ F) H locs := h
          refine lv_aload_n hx hb dX7_drop_91 rfl (lv_at hl 1 rfl) ?_
          refine m_gr C h 15 (by decide) rfl rfl q1885 (v := some (ad 15)) hR.2.2.2.2 dX7_drop_92 ?_
          refine lv_iload hx hb dX7_drop_95 (lv_at hl 0 rfl) ?_
          refine lv_aload_n hx hb dX7_drop_97 rfl (lv_at hl 1 rfl) ?_
          refine m_gr C h 15 (by decide) rfl rfl q1885 (v := some (ad 15)) hR.2.2.2.2 dX7_drop_98 ?_
          refine lv_iload hx hb dX7_drop_101 (lv_at hl 0 rfl) ?_
          refine lv_iload_n hx hb dX7_drop_103 rfl (lv_at hl 3 rfl) ?_
          refine lv_iadd hx hb dX7_drop_104 (n_top (y := nI (q + i + n9)) (nI_add (q + i) n9) ?_)
          refine n_aald C h (v := (shF q n9 i (mA M 15)) (q + i + n9)) (mw_memA (k := 15) (by decide)) (show q + i + n9 < 4700 by omega) (by decide) rfl dX7_drop_105 ?_
          refine n_topv (y := va_rf (mA M 15 (q + i + n9))) (by rw [shF_r]) ?_
          refine m_aast C h 15 (o := mA M 15 (q + i + n9)) hzs (by decide) (n := 4700) rfl (by omega) (hx9s.mem (fun z hz => List.mem_append_right _ hz)) dX7_drop_106 (fun H locs h => ?_)
          rw [dM_15] at h
          have h : Wd D B s (mw dA h0 ad (dM (sI (sI M 0 (nI 0)) 12 (nI (L.length - n9))) (shF q n9 (i + 1) (mG M 13)) (shF q n9 (i + 1) (mA M 14)) (upN (shF q n9 i (mA M 15)) (q + i) (mA M 15 (q + i + n9)))) ++ F) H locs := h
          rw [shF_s q n9 i (mA M 15)] at h
          have h : Wd D B s (mw dA h0 ad (dM (sI (sI M 0 (nI 0)) 12 (nI (L.length - n9))) (shF q n9 (i + 1) (mG M 13)) (shF q n9 (i + 1) (mA M 14)) (shF q n9 (i + 1) (mA M 15))) ++ F) H locs := h
          refine lv_iinc (v := nI (q + i + 1)) (lv' := [(4, .int (nI (q + i + 1))), (0, .ref h0), (2, .int (nI q)), (3, .int (nI n9))]) hx hb dX7_drop_107 hl (k := 0) rfl (nI_add (q + i) 1) (by decide) rfl (fun ls hl => ?_)
          refine lv_goto (tgt := 50) hx hb dX7_drop_110 (by decide) ?_
          exact ih (i + 1) (by omega) (by omega) _ _ h _ (lv_sub hl [0, 1, 2, 3] rfl)
    exact loop _ 0 (by omega) (Nat.lt_succ_self _) _ _ h _ (lv_sub hl [0, 3, 2, 1] rfl)
  · have hpn := (oI_ne hpl).mp c9
    have hU := dropS_n hpn
    refine lv_iconst (v := nI 1) hx hb dX7_drop_12 (by decide) ?_
    refine lv_goto (tgt := 17) hx hb dX7_drop_13 (by decide) ?_
    refine m_pi C h 0 (v := nI 1) (by decide) rfl rfl rfl q1870 rfl rfl dX7_drop_17 (fun H locs h => ?_)
    refine lv_aload_n hx hb dX7_drop_20 rfl (lv_at hl 1 rfl) ?_
    refine m_gi C h 0 (by decide) rfl rfl q1870 (v := nI 1) rfl dX7_drop_21 ?_
    refine n_if_le (tgt := 29) hx hb (by omega) dX7_drop_24 (by decide) (fun c24 => by exfalso; omega) (fun c24 => ?_)
    refine lv_iconst (v := nI 0) hx hb dX7_drop_27 (by decide) ?_
    subst hQ
    exact ret_i C hr hlocks h (sI M 0 (nI 1)) (⟨by rw [hU]; exact hS, by rw [hU]; rfl⟩) (by rw [hU]) rfl (by omega) (by omega) dX7_drop_28
set_option maxHeartbeats 1000000 in
set_option maxRecDepth 100000 in
theorem c7_key (l : Launch) (D : va_G) (dA : Nat → ClassId) (B : Nat) (Z : State → Prop) (hZ : Stab B Z) (h0 : Nat) (ad : Nat → Nat) (M : MS) (F : va_W) (tp dc ou : List Nat) (L : List PK) (x y : Int32) (hS : MSt dA F ad M tp dc ou L) (hLl : L.length ≤ 4650) :
    Ct (S := MS × va_W) l D dA B Z yX7_key cX7_key 5 (some .long) 5 6 30000 [.ref h0, .int x, .int y] (mw dA h0 ad M ++ F) (fun u => MSt dA (F ++ u.2) ad u.1 tp dc ou L ∧ mI u.1 0 = nI (keyS L x y).1) (fun _ => some (.long (keyS L x y).2)) (fun u => mw dA h0 ad u.1 ++ (F ++ u.2)) := by
  refine Ct.mk2 (by decide) (Nat.le_of_ble_eq_true rfl) hZ ?_
  intro p e R s m args below meth c ls Q C hr hlocks hin hQ hl h
  have C0 := C
  obtain ⟨hx, hb, hml, hown, hts, -⟩ := C0
  have hl : lv_has ls 5 [(0, .ref h0), (1, .int x), (2, .int y)] := hl
  have hR : CurR dA F ad M L := hS.cur
  have hPK := hS.2.2.2.1.2.2
  have hpl : ∀ i, placeS L x = some i → i < 100000 := by
    intro i9 hi9
    obtain ⟨kx8, h8, _⟩ := placeS_k hi9
    have := (List.getElem?_eq_some_iff.mp h8).1
    omega
  have hI := hS.2.2.2.2.2.1
  refine lv_aload_n hx hb dX7_key_0 rfl (lv_at hl 0 rfl) ?_
  refine lv_iload_n hx hb dX7_key_1 rfl (lv_at hl 1 rfl) ?_
  refine call_V (As := [.int x]) (rest := []) (n := 1) C h (c7_placeOf l D dA B Z hZ h0 ad M F L x hR hPK hLl) (lw_V q2504 q2506 qs115 q138 q2507) (by decide +kernel) (ci := 5) rfl rfl mw_mem0 (by decide) (by decide) rfl hl rfl (Nat.le_of_ble_eq_true rfl) dX7_key_2 (by omega) (fun _ H locs _ h => ?_)
  refine lv_istore_n (lv' := [(3, .int (oI (placeS L x))), (0, .ref h0), (1, .int x), (2, .int y)]) hx hb dX7_key_5 rfl hl (by decide) rfl (fun ls hl => ?_)
  refine lv_aload_n hx hb dX7_key_6 rfl (lv_at hl 1 rfl) ?_
  refine lv_iload_n hx hb dX7_key_7 rfl (lv_at hl 0 rfl) ?_
  refine lv_iconst (v := -1) hx hb dX7_key_8 (by decide) ?_
  refine lv_icmp_eq (tgt := 21) hx hb dX7_key_9 (by decide) (fun c9 => ?_) (fun c9 => ?_)
  · have hpn := (oI_ne hpl).mp c9
    have hU := keyS_n (y := y) hpn
    refine lv_iconst (v := nI 1) hx hb dX7_key_21 (by decide) ?_
    refine lv_goto (tgt := 26) hx hb dX7_key_22 (by decide) ?_
    refine m_pi C h 0 (v := nI 1) (by decide) rfl rfl rfl q1870 rfl rfl dX7_key_26 (fun H locs h => ?_)
    refine lv_aload_n hx hb dX7_key_29 rfl (lv_at hl 1 rfl) ?_
    refine m_gi C h 0 (by decide) rfl rfl q1870 (v := nI 1) rfl dX7_key_30 ?_
    refine n_if_le (tgt := 38) hx hb (by omega) dX7_key_33 (by decide) (fun c33 => by exfalso; omega) (fun c33 => ?_)
    refine lv_lconst (v := lN 0) hx hb dX7_key_36 (by decide) ?_
    subst hQ
    have h : Wd D B s (mw dA h0 ad (sI M 0 (nI 1)) ++ (F ++ [])) H locs := by rw [List.append_nil]; exact h
    exact ret_l C hr hlocks h (sI M 0 (nI 1), []) (⟨by rw [List.append_nil]; exact hS, by rw [hU]; rfl⟩) (by rw [hU]) rfl (by omega) (by omega) dX7_key_37
  · obtain ⟨q, hq⟩ : ∃ z, placeS L x = some z := by
      cases q9 : placeS L x with
      | none => rw [q9] at c9; exact absurd rfl c9
      | some z => exact ⟨z, rfl⟩
    obtain ⟨kx, hkx, hk6⟩ := placeS_k hq
    have hql := (List.getElem?_eq_some_iff.mp hkx).1
    have hq0 := hq
    have hl : lv_has ls 5 [(3, .int (nI q)), (0, .ref h0), (1, .int x), (2, .int y)] := by rw [hq] at hl; exact hl
    refine lv_iload_n hx hb dX7_key_12 rfl (lv_at hl 3 rfl) ?_
    refine lv_if_lt (tgt := 21) hx hb dX7_key_13 (by decide) (fun c13 => ?_) (fun c13 => ?_)
    · have hU := keyS_b hq (Or.inl c13)
      refine lv_iconst (v := nI 1) hx hb dX7_key_21 (by decide) ?_
      refine lv_goto (tgt := 26) hx hb dX7_key_22 (by decide) ?_
      refine m_pi C h 0 (v := nI 1) (by decide) rfl rfl rfl q1870 rfl rfl dX7_key_26 (fun H locs h => ?_)
      refine lv_aload_n hx hb dX7_key_29 rfl (lv_at hl 1 rfl) ?_
      refine m_gi C h 0 (by decide) rfl rfl q1870 (v := nI 1) rfl dX7_key_30 ?_
      refine n_if_le (tgt := 38) hx hb (by omega) dX7_key_33 (by decide) (fun c33 => by exfalso; omega) (fun c33 => ?_)
      refine lv_lconst (v := lN 0) hx hb dX7_key_36 (by decide) ?_
      subst hQ
      have h : Wd D B s (mw dA h0 ad (sI M 0 (nI 1)) ++ (F ++ [])) H locs := by rw [List.append_nil]; exact h
      exact ret_l C hr hlocks h (sI M 0 (nI 1), []) (⟨by rw [List.append_nil]; exact hS, by rw [hU]; rfl⟩) (by rw [hU]) rfl (by omega) (by omega) dX7_key_37
    · refine lv_iload_n hx hb dX7_key_16 rfl (lv_at hl 3 rfl) ?_
      refine lv_iconst (v := nI 5) hx hb dX7_key_17 (by decide) ?_
      refine lv_icmp_le (tgt := 25) hx hb dX7_key_18 (by decide) (fun c18 => ?_) (fun c18 => ?_)
      · obtain ⟨k, hk1, hyk, hkt⟩ := i_le (by omega) c13 c18
        have hU := keyS_s hq c13 (Int32.not_lt.mpr c18) hkt hkx
        have hl : lv_has ls 5 [(3, .int (nI q)), (0, .ref h0), (1, .int x), (2, .int (nI k))] := by rw [hyk] at hl; exact hl
        obtain ⟨hkxk, ⟨qkx, hqkx, hqkxF⟩, hkxs⟩ := hR.1 _ _ hkx
        have hkxo := hPK.at hkx
        have hkx1 := hkxo.1
        have hkxl := hkxo.2.2.1
        refine lv_iconst (v := nI 0) hx hb dX7_key_25 (by decide) ?_
        refine m_pi C h 0 (v := nI 0) (by decide) rfl rfl rfl q1870 rfl rfl dX7_key_26 (fun H locs h => ?_)
        refine lv_aload_n hx hb dX7_key_29 rfl (lv_at hl 1 rfl) ?_
        refine m_gi C h 0 (by decide) rfl rfl q1870 (v := nI 0) rfl dX7_key_30 ?_
        refine n_if_le (tgt := 38) hx hb (by omega) dX7_key_33 (by decide) (fun c33 => ?_) (fun c33 => by exfalso; omega)
        refine lv_aload_n hx hb dX7_key_38 rfl (lv_at hl 1 rfl) ?_
        refine lv_aload_n hx hb dX7_key_39 rfl (lv_at hl 1 rfl) ?_
        refine m_gr C h 14 (by decide) rfl rfl q1884 (v := some (ad 14)) hR.2.2.2.1 dX7_key_40 ?_
        refine lv_iload_n hx hb dX7_key_43 rfl (lv_at hl 0 rfl) ?_
        refine n_aald C h (v := (mA M 14) q) (mw_memA (k := 14) (by decide)) (show q < 4700 by omega) (by decide) rfl dX7_key_44 ?_
        refine n_topv (y := .ref qkx) (congrArg va_rf hqkx) ?_
        refine lv_iconst (v := nI 0) hx hb dX7_key_45 (by decide) ?_
        refine call_V (As := [.ref qkx, .int (nI 0)]) (rest := []) (n := 2) C h (c7_readKey l D dA B Z hZ h0 ad (sI M 0 (nI 0)) F qkx kx.2.1 false hqkxF hkxo.2.1 (by omega)) (lw_V q2217 q2219 qs60 q138 q2220) (by decide +kernel) (ci := 5) rfl rfl mw_mem0 (by decide) (by decide) rfl hl rfl (Nat.le_of_ble_eq_true rfl) dX7_key_46 (by omega) (fun uy H locs huy h => ?_)
        obtain ⟨y1, y2, y3, y4, y5, y6, y7, Ey⟩ := uy
        have hgood := (hkxo.2.2.2.2.2.1 (Or.inl hk6))
        obtain ⟨hy1, hy4, ⟨qn, hqn, hqnE⟩, -, -⟩ := huy hgood
        have hkn := keyOk_nums hgood hkxo.2.1 (by omega)
        dsimp only at hy4 hqn hqnE
        obtain ⟨M2, hM2⟩ : ∃ z, z = (yM (sI M 0 (nI 0)) y1 y2 y3 y4 y5 y6 y7 (some qkx)) := ⟨_, rfl⟩
        have h : Wd D B s (mw dA h0 ad (yM (sI M 0 (nI 0)) y1 y2 y3 y4 y5 y6 y7 (some qkx)) ++ (F ++ Ey)) H locs := h
        rw [← hM2] at h
        have hK2 : Kp (sI M 0 (nI 0)) M2 := by rw [hM2]; exact yM_kp _ _ _ _ _ _ _ _ _
        have hI2 : MI M2 := by rw [hM2]; exact hI
        have hR2 : CurR dA (F ++ Ey) ad M2 L := CurR.kp (M := sI M 0 (nI 0)) hR hK2 (fun z hz => List.mem_append_left _ hz)
        have h249 : mL M2 49 = lN (kMade kx.2.1) := by rw [hM2]; exact hy4
        have h250 : mR M2 50 = some qn := by rw [hM2]; exact hqn
        have hS2 : MSt dA (F ++ Ey) ad M2 tp dc ou L := MSt.kp (M := sI M 0 (nI 0)) hS hK2 hI2 (fun z hz => List.mem_append_left _ hz)
        have h20 : mI M2 0 = nI 0 := by rw [hM2]; rfl
        have hcl : ∀ kd, cntF L kd (sk (notK 6) L (q + 1) - (q + 1)) (q + 1) ≤ sk (notK 6) L (q + 1) - (q + 1) := fun kd => cntF_le L kd _ _
        have hc2 := hcl 2
        have hc13 := hcl 13
        have hc14 := hcl 14
        have hsl := sk_le (P := notK 6) (L := L) (q := q + 1) (by omega)
        refine lv_istore (lv' := [(4, .int (bZ (keyOk kx.2.1 false))), (3, .int (nI q)), (0, .ref h0), (1, .int x), (2, .int (nI k))]) hx hb dX7_key_49 hl (by decide) rfl (fun ls hl => ?_)
        refine lv_iload_n hx hb dX7_key_51 rfl (lv_at hl 4 rfl) ?_
        refine lv_iconst (v := nI 2) hx hb dX7_key_52 (by decide) ?_
        refine n_icmp_ge (tgt := 76) hx hb (by omega) (by omega) dX7_key_53 (by decide) (fun c53 => ?_) (fun c53 => ?_)
        · refine lv_iload_n hx hb dX7_key_76 rfl (lv_at hl 4 rfl) ?_
          refine lv_iconst (v := nI 2) hx hb dX7_key_77 (by decide) ?_
          refine n_icmp_ne (tgt := 92) hx hb (by omega) (by omega) dX7_key_78 (by decide) (fun c78 => ?_) (fun c78 => ?_)
          · refine lv_iload_n hx hb dX7_key_92 rfl (lv_at hl 4 rfl) ?_
            refine lv_iconst (v := nI 3) hx hb dX7_key_93 (by decide) ?_
            refine n_icmp_ne (tgt := 108) hx hb (by omega) (by omega) dX7_key_94 (by decide) (fun c94 => ?_) (fun c94 => ?_)
            · refine lv_iload_n hx hb dX7_key_108 rfl (lv_at hl 4 rfl) ?_
              refine lv_iconst (v := nI 4) hx hb dX7_key_109 (by decide) ?_
              refine n_icmp_ne (tgt := 123) hx hb (by omega) (by omega) dX7_key_110 (by decide) (fun c110 => ?_) (fun c110 => ?_)
              · obtain ⟨-, -, hsec⟩ := hR2.1 _ _ hkx
                refine lv_aload_n hx hb dX7_key_123 rfl (lv_at hl 2 rfl) ?_
                refine m_gr C h 15 (by decide) rfl rfl q1885 (v := some (ad 15)) hR2.2.2.2.2 dX7_key_124 ?_
                refine lv_iload_n hx hb dX7_key_127 rfl (lv_at hl 1 rfl) ?_
                refine n_aald C h (v := (mA M2 15) q) (mw_memA (k := 15) (by decide)) (show q < 4700 by omega) (by decide) rfl dX7_key_128 ?_
                refine n_topv (y := va_rf (mA M2 15 q)) rfl ?_
                refine q_ifnull (tgt := 136) hx hb dX7_key_129 (by decide) (fun c129 => ?_) (fun a129 c129 => ?_)
                · refine lv_lconst (v := lN 0) hx hb dX7_key_136 (by decide) ?_
                  subst hQ
                  exact ret_l C hr hlocks h (M2, Ey) (⟨hS2, by rw [hU]; exact h20⟩) (by
                      rw [hU]
                      unfold keyV
                      first | (rw [if_pos (by omega)]; done) | (rw [if_neg (by omega), if_pos (by omega)]; done) | (rw [if_neg (by omega), if_neg (by omega), if_pos (by omega)]; done) | (rw [if_neg (by omega), if_neg (by omega), if_neg (by omega), if_pos (by omega)]; done) | (rw [if_neg (by omega), if_neg (by omega), if_neg (by omega), if_neg (by omega), if_pos (by omega)]; done) | (rw [if_neg (by omega), if_neg (by omega), if_neg (by omega), if_neg (by omega), if_neg (by omega)]; cases hz : kx.2.2 with
                        | none => first | (rw [if_pos rfl]; done) | (rw [hz] at hsec; rw [show mA M2 15 q = none from hsec] at c129; cases c129)
                        | some z => first | (rw [if_neg (fun e => by cases e)]; done) | (rw [hz] at hsec; obtain ⟨a, ha, -⟩ := hsec; rw [ha] at c129; cases c129))) rfl (by omega) (by omega) dX7_key_137
                · refine lv_lconst (v := lN 1) hx hb dX7_key_132 (by decide) ?_
                  refine lv_goto (tgt := 137) hx hb dX7_key_133 (by decide) ?_
                  subst hQ
                  exact ret_l C hr hlocks h (M2, Ey) (⟨hS2, by rw [hU]; exact h20⟩) (by
                      rw [hU]
                      unfold keyV
                      first | (rw [if_pos (by omega)]; done) | (rw [if_neg (by omega), if_pos (by omega)]; done) | (rw [if_neg (by omega), if_neg (by omega), if_pos (by omega)]; done) | (rw [if_neg (by omega), if_neg (by omega), if_neg (by omega), if_pos (by omega)]; done) | (rw [if_neg (by omega), if_neg (by omega), if_neg (by omega), if_neg (by omega), if_pos (by omega)]; done) | (rw [if_neg (by omega), if_neg (by omega), if_neg (by omega), if_neg (by omega), if_neg (by omega)]; cases hz : kx.2.2 with
                        | none => first | (rw [if_pos rfl]; done) | (rw [hz] at hsec; rw [show mA M2 15 q = none from hsec] at c129; cases c129)
                        | some z => first | (rw [if_neg (fun e => by cases e)]; done) | (rw [hz] at hsec; obtain ⟨a, ha, -⟩ := hsec; rw [ha] at c129; cases c129))) rfl (by omega) (by omega) dX7_key_137
              · refine lv_aload_n hx hb dX7_key_113 rfl (lv_at hl 2 rfl) ?_
                refine lv_iload_n hx hb dX7_key_114 rfl (lv_at hl 1 rfl) ?_
                refine lv_iconst (v := nI 2) hx hb dX7_key_115 (by decide) ?_
                refine call_V (As := [.int (nI q), .int (nI 2)]) (rest := []) (n := 2) C h (c7_howMany l D dA B Z hZ h0 ad M2 (F ++ Ey) L q 2 hR2 hPK hLl hql (by decide)) (lw_V q2508 q2510 qs116 q138 q2511) (by decide +kernel) (ci := 5) rfl rfl mw_mem0 (by decide) (by decide) rfl hl rfl (Nat.le_of_ble_eq_true rfl) dX7_key_116 (by omega) (fun _ H locs _ h => ?_)
                refine lv_i2l (v := lN (cntF L 2 (sk (notK 6) L (q + 1) - (q + 1)) (q + 1))) hx hb dX7_key_119 (nI_l (by omega)) ?_
                refine lv_goto (tgt := 137) hx hb dX7_key_120 (by decide) ?_
                subst hQ
                exact ret_l C hr hlocks h (M2, Ey) (⟨hS2, by rw [hU]; exact h20⟩) (by
                    rw [hU]
                    unfold keyV
                    first | (rw [if_pos (by omega)]; done) | (rw [if_neg (by omega), if_pos (by omega)]; done) | (rw [if_neg (by omega), if_neg (by omega), if_pos (by omega)]; done) | (rw [if_neg (by omega), if_neg (by omega), if_neg (by omega), if_pos (by omega)]; done) | (rw [if_neg (by omega), if_neg (by omega), if_neg (by omega), if_neg (by omega), if_pos (by omega)]; done) | (rw [if_neg (by omega), if_neg (by omega), if_neg (by omega), if_neg (by omega), if_neg (by omega)]; cases hz : kx.2.2 with
                      | none => first | (rw [if_pos rfl]; done) | (rw [hz] at hsec; rw [show mA M2 15 q = none from hsec] at c129; cases c129)
                      | some z => first | (rw [if_neg (fun e => by cases e)]; done) | (rw [hz] at hsec; obtain ⟨a, ha, -⟩ := hsec; rw [ha] at c129; cases c129))) rfl (by omega) (by omega) dX7_key_137
            · refine lv_aload_n hx hb dX7_key_97 rfl (lv_at hl 2 rfl) ?_
              refine lv_iload_n hx hb dX7_key_98 rfl (lv_at hl 1 rfl) ?_
              refine lv_bipush (v := nI 14) hx hb dX7_key_99 (by decide) ?_
              refine call_V (As := [.int (nI q), .int (nI 14)]) (rest := []) (n := 2) C h (c7_howMany l D dA B Z hZ h0 ad M2 (F ++ Ey) L q 14 hR2 hPK hLl hql (by decide)) (lw_V q2508 q2510 qs116 q138 q2511) (by decide +kernel) (ci := 5) rfl rfl mw_mem0 (by decide) (by decide) rfl hl rfl (Nat.le_of_ble_eq_true rfl) dX7_key_101 (by omega) (fun _ H locs _ h => ?_)
              refine lv_i2l (v := lN (cntF L 14 (sk (notK 6) L (q + 1) - (q + 1)) (q + 1))) hx hb dX7_key_104 (nI_l (by omega)) ?_
              refine lv_goto (tgt := 137) hx hb dX7_key_105 (by decide) ?_
              subst hQ
              exact ret_l C hr hlocks h (M2, Ey) (⟨hS2, by rw [hU]; exact h20⟩) (by
                  rw [hU]
                  unfold keyV
                  first | (rw [if_pos (by omega)]; done) | (rw [if_neg (by omega), if_pos (by omega)]; done) | (rw [if_neg (by omega), if_neg (by omega), if_pos (by omega)]; done) | (rw [if_neg (by omega), if_neg (by omega), if_neg (by omega), if_pos (by omega)]; done) | (rw [if_neg (by omega), if_neg (by omega), if_neg (by omega), if_neg (by omega), if_pos (by omega)]; done) | (rw [if_neg (by omega), if_neg (by omega), if_neg (by omega), if_neg (by omega), if_neg (by omega)]; cases hz : kx.2.2 with
                    | none => first | (rw [if_pos rfl]; done) | (rw [hz] at hsec; rw [show mA M2 15 q = none from hsec] at c129; cases c129)
                    | some z => first | (rw [if_neg (fun e => by cases e)]; done) | (rw [hz] at hsec; obtain ⟨a, ha, -⟩ := hsec; rw [ha] at c129; cases c129))) rfl (by omega) (by omega) dX7_key_137
          · refine lv_aload_n hx hb dX7_key_81 rfl (lv_at hl 2 rfl) ?_
            refine lv_iload_n hx hb dX7_key_82 rfl (lv_at hl 1 rfl) ?_
            refine lv_bipush (v := nI 13) hx hb dX7_key_83 (by decide) ?_
            refine call_V (As := [.int (nI q), .int (nI 13)]) (rest := []) (n := 2) C h (c7_howMany l D dA B Z hZ h0 ad M2 (F ++ Ey) L q 13 hR2 hPK hLl hql (by decide)) (lw_V q2508 q2510 qs116 q138 q2511) (by decide +kernel) (ci := 5) rfl rfl mw_mem0 (by decide) (by decide) rfl hl rfl (Nat.le_of_ble_eq_true rfl) dX7_key_85 (by omega) (fun _ H locs _ h => ?_)
            refine lv_i2l (v := lN (cntF L 13 (sk (notK 6) L (q + 1) - (q + 1)) (q + 1))) hx hb dX7_key_88 (nI_l (by omega)) ?_
            refine lv_goto (tgt := 137) hx hb dX7_key_89 (by decide) ?_
            subst hQ
            exact ret_l C hr hlocks h (M2, Ey) (⟨hS2, by rw [hU]; exact h20⟩) (by
                rw [hU]
                unfold keyV
                first | (rw [if_pos (by omega)]; done) | (rw [if_neg (by omega), if_pos (by omega)]; done) | (rw [if_neg (by omega), if_neg (by omega), if_pos (by omega)]; done) | (rw [if_neg (by omega), if_neg (by omega), if_neg (by omega), if_pos (by omega)]; done) | (rw [if_neg (by omega), if_neg (by omega), if_neg (by omega), if_neg (by omega), if_pos (by omega)]; done) | (rw [if_neg (by omega), if_neg (by omega), if_neg (by omega), if_neg (by omega), if_neg (by omega)]; cases hz : kx.2.2 with
                  | none => first | (rw [if_pos rfl]; done) | (rw [hz] at hsec; rw [show mA M2 15 q = none from hsec] at c129; cases c129)
                  | some z => first | (rw [if_neg (fun e => by cases e)]; done) | (rw [hz] at hsec; obtain ⟨a, ha, -⟩ := hsec; rw [ha] at c129; cases c129))) rfl (by omega) (by omega) dX7_key_137
        · refine lv_iload_n hx hb dX7_key_56 rfl (lv_at hl 4 rfl) ?_
          refine n_if_ne (tgt := 67) hx hb (by omega) dX7_key_57 (by decide) (fun c57 => ?_) (fun c57 => ?_)
          · refine lv_aload_n hx hb dX7_key_67 rfl (lv_at hl 2 rfl) ?_
            refine m_gr C h 50 (by decide) rfl rfl q1920 (v := some qn) h250 dX7_key_68 ?_
            refine call_S (As := [.ref qn]) (rest := []) (n := 1) C h (c7_bitsOf l D dA B Z hZ _ qn (kN kx.2.1).length (gD (kN kx.2.1)) (List.mem_append_right _ (List.mem_append_right _ hqnE)) (by omega) (by omega) (byt_gD hkn.1 0)) (lw_S q2233 q2234 q138 q2235) (by decide +kernel) (by decide) (by decide) rfl hl rfl (Nat.le_of_ble_eq_true rfl) dX7_key_71 (by omega) (fun _ H locs _ h => ?_)
            refine lv_i2l (v := (bitsI (gD (kN kx.2.1) 0) (kN kx.2.1).length).toInt64) hx hb dX7_key_74 rfl ?_
            subst hQ
            exact ret_l C hr hlocks h (M2, Ey) (⟨hS2, by rw [hU]; exact h20⟩) (by
                rw [hU]
                unfold keyV
                first | (rw [if_pos (by omega)]; done) | (rw [if_neg (by omega), if_pos (by omega)]; done) | (rw [if_neg (by omega), if_neg (by omega), if_pos (by omega)]; done) | (rw [if_neg (by omega), if_neg (by omega), if_neg (by omega), if_pos (by omega)]; done) | (rw [if_neg (by omega), if_neg (by omega), if_neg (by omega), if_neg (by omega), if_pos (by omega)]; done) | (rw [if_neg (by omega), if_neg (by omega), if_neg (by omega), if_neg (by omega), if_neg (by omega)]; cases hz : kx.2.2 with
                  | none => first | (rw [if_pos rfl]; done) | (rw [hz] at hsec; rw [show mA M2 15 q = none from hsec] at c129; cases c129)
                  | some z => first | (rw [if_neg (fun e => by cases e)]; done) | (rw [hz] at hsec; obtain ⟨a, ha, -⟩ := hsec; rw [ha] at c129; cases c129))) rfl (by omega) (by omega) dX7_key_75
          · refine lv_aload_n hx hb dX7_key_60 rfl (lv_at hl 2 rfl) ?_
            refine m_gl C h 49 (by decide) rfl rfl q1919 (v := lN (kMade kx.2.1)) h249 dX7_key_61 ?_
            refine lv_goto (tgt := 75) hx hb dX7_key_64 (by decide) ?_
            subst hQ
            exact ret_l C hr hlocks h (M2, Ey) (⟨hS2, by rw [hU]; exact h20⟩) (by
                rw [hU]
                unfold keyV
                first | (rw [if_pos (by omega)]; done) | (rw [if_neg (by omega), if_pos (by omega)]; done) | (rw [if_neg (by omega), if_neg (by omega), if_pos (by omega)]; done) | (rw [if_neg (by omega), if_neg (by omega), if_neg (by omega), if_pos (by omega)]; done) | (rw [if_neg (by omega), if_neg (by omega), if_neg (by omega), if_neg (by omega), if_pos (by omega)]; done) | (rw [if_neg (by omega), if_neg (by omega), if_neg (by omega), if_neg (by omega), if_neg (by omega)]; cases hz : kx.2.2 with
                  | none => first | (rw [if_pos rfl]; done) | (rw [hz] at hsec; rw [show mA M2 15 q = none from hsec] at c129; cases c129)
                  | some z => first | (rw [if_neg (fun e => by cases e)]; done) | (rw [hz] at hsec; obtain ⟨a, ha, -⟩ := hsec; rw [ha] at c129; cases c129))) rfl (by omega) (by omega) dX7_key_75
      · have hU := keyS_b hq (Or.inr (Int32.not_le.mp c18))
        refine lv_iconst (v := nI 1) hx hb dX7_key_21 (by decide) ?_
        refine lv_goto (tgt := 26) hx hb dX7_key_22 (by decide) ?_
        refine m_pi C h 0 (v := nI 1) (by decide) rfl rfl rfl q1870 rfl rfl dX7_key_26 (fun H locs h => ?_)
        refine lv_aload_n hx hb dX7_key_29 rfl (lv_at hl 1 rfl) ?_
        refine m_gi C h 0 (by decide) rfl rfl q1870 (v := nI 1) rfl dX7_key_30 ?_
        refine n_if_le (tgt := 38) hx hb (by omega) dX7_key_33 (by decide) (fun c33 => by exfalso; omega) (fun c33 => ?_)
        refine lv_lconst (v := lN 0) hx hb dX7_key_36 (by decide) ?_
        subst hQ
        have h : Wd D B s (mw dA h0 ad (sI M 0 (nI 1)) ++ (F ++ [])) H locs := by rw [List.append_nil]; exact h
        exact ret_l C hr hlocks h (sI M 0 (nI 1), []) (⟨by rw [List.append_nil]; exact hS, by rw [hU]; rfl⟩) (by rw [hU]) rfl (by omega) (by omega) dX7_key_37
