set_option maxRecDepth 100000

/-- the ring -/
def CurR (dA : Nat → ClassId) (F : va_W) (ad : Nat → Nat) (M : MS) (L : List PK) : Prop := RingAt dA F M 13 14 15 L ∧ mI M 12 = nI L.length ∧ mR M 13 = some (ad 13) ∧ mR M 14 = some (ad 14) ∧ mR M 15 = some (ad 15)
theorem CurR.kp {dA : Nat → ClassId} {F F' : va_W} {ad : Nat → Nat} {M M' : MS} {L : List PK} (h : CurR dA F ad M L) (hk : Kp M M') (hs : ∀ x ∈ F, x ∈ F') : CurR dA F' ad M' L :=
  ⟨h.1.up hs (hk.2.2.2.1 13 (by decide)) (by rw [hk.2.2.2.2]) (by rw [hk.2.2.2.2]), (hk.1 12 (by decide)).trans h.2.1, (hk.2.2.1 13 (by decide)).trans h.2.2.1, (hk.2.2.1 14 (by decide)).trans h.2.2.2.1, (hk.2.2.1 15 (by decide)).trans h.2.2.2.2⟩
def nthX (kd : Nat) (L : List PK) (x : Int32) : Nat → Nat → Nat → Option Nat
  | 0, _, _ => none
  | n + 1, a, c => if nI (c + (if (L[a]?.map (·.1)) = some kd then 1 else 0)) - 1 = x ∧ ¬ x < 0 then some a else nthX kd L x n (a + 1) (c + (if (L[a]?.map (·.1)) = some kd then 1 else 0))
theorem nthX_lt {kd : Nat} {L : List PK} {x : Int32} : ∀ {n a c i : Nat}, nthX kd L x n a c = some i → a ≤ i ∧ i < a + n := by
  intro n
  induction n with
  | zero => intro a c i h; cases h
  | succ n ih =>
    intro a c i h
    rw [nthX] at h
    generalize (if (L[a]?.map (·.1)) = some kd then 1 else 0) = z9 at h
    split at h
    · cases h; omega
    · have := ih h; omega
def placeS (L : List PK) (x : Int32) : Option Nat := nthX 6 L x L.length 0 0
def partS (L : List PK) (q : Nat) (x : Int32) : Option Nat := if x = -1 then some q else nthX 14 L x (sk (notK 6) L (q + 1) - (q + 1)) (q + 1) 0
theorem pred_p (c : Nat) : nI c - 1 + nI 1 = nI (c + 1) - 1 := by
  rw [show nI 1 = 1 from rfl, Int32.sub_add_cancel, nI_pred]

set_option maxHeartbeats 400000 in
set_option maxRecDepth 100000 in
theorem c7_lastOf (l : Launch) (D : va_G) (dA : Nat → ClassId) (B : Nat) (Z : State → Prop) (hZ : Stab B Z) (h0 : Nat) (ad : Nat → Nat) (M : MS) (F : va_W) (L : List PK) (q : Nat) (hR : CurR dA F ad M L) (hPK : PKs L) (hLl : L.length ≤ 4650) (hq : q < L.length) :
    Ct (S := Unit) l D dA B Z yX7_lastOf cX7_lastOf 3 (some .int) 1 0 0 [.ref h0, .int (nI q)] (mw dA h0 ad M ++ F) (fun _ => True) (fun _ => some (.int (nI (sk (notK 6) L (q + 1))))) (fun _ => mw dA h0 ad M ++ F) := by
  refine Ct.mk2 (by decide) (Nat.le_of_ble_eq_true rfl) hZ ?_
  intro p e R s m args below meth c ls Q C hr hlocks hin hQ hl h
  have C0 := C
  obtain ⟨hx, hb, hml, hown, hts, -⟩ := C0
  have hl : lv_has ls 3 [(0, .ref h0), (1, .int (nI q))] := hl
  refine lv_iload_n hx hb dX7_lastOf_0 rfl (lv_at hl 1 rfl) ?_
  refine lv_iconst (v := nI 1) hx hb dX7_lastOf_1 (by decide) ?_
  refine lv_iadd hx hb dX7_lastOf_2 (n_top (y := nI (q + 1)) (nI_add q 1) ?_)
  refine lv_istore_n (lv' := [(2, .int (nI (q + 1))), (0, .ref h0), (1, .int (nI q))]) hx hb dX7_lastOf_3 rfl hl (by decide) rfl (fun ls hl => ?_)
  have loop : ∀ (nn : Nat) (i : Nat), (sk (notK 6) L (q + 1) = sk (notK 6) L i) → (i ≤ L.length) → L.length - i < nn → ∀ (H : Heap) (locs : List Loc), Wd D B s (mw dA h0 ad M ++ F) H locs → ∀ (ls : Array Slot), lv_has ls 3 [(0, .ref h0), (2, .int (nI i))] → W p l e R s m args below meth c H locs 0 0 Q (F0 m 4 ls []) := by
    intro nn
    induction nn with
    | zero => intro i  hi0 hi1 hme; exact absurd hme (Nat.not_lt_zero _)
    | succ nn ih =>
      intro i  hi0 hi1 hme H locs h ls hl
      refine lv_iload_n hx hb dX7_lastOf_4 rfl (lv_at hl 1 rfl) ?_
      refine lv_aload_n hx hb dX7_lastOf_5 rfl (lv_at hl 0 rfl) ?_
      refine m_gi C h 12 (by decide) rfl rfl q1882 (v := nI L.length) hR.2.1 dX7_lastOf_6 ?_
      refine n_icmp_ge (tgt := 29) hx hb (by omega) (by omega) dX7_lastOf_9 (by decide) (fun c9 => ?_) (fun c9 => ?_)
      · refine lv_iload_n hx hb dX7_lastOf_29 rfl (lv_at hl 1 rfl) ?_
        subst hQ
        exact ret_i C hr hlocks h () trivial (by first | (rw [hi0, sk_end (by omega)]; done) | (rw [hi0, sk_stop hx9 (by simp [notK]; omega)]; done)) rfl (by omega) (by omega) dX7_lastOf_30
      · obtain ⟨x9, hx9⟩ : ∃ z, L[i]? = some z := ⟨_, List.getElem?_eq_getElem (by omega)⟩
        obtain ⟨hx9k, hx9b, hx9s⟩ := hR.1 _ _ hx9
        have hx9o := hPK.at hx9
        have hx91 := hx9o.1
        refine lv_aload_n hx hb dX7_lastOf_12 rfl (lv_at hl 0 rfl) ?_
        refine m_gr C h 13 (by decide) rfl rfl q1883 (v := some (ad 13)) hR.2.2.1 dX7_lastOf_13 ?_
        refine lv_iload_n hx hb dX7_lastOf_16 rfl (lv_at hl 1 rfl) ?_
        refine n_iald C h (v := (mG M 13) i) (mw_memG (k := 13) (by decide)) (show i < 4700 by omega) (by decide) rfl dX7_lastOf_17 ?_
        refine n_top (y := nI x9.1) (congrArg nI hx9k) ?_
        refine lv_bipush (v := nI 6) hx hb dX7_lastOf_18 (by decide) ?_
        refine n_icmp_eq (tgt := 29) hx hb (by omega) (by omega) dX7_lastOf_20 (by decide) (fun c20 => ?_) (fun c20 => ?_)
        · refine lv_iload_n hx hb dX7_lastOf_29 rfl (lv_at hl 1 rfl) ?_
          subst hQ
          exact ret_i C hr hlocks h () trivial (by first | (rw [hi0, sk_end (by omega)]; done) | (rw [hi0, sk_stop hx9 (by simp [notK]; omega)]; done)) rfl (by omega) (by omega) dX7_lastOf_30
        · refine lv_iinc (v := nI (i + 1)) (lv' := [(2, .int (nI (i + 1))), (0, .ref h0)]) hx hb dX7_lastOf_23 hl (k := 1) rfl (nI_add i 1) (by decide) rfl (fun ls hl => ?_)
          refine lv_goto (tgt := 4) hx hb dX7_lastOf_26 (by decide) ?_
          exact ih (i + 1) (by rw [hi0, sk_go hx9 (by simp [notK]; omega)]) (by omega) (by omega) _ _ h _ (lv_sub hl [1, 0] rfl)
  exact loop _ (q + 1) rfl (by omega) (Nat.lt_succ_self _) _ _ h _ (lv_sub hl [1, 0] rfl)
set_option maxHeartbeats 400000 in
set_option maxRecDepth 100000 in
theorem c7_placeOf (l : Launch) (D : va_G) (dA : Nat → ClassId) (B : Nat) (Z : State → Prop) (hZ : Stab B Z) (h0 : Nat) (ad : Nat → Nat) (M : MS) (F : va_W) (L : List PK) (x : Int32) (hR : CurR dA F ad M L) (hPK : PKs L) (hLl : L.length ≤ 4650) :
    Ct (S := Unit) l D dA B Z yX7_placeOf cX7_placeOf 4 (some .int) 1 0 0 [.ref h0, .int x] (mw dA h0 ad M ++ F) (fun _ => True) (fun _ => some (.int (oI (placeS L x)))) (fun _ => mw dA h0 ad M ++ F) := by
  refine Ct.mk2 (by decide) (Nat.le_of_ble_eq_true rfl) hZ ?_
  intro p e R s m args below meth c ls Q C hr hlocks hin hQ hl h
  have C0 := C
  obtain ⟨hx, hb, hml, hown, hts, -⟩ := C0
  have hl : lv_has ls 4 [(0, .ref h0), (1, .int x)] := hl
  refine lv_iconst (v := -1) hx hb dX7_placeOf_0 (by decide) ?_
  refine lv_istore_n (lv' := [(2, .int (-1)), (0, .ref h0), (1, .int x)]) hx hb dX7_placeOf_1 rfl hl (by decide) rfl (fun ls hl => ?_)
  refine lv_iconst (v := nI 0) hx hb dX7_placeOf_2 (by decide) ?_
  refine lv_istore_n (lv' := [(3, .int (nI 0)), (2, .int (-1)), (0, .ref h0), (1, .int x)]) hx hb dX7_placeOf_3 rfl hl (by decide) rfl (fun ls hl => ?_)
  have hl : lv_has ls 4 [(3, .int (nI 0)), (2, .int (nI 0 - 1)), (0, .ref h0), (1, .int x)] := hl
  have loop : ∀ (nn : Nat) (i cn : Nat), (placeS L x = nthX 6 L x (L.length - i) i cn) → (i ≤ L.length) → (cn ≤ i) → L.length - i < nn → ∀ (H : Heap) (locs : List Loc), Wd D B s (mw dA h0 ad M ++ F) H locs → ∀ (ls : Array Slot), lv_has ls 4 [(0, .ref h0), (1, .int x), (2, .int (nI cn - 1)), (3, .int (nI i))] → W p l e R s m args below meth c H locs 0 0 Q (F0 m 4 ls []) := by
    intro nn
    induction nn with
    | zero => intro i cn  hi0 hi1 hi2 hme; exact absurd hme (Nat.not_lt_zero _)
    | succ nn ih =>
      intro i cn  hi0 hi1 hi2 hme H locs h ls hl
      refine lv_iload_n hx hb dX7_placeOf_4 rfl (lv_at hl 3 rfl) ?_
      refine lv_aload_n hx hb dX7_placeOf_5 rfl (lv_at hl 0 rfl) ?_
      refine m_gi C h 12 (by decide) rfl rfl q1882 (v := nI L.length) hR.2.1 dX7_placeOf_6 ?_
      refine n_icmp_ge (tgt := 48) hx hb (by omega) (by omega) dX7_placeOf_9 (by decide) (fun c9 => ?_) (fun c9 => ?_)
      · refine lv_iconst (v := -1) hx hb dX7_placeOf_48 (by decide) ?_
        subst hQ
        have hfin : placeS L x = none := by rw [hi0, show L.length - i = 0 by omega]; rfl
        exact ret_i C hr hlocks h () trivial (by rw [hfin]; rfl) rfl (by omega) (by omega) dX7_placeOf_49
      · obtain ⟨x9, hx9⟩ : ∃ z, L[i]? = some z := ⟨_, List.getElem?_eq_getElem (by omega)⟩
        obtain ⟨hx9k, hx9b, hx9s⟩ := hR.1 _ _ hx9
        have hx9o := hPK.at hx9
        have hx91 := hx9o.1
        have hstep : nthX 6 L x (L.length - i) i cn = if nI (cn + (if x9.1 = 6 then 1 else 0)) - 1 = x ∧ ¬ x < 0 then some i else nthX 6 L x (L.length - (i + 1)) (i + 1) (cn + (if x9.1 = 6 then 1 else 0)) := by
          have e9 : (if (L[i]?.map (·.1)) = some 6 then 1 else 0 : Nat) = if x9.1 = 6 then 1 else 0 := by
            rw [hx9, Option.map_some]
            by_cases z : x9.1 = 6
            · rw [if_pos z, if_pos (congrArg some z)]
            · rw [if_neg z, if_neg (fun y => z (Option.some.inj y))]
          rw [show L.length - i = (L.length - (i + 1)) + 1 by omega, nthX, e9]
        have jc : ∀ (H : Heap) (locs : List Loc), Wd D B s (mw dA h0 ad M ++ F) H locs → ∀ (ls : Array Slot), lv_has ls 4 [(0, .ref h0), (1, .int x), (2, .int (nI cn - 1)), (3, .int (nI i))] → W p l e R s m args below meth c H locs 0 0 Q (F0 m 30 ls [.int (nI (cn + (if x9.1 = 6 then 1 else 0)) - 1)]) := by
          intro   H locs h ls hl
          refine lv_istore_n (lv' := [(2, .int (nI (cn + (if x9.1 = 6 then 1 else 0)) - 1)), (0, .ref h0), (1, .int x), (3, .int (nI i))]) hx hb dX7_placeOf_30 rfl hl (by decide) rfl (fun ls hl => ?_)
          refine lv_iload_n hx hb dX7_placeOf_31 rfl (lv_at hl 0 rfl) ?_
          refine lv_iload_n hx hb dX7_placeOf_32 rfl (lv_at hl 2 rfl) ?_
          refine lv_icmp_ne (tgt := 42) hx hb dX7_placeOf_33 (by decide) (fun c33 => ?_) (fun c33 => ?_)
          · refine lv_iinc (v := nI (i + 1)) (lv' := [(3, .int (nI (i + 1))), (2, .int (nI (cn + (if x9.1 = 6 then 1 else 0)) - 1)), (0, .ref h0), (1, .int x)]) hx hb dX7_placeOf_42 hl (k := 3) rfl (nI_add i 1) (by decide) rfl (fun ls hl => ?_)
            refine lv_goto (tgt := 4) hx hb dX7_placeOf_45 (by decide) ?_
            exact ih (i + 1) (cn + (if x9.1 = 6 then 1 else 0)) (by rw [hi0, hstep, if_neg (by first | (intro z; exact c33 z.1) | (intro z; exact z.2 c37))]) (by omega) (by split <;> omega) (by omega) _ _ h _ (lv_sub hl [2, 3, 1, 0] rfl)
          · refine lv_iload_n hx hb dX7_placeOf_36 rfl (lv_at hl 2 rfl) ?_
            refine lv_if_lt (tgt := 42) hx hb dX7_placeOf_37 (by decide) (fun c37 => ?_) (fun c37 => ?_)
            · refine lv_iinc (v := nI (i + 1)) (lv' := [(3, .int (nI (i + 1))), (2, .int (nI (cn + (if x9.1 = 6 then 1 else 0)) - 1)), (0, .ref h0), (1, .int x)]) hx hb dX7_placeOf_42 hl (k := 3) rfl (nI_add i 1) (by decide) rfl (fun ls hl => ?_)
              refine lv_goto (tgt := 4) hx hb dX7_placeOf_45 (by decide) ?_
              exact ih (i + 1) (cn + (if x9.1 = 6 then 1 else 0)) (by rw [hi0, hstep, if_neg (by first | (intro z; exact c33 z.1) | (intro z; exact z.2 c37))]) (by omega) (by split <;> omega) (by omega) _ _ h _ (lv_sub hl [2, 3, 1, 0] rfl)
            · refine lv_iload_n hx hb dX7_placeOf_40 rfl (lv_at hl 3 rfl) ?_
              subst hQ
              have hfin : placeS L x = some i := by rw [hi0, hstep, if_pos ⟨c33, c37⟩]
              exact ret_i C hr hlocks h () trivial (by rw [hfin]; rfl) rfl (by omega) (by omega) dX7_placeOf_41
        refine lv_aload_n hx hb dX7_placeOf_12 rfl (lv_at hl 0 rfl) ?_
        refine m_gr C h 13 (by decide) rfl rfl q1883 (v := some (ad 13)) hR.2.2.1 dX7_placeOf_13 ?_
        refine lv_iload_n hx hb dX7_placeOf_16 rfl (lv_at hl 3 rfl) ?_
        refine n_iald C h (v := (mG M 13) i) (mw_memG (k := 13) (by decide)) (show i < 4700 by omega) (by decide) rfl dX7_placeOf_17 ?_
        refine n_top (y := nI x9.1) (congrArg nI hx9k) ?_
        refine lv_bipush (v := nI 6) hx hb dX7_placeOf_18 (by decide) ?_
        refine n_icmp_ne (tgt := 29) hx hb (by omega) (by omega) dX7_placeOf_20 (by decide) (fun c20 => ?_) (fun c20 => ?_)
        · refine lv_iload_n hx hb dX7_placeOf_29 rfl (lv_at hl 2 rfl) ?_
          refine n_top (y := nI (cn + (if x9.1 = 6 then 1 else 0)) - 1) (by first | (rw [if_pos c20]; exact pred_p cn) | (rw [if_neg c20, Nat.add_zero])) ?_
          exact jc   _ _ h _ (lv_sub hl [0, 1, 2, 3] rfl)
        · refine lv_iload_n hx hb dX7_placeOf_23 rfl (lv_at hl 2 rfl) ?_
          refine lv_iconst (v := nI 1) hx hb dX7_placeOf_24 (by decide) ?_
          refine lv_iadd hx hb dX7_placeOf_25 ?_
          refine lv_goto (tgt := 30) hx hb dX7_placeOf_26 (by decide) ?_
          refine n_top (y := nI (cn + (if x9.1 = 6 then 1 else 0)) - 1) (by first | (rw [if_pos c20]; exact pred_p cn) | (rw [if_neg c20, Nat.add_zero])) ?_
          exact jc   _ _ h _ (lv_sub hl [0, 1, 2, 3] rfl)
  exact loop _ 0 0 (by unfold placeS; rw [Nat.sub_zero]) (by omega) (by omega) (Nat.lt_succ_self _) _ _ h _ (lv_sub hl [2, 3, 1, 0] rfl)
set_option maxHeartbeats 400000 in
set_option maxRecDepth 100000 in
theorem c7_partOf (l : Launch) (D : va_G) (dA : Nat → ClassId) (B : Nat) (Z : State → Prop) (hZ : Stab B Z) (h0 : Nat) (ad : Nat → Nat) (M : MS) (F : va_W) (L : List PK) (q : Nat) (x : Int32) (hR : CurR dA F ad M L) (hPK : PKs L) (hLl : L.length ≤ 4650) (hq : q < L.length) :
    Ct (S := Unit) l D dA B Z yX7_partOf cX7_partOf 5 (some .int) 2 0 0 [.ref h0, .int (nI q), .int x] (mw dA h0 ad M ++ F) (fun _ => True) (fun _ => some (.int (oI (partS L q x)))) (fun _ => mw dA h0 ad M ++ F) := by
  refine Ct.mk2 (by decide) (Nat.le_of_ble_eq_true rfl) hZ ?_
  intro p e R s m args below meth c ls Q C hr hlocks hin hQ hl h
  have C0 := C
  obtain ⟨hx, hb, hml, hown, hts, -⟩ := C0
  have hl : lv_has ls 5 [(0, .ref h0), (1, .int (nI q)), (2, .int x)] := hl
  refine lv_iload_n hx hb dX7_partOf_0 rfl (lv_at hl 2 rfl) ?_
  refine lv_iconst (v := -1) hx hb dX7_partOf_1 (by decide) ?_
  refine lv_icmp_ne (tgt := 7) hx hb dX7_partOf_2 (by decide) (fun c2 => ?_) (fun c2 => ?_)
  · refine lv_iconst (v := -1) hx hb dX7_partOf_7 (by decide) ?_
    refine lv_istore_n (lv' := [(3, .int (-1)), (0, .ref h0), (1, .int (nI q)), (2, .int x)]) hx hb dX7_partOf_8 rfl hl (by decide) rfl (fun ls hl => ?_)
    refine lv_iload_n hx hb dX7_partOf_9 rfl (lv_at hl 2 rfl) ?_
    refine lv_iconst (v := nI 1) hx hb dX7_partOf_10 (by decide) ?_
    refine lv_iadd hx hb dX7_partOf_11 (n_top (y := nI (q + 1)) (nI_add q 1) ?_)
    refine lv_istore (lv' := [(4, .int (nI (q + 1))), (3, .int (-1)), (0, .ref h0), (1, .int (nI q)), (2, .int x)]) hx hb dX7_partOf_12 hl (by decide) rfl (fun ls hl => ?_)
    have hsl := sk_le (P := notK 6) (L := L) (q := q + 1) (by omega)
    obtain ⟨en, hen⟩ : ∃ z, z = sk (notK 6) L (q + 1) := ⟨_, rfl⟩
    rw [← hen] at hsl
    have hp0 : partS L q x = nthX 14 L x (en - (q + 1)) (q + 1) 0 := by unfold partS; rw [if_neg c2, ← hen]
    have hl : lv_has ls 5 [(4, .int (nI (q + 1))), (3, .int (nI 0 - 1)), (0, .ref h0), (1, .int (nI q)), (2, .int x)] := hl
    have loop : ∀ (nn : Nat) (i cn : Nat), (partS L q x = nthX 14 L x (en - i) i cn) → (i ≤ en) → (cn ≤ i) → en - i < nn → ∀ (H : Heap) (locs : List Loc), Wd D B s (mw dA h0 ad M ++ F) H locs → ∀ (ls : Array Slot), lv_has ls 5 [(0, .ref h0), (1, .int (nI q)), (2, .int x), (3, .int (nI cn - 1)), (4, .int (nI i))] → W p l e R s m args below meth c H locs 0 0 Q (F0 m 14 ls []) := by
      intro nn
      induction nn with
      | zero => intro i cn  hi0 hi1 hi2 hme; exact absurd hme (Nat.not_lt_zero _)
      | succ nn ih =>
        intro i cn  hi0 hi1 hi2 hme H locs h ls hl
        refine lv_iload hx hb dX7_partOf_14 (lv_at hl 4 rfl) ?_
        refine lv_aload_n hx hb dX7_partOf_16 rfl (lv_at hl 0 rfl) ?_
        refine lv_iload_n hx hb dX7_partOf_17 rfl (lv_at hl 1 rfl) ?_
        refine call_V (As := [.int (nI q)]) (rest := [.int (nI i)]) (n := 1) C h (c7_lastOf l D dA B Z hZ h0 ad M F L q hR hPK hLl hq) (lw_V q2476 q2478 qs110 q138 q2479) (by decide +kernel) (ci := 5) rfl rfl mw_mem0 (by decide) (by decide) rfl hl rfl (Nat.le_of_ble_eq_true rfl) dX7_partOf_18 (by omega) (fun _ H locs _ h => ?_)
        refine n_top (y := nI en) (by rw [hen]) ?_
        refine n_icmp_ge (tgt := 62) hx hb (by omega) (by omega) dX7_partOf_21 (by decide) (fun c21 => ?_) (fun c21 => ?_)
        · refine lv_iconst (v := -1) hx hb dX7_partOf_62 (by decide) ?_
          subst hQ
          have hfin : partS L q x = none := by rw [hi0, show en - i = 0 by omega]; rfl
          exact ret_i C hr hlocks h () trivial (by rw [hfin]; rfl) rfl (by omega) (by omega) dX7_partOf_63
        · obtain ⟨x9, hx9⟩ : ∃ z, L[i]? = some z := ⟨_, List.getElem?_eq_getElem (by omega)⟩
          obtain ⟨hx9k, hx9b, hx9s⟩ := hR.1 _ _ hx9
          have hx9o := hPK.at hx9
          have hx91 := hx9o.1
          have hstep : nthX 14 L x (en - i) i cn = if nI (cn + (if x9.1 = 14 then 1 else 0)) - 1 = x ∧ ¬ x < 0 then some i else nthX 14 L x (en - (i + 1)) (i + 1) (cn + (if x9.1 = 14 then 1 else 0)) := by
            have e9 : (if (L[i]?.map (·.1)) = some 14 then 1 else 0 : Nat) = if x9.1 = 14 then 1 else 0 := by
              rw [hx9, Option.map_some]
              by_cases z : x9.1 = 14
              · rw [if_pos z, if_pos (congrArg some z)]
              · rw [if_neg z, if_neg (fun y => z (Option.some.inj y))]
            rw [show en - i = (en - (i + 1)) + 1 by omega, nthX, e9]
          have jc : ∀ (H : Heap) (locs : List Loc), Wd D B s (mw dA h0 ad M ++ F) H locs → ∀ (ls : Array Slot), lv_has ls 5 [(0, .ref h0), (1, .int (nI q)), (2, .int x), (3, .int (nI cn - 1)), (4, .int (nI i))] → W p l e R s m args below meth c H locs (0 + 0) (0 + 0) Q (F0 m 43 ls [.int (nI (cn + (if x9.1 = 14 then 1 else 0)) - 1)]) := by
            intro   H locs h ls hl
            refine lv_istore_n (lv' := [(3, .int (nI (cn + (if x9.1 = 14 then 1 else 0)) - 1)), (0, .ref h0), (1, .int (nI q)), (2, .int x), (4, .int (nI i))]) hx hb dX7_partOf_43 rfl hl (by decide) rfl (fun ls hl => ?_)
            refine lv_iload_n hx hb dX7_partOf_44 rfl (lv_at hl 0 rfl) ?_
            refine lv_iload_n hx hb dX7_partOf_45 rfl (lv_at hl 3 rfl) ?_
            refine lv_icmp_ne (tgt := 56) hx hb dX7_partOf_46 (by decide) (fun c46 => ?_) (fun c46 => ?_)
            · refine lv_iinc (v := nI (i + 1)) (lv' := [(4, .int (nI (i + 1))), (3, .int (nI (cn + (if x9.1 = 14 then 1 else 0)) - 1)), (0, .ref h0), (1, .int (nI q)), (2, .int x)]) hx hb dX7_partOf_56 hl (k := 4) rfl (nI_add i 1) (by decide) rfl (fun ls hl => ?_)
              refine lv_goto (tgt := 14) hx hb dX7_partOf_59 (by decide) ?_
              exact ih (i + 1) (cn + (if x9.1 = 14 then 1 else 0)) (by rw [hi0, hstep, if_neg (by first | (intro z; exact c46 z.1) | (intro z; exact z.2 c50))]) (by omega) (by split <;> omega) (by omega) _ _ h _ (lv_sub hl [2, 3, 4, 1, 0] rfl)
            · refine lv_iload_n hx hb dX7_partOf_49 rfl (lv_at hl 3 rfl) ?_
              refine lv_if_lt (tgt := 56) hx hb dX7_partOf_50 (by decide) (fun c50 => ?_) (fun c50 => ?_)
              · refine lv_iinc (v := nI (i + 1)) (lv' := [(4, .int (nI (i + 1))), (3, .int (nI (cn + (if x9.1 = 14 then 1 else 0)) - 1)), (0, .ref h0), (1, .int (nI q)), (2, .int x)]) hx hb dX7_partOf_56 hl (k := 4) rfl (nI_add i 1) (by decide) rfl (fun ls hl => ?_)
                refine lv_goto (tgt := 14) hx hb dX7_partOf_59 (by decide) ?_
                exact ih (i + 1) (cn + (if x9.1 = 14 then 1 else 0)) (by rw [hi0, hstep, if_neg (by first | (intro z; exact c46 z.1) | (intro z; exact z.2 c50))]) (by omega) (by split <;> omega) (by omega) _ _ h _ (lv_sub hl [2, 3, 4, 1, 0] rfl)
              · refine lv_iload hx hb dX7_partOf_53 (lv_at hl 4 rfl) ?_
                subst hQ
                have hfin : partS L q x = some i := by rw [hi0, hstep, if_pos ⟨c46, c50⟩]
                exact ret_i C hr hlocks h () trivial (by rw [hfin]; rfl) rfl (by omega) (by omega) dX7_partOf_55
          refine lv_aload_n hx hb dX7_partOf_24 rfl (lv_at hl 0 rfl) ?_
          refine m_gr C h 13 (by decide) rfl rfl q1883 (v := some (ad 13)) hR.2.2.1 dX7_partOf_25 ?_
          refine lv_iload hx hb dX7_partOf_28 (lv_at hl 4 rfl) ?_
          refine n_iald C h (v := (mG M 13) i) (mw_memG (k := 13) (by decide)) (show i < 4700 by omega) (by decide) rfl dX7_partOf_30 ?_
          refine n_top (y := nI x9.1) (congrArg nI hx9k) ?_
          refine lv_bipush (v := nI 14) hx hb dX7_partOf_31 (by decide) ?_
          refine n_icmp_ne (tgt := 42) hx hb (by omega) (by omega) dX7_partOf_33 (by decide) (fun c33 => ?_) (fun c33 => ?_)
          · refine lv_iload_n hx hb dX7_partOf_42 rfl (lv_at hl 3 rfl) ?_
            refine n_top (y := nI (cn + (if x9.1 = 14 then 1 else 0)) - 1) (by first | (rw [if_pos c33]; exact pred_p cn) | (rw [if_neg c33, Nat.add_zero])) ?_
            exact jc   _ _ h _ (lv_sub hl [0, 1, 2, 3, 4] rfl)
          · refine lv_iload_n hx hb dX7_partOf_36 rfl (lv_at hl 3 rfl) ?_
            refine lv_iconst (v := nI 1) hx hb dX7_partOf_37 (by decide) ?_
            refine lv_iadd hx hb dX7_partOf_38 ?_
            refine lv_goto (tgt := 43) hx hb dX7_partOf_39 (by decide) ?_
            refine n_top (y := nI (cn + (if x9.1 = 14 then 1 else 0)) - 1) (by first | (rw [if_pos c33]; exact pred_p cn) | (rw [if_neg c33, Nat.add_zero])) ?_
            exact jc   _ _ h _ (lv_sub hl [0, 1, 2, 3, 4] rfl)
    exact loop _ (q + 1) 0 hp0 (by omega) (by omega) (Nat.lt_succ_self _) _ _ h _ (lv_sub hl [2, 3, 4, 1, 0] rfl)
  · refine lv_iload_n hx hb dX7_partOf_5 rfl (lv_at hl 1 rfl) ?_
    subst hQ
    have hfin : partS L q x = some q := by unfold partS; rw [if_pos c2]
    exact ret_i C hr hlocks h () trivial (by rw [hfin]; rfl) rfl (by omega) (by omega) dX7_partOf_6
set_option maxHeartbeats 400000 in
set_option maxRecDepth 100000 in
theorem c7_howMany (l : Launch) (D : va_G) (dA : Nat → ClassId) (B : Nat) (Z : State → Prop) (hZ : Stab B Z) (h0 : Nat) (ad : Nat → Nat) (M : MS) (F : va_W) (L : List PK) (q k : Nat) (hR : CurR dA F ad M L) (hPK : PKs L) (hLl : L.length ≤ 4650) (hq : q < L.length) (hk : k < 100) :
    Ct (S := Unit) l D dA B Z yX7_howMany cX7_howMany 5 (some .int) 2 0 0 [.ref h0, .int (nI q), .int (nI k)] (mw dA h0 ad M ++ F) (fun _ => True) (fun _ => some (.int (nI (cntF L k (sk (notK 6) L (q + 1) - (q + 1)) (q + 1))))) (fun _ => mw dA h0 ad M ++ F) := by
  refine Ct.mk2 (by decide) (Nat.le_of_ble_eq_true rfl) hZ ?_
  intro p e R s m args below meth c ls Q C hr hlocks hin hQ hl h
  have C0 := C
  obtain ⟨hx, hb, hml, hown, hts, -⟩ := C0
  have hl : lv_has ls 5 [(0, .ref h0), (1, .int (nI q)), (2, .int (nI k))] := hl
  refine lv_iconst (v := nI 0) hx hb dX7_howMany_0 (by decide) ?_
  refine lv_istore_n (lv' := [(3, .int (nI 0)), (0, .ref h0), (1, .int (nI q)), (2, .int (nI k))]) hx hb dX7_howMany_1 rfl hl (by decide) rfl (fun ls hl => ?_)
  refine lv_iload_n hx hb dX7_howMany_2 rfl (lv_at hl 2 rfl) ?_
  refine lv_iconst (v := nI 1) hx hb dX7_howMany_3 (by decide) ?_
  refine lv_iadd hx hb dX7_howMany_4 (n_top (y := nI (q + 1)) (nI_add q 1) ?_)
  refine lv_istore (lv' := [(4, .int (nI (q + 1))), (3, .int (nI 0)), (0, .ref h0), (1, .int (nI q)), (2, .int (nI k))]) hx hb dX7_howMany_5 hl (by decide) rfl (fun ls hl => ?_)
  have hsl := sk_le (P := notK 6) (L := L) (q := q + 1) (by omega)
  obtain ⟨en, hen⟩ : ∃ z, z = sk (notK 6) L (q + 1) := ⟨_, rfl⟩
  rw [← hen] at hsl
  have hl : lv_has ls 5 [(4, .int (nI (q + 1 + 0))), (3, .int (nI (cntF L k 0 (q + 1)))), (0, .ref h0), (1, .int (nI q)), (2, .int (nI k))] := hl
  have loop : ∀ (nn : Nat) (i : Nat), (i ≤ en - (q + 1)) → en - i < nn → ∀ (H : Heap) (locs : List Loc), Wd D B s (mw dA h0 ad M ++ F) H locs → ∀ (ls : Array Slot), lv_has ls 5 [(0, .ref h0), (1, .int (nI q)), (2, .int (nI k)), (3, .int (nI (cntF L k i (q + 1)))), (4, .int (nI (q + 1 + i)))] → W p l e R s m args below meth c H locs 0 0 Q (F0 m 7 ls []) := by
    intro nn
    induction nn with
    | zero => intro i  hi0 hme; exact absurd hme (Nat.not_lt_zero _)
    | succ nn ih =>
      intro i  hi0 hme H locs h ls hl
      refine lv_iload hx hb dX7_howMany_7 (lv_at hl 4 rfl) ?_
      refine lv_aload_n hx hb dX7_howMany_9 rfl (lv_at hl 0 rfl) ?_
      refine lv_iload_n hx hb dX7_howMany_10 rfl (lv_at hl 1 rfl) ?_
      refine call_V (As := [.int (nI q)]) (rest := [.int (nI (q + 1 + i))]) (n := 1) C h (c7_lastOf l D dA B Z hZ h0 ad M F L q hR hPK hLl hq) (lw_V q2476 q2478 qs110 q138 q2479) (by decide +kernel) (ci := 5) rfl rfl mw_mem0 (by decide) (by decide) rfl hl rfl (Nat.le_of_ble_eq_true rfl) dX7_howMany_11 (by omega) (fun _ H locs _ h => ?_)
      refine n_top (y := nI en) (by rw [hen]) ?_
      refine n_icmp_ge (tgt := 42) hx hb (by omega) (by omega) dX7_howMany_14 (by decide) (fun c14 => ?_) (fun c14 => ?_)
      · refine lv_iload_n hx hb dX7_howMany_42 rfl (lv_at hl 3 rfl) ?_
        subst hQ
        have hie : sk (notK 6) L (q + 1) - (q + 1) = i := by omega
        exact ret_i C hr hlocks h () trivial (by rw [hie]) rfl (by omega) (by omega) dX7_howMany_43
      · obtain ⟨x9, hx9⟩ : ∃ z, L[q + 1 + i]? = some z := ⟨_, List.getElem?_eq_getElem (by omega)⟩
        obtain ⟨hx9k, hx9b, hx9s⟩ := hR.1 _ _ hx9
        have hx9o := hPK.at hx9
        have hx91 := hx9o.1
        have hcl := cntF_le L k i (q + 1)
        have jc : ∀ (H : Heap) (locs : List Loc), Wd D B s (mw dA h0 ad M ++ F) H locs → ∀ (ls : Array Slot), lv_has ls 5 [(0, .ref h0), (1, .int (nI q)), (2, .int (nI k)), (3, .int (nI (cntF L k i (q + 1)))), (4, .int (nI (q + 1 + i)))] → W p l e R s m args below meth c H locs (0 + 0) (0 + 0) Q (F0 m 35 ls [.int (nI (cntF L k (i + 1) (q + 1)))]) := by
          intro   H locs h ls hl
          refine lv_istore_n (lv' := [(3, .int (nI (cntF L k (i + 1) (q + 1)))), (0, .ref h0), (1, .int (nI q)), (2, .int (nI k)), (4, .int (nI (q + 1 + i)))]) hx hb dX7_howMany_35 rfl hl (by decide) rfl (fun ls hl => ?_)
          refine lv_iinc (v := nI (q + 1 + i + 1)) (lv' := [(4, .int (nI (q + 1 + i + 1))), (3, .int (nI (cntF L k (i + 1) (q + 1)))), (0, .ref h0), (1, .int (nI q)), (2, .int (nI k))]) hx hb dX7_howMany_36 hl (k := 4) rfl (nI_add (q + 1 + i) 1) (by decide) rfl (fun ls hl => ?_)
          refine lv_goto (tgt := 7) hx hb dX7_howMany_39 (by decide) ?_
          exact ih (i + 1) (by omega) (by omega) _ _ h _ (lv_sub hl [2, 3, 4, 1, 0] rfl)
        refine lv_aload_n hx hb dX7_howMany_17 rfl (lv_at hl 0 rfl) ?_
        refine m_gr C h 13 (by decide) rfl rfl q1883 (v := some (ad 13)) hR.2.2.1 dX7_howMany_18 ?_
        refine lv_iload hx hb dX7_howMany_21 (lv_at hl 4 rfl) ?_
        refine n_iald C h (v := (mG M 13) (q + 1 + i)) (mw_memG (k := 13) (by decide)) (show q + 1 + i < 4700 by omega) (by decide) rfl dX7_howMany_23 ?_
        refine n_top (y := nI x9.1) (congrArg nI hx9k) ?_
        refine lv_iload_n hx hb dX7_howMany_24 rfl (lv_at hl 2 rfl) ?_
        refine n_icmp_ne (tgt := 34) hx hb (by omega) (by omega) dX7_howMany_25 (by decide) (fun c25 => ?_) (fun c25 => ?_)
        · refine lv_iload_n hx hb dX7_howMany_34 rfl (lv_at hl 3 rfl) ?_
          refine n_top (y := nI (cntF L k (i + 1) (q + 1))) (by rw [cntF, hx9, Option.map_some]; first | (rw [if_pos (congrArg some c25)]; done) | (rw [if_neg (fun z => c25 (Option.some.inj z))]; rfl)) ?_
          exact jc   _ _ h _ (lv_sub hl [0, 1, 2, 3, 4] rfl)
        · refine lv_iload_n hx hb dX7_howMany_28 rfl (lv_at hl 3 rfl) ?_
          refine lv_iconst (v := nI 1) hx hb dX7_howMany_29 (by decide) ?_
          refine lv_iadd hx hb dX7_howMany_30 (n_top (y := nI ((cntF L k i (q + 1)) + 1)) (nI_add (cntF L k i (q + 1)) 1) ?_)
          refine lv_goto (tgt := 35) hx hb dX7_howMany_31 (by decide) ?_
          refine n_top (y := nI (cntF L k (i + 1) (q + 1))) (by rw [cntF, hx9, Option.map_some]; first | (rw [if_pos (congrArg some c25)]; done) | (rw [if_neg (fun z => c25 (Option.some.inj z))]; rfl)) ?_
          exact jc   _ _ h _ (lv_sub hl [0, 1, 2, 3, 4] rfl)
  exact loop _ 0 (by omega) (Nat.lt_succ_self _) _ _ h _ (lv_sub hl [2, 3, 4, 1, 0] rfl)

def thingMsg (x : PK) : List Nat := if x.1 = 13 then [180] ++ be 4 x.2.1.length ++ x.2.1 else if x.1 = 14 then keyMsg x.2.1 else []
def atMsg (kx x : PK) : List Nat := keyMsg kx.2.1 ++ thingMsg x

