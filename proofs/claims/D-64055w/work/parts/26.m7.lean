set_option maxRecDepth 100000
def kM (M : MS) (x33 : Int32) (x41 : Int32) (x42 : Int32) (x43 : Int32) (x45 : Int32) (x47 : Int32) (x44 : Option Nat) (x46 : Nat → Nat) : MS := sG (sR (sI (sI (sI (sI (sI (sI M 33 x33) 41 x41) 42 x42) 43 x43) 45 x45) 47 x47) 44 x44) 46 x46
theorem kM_id (M : MS) : kM M (mI M 33) (mI M 41) (mI M 42) (mI M 43) (mI M 45) (mI M 47) (mR M 44) (mG M 46) = M := MS.ext (by
    show upN (upN (upN (upN (upN (upN M.1 33 (M.1 33)) 41 (M.1 41)) 42 (M.1 42)) 43 (M.1 43)) 45 (M.1 45)) 47 (M.1 47) = M.1
    rw [upN_same M.1 33 _ rfl, upN_same M.1 41 _ rfl, upN_same M.1 42 _ rfl, upN_same M.1 43 _ rfl, upN_same M.1 45 _ rfl, upN_same M.1 47 _ rfl]) rfl (by
    show upN M.2.2.1 44 (M.2.2.1 44) = M.2.2.1
    rw [upN_same M.2.2.1 44 _ rfl]) (by
    show upN M.2.2.2.1 46 (M.2.2.2.1 46) = M.2.2.2.1
    rw [upN_same M.2.2.2.1 46 _ rfl]) rfl rfl
theorem kM_33 (M : MS) (x33 : Int32) (x41 : Int32) (x42 : Int32) (x43 : Int32) (x45 : Int32) (x47 : Int32) (x44 : Option Nat) (x46 : Nat → Nat) (y : Int32) : sI (kM M x33 x41 x42 x43 x45 x47 x44 x46) 33 y = kM M y x41 x42 x43 x45 x47 x44 x46 := MS.ext (by
    show upN (upN (upN (upN (upN (upN (upN M.1 33 x33) 41 x41) 42 x42) 43 x43) 45 x45) 47 x47) 33 y = upN (upN (upN (upN (upN (upN M.1 33 y) 41 x41) 42 x42) 43 x43) 45 x45) 47 x47
    rw [upN_comm _ _ _ (by decide : (47 : Nat) ≠ 33), upN_comm _ _ _ (by decide : (45 : Nat) ≠ 33), upN_comm _ _ _ (by decide : (43 : Nat) ≠ 33), upN_comm _ _ _ (by decide : (42 : Nat) ≠ 33), upN_comm _ _ _ (by decide : (41 : Nat) ≠ 33), upN_upN]) rfl rfl rfl rfl rfl
theorem kM_41 (M : MS) (x33 : Int32) (x41 : Int32) (x42 : Int32) (x43 : Int32) (x45 : Int32) (x47 : Int32) (x44 : Option Nat) (x46 : Nat → Nat) (y : Int32) : sI (kM M x33 x41 x42 x43 x45 x47 x44 x46) 41 y = kM M x33 y x42 x43 x45 x47 x44 x46 := MS.ext (by
    show upN (upN (upN (upN (upN (upN (upN M.1 33 x33) 41 x41) 42 x42) 43 x43) 45 x45) 47 x47) 41 y = upN (upN (upN (upN (upN (upN M.1 33 x33) 41 y) 42 x42) 43 x43) 45 x45) 47 x47
    rw [upN_comm _ _ _ (by decide : (47 : Nat) ≠ 41), upN_comm _ _ _ (by decide : (45 : Nat) ≠ 41), upN_comm _ _ _ (by decide : (43 : Nat) ≠ 41), upN_comm _ _ _ (by decide : (42 : Nat) ≠ 41), upN_upN]) rfl rfl rfl rfl rfl
theorem kM_42 (M : MS) (x33 : Int32) (x41 : Int32) (x42 : Int32) (x43 : Int32) (x45 : Int32) (x47 : Int32) (x44 : Option Nat) (x46 : Nat → Nat) (y : Int32) : sI (kM M x33 x41 x42 x43 x45 x47 x44 x46) 42 y = kM M x33 x41 y x43 x45 x47 x44 x46 := MS.ext (by
    show upN (upN (upN (upN (upN (upN (upN M.1 33 x33) 41 x41) 42 x42) 43 x43) 45 x45) 47 x47) 42 y = upN (upN (upN (upN (upN (upN M.1 33 x33) 41 x41) 42 y) 43 x43) 45 x45) 47 x47
    rw [upN_comm _ _ _ (by decide : (47 : Nat) ≠ 42), upN_comm _ _ _ (by decide : (45 : Nat) ≠ 42), upN_comm _ _ _ (by decide : (43 : Nat) ≠ 42), upN_upN]) rfl rfl rfl rfl rfl
theorem kM_43 (M : MS) (x33 : Int32) (x41 : Int32) (x42 : Int32) (x43 : Int32) (x45 : Int32) (x47 : Int32) (x44 : Option Nat) (x46 : Nat → Nat) (y : Int32) : sI (kM M x33 x41 x42 x43 x45 x47 x44 x46) 43 y = kM M x33 x41 x42 y x45 x47 x44 x46 := MS.ext (by
    show upN (upN (upN (upN (upN (upN (upN M.1 33 x33) 41 x41) 42 x42) 43 x43) 45 x45) 47 x47) 43 y = upN (upN (upN (upN (upN (upN M.1 33 x33) 41 x41) 42 x42) 43 y) 45 x45) 47 x47
    rw [upN_comm _ _ _ (by decide : (47 : Nat) ≠ 43), upN_comm _ _ _ (by decide : (45 : Nat) ≠ 43), upN_upN]) rfl rfl rfl rfl rfl
theorem kM_45 (M : MS) (x33 : Int32) (x41 : Int32) (x42 : Int32) (x43 : Int32) (x45 : Int32) (x47 : Int32) (x44 : Option Nat) (x46 : Nat → Nat) (y : Int32) : sI (kM M x33 x41 x42 x43 x45 x47 x44 x46) 45 y = kM M x33 x41 x42 x43 y x47 x44 x46 := MS.ext (by
    show upN (upN (upN (upN (upN (upN (upN M.1 33 x33) 41 x41) 42 x42) 43 x43) 45 x45) 47 x47) 45 y = upN (upN (upN (upN (upN (upN M.1 33 x33) 41 x41) 42 x42) 43 x43) 45 y) 47 x47
    rw [upN_comm _ _ _ (by decide : (47 : Nat) ≠ 45), upN_upN]) rfl rfl rfl rfl rfl
theorem kM_47 (M : MS) (x33 : Int32) (x41 : Int32) (x42 : Int32) (x43 : Int32) (x45 : Int32) (x47 : Int32) (x44 : Option Nat) (x46 : Nat → Nat) (y : Int32) : sI (kM M x33 x41 x42 x43 x45 x47 x44 x46) 47 y = kM M x33 x41 x42 x43 x45 y x44 x46 := MS.ext (by
    show upN (upN (upN (upN (upN (upN (upN M.1 33 x33) 41 x41) 42 x42) 43 x43) 45 x45) 47 x47) 47 y = upN (upN (upN (upN (upN (upN M.1 33 x33) 41 x41) 42 x42) 43 x43) 45 x45) 47 y
    rw [upN_upN]) rfl rfl rfl rfl rfl
theorem kM_44 (M : MS) (x33 : Int32) (x41 : Int32) (x42 : Int32) (x43 : Int32) (x45 : Int32) (x47 : Int32) (x44 : Option Nat) (x46 : Nat → Nat) (y : Option Nat) : sR (kM M x33 x41 x42 x43 x45 x47 x44 x46) 44 y = kM M x33 x41 x42 x43 x45 x47 y x46 := MS.ext rfl rfl (by
    show upN (upN M.2.2.1 44 x44) 44 y = upN M.2.2.1 44 y
    rw [upN_upN]) rfl rfl rfl
theorem kM_46 (M : MS) (x33 : Int32) (x41 : Int32) (x42 : Int32) (x43 : Int32) (x45 : Int32) (x47 : Int32) (x44 : Option Nat) (x46 : Nat → Nat) (y : Nat → Nat) : sG (kM M x33 x41 x42 x43 x45 x47 x44 x46) 46 y = kM M x33 x41 x42 x43 x45 x47 x44 y := MS.ext rfl rfl rfl (by
    show upN (upN M.2.2.2.1 46 x46) 46 y = upN M.2.2.2.1 46 y
    rw [upN_upN]) rfl rfl
theorem kM_re (M : MS) (x33 : Int32) (x41 : Int32) (x42 : Int32) (x43 : Int32) (x45 : Int32) (x47 : Int32) (x44 : Option Nat) (x46 : Nat → Nat) (y33 : Int32) (y41 : Int32) (y42 : Int32) (y43 : Int32) (y45 : Int32) (y47 : Int32) (y44 : Option Nat) (y46 : Nat → Nat) : kM (kM M x33 x41 x42 x43 x45 x47 x44 x46) y33 y41 y42 y43 y45 y47 y44 y46 = kM M y33 y41 y42 y43 y45 y47 y44 y46 := by
  show sG (sR (sI (sI (sI (sI (sI (sI (kM M x33 x41 x42 x43 x45 x47 x44 x46) 33 y33) 41 y41) 42 y42) 43 y43) 45 y45) 47 y47) 44 y44) 46 y46 = _
  rw [kM_33, kM_41, kM_42, kM_43, kM_45, kM_47, kM_44, kM_46]

/-- a packet's length, by its bytes -/
def sliceL (l : List Nat) (a n : Nat) : List Nat := (l.drop a).take n
theorem sliceL_sl {l : List Nat} {a n : Nat} (h : a + n ≤ l.length) : sliceL l a n = sl (gD l) a n := (sl_gDc l h).symm
theorem sliceL_len {l : List Nat} {a n : Nat} (h : a + n ≤ l.length) : (sliceL l a n).length = n := by rw [sliceL_sl h, sl_len]
/-- the parts of a packet of the new form, from a place on -/
def pktN (l : List Nat) (kd pos : Nat) (acc : List Nat) : Option (List Nat × Nat) :=
  if h : pos < l.length then
    if h2 : 223 < gD l pos ∧ gD l pos < 255 then
      if kd ≠ 11 then none
      else if 240 < gD l pos then none
      else if h3 : pos + 1 + 2 ^ (gD l pos - 224) ≤ l.length then pktN l kd (pos + 1 + 2 ^ (gD l pos - 224)) (acc ++ sliceL l (pos + 1) (2 ^ (gD l pos - 224)))
      else none
    else if gD l pos < 192 then (if pos + 1 + gD l pos ≤ l.length then some (acc ++ sliceL l (pos + 1) (gD l pos), pos + 1 + gD l pos) else none)
    else if gD l pos < 224 then (if pos + 1 < l.length ∧ pos + 2 + ((gD l pos - 192) * 256 + gD l (pos + 1) + 192) ≤ l.length then some (acc ++ sliceL l (pos + 2) ((gD l pos - 192) * 256 + gD l (pos + 1) + 192), pos + 2 + ((gD l pos - 192) * 256 + gD l (pos + 1) + 192)) else none)
    else (if pos + 5 ≤ l.length ∧ pos + 5 + num (sliceL l (pos + 1) 4) ≤ l.length then some (acc ++ sliceL l (pos + 5) (num (sliceL l (pos + 1) 4)), pos + 5 + num (sliceL l (pos + 1) 4)) else none)
  else none
termination_by l.length - pos
decreasing_by have := Nat.two_pow_pos (gD l pos - 224); omega
/-- a packet at a place: its kind, its body, what is behind it; none where a fault is told -/
def pktS (l : List Nat) (nx : Nat) : Option (Nat × List Nat × Nat) :=
  if nx < l.length then
    if gD l nx < 128 then none
    else if gD l nx < 192 then
      (if gD l nx % 4 = 3 then none
       else if nx + 1 + 2 ^ (gD l nx % 4) ≤ l.length ∧ nx + 1 + 2 ^ (gD l nx % 4) + num (sliceL l (nx + 1) (2 ^ (gD l nx % 4))) ≤ l.length then some (gD l nx / 4 % 16, sliceL l (nx + 1 + 2 ^ (gD l nx % 4)) (num (sliceL l (nx + 1) (2 ^ (gD l nx % 4)))), nx + 1 + 2 ^ (gD l nx % 4) + num (sliceL l (nx + 1) (2 ^ (gD l nx % 4)))) else none)
    else (match pktN l (gD l nx - 192) (nx + 1) [] with
      | none => none
      | some q => some (gD l nx - 192, q.1, q.2))
  else none


/-- bytes of a length, while no fault is told -/
def lenS (l : List Nat) (f : Int32) : Nat → Nat × Int32 × Nat → Nat × Int32 × Nat
  | 0, q => q
  | b + 1, q => if q.2.1 = 0 then lenS l f b (q.1 * 256 + (if q.2.2 < l.length then gD l q.2.2 else 0), (if q.2.2 < l.length then q.2.1 else f), (if q.2.2 < l.length then q.2.2 + 1 else q.2.2)) else q
theorem lenS_done {l : List Nat} {f : Int32} {b : Nat} {q : Nat × Int32 × Nat} (h : ¬ q.2.1 = 0) : lenS l f b q = q := by
  cases b with
  | zero => rfl
  | succ b => rw [lenS, if_neg h]
theorem lenS_step {l : List Nat} {f t : Int32} {b v nx : Nat} (h : t = 0) : lenS l f (b + 1) (v, t, nx) = lenS l f b (v * 256 + (if nx < l.length then gD l nx else 0), (if nx < l.length then t else f), (if nx < l.length then nx + 1 else nx)) := by
  rw [lenS, if_pos h]
/-- all there, or a fault -/
theorem lenS_eq {l : List Nat} {f : Int32} (hf : f ≠ 0) : ∀ (b v nx : Nat), (nx + b ≤ l.length → lenS l f b (v, 0, nx) = ((sl (gD l) nx b).foldl (fun v x => v * 256 + x) v, 0, nx + b)) ∧ (l.length < nx + b → nx ≤ l.length → (lenS l f b (v, 0, nx)).2.1 = f ∧ (lenS l f b (v, 0, nx)).2.2 = l.length) := by
  intro b
  induction b with
  | zero => intro v nx; exact ⟨fun _ => rfl, fun h h2 => absurd h (by omega)⟩
  | succ b ih =>
    intro v nx
    rw [lenS_step rfl]
    by_cases hn : nx < l.length
    · rw [if_pos hn, if_pos hn, if_pos hn]
      obtain ⟨i1, i2⟩ := ih (v * 256 + gD l nx) (nx + 1)
      refine ⟨fun h => ?_, fun h h2 => i2 (by omega) (by omega)⟩
      rw [i1 (by omega), show b + 1 = 1 + b by omega, sl_add, List.foldl_append, show nx + 1 + b = nx + (1 + b) by omega]; rfl
    · rw [if_neg hn, if_neg hn, if_neg hn, lenS_done (by exact hf)]
      exact ⟨fun h => absurd h (by omega), fun _ h2 => ⟨rfl, by show nx = l.length; omega⟩⟩

theorem m1_ne {n : Nat} (h : n < 2147483647) : ¬ (-1 - nI n : Int32) = 0 := by
  intro q
  have h1 : nI n + 1 = 0 := by
    have h2 := congrArg (fun z => z + nI n + 1) q
    simp only [Int32.zero_add] at h2
    rw [← h2, Int32.sub_add_cancel]; decide
  rw [nI_1] at h1
  exact nI_ne0 (by omega) (by omega) h1

theorem nI_all (x : Int32) : ∃ k : Nat, x = nI k := by
  obtain ⟨n, -, h⟩ := wb_of32 x
  exact ⟨n, h⟩
theorem shl_pow {k : Nat} (h : k < 31) : shl (nI 1) (nI k) = nI (2 ^ k) := by
  unfold shl
  rw [pk_shlN (n := 1) _ k (s_l k (by omega)) (by rw [Nat.one_mul]; exact Nat.pow_lt_pow_right (by decide) (by omega)), Nat.one_mul]
/-- what a packet's reading leaves: next, kind, bodySize, collected, body, parts, and what was made -/
abbrev KR : Type := Nat × Nat × Nat × Nat × Option Nat × (Nat → Nat) × va_W
def pktT (rw : List Nat) (nx : Nat) : Int32 := match pktS rw nx with
  | none => -1 - nI nx
  | some _ => 0
def pktZ (rw : List Nat) (nx : Nat) : Nat := match pktS rw nx with
  | none => 0
  | some q => q.2.1.length
def pktOk (dA : Nat → ClassId) (ad : Nat → Nat) (rw : List Nat) (nx : Nat) (u : KR) : Prop := match pktS rw nx with
  | none => u.1 ≤ rw.length
  | some q => u.1 = q.2.2 ∧ u.2.1 = q.1 ∧ u.2.2.1 = q.2.1.length ∧ sl u.2.2.2.2.2.1 0 q.2.1.length = q.2.1 ∧ ((q.1 = 11 ∧ u.2.2.2.2.1 = some (ad 46) ∧ u.2.2.2.2.2.2 = []) ∨ (q.1 ≠ 11 ∧ ∃ a, u.2.2.2.2.1 = some a ∧ u.2.2.2.2.2.2 = [(a, ial dA q.2.1)]))
theorem pktN_le (l : List Nat) (kd : Nat) : ∀ (n pos : Nat) (acc : List Nat) (q : List Nat × Nat), l.length - pos < n → pktN l kd pos acc = some q → q.2 ≤ l.length ∧ acc.length + l.length ≥ q.1.length + pos := by
  intro n
  induction n with
  | zero => intro pos acc q h; omega
  | succ n ih =>
    intro pos acc q h hq
    rw [pktN] at hq
    split at hq
    · split at hq
      · split at hq
        · cases hq
        · split at hq
          · cases hq
          · split at hq
            · next h3 =>
              have h9 := Nat.two_pow_pos (gD l pos - 224)
              have := ih _ _ _ (by omega) hq
              rw [List.length_append, sliceL_len (by omega)] at this
              omega
            · cases hq
      · split at hq
        · split at hq
          · cases hq
            refine ⟨by assumption, ?_⟩
            rw [List.length_append, sliceL_len (by omega)]; omega
          · cases hq
        · split at hq
          · split at hq
            · next h4 =>
              cases hq
              refine ⟨h4.2, ?_⟩
              rw [List.length_append, sliceL_len (by omega)]; omega
            · cases hq
          · split at hq
            · next h4 =>
              cases hq
              refine ⟨h4.2, ?_⟩
              rw [List.length_append, sliceL_len (by omega)]; omega
            · cases hq
    · cases hq


theorem pktS_len {rw : List Nat} {nx : Nat} {q : Nat × List Nat × Nat} (h : pktS rw nx = some q) : q.2.1.length ≤ rw.length ∧ q.2.2 ≤ rw.length := by
  unfold pktS at h
  split at h
  · split at h
    · cases h
    · split at h
      · split at h
        · cases h
        · split at h
          · next h4 =>
            cases h
            refine ⟨?_, h4.2⟩
            have h5 := h4.2
            show (sliceL _ _ _).length ≤ _
            rw [sliceL_len h5]
            exact Nat.le_trans (Nat.le_add_left _ _) h5
          · cases h
      · split at h
        · cases h
        · next q hq =>
          cases h
          have := pktN_le rw _ _ _ _ _ (Nat.lt_succ_self _) hq
          simp at this
          exact ⟨by show q.1.length ≤ _; omega, this.1⟩
  · cases h

set_option maxHeartbeats 400000 in
set_option maxRecDepth 100000 in
theorem c7_failPacket (l : Launch) (D : va_G) (dA : Nat → ClassId) (B : Nat) (Z : State → Prop) (hZ : Stab B Z) (h0 : Nat) (ad : Nat → Nat) (M : MS) (F : va_W) (pl : Nat) (h1 : mI M 42 = nI pl) :
    Ct (S := Unit) l D dA B Z yX7_failPacket cX7_failPacket 1 (some .boolean) 2 0 0 [.ref h0] (mw dA h0 ad M ++ F) (fun _ => True) (fun _ => some (.int (bZ false))) (fun _ => mw dA h0 ad (sI M 33 (failT (mI M 33) (-1 - nI pl))) ++ F) := by
  refine Ct.mk2 (by decide) (Nat.le_of_ble_eq_true rfl) hZ ?_
  intro p e R s m args below meth c ls Q C hr hlocks hin hQ hl h
  have C0 := C
  obtain ⟨hx, hb, hml, hown, hts, -⟩ := C0
  have hl : lv_has ls 1 [(0, .ref h0)] := hl
  refine lv_aload_n hx hb dX7_failPacket_0 rfl (lv_at hl 0 rfl) ?_
  refine lv_iconst (v := -1) hx hb dX7_failPacket_1 (by decide) ?_
  refine lv_aload_n hx hb dX7_failPacket_2 rfl (lv_at hl 0 rfl) ?_
  refine m_gi C h 42 (by decide) rfl rfl q1912 (v := nI pl) h1 dX7_failPacket_3 ?_
  refine lv_isub hx hb dX7_failPacket_6 ?_
  refine call_V (As := [.int ((-1) - (nI pl))]) (rest := []) (n := 1) C h (c7_fail l D dA B Z hZ h0 ad M F (-1 - nI pl)) (lw_V q2125 q2127 qs47 q138 q2128) (by decide +kernel) (ci := 5) rfl rfl mw_mem0 (by decide) (by decide) rfl hl rfl (Nat.le_of_ble_eq_true rfl) dX7_failPacket_7 (by omega) (fun _ H locs _ h => ?_)
  refine lv_iconst (v := nI 0) hx hb dX7_failPacket_10 (by decide) ?_
  subst hQ
  refine n_top (y := bZ false) rfl ?_
  exact ret_z C hr hlocks h () trivial rfl rfl (by omega) (by omega) dX7_failPacket_11
set_option maxHeartbeats 400000 in
set_option maxRecDepth 100000 in
theorem c7_open (l : Launch) (D : va_G) (dA : Nat → ClassId) (B : Nat) (Z : State → Prop) (hZ : Stab B Z) (h0 : Nat) (ad : Nat → Nat) (M : MS) (F : va_W) (a n : Nat)  :
    Ct (S := Unit) l D dA B Z yX7_open cX7_open 3 none 1 0 0 [.ref h0, .ref a, .int (nI n)] (mw dA h0 ad M ++ F) (fun _ => True) (fun _ => none) (fun _ => mw dA h0 ad (sI (sI (sI (sR M 39 (some a)) 40 (nI n)) 41 (nI 0)) 42 (nI 0)) ++ F) := by
  refine Ct.mk2 (by decide) (Nat.le_of_ble_eq_true rfl) hZ ?_
  intro p e R s m args below meth c ls Q C hr hlocks hin hQ hl h
  have C0 := C
  obtain ⟨hx, hb, hml, hown, hts, -⟩ := C0
  have hl : lv_has ls 3 [(0, .ref h0), (1, .ref a), (2, .int (nI n))] := hl
  refine lv_aload_n hx hb dX7_open_0 rfl (lv_at hl 0 rfl) ?_
  refine lv_aload_n hx hb dX7_open_1 rfl (lv_at hl 1 rfl) ?_
  refine m_pr C h 39 (v := some a) (by decide) rfl rfl rfl q1909 rfl rfl dX7_open_2 (fun H locs h => ?_)
  refine lv_aload_n hx hb dX7_open_5 rfl (lv_at hl 0 rfl) ?_
  refine lv_iload_n hx hb dX7_open_6 rfl (lv_at hl 2 rfl) ?_
  refine m_pi C h 40 (v := nI n) (by decide) rfl rfl rfl q1910 rfl rfl dX7_open_7 (fun H locs h => ?_)
  refine lv_aload_n hx hb dX7_open_10 rfl (lv_at hl 0 rfl) ?_
  refine lv_iconst (v := nI 0) hx hb dX7_open_11 (by decide) ?_
  refine m_pi C h 41 (v := nI 0) (by decide) rfl rfl rfl q1911 rfl rfl dX7_open_12 (fun H locs h => ?_)
  refine lv_aload_n hx hb dX7_open_15 rfl (lv_at hl 0 rfl) ?_
  refine lv_iconst (v := nI 0) hx hb dX7_open_16 (by decide) ?_
  refine m_pi C h 42 (v := nI 0) (by decide) rfl rfl rfl q1912 rfl rfl dX7_open_17 (fun H locs h => ?_)
  subst hQ
  exact ret_v C hr hlocks h () trivial rfl rfl (by omega) (by omega) dX7_open_20
set_option maxHeartbeats 400000 in
set_option maxRecDepth 100000 in
theorem c7_byteOf (l : Launch) (D : va_G) (dA : Nat → ClassId) (B : Nat) (Z : State → Prop) (hZ : Stab B Z) (h0 : Nat) (ad : Nat → Nat) (M : MS) (F : va_W) (rw : List Nat) (ra : Nat) (g : Nat → Nat) (t : Int32) (nx pl : Nat) (kd bs : Int32) (co : Nat) (bo : Option Nat) (G : Nat → Nat) (hrs : mI M 40 = nI rw.length) (hra : mR M 39 = some ra) (hrow : ∀ (x33 x41 x42 x43 x45 x47 : Int32) (x44 : Option Nat) (x46 : Nat → Nat), (ra, iar dA 4096 g) ∈ mw dA h0 ad (kM M x33 x41 x42 x43 x45 x47 x44 x46) ++ F) (hg : ∀ j, j < rw.length → g j = gD rw j) (hrl : rw.length ≤ 4096) (hrb : byt rw) (hn : nx ≤ 5000) :
    Ct (S := Unit) l D dA B Z yX7_byteOf cX7_byteOf 2 (some .int) 3 0 0 [.ref h0] (mw dA h0 ad (kM M t (nI nx) (nI pl) kd bs (nI co) bo G) ++ F) (fun _ => True) (fun _ => some (.int (nI (if nx < rw.length then gD rw nx else 0)))) (fun _ => mw dA h0 ad (kM M (if nx < rw.length then t else failT t (-1 - nI pl)) (nI (if nx < rw.length then nx + 1 else nx)) (nI pl) kd bs (nI co) bo G) ++ F) := by
  refine Ct.mk2 (by decide) (Nat.le_of_ble_eq_true rfl) hZ ?_
  intro p e R s m args below meth c ls Q C hr hlocks hin hQ hl h
  have C0 := C
  obtain ⟨hx, hb, hml, hown, hts, -⟩ := C0
  have hl : lv_has ls 2 [(0, .ref h0)] := hl
  refine lv_aload_n hx hb dX7_byteOf_0 rfl (lv_at hl 0 rfl) ?_
  refine m_gi C h 41 (by decide) rfl rfl q1911 (v := nI nx) rfl dX7_byteOf_1 ?_
  refine lv_aload_n hx hb dX7_byteOf_4 rfl (lv_at hl 0 rfl) ?_
  refine m_gi C h 40 (by decide) rfl rfl q1910 (v := nI rw.length) hrs dX7_byteOf_5 ?_
  refine n_icmp_lt (tgt := 18) hx hb (by omega) (by omega) dX7_byteOf_8 (by decide) (fun c8 => ?_) (fun c8 => ?_)
  · refine lv_aload_n hx hb dX7_byteOf_18 rfl (lv_at hl 0 rfl) ?_
    refine lv_dup hx hb dX7_byteOf_19 rfl ?_
    refine m_gi C h 41 (by decide) rfl rfl q1911 (v := nI nx) rfl dX7_byteOf_20 ?_
    refine lv_iconst (v := nI 1) hx hb dX7_byteOf_23 (by decide) ?_
    refine lv_iadd hx hb dX7_byteOf_24 (n_top (y := nI (nx + 1)) (nI_add nx 1) ?_)
    refine m_pi C h 41 (v := nI (nx + 1)) (by decide) rfl rfl rfl q1911 rfl rfl dX7_byteOf_25 (fun H locs h => ?_)
    rw [kM_41] at h
    have h : Wd D B s (mw dA h0 ad (kM M t (nI (nx + 1)) (nI pl) kd bs (nI co) bo G) ++ F) H locs := h
    refine lv_aload_n hx hb dX7_byteOf_28 rfl (lv_at hl 0 rfl) ?_
    refine m_gr C h 39 (by decide) rfl rfl q1909 (v := some ra) hra dX7_byteOf_29 ?_
    refine lv_aload_n hx hb dX7_byteOf_32 rfl (lv_at hl 0 rfl) ?_
    refine m_gi C h 41 (by decide) rfl rfl q1911 (v := nI (nx + 1)) rfl dX7_byteOf_33 ?_
    refine lv_iconst (v := nI 1) hx hb dX7_byteOf_36 (by decide) ?_
    refine lv_isub hx hb dX7_byteOf_37 (n_top (y := nI nx) (by rw [pk_sub (by omega)]; congr 1) ?_)
    refine n_iald C h (v := g nx) (hrow _ _ _ _ _ _ _ _) (show nx < 4096 by omega) (by decide) rfl dX7_byteOf_38 ?_
    refine n_top (y := nI (gD rw nx)) (congrArg nI (hg nx (by omega))) ?_
    subst hQ
    exact ret_i C hr hlocks h () trivial (by rw [if_pos c8]) (by rw [if_pos c8, if_pos c8]) (by omega) (by omega) dX7_byteOf_39
  · refine lv_aload_n hx hb dX7_byteOf_11 rfl (lv_at hl 0 rfl) ?_
    refine call_V (As := []) (rest := []) (n := 0) C h (c7_failPacket l D dA B Z hZ h0 ad (kM M t (nI nx) (nI pl) kd bs (nI co) bo G) F pl rfl) (lw_V q2193 q2195 qs57 q138 q2196) (by decide +kernel) (ci := 5) rfl rfl mw_mem0 (by decide) (by decide) rfl hl rfl (Nat.le_of_ble_eq_true rfl) dX7_byteOf_12 (by omega) (fun _ H locs _ h => ?_)
    rw [kM_33] at h
    refine lv_istore_n (lv' := [(1, .int (bZ false)), (0, .ref h0)]) hx hb dX7_byteOf_15 rfl hl (by decide) rfl (fun ls hl => ?_)
    refine lv_iconst (v := nI 0) hx hb dX7_byteOf_16 (by decide) ?_
    subst hQ
    exact ret_i C hr hlocks h () trivial (by rw [if_neg (by omega)]) (by rw [if_neg (by omega), if_neg (by omega)]; rfl) (by omega) (by omega) dX7_byteOf_17
set_option maxHeartbeats 400000 in
set_option maxRecDepth 100000 in
theorem c7_lengthOf (l : Launch) (D : va_G) (dA : Nat → ClassId) (B : Nat) (Z : State → Prop) (hZ : Stab B Z) (h0 : Nat) (ad : Nat → Nat) (M : MS) (F : va_W) (rw : List Nat) (ra : Nat) (g : Nat → Nat) (by9 : Nat) (t0 : Int32) (nx pl : Nat) (kd bs : Int32) (co : Nat) (bo : Option Nat) (G : Nat → Nat) (hrs : mI M 40 = nI rw.length) (hra : mR M 39 = some ra) (hrow : ∀ (x33 x41 x42 x43 x45 x47 : Int32) (x44 : Option Nat) (x46 : Nat → Nat), (ra, iar dA 4096 g) ∈ mw dA h0 ad (kM M x33 x41 x42 x43 x45 x47 x44 x46) ++ F) (hg : ∀ j, j < rw.length → g j = gD rw j) (hrl : rw.length ≤ 4096) (hrb : byt rw) (hn : nx ≤ rw.length) (hb9 : by9 ≤ 4) :
    Ct (S := Unit) l D dA B Z yX7_lengthOf cX7_lengthOf 5 (some .int) 4 0 0 [.ref h0, .int (nI by9)] (mw dA h0 ad (kM M t0 (nI nx) (nI pl) kd bs (nI co) bo G) ++ F) (fun _ => True) (fun _ => some (.int (nI (if 65536 < (lenS rw (-1 - nI pl) by9 (0, t0, nx)).1 then 65537 else (lenS rw (-1 - nI pl) by9 (0, t0, nx)).1)))) (fun _ => mw dA h0 ad (kM M ((lenS rw (-1 - nI pl) by9 (0, t0, nx)).2.1) (nI (lenS rw (-1 - nI pl) by9 (0, t0, nx)).2.2) (nI pl) kd bs (nI co) bo G) ++ F) := by
  refine Ct.mk2 (by decide) (Nat.le_of_ble_eq_true rfl) hZ ?_
  intro p e R s m args below meth c ls Q C hr hlocks hin hQ hl h
  have C0 := C
  obtain ⟨hx, hb, hml, hown, hts, -⟩ := C0
  have hl : lv_has ls 5 [(0, .ref h0), (1, .int (nI by9))] := hl
  refine lv_lconst (v := lN 0) hx hb dX7_lengthOf_0 (by decide) ?_
  refine lv_lstore_n (lv' := [(2, .long (lN 0)), (0, .ref h0), (1, .int (nI by9))]) hx hb dX7_lengthOf_1 rfl hl (by decide) rfl (fun ls hl => ?_)
  refine lv_iconst (v := nI 0) hx hb dX7_lengthOf_2 (by decide) ?_
  refine lv_istore (lv' := [(4, .int (nI 0)), (2, .long (lN 0)), (0, .ref h0), (1, .int (nI by9))]) hx hb dX7_lengthOf_3 hl (by decide) rfl (fun ls hl => ?_)
  have loop : ∀ (nn : Nat) (i v : Nat) (t : Int32) (y : Nat), (i ≤ by9) → (lenS rw (-1 - nI pl) by9 (0, t0, nx) = lenS rw (-1 - nI pl) (by9 - i) (v, t, y)) → (v < 256 ^ i) → (y ≤ rw.length) → by9 - i < nn → ∀ (H : Heap) (locs : List Loc), Wd D B s (mw dA h0 ad (kM M t (nI y) (nI pl) kd bs (nI co) bo G) ++ F) H locs → ∀ (ls : Array Slot), lv_has ls 5 [(4, .int (nI i)), (2, .long (lN v)), (0, .ref h0), (1, .int (nI by9))] → W p l e R s m args below meth c H locs 0 0 Q (F0 m 5 ls []) := by
    intro nn
    induction nn with
    | zero => intro i v  t  y  hi0 hi1 hi2 hi3 hme; exact absurd hme (Nat.not_lt_zero _)
    | succ nn ih =>
      intro i v  t  y  hi0 hi1 hi2 hi3 hme H locs h ls hl
      refine lv_iload hx hb dX7_lengthOf_5 (lv_at hl 0 rfl) ?_
      refine lv_iload_n hx hb dX7_lengthOf_7 rfl (lv_at hl 3 rfl) ?_
      refine n_icmp_ge (tgt := 36) hx hb (by omega) (by omega) dX7_lengthOf_8 (by decide) (fun c8 => ?_) (fun c8 => ?_)
      · have hfin : lenS rw (-1 - nI pl) by9 (0, t0, nx) = (v, t, y) := by
          rw [hi1]
          first
            | (rw [show by9 - i = 0 by omega]; rfl)
            | exact lenS_done c15
        have hv4 : v < 256 ^ 4 := Nat.lt_of_lt_of_le hi2 (Nat.pow_le_pow_right (by decide) (by omega))
        have hv5 : v < 4294967296 := hv4
        have jl : ∀ (H : Heap) (locs : List Loc), Wd D B s (mw dA h0 ad (kM M t (nI y) (nI pl) kd bs (nI co) bo G) ++ F) H locs → ∀ (ls : Array Slot), lv_has ls 5 [(4, .int (nI i)), (2, .long (lN v)), (0, .ref h0), (1, .int (nI by9))] → W p l e R s m args below meth c H locs 0 0 Q (F0 m 52 ls [.int (nI (if 65536 < v then 65537 else v))]) := by
          intro   H locs h ls hl
          subst hQ
          exact ret_i C hr hlocks h () trivial (by rw [hfin]) (by rw [hfin]) (by omega) (by omega) dX7_lengthOf_52
        refine lv_lload_n hx hb dX7_lengthOf_36 rfl (lv_at hl 1 rfl) ?_
        refine lv_ldc2 hx hb hown (hts _ q2202) dX7_lengthOf_37 ?_
        refine n_topl (y := lN 65536) (by decide) ?_
        refine n_lcmp_le (tgt := 50) hx hb (by omega) (by omega) dX7_lengthOf_40 dX7_lengthOf_41 (by decide) (fun c40 => ?_) (fun c40 => ?_)
        · refine lv_lload_n hx hb dX7_lengthOf_50 rfl (lv_at hl 1 rfl) ?_
          refine lv_l2i (v := nI v) hx hb dX7_lengthOf_51 (lN_i _) ?_
          refine n_top (y := nI (if 65536 < v then 65537 else v)) (by rw [if_neg (by omega)]) ?_
          exact jl   _ _ h _ (lv_sub hl [0, 1, 2, 3] rfl)
        · refine lv_ldcw hx hb hown (hts _ q2203) dX7_lengthOf_44 ?_
          refine n_top (y := nI 65537) (by decide) ?_
          refine lv_goto (tgt := 52) hx hb dX7_lengthOf_47 (by decide) ?_
          refine n_top (y := nI (if 65536 < v then 65537 else v)) (by rw [if_pos c40]) ?_
          exact jl   _ _ h _ (lv_sub hl [0, 1, 2, 3] rfl)
      · refine lv_aload_n hx hb dX7_lengthOf_11 rfl (lv_at hl 2 rfl) ?_
        refine m_gi C h 33 (by decide) rfl rfl q1903 (v := t) rfl dX7_lengthOf_12 ?_
        refine lv_if_ne (tgt := 36) hx hb dX7_lengthOf_15 (by decide) (fun c15 => ?_) (fun c15 => ?_)
        · have hfin : lenS rw (-1 - nI pl) by9 (0, t0, nx) = (v, t, y) := by
            rw [hi1]
            first
              | (rw [show by9 - i = 0 by omega]; rfl)
              | exact lenS_done c15
          have hv4 : v < 256 ^ 4 := Nat.lt_of_lt_of_le hi2 (Nat.pow_le_pow_right (by decide) (by omega))
          have hv5 : v < 4294967296 := hv4
          have jl : ∀ (H : Heap) (locs : List Loc), Wd D B s (mw dA h0 ad (kM M t (nI y) (nI pl) kd bs (nI co) bo G) ++ F) H locs → ∀ (ls : Array Slot), lv_has ls 5 [(4, .int (nI i)), (2, .long (lN v)), (0, .ref h0), (1, .int (nI by9))] → W p l e R s m args below meth c H locs 0 0 Q (F0 m 52 ls [.int (nI (if 65536 < v then 65537 else v))]) := by
            intro   H locs h ls hl
            subst hQ
            exact ret_i C hr hlocks h () trivial (by rw [hfin]) (by rw [hfin]) (by omega) (by omega) dX7_lengthOf_52
          refine lv_lload_n hx hb dX7_lengthOf_36 rfl (lv_at hl 1 rfl) ?_
          refine lv_ldc2 hx hb hown (hts _ q2202) dX7_lengthOf_37 ?_
          refine n_topl (y := lN 65536) (by decide) ?_
          refine n_lcmp_le (tgt := 50) hx hb (by omega) (by omega) dX7_lengthOf_40 dX7_lengthOf_41 (by decide) (fun c40 => ?_) (fun c40 => ?_)
          · refine lv_lload_n hx hb dX7_lengthOf_50 rfl (lv_at hl 1 rfl) ?_
            refine lv_l2i (v := nI v) hx hb dX7_lengthOf_51 (lN_i _) ?_
            refine n_top (y := nI (if 65536 < v then 65537 else v)) (by rw [if_neg (by omega)]) ?_
            exact jl   _ _ h _ (lv_sub hl [0, 1, 2, 3] rfl)
          · refine lv_ldcw hx hb hown (hts _ q2203) dX7_lengthOf_44 ?_
            refine n_top (y := nI 65537) (by decide) ?_
            refine lv_goto (tgt := 52) hx hb dX7_lengthOf_47 (by decide) ?_
            refine n_top (y := nI (if 65536 < v then 65537 else v)) (by rw [if_pos c40]) ?_
            exact jl   _ _ h _ (lv_sub hl [0, 1, 2, 3] rfl)
        · refine lv_lload_n hx hb dX7_lengthOf_18 rfl (lv_at hl 1 rfl) ?_
          refine lv_ldc2 hx hb hown (hts _ q2201) dX7_lengthOf_19 ?_
          refine n_topl (y := lN 256) (by decide) ?_
          refine lv_lmul hx hb dX7_lengthOf_22 (n_topl (y := lN (v * 256)) (lN_mul v 256) ?_)
          refine lv_aload_n hx hb dX7_lengthOf_23 rfl (lv_at hl 2 rfl) ?_
          refine call_V (As := []) (rest := [.long (lN (v * 256))]) (n := 0) C h (c7_byteOf l D dA B Z hZ h0 ad M F rw ra g t y pl kd bs co bo G hrs hra hrow hg hrl hrb (by omega)) (lw_V q2189 q2191 qs56 q138 q2192) (by decide +kernel) (ci := 5) rfl rfl mw_mem0 (by decide) (by decide) rfl hl rfl (Nat.le_of_ble_eq_true rfl) dX7_lengthOf_24 (by omega) (fun _ H locs _ h => ?_)
          have hx8 : (if y < rw.length then gD rw y else 0) < 256 := by
            split
            · exact byt_gD hrb y
            · decide
          have hf0 : failT t (-1 - nI pl) = -1 - nI pl := by unfold failT; rw [if_pos c15]
          rw [hf0] at h
          refine lv_i2l (v := lN (if y < rw.length then gD rw y else 0)) hx hb dX7_lengthOf_27 (nI_l (by omega)) ?_
          refine lv_ladd hx hb dX7_lengthOf_28 (n_topl (y := lN ((v * 256) + (if y < rw.length then gD rw y else 0))) (lN_add (v * 256) (if y < rw.length then gD rw y else 0)) ?_)
          refine lv_lstore_n (lv' := [(2, .long (lN ((v * 256) + (if y < rw.length then gD rw y else 0)))), (4, .int (nI i)), (0, .ref h0), (1, .int (nI by9))]) hx hb dX7_lengthOf_29 rfl hl (by decide) rfl (fun ls hl => ?_)
          refine lv_iinc (v := nI (i + 1)) (lv' := [(4, .int (nI (i + 1))), (2, .long (lN ((v * 256) + (if y < rw.length then gD rw y else 0)))), (0, .ref h0), (1, .int (nI by9))]) hx hb dX7_lengthOf_30 hl (k := 1) rfl (nI_add i 1) (by decide) rfl (fun ls hl => ?_)
          refine lv_goto (tgt := 5) hx hb dX7_lengthOf_33 (by decide) ?_
          exact ih (i + 1) _ _ _ (by omega) (by rw [hi1, show by9 - i = by9 - (i + 1) + 1 by omega, lenS_step c15]) (by rw [Nat.pow_succ]; omega) (by split <;> omega) (by omega) _ _ h _ (lv_sub hl [0, 1, 2, 3] rfl)
  exact loop _ 0 0 t0 nx (by omega) rfl (by decide) hn (Nat.lt_succ_self _) _ _ h _ (lv_sub hl [0, 1, 2, 3] rfl)
set_option maxHeartbeats 400000 in
set_option maxRecDepth 100000 in
theorem c7_collect (l : Launch) (D : va_G) (dA : Nat → ClassId) (B : Nat) (Z : State → Prop) (hZ : Stab B Z) (h0 : Nat) (ad : Nat → Nat) (M : MS) (F : va_W) (rw : List Nat) (ra : Nat) (g : Nat → Nat) (n : Nat) (t : Int32) (nx pl : Nat) (kd bs : Int32) (co : Nat) (bo : Option Nat) (G : Nat → Nat) (hrs : mI M 40 = nI rw.length) (hra : mR M 39 = some ra) (hrow : ∀ (x33 x41 x42 x43 x45 x47 : Int32) (x44 : Option Nat) (x46 : Nat → Nat), (ra, iar dA 4096 g) ∈ mw dA h0 ad (kM M x33 x41 x42 x43 x45 x47 x44 x46) ++ F) (hg : ∀ j, j < rw.length → g j = gD rw j) (hrl : rw.length ≤ 4096) (hrb : byt rw) (hn : nx ≤ rw.length) (hn2 : n < 100000) (hco : co ≤ nx) (hpl : pl ≤ 5000) :
    Ct (S := Unit) l D dA B Z yX7_collect cX7_collect 3 none 3 0 0 [.ref h0, .int (nI n)] (mw dA h0 ad (kM M t (nI nx) (nI pl) kd bs (nI co) bo G) ++ F) (fun _ => True) (fun _ => none) (fun _ => if t = 0 then (if n ≤ rw.length - nx then mw dA h0 ad (kM M 0 (nI (nx + n)) (nI pl) kd bs (nI (co + n)) bo (appG G co (sl (gD rw) nx n))) ++ F else mw dA h0 ad (kM M (-1 - nI pl) (nI nx) (nI pl) kd bs (nI co) bo G) ++ F) else mw dA h0 ad (kM M t (nI nx) (nI pl) kd bs (nI co) bo G) ++ F) := by
  refine Ct.mk2 (by decide) (Nat.le_of_ble_eq_true rfl) hZ ?_
  intro p e R s m args below meth c ls Q C hr hlocks hin hQ hl h
  have C0 := C
  obtain ⟨hx, hb, hml, hown, hts, -⟩ := C0
  have hl : lv_has ls 3 [(0, .ref h0), (1, .int (nI n))] := hl
  have j25 : ∀ (t1 : Int32), ((t = 0 ∧ n ≤ rw.length - nx ∧ t1 = t) ∨ (t = 0 ∧ rw.length - nx < n ∧ t1 = -1 - nI pl) ∨ (t ≠ 0 ∧ t1 = t)) → ∀ (H : Heap) (locs : List Loc), Wd D B s (mw dA h0 ad (kM M t1 (nI nx) (nI pl) kd bs (nI co) bo G) ++ F) H locs → ∀ (ls : Array Slot), lv_has ls 3 [(0, .ref h0), (1, .int (nI n))] → W p l e R s m args below meth c H locs 0 0 Q (F0 m 25 ls []) := by
    intro t1  hj H locs h ls hl
    refine lv_iconst (v := nI 0) hx hb dX7_collect_25 (by decide) ?_
    refine lv_istore_n (lv' := [(2, .int (nI 0)), (0, .ref h0), (1, .int (nI n))]) hx hb dX7_collect_26 rfl hl (by decide) rfl (fun ls hl => ?_)
    have h : Wd D B s (mw dA h0 ad (kM M t1 (nI (nx + 0)) (nI pl) kd bs (nI (co + 0)) bo (appG G co (sl (gD rw) nx 0))) ++ F) H locs := by rw [sl_0, appG_nil]; exact h
    have loop : ∀ (nn : Nat) (i : Nat), (i ≤ n) → (0 < i → (t = 0 ∧ n ≤ rw.length - nx)) → n - i < nn → ∀ (H : Heap) (locs : List Loc), Wd D B s (mw dA h0 ad (kM M t1 (nI (nx + i)) (nI pl) kd bs (nI (co + i)) bo (appG G co (sl (gD rw) nx i))) ++ F) H locs → ∀ (ls : Array Slot), lv_has ls 3 [(2, .int (nI i)), (0, .ref h0), (1, .int (nI n))] → W p l e R s m args below meth c H locs 0 0 Q (F0 m 27 ls []) := by
      intro nn
      induction nn with
      | zero => intro i  hi0 hi1 hme; exact absurd hme (Nat.not_lt_zero _)
      | succ nn ih =>
        intro i  hi0 hi1 hme H locs h ls hl
        refine lv_iload_n hx hb dX7_collect_27 rfl (lv_at hl 0 rfl) ?_
        refine lv_iload_n hx hb dX7_collect_28 rfl (lv_at hl 2 rfl) ?_
        refine n_icmp_ge (tgt := 83) hx hb (by omega) (by omega) dX7_collect_29 (by decide) (fun c29 => ?_) (fun c29 => ?_)
        · subst hQ
          have hend : (mw dA h0 ad (kM M t1 (nI (nx + i)) (nI pl) kd bs (nI (co + i)) bo (appG G co (sl (gD rw) nx i))) ++ F) = (if t = 0 then (if n ≤ rw.length - nx then mw dA h0 ad (kM M 0 (nI (nx + n)) (nI pl) kd bs (nI (co + n)) bo (appG G co (sl (gD rw) nx n))) ++ F else mw dA h0 ad (kM M (-1 - nI pl) (nI nx) (nI pl) kd bs (nI co) bo G) ++ F) else mw dA h0 ad (kM M t (nI nx) (nI pl) kd bs (nI co) bo G) ++ F) := by
            rcases hj with q | q | q
            · rw [if_pos q.1, if_pos q.2.1, q.2.2]
              have hin : i = n := by
                first
                  | omega
                  | exact absurd (q.2.2.trans q.1) c36
              rw [hin, q.1]
            · rw [if_pos q.1, if_neg (by omega), q.2.2]
              have hi0 : i = 0 := by
                rcases Nat.eq_zero_or_pos i with z | z
                · exact z
                · have := (hi1 z).2; omega
              rw [hi0, sl_0, appG_nil]; rfl
            · rw [if_neg q.1, q.2]
              have hi0 : i = 0 := by
                rcases Nat.eq_zero_or_pos i with z | z
                · exact z
                · exact absurd (hi1 z).1 q.1
              rw [hi0, sl_0, appG_nil]; rfl
          exact ret_v C hr hlocks h () trivial rfl hend.symm (by omega) (by omega) dX7_collect_83
        · refine lv_aload_n hx hb dX7_collect_32 rfl (lv_at hl 1 rfl) ?_
          refine m_gi C h 33 (by decide) rfl rfl q1903 (v := t1) rfl dX7_collect_33 ?_
          refine lv_if_ne (tgt := 83) hx hb dX7_collect_36 (by decide) (fun c36 => ?_) (fun c36 => ?_)
          · subst hQ
            have hend : (mw dA h0 ad (kM M t1 (nI (nx + i)) (nI pl) kd bs (nI (co + i)) bo (appG G co (sl (gD rw) nx i))) ++ F) = (if t = 0 then (if n ≤ rw.length - nx then mw dA h0 ad (kM M 0 (nI (nx + n)) (nI pl) kd bs (nI (co + n)) bo (appG G co (sl (gD rw) nx n))) ++ F else mw dA h0 ad (kM M (-1 - nI pl) (nI nx) (nI pl) kd bs (nI co) bo G) ++ F) else mw dA h0 ad (kM M t (nI nx) (nI pl) kd bs (nI co) bo G) ++ F) := by
              rcases hj with q | q | q
              · rw [if_pos q.1, if_pos q.2.1, q.2.2]
                have hin : i = n := by
                  first
                    | omega
                    | exact absurd (q.2.2.trans q.1) c36
                rw [hin, q.1]
              · rw [if_pos q.1, if_neg (by omega), q.2.2]
                have hi0 : i = 0 := by
                  rcases Nat.eq_zero_or_pos i with z | z
                  · exact z
                  · have := (hi1 z).2; omega
                rw [hi0, sl_0, appG_nil]; rfl
              · rw [if_neg q.1, q.2]
                have hi0 : i = 0 := by
                  rcases Nat.eq_zero_or_pos i with z | z
                  · exact z
                  · exact absurd (hi1 z).1 q.1
                rw [hi0, sl_0, appG_nil]; rfl
            exact ret_v C hr hlocks h () trivial rfl hend.symm (by omega) (by omega) dX7_collect_83
          · have hok : t = 0 ∧ n ≤ rw.length - nx := by
              rcases hj with q | q | q
              · exact ⟨q.1, q.2.1⟩
              · exfalso; rw [q.2.2] at c36; exact m1_ne (by omega) c36
              · exfalso; exact q.1 (q.2 ▸ c36)
            refine lv_aload_n hx hb dX7_collect_39 rfl (lv_at hl 1 rfl) ?_
            refine m_gc C h 46 (by decide) rfl rfl q1916 dX7_collect_40 ?_
            refine lv_aload_n hx hb dX7_collect_43 rfl (lv_at hl 1 rfl) ?_
            refine m_gi C h 47 (by decide) rfl rfl q1917 (v := nI (co + i)) rfl dX7_collect_44 ?_
            refine lv_aload_n hx hb dX7_collect_47 rfl (lv_at hl 1 rfl) ?_
            refine m_gr C h 39 (by decide) rfl rfl q1909 (v := some ra) hra dX7_collect_48 ?_
            refine lv_aload_n hx hb dX7_collect_51 rfl (lv_at hl 1 rfl) ?_
            refine m_gi C h 41 (by decide) rfl rfl q1911 (v := nI (nx + i)) rfl dX7_collect_52 ?_
            refine n_iald C h (v := g (nx + i)) (hrow _ _ _ _ _ _ _ _) (show nx + i < 4096 by omega) (by decide) rfl dX7_collect_55 ?_
            refine n_top (y := nI (gD rw (nx + i))) (congrArg nI (hg _ (by omega))) ?_
            refine m_iast C h 46 (v := gD rw (nx + i)) (by decide) (n := 5000) rfl (by omega) dX7_collect_56 (fun H locs h => ?_)
            rw [kM_46] at h
            have h : Wd D B s (mw dA h0 ad (kM M t1 (nI (nx + i)) (nI pl) kd bs (nI (co + i)) bo (upN (appG G co (sl (gD rw) nx i)) (co + i) (gD rw (nx + i)))) ++ F) H locs := h
            refine lv_aload_n hx hb dX7_collect_57 rfl (lv_at hl 1 rfl) ?_
            refine lv_dup hx hb dX7_collect_58 rfl ?_
            refine m_gi C h 47 (by decide) rfl rfl q1917 (v := nI (co + i)) rfl dX7_collect_59 ?_
            refine lv_iconst (v := nI 1) hx hb dX7_collect_62 (by decide) ?_
            refine lv_iadd hx hb dX7_collect_63 (n_top (y := nI (co + i + 1)) (nI_add (co + i) 1) ?_)
            refine m_pi C h 47 (v := nI (co + i + 1)) (by decide) rfl rfl rfl q1917 rfl rfl dX7_collect_64 (fun H locs h => ?_)
            rw [kM_47] at h
            have h : Wd D B s (mw dA h0 ad (kM M t1 (nI (nx + i)) (nI pl) kd bs (nI (co + i + 1)) bo (upN (appG G co (sl (gD rw) nx i)) (co + i) (gD rw (nx + i)))) ++ F) H locs := h
            refine lv_aload_n hx hb dX7_collect_67 rfl (lv_at hl 1 rfl) ?_
            refine lv_dup hx hb dX7_collect_68 rfl ?_
            refine m_gi C h 41 (by decide) rfl rfl q1911 (v := nI (nx + i)) rfl dX7_collect_69 ?_
            refine lv_iconst (v := nI 1) hx hb dX7_collect_72 (by decide) ?_
            refine lv_iadd hx hb dX7_collect_73 (n_top (y := nI (nx + i + 1)) (nI_add (nx + i) 1) ?_)
            refine m_pi C h 41 (v := nI (nx + i + 1)) (by decide) rfl rfl rfl q1911 rfl rfl dX7_collect_74 (fun H locs h => ?_)
            rw [kM_41] at h
            have h : Wd D B s (mw dA h0 ad (kM M t1 (nI (nx + i + 1)) (nI pl) kd bs (nI (co + i + 1)) bo (upN (appG G co (sl (gD rw) nx i)) (co + i) (gD rw (nx + i)))) ++ F) H locs := h
            have h : Wd D B s (mw dA h0 ad (kM M t1 (nI (nx + (i + 1))) (nI pl) kd bs (nI (co + (i + 1))) bo (appG G co (sl (gD rw) nx (i + 1)))) ++ F) H locs := by
              have e := appG_app G co (sl (gD rw) nx i) [gD rw (nx + i)]
              rw [sl_len, ← appG_one, ← sl_succ] at e
              rw [← e]; exact h
            refine lv_iinc (v := nI (i + 1)) (lv' := [(2, .int (nI (i + 1))), (0, .ref h0), (1, .int (nI n))]) hx hb dX7_collect_77 hl (k := 0) rfl (nI_add i 1) (by decide) rfl (fun ls hl => ?_)
            refine lv_goto (tgt := 27) hx hb dX7_collect_80 (by decide) ?_
            exact ih (i + 1) (by omega) (fun _ => hok) (by omega) _ _ h _ (lv_sub hl [0, 1, 2] rfl)
    exact loop _ 0 (by omega) (by omega) (Nat.lt_succ_self _) _ _ h _ (lv_sub hl [0, 1, 2] rfl)
  refine lv_aload_n hx hb dX7_collect_0 rfl (lv_at hl 0 rfl) ?_
  refine m_gi C h 33 (by decide) rfl rfl q1903 (v := t) rfl dX7_collect_1 ?_
  refine lv_if_ne (tgt := 25) hx hb dX7_collect_4 (by decide) (fun c4 => ?_) (fun c4 => ?_)
  · exact j25 _ (by first | exact Or.inr (Or.inr ⟨c4, rfl⟩) | exact Or.inl ⟨c4, c17, rfl⟩) _ _ h _ (lv_sub hl [0, 1] rfl)
  · refine lv_iload_n hx hb dX7_collect_7 rfl (lv_at hl 1 rfl) ?_
    refine lv_aload_n hx hb dX7_collect_8 rfl (lv_at hl 0 rfl) ?_
    refine m_gi C h 40 (by decide) rfl rfl q1910 (v := nI rw.length) hrs dX7_collect_9 ?_
    refine lv_aload_n hx hb dX7_collect_12 rfl (lv_at hl 0 rfl) ?_
    refine m_gi C h 41 (by decide) rfl rfl q1911 (v := nI nx) rfl dX7_collect_13 ?_
    refine lv_isub hx hb dX7_collect_16 (n_top (y := nI (rw.length - nx)) (pk_sub (by omega)) ?_)
    refine n_icmp_le (tgt := 25) hx hb (by omega) (by omega) dX7_collect_17 (by decide) (fun c17 => ?_) (fun c17 => ?_)
    · exact j25 _ (by first | exact Or.inr (Or.inr ⟨c4, rfl⟩) | exact Or.inl ⟨c4, c17, rfl⟩) _ _ h _ (lv_sub hl [0, 1] rfl)
    · refine lv_aload_n hx hb dX7_collect_20 rfl (lv_at hl 0 rfl) ?_
      refine call_V (As := []) (rest := []) (n := 0) C h (c7_failPacket l D dA B Z hZ h0 ad (kM M t (nI nx) (nI pl) kd bs (nI co) bo G) F pl rfl) (lw_V q2193 q2195 qs57 q138 q2196) (by decide +kernel) (ci := 5) rfl rfl mw_mem0 (by decide) (by decide) rfl hl rfl (Nat.le_of_ble_eq_true rfl) dX7_collect_21 (by omega) (fun _ H locs _ h => ?_)
      rw [kM_33] at h
      have hf0 : failT t (-1 - nI pl) = -1 - nI pl := by unfold failT; rw [if_pos c4]
      have h : Wd D B s (mw dA h0 ad (kM M (-1 - nI pl) (nI nx) (nI pl) kd bs (nI co) bo G) ++ F) H locs := by rw [← hf0]; exact h
      refine lv_istore_n (lv' := [(2, .int (bZ false)), (0, .ref h0), (1, .int (nI n))]) hx hb dX7_collect_24 rfl hl (by decide) rfl (fun ls hl => ?_)
      exact j25 _ (Or.inr (Or.inl ⟨c4, by omega, rfl⟩)) _ _ h _ (lv_sub hl [1, 2] rfl)
set_option maxHeartbeats 400000 in
set_option maxRecDepth 100000 in
theorem c7_packet (l : Launch) (D : va_G) (dA : Nat → ClassId) (B : Nat) (Z : State → Prop) (hZ : Stab B Z) (h0 : Nat) (ad : Nat → Nat) (M : MS) (F : va_W) (rw : List Nat) (ra : Nat) (g : Nat → Nat) (nx : Nat) (pl0 kd0 bs0 co0 : Int32) (bo0 : Option Nat) (G : Nat → Nat) (hrs : mI M 40 = nI rw.length) (hra : mR M 39 = some ra) (hrow : ∀ (x33 x41 x42 x43 x45 x47 : Int32) (x44 : Option Nat) (x46 : Nat → Nat), (ra, iar dA 4096 g) ∈ mw dA h0 ad (kM M x33 x41 x42 x43 x45 x47 x44 x46) ++ F) (hg : ∀ j, j < rw.length → g j = gD rw j) (hrl : rw.length ≤ 4096) (hrb : byt rw) (hn : nx ≤ rw.length) :
    Ct (S := KR) l D dA B Z yX7_packet cX7_packet 3 (some .boolean) 5 1 (pktZ rw nx) [.ref h0] (mw dA h0 ad (kM M 0 (nI nx) pl0 kd0 bs0 co0 bo0 G) ++ F) (fun u => pktOk dA ad rw nx u) (fun _ => some (.int (bZ (decide (pktT rw nx = 0))))) (fun u => mw dA h0 ad (kM M (pktT rw nx) (nI u.1) (nI nx) (nI u.2.1) (nI u.2.2.1) (nI u.2.2.2.1) u.2.2.2.2.1 u.2.2.2.2.2.1) ++ (F ++ u.2.2.2.2.2.2)) := by
  refine Ct.mk2 (by decide) (Nat.le_of_ble_eq_true rfl) hZ ?_
  intro p e R s m args below meth c ls Q C hr hlocks hin hQ hl h
  have C0 := C
  obtain ⟨hx, hb, hml, hown, hts, -⟩ := C0
  have hl : lv_has ls 3 [(0, .ref h0)] := hl
  have hfx : ¬ (-1 - nI nx : Int32) = 0 := m1_ne (by omega)
  have hff : failT 0 (-1 - nI nx) = -1 - nI nx := by unfold failT; rw [if_pos rfl]
  have hff2 : failT (-1 - nI nx) (-1 - nI nx) = -1 - nI nx := by unfold failT; rw [if_neg hfx]
  refine lv_aload_n hx hb dX7_packet_0 rfl (lv_at hl 0 rfl) ?_
  refine m_gi C h 33 (by decide) rfl rfl q1903 (v := 0) rfl dX7_packet_1 ?_
  refine lv_if_eq (tgt := 9) hx hb dX7_packet_4 (by decide) (fun c4 => ?_) (fun c4 => by exfalso; exact c4 rfl)
  refine lv_aload_n hx hb dX7_packet_9 rfl (lv_at hl 0 rfl) ?_
  refine lv_aload_n hx hb dX7_packet_10 rfl (lv_at hl 0 rfl) ?_
  refine m_gi C h 41 (by decide) rfl rfl q1911 (v := nI nx) rfl dX7_packet_11 ?_
  refine m_pi C h 42 (v := nI nx) (by decide) rfl rfl rfl q1912 rfl rfl dX7_packet_14 (fun H locs h => ?_)
  rw [kM_42] at h
  have h : Wd D B s (mw dA h0 ad (kM M 0 (nI nx) (nI nx) kd0 bs0 co0 bo0 G) ++ F) H locs := h
  refine lv_aload_n hx hb dX7_packet_17 rfl (lv_at hl 0 rfl) ?_
  refine lv_iconst (v := nI 0) hx hb dX7_packet_18 (by decide) ?_
  refine m_pi C h 47 (v := nI 0) (by decide) rfl rfl rfl q1917 rfl rfl dX7_packet_19 (fun H locs h => ?_)
  rw [kM_47] at h
  have h : Wd D B s (mw dA h0 ad (kM M 0 (nI nx) (nI nx) kd0 bs0 (nI 0) bo0 G) ++ F) H locs := h
  refine lv_aload_n hx hb dX7_packet_22 rfl (lv_at hl 0 rfl) ?_
  refine call_V (As := []) (rest := []) (n := 0) C h (c7_byteOf l D dA B Z hZ h0 ad M F rw ra g 0 nx nx kd0 bs0 0 bo0 G hrs hra hrow hg hrl hrb (by omega)) (lw_V q2189 q2191 qs56 q138 q2192) (by decide +kernel) (ci := 5) rfl rfl mw_mem0 (by decide) (by decide) rfl hl rfl (Nat.le_of_ble_eq_true rfl) dX7_packet_23 (by omega) (fun _ H locs _ h => ?_)
  by_cases hnx : nx < rw.length
  · rw [if_pos hnx, if_pos hnx] at h
    rw [if_pos hnx]
    have hb0 := byt_gD hrb nx
    have hx0 : 0 + gD rw nx = gD rw nx := Nat.zero_add _
    refine lv_istore_n (lv' := [(1, .int (nI (gD rw nx))), (0, .ref h0)]) hx hb dX7_packet_26 rfl hl (by decide) rfl (fun ls hl => ?_)
    refine lv_aload_n hx hb dX7_packet_27 rfl (lv_at hl 1 rfl) ?_
    refine m_gi C h 33 (by decide) rfl rfl q1903 (v := 0) rfl dX7_packet_28 ?_
    refine lv_if_ne (tgt := 41) hx hb dX7_packet_31 (by decide) (fun c31 => by exfalso; exact c31 rfl) (fun c31 => ?_)
    refine lv_iload_n hx hb dX7_packet_34 rfl (lv_at hl 0 rfl) ?_
    refine lv_sipush (v := nI 128) hx hb dX7_packet_35 (by decide) ?_
    refine n_icmp_ge (tgt := 46) hx hb (by omega) (by omega) dX7_packet_38 (by decide) (fun c38 => ?_) (fun c38 => ?_)
    · have jE : ∀ (t : Int32) (y kd co : Nat) (G1 : Nat → Nat), ((t = 0 ∧ ∃ bb, pktS rw nx = some (kd, bb, y) ∧ sl G1 0 bb.length = bb ∧ co = bb.length) ∨ (t = -1 - nI nx ∧ pktS rw nx = none ∧ y ≤ rw.length)) → (kd < 1000) → ∀ (H : Heap) (locs : List Loc), Wd D B s (mw dA h0 ad (kM M t (nI y) (nI nx) (nI kd) bs0 (nI co) bo0 G1) ++ F) H locs → ∀ (ls : Array Slot), lv_has ls 3 [(0, .ref h0)] → W p l e R s m args below meth c H locs (0 + 0) (0 + 0) Q (F0 m 220 ls []) := by
        intro t  y kd co  G1  hE hkd H locs h ls hl
        by_cases ht0 : t = 0
        · have hE1 : ∃ bb, pktS rw nx = some (kd, bb, y) ∧ sl G1 0 bb.length = bb ∧ co = bb.length := by
            rcases hE with q | q
            · exact q.2
            · exact absurd (q.1.symm.trans ht0) hfx
          obtain ⟨bb, hpk, hsb, hcb⟩ := hE1
          subst hcb
          have hpt : pktT rw nx = 0 := by unfold pktT; rw [hpk]
          have hpz : pktZ rw nx = bb.length := by unfold pktZ; rw [hpk]
          have hbl : bb.length ≤ rw.length ∧ y ≤ rw.length := pktS_len hpk
          refine lv_aload_n hx hb dX7_packet_220 rfl (lv_at hl 0 rfl) ?_
          refine lv_aload_n hx hb dX7_packet_221 rfl (lv_at hl 0 rfl) ?_
          refine m_gi C h 33 (by decide) rfl rfl q1903 (v := t) rfl dX7_packet_222 ?_
          refine lv_if_ne (tgt := 235) hx hb dX7_packet_225 (by decide) (fun c225 => by exfalso; exact c225 ht0) (fun c225 => ?_)
          refine lv_aload_n hx hb dX7_packet_228 rfl (lv_at hl 0 rfl) ?_
          refine m_gi C h 47 (by decide) rfl rfl q1917 (v := nI bb.length) rfl dX7_packet_229 ?_
          refine lv_goto (tgt := 236) hx hb dX7_packet_232 (by decide) ?_
          refine m_pi C h 45 (v := nI bb.length) (by decide) rfl rfl rfl q1915 rfl rfl dX7_packet_236 (fun H locs h => ?_)
          rw [kM_45] at h
          have h : Wd D B s (mw dA h0 ad (kM M t (nI y) (nI nx) (nI kd) (nI bb.length) (nI bb.length) bo0 G1) ++ F) H locs := h
          refine lv_aload_n hx hb dX7_packet_239 rfl (lv_at hl 0 rfl) ?_
          refine lv_aload_n hx hb dX7_packet_240 rfl (lv_at hl 0 rfl) ?_
          refine m_gi C h 43 (by decide) rfl rfl q1913 (v := nI kd) rfl dX7_packet_241 ?_
          refine lv_bipush (v := nI 11) hx hb dX7_packet_244 (by decide) ?_
          refine n_icmp_ne (tgt := 256) hx hb (by omega) (by omega) dX7_packet_246 (by decide) (fun c246 => ?_) (fun c246 => ?_)
          · refine lv_aload_n hx hb dX7_packet_256 rfl (lv_at hl 0 rfl) ?_
            refine m_gc C h 46 (by decide) rfl rfl q1916 dX7_packet_257 ?_
            refine lv_iconst (v := nI 0) hx hb dX7_packet_260 (by decide) ?_
            refine lv_aload_n hx hb dX7_packet_261 rfl (lv_at hl 0 rfl) ?_
            refine m_gi C h 45 (by decide) rfl rfl q1915 (v := nI bb.length) rfl dX7_packet_262 ?_
            refine call_S (As := [.ref (ad 46), .int (nI 0), .int (nI bb.length)]) (rest := [.ref h0]) (n := 3) C h (c7_part l D dA B Z hZ _ (ad 46) 5000 G1 0 bb.length (mw_memG (k := 46) (by decide)) (by omega) (by decide)) (lw_S q2208 q2209 q138 q2210) (by decide +kernel) (by decide) (by decide) rfl hl rfl (Nat.le_of_ble_eq_true rfl) dX7_packet_265 (by omega) (fun q9 H locs _ h => ?_)
            rw [List.append_assoc] at h
            refine m_pr C h 44 (v := some q9) (by decide) rfl rfl rfl q1914 rfl rfl dX7_packet_268 (fun H locs h => ?_)
            rw [kM_44] at h
            have h : Wd D B s (mw dA h0 ad (kM M t (nI y) (nI nx) (nI kd) (nI bb.length) (nI bb.length) (some q9) G1) ++ (F ++ [(q9, ial dA (sl G1 0 bb.length))])) H locs := h
            refine lv_aload_n hx hb dX7_packet_271 rfl (lv_at hl 0 rfl) ?_
            refine m_gi C h 33 (by decide) rfl rfl q1903 (v := t) rfl dX7_packet_272 ?_
            refine lv_if_ne (tgt := 282) hx hb dX7_packet_275 (by decide) (fun c275 => by exfalso; exact c275 ht0) (fun c275 => ?_)
            refine lv_iconst (v := nI 1) hx hb dX7_packet_278 (by decide) ?_
            refine lv_goto (tgt := 283) hx hb dX7_packet_279 (by decide) ?_
            subst hQ
            refine n_top (y := bZ true) rfl ?_
            exact ret_z C hr hlocks h (y, kd, bb.length, bb.length, some q9, G1, [(q9, ial dA (sl G1 0 bb.length))]) (by
              unfold pktOk; rw [hpk]
              refine ⟨rfl, rfl, rfl, hsb, ?_⟩
              exact Or.inr ⟨c246, q9, rfl, by rw [hsb]⟩) (by rw [hpt, decide_eq_true rfl]) (by rw [hpt]; rw [ht0]) (by omega) (by omega) dX7_packet_283
          · refine lv_aload_n hx hb dX7_packet_249 rfl (lv_at hl 0 rfl) ?_
            refine m_gc C h 46 (by decide) rfl rfl q1916 dX7_packet_250 ?_
            refine lv_goto (tgt := 268) hx hb dX7_packet_253 (by decide) ?_
            refine m_pr C h 44 (v := some (ad 46)) (by decide) rfl rfl rfl q1914 rfl rfl dX7_packet_268 (fun H locs h => ?_)
            rw [kM_44] at h
            have h : Wd D B s (mw dA h0 ad (kM M t (nI y) (nI nx) (nI kd) (nI bb.length) (nI bb.length) (some (ad 46)) G1) ++ F) H locs := h
            refine lv_aload_n hx hb dX7_packet_271 rfl (lv_at hl 0 rfl) ?_
            refine m_gi C h 33 (by decide) rfl rfl q1903 (v := t) rfl dX7_packet_272 ?_
            refine lv_if_ne (tgt := 282) hx hb dX7_packet_275 (by decide) (fun c275 => by exfalso; exact c275 ht0) (fun c275 => ?_)
            refine lv_iconst (v := nI 1) hx hb dX7_packet_278 (by decide) ?_
            refine lv_goto (tgt := 283) hx hb dX7_packet_279 (by decide) ?_
            subst hQ
            refine n_top (y := bZ true) rfl ?_
            exact ret_z C hr hlocks h (y, kd, bb.length, bb.length, some (ad 46), G1, []) (by
              unfold pktOk; rw [hpk]
              refine ⟨rfl, rfl, rfl, hsb, ?_⟩
              exact Or.inl ⟨c246, rfl, rfl⟩) (by rw [hpt, decide_eq_true rfl]) (by rw [hpt]; rw [ht0]; simp only [List.append_nil]) (by omega) (by omega) dX7_packet_283
        · have hE1 : t = -1 - nI nx ∧ pktS rw nx = none ∧ y ≤ rw.length := by
            rcases hE with q | q
            · exact absurd q.1 ht0
            · exact q
          have hpt : pktT rw nx = -1 - nI nx := by unfold pktT; rw [hE1.2.1]
          have hpz : pktZ rw nx = 0 := by unfold pktZ; rw [hE1.2.1]
          refine lv_aload_n hx hb dX7_packet_220 rfl (lv_at hl 0 rfl) ?_
          refine lv_aload_n hx hb dX7_packet_221 rfl (lv_at hl 0 rfl) ?_
          refine m_gi C h 33 (by decide) rfl rfl q1903 (v := t) rfl dX7_packet_222 ?_
          refine lv_if_ne (tgt := 235) hx hb dX7_packet_225 (by decide) (fun c225 => ?_) (fun c225 => by exfalso; exact ht0 c225)
          refine lv_iconst (v := nI 0) hx hb dX7_packet_235 (by decide) ?_
          refine m_pi C h 45 (v := nI 0) (by decide) rfl rfl rfl q1915 rfl rfl dX7_packet_236 (fun H locs h => ?_)
          rw [kM_45] at h
          have h : Wd D B s (mw dA h0 ad (kM M t (nI y) (nI nx) (nI kd) (nI 0) (nI co) bo0 G1) ++ F) H locs := h
          refine lv_aload_n hx hb dX7_packet_239 rfl (lv_at hl 0 rfl) ?_
          refine lv_aload_n hx hb dX7_packet_240 rfl (lv_at hl 0 rfl) ?_
          refine m_gi C h 43 (by decide) rfl rfl q1913 (v := nI kd) rfl dX7_packet_241 ?_
          refine lv_bipush (v := nI 11) hx hb dX7_packet_244 (by decide) ?_
          refine n_icmp_ne (tgt := 256) hx hb (by omega) (by omega) dX7_packet_246 (by decide) (fun c246 => ?_) (fun c246 => ?_)
          · refine lv_aload_n hx hb dX7_packet_256 rfl (lv_at hl 0 rfl) ?_
            refine m_gc C h 46 (by decide) rfl rfl q1916 dX7_packet_257 ?_
            refine lv_iconst (v := nI 0) hx hb dX7_packet_260 (by decide) ?_
            refine lv_aload_n hx hb dX7_packet_261 rfl (lv_at hl 0 rfl) ?_
            refine m_gi C h 45 (by decide) rfl rfl q1915 (v := nI 0) rfl dX7_packet_262 ?_
            refine call_S (As := [.ref (ad 46), .int (nI 0), .int (nI 0)]) (rest := [.ref h0]) (n := 3) C h (c7_part l D dA B Z hZ _ (ad 46) 5000 G1 0 0 (mw_memG (k := 46) (by decide)) (by omega) (by decide)) (lw_S q2208 q2209 q138 q2210) (by decide +kernel) (by decide) (by decide) rfl hl rfl (Nat.le_of_ble_eq_true rfl) dX7_packet_265 (by omega) (fun q9 H locs _ h => ?_)
            rw [List.append_assoc] at h
            refine m_pr C h 44 (v := some q9) (by decide) rfl rfl rfl q1914 rfl rfl dX7_packet_268 (fun H locs h => ?_)
            rw [kM_44] at h
            have h : Wd D B s (mw dA h0 ad (kM M t (nI y) (nI nx) (nI kd) (nI 0) (nI co) (some q9) G1) ++ (F ++ [(q9, ial dA (sl G1 0 0))])) H locs := h
            refine lv_aload_n hx hb dX7_packet_271 rfl (lv_at hl 0 rfl) ?_
            refine m_gi C h 33 (by decide) rfl rfl q1903 (v := t) rfl dX7_packet_272 ?_
            refine lv_if_ne (tgt := 282) hx hb dX7_packet_275 (by decide) (fun c275 => ?_) (fun c275 => by exfalso; exact ht0 c275)
            refine lv_iconst (v := nI 0) hx hb dX7_packet_282 (by decide) ?_
            subst hQ
            refine n_top (y := bZ false) rfl ?_
            exact ret_z C hr hlocks h (y, kd, 0, co, some q9, G1, [(q9, ial dA (sl G1 0 0))]) (by unfold pktOk; rw [hE1.2.1]; exact hE1.2.2) (by rw [hpt, decide_eq_false hfx]) (by rw [hpt, hE1.1]) (by omega) (by omega) dX7_packet_283
          · refine lv_aload_n hx hb dX7_packet_249 rfl (lv_at hl 0 rfl) ?_
            refine m_gc C h 46 (by decide) rfl rfl q1916 dX7_packet_250 ?_
            refine lv_goto (tgt := 268) hx hb dX7_packet_253 (by decide) ?_
            refine m_pr C h 44 (v := some (ad 46)) (by decide) rfl rfl rfl q1914 rfl rfl dX7_packet_268 (fun H locs h => ?_)
            rw [kM_44] at h
            have h : Wd D B s (mw dA h0 ad (kM M t (nI y) (nI nx) (nI kd) (nI 0) (nI co) (some (ad 46)) G1) ++ F) H locs := h
            refine lv_aload_n hx hb dX7_packet_271 rfl (lv_at hl 0 rfl) ?_
            refine m_gi C h 33 (by decide) rfl rfl q1903 (v := t) rfl dX7_packet_272 ?_
            refine lv_if_ne (tgt := 282) hx hb dX7_packet_275 (by decide) (fun c275 => ?_) (fun c275 => by exfalso; exact ht0 c275)
            refine lv_iconst (v := nI 0) hx hb dX7_packet_282 (by decide) ?_
            subst hQ
            refine n_top (y := bZ false) rfl ?_
            exact ret_z C hr hlocks h (y, kd, 0, co, some (ad 46), G1, []) (by unfold pktOk; rw [hE1.2.1]; exact hE1.2.2) (by rw [hpt, decide_eq_false hfx]) (by rw [hpt, hE1.1]; simp only [List.append_nil]) (by omega) (by omega) dX7_packet_283
      refine lv_iload_n hx hb dX7_packet_46 rfl (lv_at hl 0 rfl) ?_
      refine lv_sipush (v := nI 192) hx hb dX7_packet_47 (by decide) ?_
      refine n_icmp_ge (tgt := 91) hx hb (by omega) (by omega) dX7_packet_50 (by decide) (fun c50 => ?_) (fun c50 => ?_)
      · refine lv_aload_n hx hb dX7_packet_91 rfl (lv_at hl 1 rfl) ?_
        refine lv_iload_n hx hb dX7_packet_92 rfl (lv_at hl 0 rfl) ?_
        refine lv_sipush (v := nI 192) hx hb dX7_packet_93 (by decide) ?_
        refine lv_isub hx hb dX7_packet_96 (n_top (y := nI (gD rw nx - 192)) (pk_sub (by omega)) ?_)
        refine m_pi C h 43 (v := nI (gD rw nx - 192)) (by decide) rfl rfl rfl q1913 rfl rfl dX7_packet_97 (fun H locs h => ?_)
        rw [kM_43] at h
        have h : Wd D B s (mw dA h0 ad (kM M 0 (nI (nx + 1)) (nI nx) (nI (gD rw nx - 192)) bs0 (nI 0) bo0 G) ++ F) H locs := h
        have hps : pktS rw nx = (match pktN rw (gD rw nx - 192) (nx + 1) [] with | none => none | some q => some ((gD rw nx - 192), q.1, q.2)) := by unfold pktS; rw [if_pos hnx, if_neg (by omega), if_neg (by omega)]
        have loopP : ∀ (nnloopP : Nat) (t : Int32) (y x : Nat) (acc : List Nat), (y ≤ rw.length) → (x < 256) → (acc.length ≤ y - 1) → ((t = 0 ∧ 1 ≤ y ∧ x = gD rw (y - 1) ∧ pktN rw (gD rw nx - 192) (nx + 1) [] = pktN rw (gD rw nx - 192) (y - 1) acc) ∨ (t = -1 - nI nx ∧ pktN rw (gD rw nx - 192) (nx + 1) [] = none)) → (if t = 0 then rw.length + 2 - y else 0) < nnloopP → ∀ (H : Heap) (locs : List Loc), Wd D B s (mw dA h0 ad (kM M t (nI y) (nI nx) (nI (gD rw nx - 192)) bs0 (nI acc.length) bo0 (appG G 0 acc)) ++ F) H locs → ∀ (ls : Array Slot), lv_has ls 3 [(2, .int (nI x)), (0, .ref h0)] → W p l e R s m args below meth c H locs (0 + 0) (0 + 0) Q (F0 m 105 ls []) := by
          intro nnloopP
          induction nnloopP with
          | zero => intro t  y x  acc  hp0 hp1 hp2 hp3 hme; exact absurd hme (Nat.not_lt_zero _)
          | succ nnloopP ihloopP =>
            intro t  y x  acc  hp0 hp1 hp2 hp3 hme H locs h ls hl
            have j172 : (t = 0 → ¬ (223 < x ∧ x < 255)) → ∀ (H : Heap) (locs : List Loc), Wd D B s (mw dA h0 ad (kM M t (nI y) (nI nx) (nI (gD rw nx - 192)) bs0 (nI acc.length) bo0 (appG G 0 acc)) ++ F) H locs → ∀ (ls : Array Slot), lv_has ls 3 [(2, .int (nI x)), (0, .ref h0)] → W p l e R s m args below meth c H locs (0 + 0) (0 + 0) Q (F0 m 172 ls []) := by
              intro  hnb H locs h ls hl
              have jC : ∀ (n : Nat) (t2 : Int32) (y2 : Nat), (n < 100000) → (acc.length ≤ y2 ∧ y2 ≤ rw.length) → ((t2 = 0 ∧ pktN rw (gD rw nx - 192) (nx + 1) [] = (if y2 + n ≤ rw.length then some (acc ++ sliceL rw y2 n, y2 + n) else none)) ∨ (t2 = -1 - nI nx ∧ pktN rw (gD rw nx - 192) (nx + 1) [] = none)) → ∀ (H : Heap) (locs : List Loc), Wd D B s (mw dA h0 ad (kM M t2 (nI y2) (nI nx) (nI (gD rw nx - 192)) bs0 (nI acc.length) bo0 (appG G 0 acc)) ++ F) H locs → ∀ (ls : Array Slot), lv_has ls 3 [(0, .ref h0)] → W p l e R s m args below meth c H locs (0 + 0) (0 + 0) Q (F0 m 217 ls [.int (nI n), .ref h0]) := by
                intro n  t2  y2  hC0 hC1 hC2 H locs h ls hl
                refine call_V (As := [.int (nI n)]) (rest := []) (n := 1) C h (c7_collect l D dA B Z hZ h0 ad M F rw ra g n t2 y2 nx (nI (gD rw nx - 192)) bs0 acc.length bo0 (appG G 0 acc) hrs hra hrow hg hrl hrb (by omega) (by first | omega | (split <;> omega)) (by omega) (by omega)) (lw_V q2204 q2206 qs59 q138 q2207) (by decide +kernel) (ci := 5) rfl rfl mw_mem0 (by decide) (by decide) rfl hl rfl (Nat.le_of_ble_eq_true rfl) dX7_packet_217 (by omega) (fun _ H locs _ h => ?_)
                by_cases hk0 : t2 = 0
                · by_cases hk1 : y2 + n ≤ rw.length
                  · rw [if_pos hk0, if_pos (by omega)] at h
                    have hacc : appG (appG G 0 acc) acc.length (sl (gD rw) y2 n) = appG G 0 (acc ++ sliceL rw y2 n) := by
                      have e := appG_app G 0 acc (sl (gD rw) y2 n)
                      rw [Nat.zero_add] at e
                      rw [e, sliceL_sl hk1]
                    rw [hacc] at h
                    exact jE _ _ _ _ _ (Or.inl ⟨rfl, acc ++ sliceL rw y2 n, by
                      rw [hps]
                      rcases hC2 with q | q
                      · rw [q.2, if_pos hk1]
                      · exact absurd (q.1.symm.trans hk0) hfx, by
                      rw [sl_app0 (Nat.le_refl _), List.take_of_length_le (Nat.le_refl _)], by rw [List.length_append, sliceL_len hk1]⟩) (by omega) _ _ h _ (lv_sub hl [0] rfl)
                  · rw [if_pos hk0, if_neg (by omega)] at h
                    exact jE _ _ _ _ _ (Or.inr ⟨rfl, by
                      rw [hps]
                      rcases hC2 with q | q
                      · rw [q.2, if_neg hk1]
                      · rw [q.2], by omega⟩) (by omega) _ _ h _ (lv_sub hl [0] rfl)
                · rw [if_neg hk0] at h
                  exact jE _ _ _ _ _ (Or.inr ⟨by
                    rcases hC2 with q | q
                    · exact absurd q.1 hk0
                    · exact q.1, by
                    rw [hps]
                    rcases hC2 with q | q
                    · exact absurd q.1 hk0
                    · rw [q.2], by omega⟩) (by omega) _ _ h _ (lv_sub hl [0] rfl)
              by_cases ht1 : t = 0
              · have hp4x : 1 ≤ y ∧ x = gD rw (y - 1) ∧ pktN rw (gD rw nx - 192) (nx + 1) [] = pktN rw (gD rw nx - 192) (y - 1) acc := by
                  rcases hp3 with q | q
                  · exact q.2
                  · exact absurd (q.1.symm.trans ht1) hfx
                obtain ⟨hy1, hxy, hpn⟩ := hp4x
                have h : Wd D B s (mw dA h0 ad (kM M 0 (nI y) (nI nx) (nI (gD rw nx - 192)) bs0 (nI acc.length) bo0 (appG G 0 acc)) ++ F) H locs := by rw [← ht1]; exact h
                have hnp : ¬ (223 < gD rw (y - 1) ∧ gD rw (y - 1) < 255) := by
                  rw [← hxy]; exact hnb ht1
                refine lv_aload_n hx hb dX7_packet_172 rfl (lv_at hl 1 rfl) ?_
                refine lv_iload_n hx hb dX7_packet_173 rfl (lv_at hl 0 rfl) ?_
                refine lv_sipush (v := nI 192) hx hb dX7_packet_174 (by decide) ?_
                refine n_icmp_ge (tgt := 184) hx hb (by omega) (by omega) dX7_packet_177 (by decide) (fun c177 => ?_) (fun c177 => ?_)
                · refine lv_iload_n hx hb dX7_packet_184 rfl (lv_at hl 0 rfl) ?_
                  refine lv_sipush (v := nI 224) hx hb dX7_packet_185 (by decide) ?_
                  refine n_icmp_ge (tgt := 212) hx hb (by omega) (by omega) dX7_packet_188 (by decide) (fun c188 => ?_) (fun c188 => ?_)
                  · refine lv_aload_n hx hb dX7_packet_212 rfl (lv_at hl 1 rfl) ?_
                    refine lv_iconst (v := nI 4) hx hb dX7_packet_213 (by decide) ?_
                    refine call_V (As := [.int (nI 4)]) (rest := [.ref h0]) (n := 1) C h (c7_lengthOf l D dA B Z hZ h0 ad M F rw ra g 4 (0) y nx (nI (gD rw nx - 192)) bs0 acc.length bo0 (appG G 0 acc) hrs hra hrow hg hrl hrb (by omega) (by decide)) (lw_V q2197 q2199 qs58 q138 q2200) (by decide +kernel) (ci := 5) rfl rfl mw_mem0 (by decide) (by decide) rfl hl rfl (Nat.le_of_ble_eq_true rfl) dX7_packet_214 (by omega) (fun _ H locs _ h => ?_)
                    have hle := lenS_eq (l := rw) (f := -1 - nI nx) hfx 4 0 y
                    have hx255 : x = 255 := by have := hnp; rw [← hxy] at this; omega
                    by_cases hin6 : y + 4 ≤ rw.length
                    · have hL := hle.1 hin6
                      rw [hL] at h ⊢
                      have hnum : (sl (gD rw) y 4).foldl (fun v x => v * 256 + x) 0 = num (sliceL rw y 4) := by rw [sliceL_sl hin6]; rfl
                      rw [hnum] at h ⊢
                      obtain ⟨vv, hvv⟩ : ∃ z, z = num (sliceL rw y 4) := ⟨_, rfl⟩
                      rw [← hvv] at h ⊢
                      have h : Wd D B s (mw dA h0 ad (kM M 0 (nI (y + 4)) (nI nx) (nI (gD rw nx - 192)) bs0 (nI acc.length) bo0 (appG G 0 acc)) ++ F) H locs := h
                      show W p l e R s m args below meth c H locs (0 + 0 + 0) (0 + 0 + 0) Q (F0 m 217 ls [.int (nI (if 65536 < vv then 65537 else vv)), .ref h0])
                      exact jC _ _ _ (by split <;> omega) (by omega) (Or.inl ⟨rfl, by
                        rw [hpn, pktN, dif_pos (by omega), dif_neg hnp, ← hxy, if_neg (by omega), if_neg (by omega), show y - 1 + 1 = y by omega, show y - 1 + 5 = y + 4 by omega, ← hvv]
                        by_cases q : y + 4 + vv ≤ rw.length
                        · rw [if_pos ⟨hin6, q⟩, if_neg (show ¬ 65536 < vv by omega), if_pos q]
                        · rw [if_neg (fun z => q z.2), if_neg (by split <;> omega)]⟩) _ _ h _ (lv_sub hl [1] rfl)
                    · have hL := hle.2 (by omega) (by omega)
                      rw [hL.1, hL.2] at h
                      have h : Wd D B s (mw dA h0 ad (kM M (-1 - nI nx) (nI rw.length) (nI nx) (nI (gD rw nx - 192)) bs0 (nI acc.length) bo0 (appG G 0 acc)) ++ F) H locs := h
                      exact jC _ _ _ (by split <;> omega) (by omega) (Or.inr ⟨rfl, by
                        rw [hpn, pktN, dif_pos (by omega), dif_neg hnp, ← hxy, if_neg (by omega), if_neg (by omega), show y - 1 + 1 = y by omega, show y - 1 + 5 = y + 4 by omega, if_neg (by omega)]⟩) _ _ h _ (lv_sub hl [1] rfl)
                  · refine lv_iload_n hx hb dX7_packet_191 rfl (lv_at hl 0 rfl) ?_
                    refine lv_sipush (v := nI 192) hx hb dX7_packet_192 (by decide) ?_
                    refine lv_isub hx hb dX7_packet_195 (n_top (y := nI (x - 192)) (pk_sub (by omega)) ?_)
                    refine lv_sipush (v := nI 256) hx hb dX7_packet_196 (by decide) ?_
                    refine lv_imul hx hb dX7_packet_199 (n_top (y := nI ((x - 192) * 256)) (pk_mul (x - 192) 256) ?_)
                    refine lv_aload_n hx hb dX7_packet_200 rfl (lv_at hl 1 rfl) ?_
                    refine call_V (As := []) (rest := [.int (nI ((x - 192) * 256)), .ref h0]) (n := 0) C h (c7_byteOf l D dA B Z hZ h0 ad M F rw ra g 0 y nx (nI (gD rw nx - 192)) bs0 acc.length bo0 (appG G 0 acc) hrs hra hrow hg hrl hrb (by omega)) (lw_V q2189 q2191 qs56 q138 q2192) (by decide +kernel) (ci := 5) rfl rfl mw_mem0 (by decide) (by decide) rfl hl rfl (Nat.le_of_ble_eq_true rfl) dX7_packet_201 (by omega) (fun _ H locs _ h => ?_)
                    by_cases hin5 : y < rw.length
                    · rw [if_pos hin5, if_pos hin5] at h
                      rw [if_pos hin5]
                      have hb3 := byt_gD hrb y
                      refine lv_iadd hx hb dX7_packet_204 (n_top (y := nI (((x - 192) * 256) + gD rw y)) (nI_add ((x - 192) * 256) (gD rw y)) ?_)
                      refine lv_sipush (v := nI 192) hx hb dX7_packet_205 (by decide) ?_
                      refine lv_iadd hx hb dX7_packet_208 (n_top (y := nI ((((x - 192) * 256) + gD rw y) + 192)) (nI_add (((x - 192) * 256) + gD rw y) 192) ?_)
                      refine lv_goto (tgt := 217) hx hb dX7_packet_209 (by decide) ?_
                      exact jC _ _ _ (by omega) (by omega) (Or.inl ⟨rfl, by
                        rw [hpn, pktN, dif_pos (by omega), dif_neg hnp, ← hxy, if_neg (by omega), if_pos c188, show y - 1 + 1 = y by omega, show y - 1 + 2 = y + 1 by omega]
                        by_cases q : y + 1 + ((x - 192) * 256 + gD rw y + 192) ≤ rw.length
                        · rw [if_pos q, if_pos ⟨hin5, q⟩]
                        · rw [if_neg q, if_neg (fun z => q z.2)]⟩) _ _ h _ (lv_sub hl [1] rfl)
                    · rw [if_neg hin5, if_neg hin5, hff] at h
                      rw [if_neg hin5]
                      refine lv_iadd hx hb dX7_packet_204 (n_top (y := nI (((x - 192) * 256) + 0)) (nI_add ((x - 192) * 256) 0) ?_)
                      refine lv_sipush (v := nI 192) hx hb dX7_packet_205 (by decide) ?_
                      refine lv_iadd hx hb dX7_packet_208 (n_top (y := nI ((((x - 192) * 256) + 0) + 192)) (nI_add (((x - 192) * 256) + 0) 192) ?_)
                      refine lv_goto (tgt := 217) hx hb dX7_packet_209 (by decide) ?_
                      exact jC _ _ _ (by omega) (by omega) (Or.inr ⟨rfl, by rw [hpn, pktN, dif_pos (by omega), dif_neg hnp, ← hxy, if_neg (by omega), if_pos c188, if_neg (by omega)]⟩) _ _ h _ (lv_sub hl [1] rfl)
                · refine lv_iload_n hx hb dX7_packet_180 rfl (lv_at hl 0 rfl) ?_
                  refine lv_goto (tgt := 217) hx hb dX7_packet_181 (by decide) ?_
                  exact jC _ _ _ (by omega) (by omega) (Or.inl ⟨rfl, by rw [hpn, pktN, dif_pos (by omega), dif_neg hnp, ← hxy, if_pos c177, show y - 1 + 1 = y by omega]⟩) _ _ h _ (lv_sub hl [1] rfl)
              · have hN : t = -1 - nI nx ∧ pktN rw (gD rw nx - 192) (nx + 1) [] = none := by
                  rcases hp3 with q | q
                  · exact absurd q.1 ht1
                  · exact q
                have h : Wd D B s (mw dA h0 ad (kM M (-1 - nI nx) (nI y) (nI nx) (nI (gD rw nx - 192)) bs0 (nI acc.length) bo0 (appG G 0 acc)) ++ F) H locs := by rw [← hN.1]; exact h
                refine lv_aload_n hx hb dX7_packet_172 rfl (lv_at hl 1 rfl) ?_
                refine lv_iload_n hx hb dX7_packet_173 rfl (lv_at hl 0 rfl) ?_
                refine lv_sipush (v := nI 192) hx hb dX7_packet_174 (by decide) ?_
                refine n_icmp_ge (tgt := 184) hx hb (by omega) (by omega) dX7_packet_177 (by decide) (fun c177 => ?_) (fun c177 => ?_)
                · refine lv_iload_n hx hb dX7_packet_184 rfl (lv_at hl 0 rfl) ?_
                  refine lv_sipush (v := nI 224) hx hb dX7_packet_185 (by decide) ?_
                  refine n_icmp_ge (tgt := 212) hx hb (by omega) (by omega) dX7_packet_188 (by decide) (fun c188 => ?_) (fun c188 => ?_)
                  · refine lv_aload_n hx hb dX7_packet_212 rfl (lv_at hl 1 rfl) ?_
                    refine lv_iconst (v := nI 4) hx hb dX7_packet_213 (by decide) ?_
                    refine call_V (As := [.int (nI 4)]) (rest := [.ref h0]) (n := 1) C h (c7_lengthOf l D dA B Z hZ h0 ad M F rw ra g 4 (-1 - nI nx) y nx (nI (gD rw nx - 192)) bs0 acc.length bo0 (appG G 0 acc) hrs hra hrow hg hrl hrb (by omega) (by decide)) (lw_V q2197 q2199 qs58 q138 q2200) (by decide +kernel) (ci := 5) rfl rfl mw_mem0 (by decide) (by decide) rfl hl rfl (Nat.le_of_ble_eq_true rfl) dX7_packet_214 (by omega) (fun _ H locs _ h => ?_)
                    have hL : (lenS rw (-1 - nI nx) 4 (0, -1 - nI nx, y)) = (0, -1 - nI nx, y) := lenS_done hfx
                    rw [hL] at h ⊢
                    show W p l e R s m args below meth c H locs (0 + 0 + 0) (0 + 0 + 0) Q (F0 m 217 ls [.int (nI (if 65536 < 0 then 65537 else 0)), .ref h0])
                    have h : Wd D B s (mw dA h0 ad (kM M (-1 - nI nx) (nI y) (nI nx) (nI (gD rw nx - 192)) bs0 (nI acc.length) bo0 (appG G 0 acc)) ++ F) H locs := h
                    exact jC _ _ _ (by split <;> omega) (by omega) (Or.inr ⟨rfl, hN.2⟩) _ _ h _ (lv_sub hl [1] rfl)
                  · refine lv_iload_n hx hb dX7_packet_191 rfl (lv_at hl 0 rfl) ?_
                    refine lv_sipush (v := nI 192) hx hb dX7_packet_192 (by decide) ?_
                    refine lv_isub hx hb dX7_packet_195 (n_top (y := nI (x - 192)) (pk_sub (by omega)) ?_)
                    refine lv_sipush (v := nI 256) hx hb dX7_packet_196 (by decide) ?_
                    refine lv_imul hx hb dX7_packet_199 (n_top (y := nI ((x - 192) * 256)) (pk_mul (x - 192) 256) ?_)
                    refine lv_aload_n hx hb dX7_packet_200 rfl (lv_at hl 1 rfl) ?_
                    refine call_V (As := []) (rest := [.int (nI ((x - 192) * 256)), .ref h0]) (n := 0) C h (c7_byteOf l D dA B Z hZ h0 ad M F rw ra g (-1 - nI nx) y nx (nI (gD rw nx - 192)) bs0 acc.length bo0 (appG G 0 acc) hrs hra hrow hg hrl hrb (by omega)) (lw_V q2189 q2191 qs56 q138 q2192) (by decide +kernel) (ci := 5) rfl rfl mw_mem0 (by decide) (by decide) rfl hl rfl (Nat.le_of_ble_eq_true rfl) dX7_packet_201 (by omega) (fun _ H locs _ h => ?_)
                    have hff3 : (if y < rw.length then (-1 - nI nx : Int32) else failT (-1 - nI nx) (-1 - nI nx)) = -1 - nI nx := by rw [hff2]; split <;> rfl
                    rw [hff3] at h
                    have hb3 : (if y < rw.length then gD rw y else 0) < 256 := by
                      split
                      · exact byt_gD hrb y
                      · decide
                    refine lv_iadd hx hb dX7_packet_204 (n_top (y := nI (((x - 192) * 256) + (if y < rw.length then gD rw y else 0))) (nI_add ((x - 192) * 256) (if y < rw.length then gD rw y else 0)) ?_)
                    refine lv_sipush (v := nI 192) hx hb dX7_packet_205 (by decide) ?_
                    refine lv_iadd hx hb dX7_packet_208 (n_top (y := nI ((((x - 192) * 256) + (if y < rw.length then gD rw y else 0)) + 192)) (nI_add (((x - 192) * 256) + (if y < rw.length then gD rw y else 0)) 192) ?_)
                    refine lv_goto (tgt := 217) hx hb dX7_packet_209 (by decide) ?_
                    exact jC _ _ _ (by omega) (by split <;> omega) (Or.inr ⟨rfl, hN.2⟩) _ _ h _ (lv_sub hl [1] rfl)
                · refine lv_iload_n hx hb dX7_packet_180 rfl (lv_at hl 0 rfl) ?_
                  refine lv_goto (tgt := 217) hx hb dX7_packet_181 (by decide) ?_
                  exact jC _ _ _ (by omega) (by omega) (Or.inr ⟨rfl, hN.2⟩) _ _ h _ (lv_sub hl [1] rfl)
            refine lv_aload_n hx hb dX7_packet_105 rfl (lv_at hl 1 rfl) ?_
            refine m_gi C h 33 (by decide) rfl rfl q1903 (v := t) rfl dX7_packet_106 ?_
            refine lv_if_ne (tgt := 172) hx hb dX7_packet_109 (by decide) (fun c109 => ?_) (fun c109 => ?_)
            · exact j172  (by intro q; first | omega | exact absurd q c109) _ _ h _ (lv_sub hl [0, 1] rfl)
            · have hp4x : 1 ≤ y ∧ x = gD rw (y - 1) ∧ pktN rw (gD rw nx - 192) (nx + 1) [] = pktN rw (gD rw nx - 192) (y - 1) acc := by
                rcases hp3 with q | q
                · exact q.2
                · exact absurd (q.1.symm.trans c109) hfx
              obtain ⟨hy1, hxy, hpn⟩ := hp4x
              refine lv_iload_n hx hb dX7_packet_112 rfl (lv_at hl 0 rfl) ?_
              refine lv_sipush (v := nI 223) hx hb dX7_packet_113 (by decide) ?_
              refine n_icmp_le (tgt := 172) hx hb (by omega) (by omega) dX7_packet_116 (by decide) (fun c116 => ?_) (fun c116 => ?_)
              · exact j172  (by intro q; first | omega | exact absurd q c109) _ _ h _ (lv_sub hl [0, 1] rfl)
              · refine lv_iload_n hx hb dX7_packet_119 rfl (lv_at hl 0 rfl) ?_
                refine lv_sipush (v := nI 255) hx hb dX7_packet_120 (by decide) ?_
                refine n_icmp_ge (tgt := 172) hx hb (by omega) (by omega) dX7_packet_123 (by decide) (fun c123 => ?_) (fun c123 => ?_)
                · exact j172  (by intro q; first | omega | exact absurd q c109) _ _ h _ (lv_sub hl [0, 1] rfl)
                · refine lv_aload_n hx hb dX7_packet_126 rfl (lv_at hl 1 rfl) ?_
                  refine m_gi C h 43 (by decide) rfl rfl q1913 (v := nI (gD rw nx - 192)) rfl dX7_packet_127 ?_
                  refine lv_bipush (v := nI 11) hx hb dX7_packet_130 (by decide) ?_
                  refine n_icmp_eq (tgt := 140) hx hb (by omega) (by omega) dX7_packet_132 (by decide) (fun c132 => ?_) (fun c132 => ?_)
                  · have h : Wd D B s (mw dA h0 ad (kM M 0 (nI y) (nI nx) (nI (gD rw nx - 192)) bs0 (nI acc.length) bo0 (appG G 0 acc)) ++ F) H locs := by rw [← c109]; exact h
                    by_cases hbig : 240 < x
                    · refine lv_aload_n hx hb dX7_packet_140 rfl (lv_at hl 1 rfl) ?_
                      refine lv_iload_n hx hb dX7_packet_141 rfl (lv_at hl 0 rfl) ?_
                      refine lv_sipush (v := nI 240) hx hb dX7_packet_142 (by decide) ?_
                      refine n_icmp_le (tgt := 154) hx hb (by omega) (by omega) dX7_packet_145 (by decide) (fun c145 => by exfalso; omega) (fun c145 => ?_)
                      refine lv_ldcw hx hb hown (hts _ q2203) dX7_packet_148 ?_
                      refine n_top (y := nI 65537) (by decide) ?_
                      refine lv_goto (tgt := 161) hx hb dX7_packet_151 (by decide) ?_
                      refine call_V (As := [.int (nI 65537)]) (rest := []) (n := 1) C h (c7_collect l D dA B Z hZ h0 ad M F rw ra g 65537 0 y nx (nI (gD rw nx - 192)) bs0 acc.length bo0 (appG G 0 acc) hrs hra hrow hg hrl hrb (by omega) (by first | omega | (split <;> omega)) (by omega) (by omega)) (lw_V q2204 q2206 qs59 q138 q2207) (by decide +kernel) (ci := 5) rfl rfl mw_mem0 (by decide) (by decide) rfl hl rfl (Nat.le_of_ble_eq_true rfl) dX7_packet_161 (by omega) (fun _ H locs _ h => ?_)
                      rw [if_pos rfl, if_neg (by omega)] at h
                      have h : Wd D B s (mw dA h0 ad (kM M (-1 - nI nx) (nI y) (nI nx) (nI (gD rw nx - 192)) bs0 (nI acc.length) bo0 (appG G 0 acc)) ++ F) H locs := h
                      refine lv_aload_n hx hb dX7_packet_164 rfl (lv_at hl 1 rfl) ?_
                      refine call_V (As := []) (rest := []) (n := 0) C h (c7_byteOf l D dA B Z hZ h0 ad M F rw ra g (-1 - nI nx) y nx (nI (gD rw nx - 192)) bs0 acc.length bo0 (appG G 0 acc) hrs hra hrow hg hrl hrb (by omega)) (lw_V q2189 q2191 qs56 q138 q2192) (by decide +kernel) (ci := 5) rfl rfl mw_mem0 (by decide) (by decide) rfl hl rfl (Nat.le_of_ble_eq_true rfl) dX7_packet_165 (by omega) (fun _ H locs _ h => ?_)
                      have hN : pktN rw (gD rw nx - 192) (nx + 1) [] = none := by
                        rw [hpn, pktN, dif_pos (by omega), dif_pos (by rw [← hxy]; omega), if_neg (by omega), if_pos (by omega)]
                      have hff3 : (if y < rw.length then (-1 - nI nx : Int32) else failT (-1 - nI nx) (-1 - nI nx)) = -1 - nI nx := by rw [hff2]; split <;> rfl
                      rw [hff3] at h
                      have hb3 : (if y < rw.length then gD rw y else 0) < 256 := by
                        split
                        · exact byt_gD hrb y
                        · decide
                      by_cases hin7 : y < rw.length
                      · rw [if_pos hin7] at h hb3
                        rw [if_pos hin7]
                        refine lv_istore_n (lv' := [(2, .int (nI (gD rw y))), (0, .ref h0)]) hx hb dX7_packet_168 rfl hl (by decide) rfl (fun ls hl => ?_)
                        refine lv_goto (tgt := 105) hx hb dX7_packet_169 (by decide) ?_
                        exact ihloopP _ _ _ _ (by omega) hb3 (by omega) (Or.inr ⟨rfl, hN⟩) (by rw [if_neg hfx]; rw [if_pos c109] at hme; omega) _ _ h _ (lv_sub hl [0, 1] rfl)
                      · rw [if_neg hin7] at h hb3
                        rw [if_neg hin7]
                        refine lv_istore_n (lv' := [(2, .int (nI 0)), (0, .ref h0)]) hx hb dX7_packet_168 rfl hl (by decide) rfl (fun ls hl => ?_)
                        refine lv_goto (tgt := 105) hx hb dX7_packet_169 (by decide) ?_
                        exact ihloopP _ _ _ _ (by omega) hb3 (by omega) (Or.inr ⟨rfl, hN⟩) (by rw [if_neg hfx]; rw [if_pos c109] at hme; omega) _ _ h _ (lv_sub hl [0, 1] rfl)
                    · have hpw : 2 ^ (x - 224) ≤ 65536 := by
                        have e := Nat.pow_le_pow_right (n := 2) (by decide) (show x - 224 ≤ 16 by omega)
                        exact e
                      refine lv_aload_n hx hb dX7_packet_140 rfl (lv_at hl 1 rfl) ?_
                      refine lv_iload_n hx hb dX7_packet_141 rfl (lv_at hl 0 rfl) ?_
                      refine lv_sipush (v := nI 240) hx hb dX7_packet_142 (by decide) ?_
                      refine n_icmp_le (tgt := 154) hx hb (by omega) (by omega) dX7_packet_145 (by decide) (fun c145 => ?_) (fun c145 => by exfalso; omega)
                      refine lv_iconst (v := nI 1) hx hb dX7_packet_154 (by decide) ?_
                      refine lv_iload_n hx hb dX7_packet_155 rfl (lv_at hl 0 rfl) ?_
                      refine lv_sipush (v := nI 224) hx hb dX7_packet_156 (by decide) ?_
                      refine lv_isub hx hb dX7_packet_159 (n_top (y := nI (x - 224)) (pk_sub (by omega)) ?_)
                      refine n_ishl hx hb dX7_packet_160 ?_
                      refine n_top (y := nI (2 ^ (x - 224))) (shl_pow (by omega)) ?_
                      refine call_V (As := [.int (nI (2 ^ (x - 224)))]) (rest := []) (n := 1) C h (c7_collect l D dA B Z hZ h0 ad M F rw ra g (2 ^ (x - 224)) 0 y nx (nI (gD rw nx - 192)) bs0 acc.length bo0 (appG G 0 acc) hrs hra hrow hg hrl hrb (by omega) (by first | omega | (split <;> omega)) (by omega) (by omega)) (lw_V q2204 q2206 qs59 q138 q2207) (by decide +kernel) (ci := 5) rfl rfl mw_mem0 (by decide) (by decide) rfl hl rfl (Nat.le_of_ble_eq_true rfl) dX7_packet_161 (by omega) (fun _ H locs _ h => ?_)
                      by_cases hin3 : y + 2 ^ (x - 224) ≤ rw.length
                      · rw [if_pos rfl, if_pos (by omega)] at h
                        have hacc : appG (appG G 0 acc) acc.length (sl (gD rw) y (2 ^ (x - 224))) = appG G 0 (acc ++ sliceL rw y (2 ^ (x - 224))) := by
                          have e := appG_app G 0 acc (sl (gD rw) y (2 ^ (x - 224)))
                          rw [Nat.zero_add] at e
                          rw [e, sliceL_sl hin3]
                        rw [hacc] at h
                        have hal : acc.length + 2 ^ (x - 224) = (acc ++ sliceL rw y (2 ^ (x - 224))).length := by rw [List.length_append, sliceL_len hin3]
                        rw [hal] at h
                        have h : Wd D B s (mw dA h0 ad (kM M 0 (nI (y + 2 ^ (x - 224))) (nI nx) (nI (gD rw nx - 192)) bs0 (nI ((acc ++ sliceL rw y (2 ^ (x - 224))).length)) bo0 (appG G 0 (acc ++ sliceL rw y (2 ^ (x - 224))))) ++ F) H locs := h
                        have hpn2 : pktN rw (gD rw nx - 192) (nx + 1) [] = pktN rw (gD rw nx - 192) (y + 2 ^ (x - 224)) (acc ++ sliceL rw y (2 ^ (x - 224))) := by
                          rw [hpn, pktN, dif_pos (by omega), dif_pos (by rw [← hxy]; omega), if_neg (by omega), if_neg (by omega), ← hxy, show y - 1 + 1 = y by omega, dif_pos hin3]
                        refine lv_aload_n hx hb dX7_packet_164 rfl (lv_at hl 1 rfl) ?_
                        refine call_V (As := []) (rest := []) (n := 0) C h (c7_byteOf l D dA B Z hZ h0 ad M F rw ra g 0 (y + 2 ^ (x - 224)) nx (nI (gD rw nx - 192)) bs0 ((acc ++ sliceL rw y (2 ^ (x - 224))).length) bo0 (appG G 0 (acc ++ sliceL rw y (2 ^ (x - 224)))) hrs hra hrow hg hrl hrb (by omega)) (lw_V q2189 q2191 qs56 q138 q2192) (by decide +kernel) (ci := 5) rfl rfl mw_mem0 (by decide) (by decide) rfl hl rfl (Nat.le_of_ble_eq_true rfl) dX7_packet_165 (by omega) (fun _ H locs _ h => ?_)
                        by_cases hin4 : y + 2 ^ (x - 224) < rw.length
                        · rw [if_pos hin4, if_pos hin4] at h
                          rw [if_pos hin4]
                          refine lv_istore_n (lv' := [(2, .int (nI (gD rw (y + 2 ^ (x - 224))))), (0, .ref h0)]) hx hb dX7_packet_168 rfl hl (by decide) rfl (fun ls hl => ?_)
                          refine lv_goto (tgt := 105) hx hb dX7_packet_169 (by decide) ?_
                          exact ihloopP _ _ _ _ (by omega) (byt_gD hrb _) (by omega) (Or.inl ⟨rfl, by omega, by rw [Nat.add_sub_cancel], by rw [Nat.add_sub_cancel]; exact hpn2⟩) (by rw [if_pos rfl]; rw [if_pos c109] at hme; have := Nat.two_pow_pos (x - 224); omega) _ _ h _ (lv_sub hl [0, 1] rfl)
                        · rw [if_neg hin4, if_neg hin4, hff] at h
                          rw [if_neg hin4]
                          refine lv_istore_n (lv' := [(2, .int (nI 0)), (0, .ref h0)]) hx hb dX7_packet_168 rfl hl (by decide) rfl (fun ls hl => ?_)
                          refine lv_goto (tgt := 105) hx hb dX7_packet_169 (by decide) ?_
                          exact ihloopP _ _ _ _ (by omega) (by decide) (by have := Nat.two_pow_pos (x - 224); omega) (Or.inr ⟨rfl, by rw [hpn2, pktN, dif_neg (by omega)]⟩) (by rw [if_neg hfx]; rw [if_pos c109] at hme; omega) _ _ h _ (lv_sub hl [0, 1] rfl)
                      · rw [if_pos rfl, if_neg (by omega)] at h
                        have h : Wd D B s (mw dA h0 ad (kM M (-1 - nI nx) (nI y) (nI nx) (nI (gD rw nx - 192)) bs0 (nI acc.length) bo0 (appG G 0 acc)) ++ F) H locs := h
                        refine lv_aload_n hx hb dX7_packet_164 rfl (lv_at hl 1 rfl) ?_
                        refine call_V (As := []) (rest := []) (n := 0) C h (c7_byteOf l D dA B Z hZ h0 ad M F rw ra g (-1 - nI nx) y nx (nI (gD rw nx - 192)) bs0 acc.length bo0 (appG G 0 acc) hrs hra hrow hg hrl hrb (by omega)) (lw_V q2189 q2191 qs56 q138 q2192) (by decide +kernel) (ci := 5) rfl rfl mw_mem0 (by decide) (by decide) rfl hl rfl (Nat.le_of_ble_eq_true rfl) dX7_packet_165 (by omega) (fun _ H locs _ h => ?_)
                        have hN : pktN rw (gD rw nx - 192) (nx + 1) [] = none := by
                          rw [hpn, pktN, dif_pos (by omega), dif_pos (by rw [← hxy]; omega), if_neg (by omega), if_neg (by omega), ← hxy, show y - 1 + 1 = y by omega, dif_neg hin3]
                        have hff3 : (if y < rw.length then (-1 - nI nx : Int32) else failT (-1 - nI nx) (-1 - nI nx)) = -1 - nI nx := by rw [hff2]; split <;> rfl
                        rw [hff3] at h
                        have hb3 : (if y < rw.length then gD rw y else 0) < 256 := by
                          split
                          · exact byt_gD hrb y
                          · decide
                        by_cases hin7 : y < rw.length
                        · rw [if_pos hin7] at h hb3
                          rw [if_pos hin7]
                          refine lv_istore_n (lv' := [(2, .int (nI (gD rw y))), (0, .ref h0)]) hx hb dX7_packet_168 rfl hl (by decide) rfl (fun ls hl => ?_)
                          refine lv_goto (tgt := 105) hx hb dX7_packet_169 (by decide) ?_
                          exact ihloopP _ _ _ _ (by omega) hb3 (by omega) (Or.inr ⟨rfl, hN⟩) (by rw [if_neg hfx]; rw [if_pos c109] at hme; omega) _ _ h _ (lv_sub hl [0, 1] rfl)
                        · rw [if_neg hin7] at h hb3
                          rw [if_neg hin7]
                          refine lv_istore_n (lv' := [(2, .int (nI 0)), (0, .ref h0)]) hx hb dX7_packet_168 rfl hl (by decide) rfl (fun ls hl => ?_)
                          refine lv_goto (tgt := 105) hx hb dX7_packet_169 (by decide) ?_
                          exact ihloopP _ _ _ _ (by omega) hb3 (by omega) (Or.inr ⟨rfl, hN⟩) (by rw [if_neg hfx]; rw [if_pos c109] at hme; omega) _ _ h _ (lv_sub hl [0, 1] rfl)
                  · have hp : pktS rw nx = none := by
                      rw [hps, hpn, pktN, dif_pos (by omega), dif_pos (by rw [← hxy]; omega), if_pos c132]
                    have h : Wd D B s (mw dA h0 ad (kM M 0 (nI y) (nI nx) (nI (gD rw nx - 192)) bs0 (nI acc.length) bo0 (appG G 0 acc)) ++ F) H locs := by rw [← c109]; exact h
                    refine lv_aload_n hx hb dX7_packet_135 rfl (lv_at hl 1 rfl) ?_
                    refine call_V (As := []) (rest := []) (n := 0) C h (c7_failPacket l D dA B Z hZ h0 ad (kM M 0 (nI y) (nI nx) (nI (gD rw nx - 192)) bs0 (nI acc.length) bo0 (appG G 0 acc)) F nx rfl) (lw_V q2193 q2195 qs57 q138 q2196) (by decide +kernel) (ci := 5) rfl rfl mw_mem0 (by decide) (by decide) rfl hl rfl (Nat.le_of_ble_eq_true rfl) dX7_packet_136 (by omega) (fun _ H locs _ h => ?_)
                    rw [kM_33] at h
                    have h : Wd D B s (mw dA h0 ad (kM M (-1 - nI nx) (nI y) (nI nx) (nI (gD rw nx - 192)) bs0 (nI acc.length) bo0 (appG G 0 acc)) ++ F) H locs := by rw [← hff]; exact h
                    subst hQ
                    have hpt : pktT rw nx = -1 - nI nx := by unfold pktT; rw [hp]
                    obtain ⟨k8, hk8⟩ := nI_all (nI (gD rw nx - 192))
                    obtain ⟨s8, hs8⟩ := nI_all (bs0)
                    rw [hk8, hs8] at h
                    exact ret_z C hr hlocks h (y, k8, s8, acc.length, bo0, (appG G 0 acc), []) (by unfold pktOk; rw [hp]; show _ ≤ _; omega) (by rw [hpt, decide_eq_false hfx]) (by rw [hpt, List.append_nil]) (by omega) (by omega) dX7_packet_139
        refine lv_aload_n hx hb dX7_packet_100 rfl (lv_at hl 1 rfl) ?_
        refine call_V (As := []) (rest := []) (n := 0) C h (c7_byteOf l D dA B Z hZ h0 ad M F rw ra g 0 (nx + 1) nx (nI (gD rw nx - 192)) bs0 0 bo0 G hrs hra hrow hg hrl hrb (by omega)) (lw_V q2189 q2191 qs56 q138 q2192) (by decide +kernel) (ci := 5) rfl rfl mw_mem0 (by decide) (by decide) rfl hl rfl (Nat.le_of_ble_eq_true rfl) dX7_packet_101 (by omega) (fun _ H locs _ h => ?_)
        by_cases hn1 : nx + 1 < rw.length
        · rw [if_pos hn1, if_pos hn1] at h
          rw [if_pos hn1]
          have hb1 := byt_gD hrb (nx + 1)
          refine lv_istore_n (lv' := [(2, .int (nI (gD rw (nx + 1)))), (1, .int (nI (gD rw nx))), (0, .ref h0)]) hx hb dX7_packet_104 rfl hl (by decide) rfl (fun ls hl => ?_)
          have h : Wd D B s (mw dA h0 ad (kM M 0 (nI (nx + 1 + 1)) (nI nx) (nI (gD rw nx - 192)) bs0 (nI (([] : List Nat).length)) bo0 (appG G 0 ([] : List Nat))) ++ F) H locs := by rw [appG_nil]; exact h
          exact loopP _ 0 _ _ [] (by omega) hb1 (by simp) (Or.inl ⟨rfl, by omega, by rw [show nx + 1 + 1 - 1 = nx + 1 by omega], by rw [show nx + 1 + 1 - 1 = nx + 1 by omega]⟩) (Nat.lt_succ_self _) _ _ h _ (lv_sub hl [0, 2] rfl)
        · rw [if_neg hn1, if_neg hn1, hff] at h
          rw [if_neg hn1]
          refine lv_istore_n (lv' := [(2, .int (nI 0)), (1, .int (nI (gD rw nx))), (0, .ref h0)]) hx hb dX7_packet_104 rfl hl (by decide) rfl (fun ls hl => ?_)
          have h : Wd D B s (mw dA h0 ad (kM M (-1 - nI nx) (nI (nx + 1)) (nI nx) (nI (gD rw nx - 192)) bs0 (nI (([] : List Nat).length)) bo0 (appG G 0 ([] : List Nat))) ++ F) H locs := by rw [appG_nil]; exact h
          exact loopP _ (-1 - nI nx) _ _ [] (by omega) (by decide) (by simp) (Or.inr ⟨rfl, by rw [pktN, dif_neg hn1]⟩) (Nat.lt_succ_self _) _ _ h _ (lv_sub hl [0, 2] rfl)
      · refine lv_aload_n hx hb dX7_packet_53 rfl (lv_at hl 1 rfl) ?_
        refine lv_iload_n hx hb dX7_packet_54 rfl (lv_at hl 0 rfl) ?_
        refine lv_iconst (v := nI 4) hx hb dX7_packet_55 (by decide) ?_
        refine lv_idiv hx hb dX7_packet_56 (by decide) (n_top (y := nI ((gD rw nx) / 4)) (pk_div (by omega) (by omega) (by omega)) ?_)
        refine lv_bipush (v := nI 16) hx hb dX7_packet_57 (by decide) ?_
        refine lv_irem hx hb dX7_packet_59 (by decide) (n_top (y := nI (((gD rw nx) / 4) % 16)) (pk_rem (by omega) (by omega) (by omega)) ?_)
        refine m_pi C h 43 (v := nI (((gD rw nx) / 4) % 16)) (by decide) rfl rfl rfl q1913 rfl rfl dX7_packet_60 (fun H locs h => ?_)
        rw [kM_43] at h
        have h : Wd D B s (mw dA h0 ad (kM M 0 (nI (nx + 1)) (nI nx) (nI (((gD rw nx) / 4) % 16)) bs0 (nI 0) bo0 G) ++ F) H locs := h
        refine lv_iload_n hx hb dX7_packet_63 rfl (lv_at hl 0 rfl) ?_
        refine lv_iconst (v := nI 4) hx hb dX7_packet_64 (by decide) ?_
        refine lv_irem hx hb dX7_packet_65 (by decide) (n_top (y := nI ((gD rw nx) % 4)) (pk_rem (by omega) (by omega) (by omega)) ?_)
        refine lv_iconst (v := nI 3) hx hb dX7_packet_66 (by decide) ?_
        refine n_icmp_ne (tgt := 75) hx hb (by omega) (by omega) dX7_packet_67 (by decide) (fun c67 => ?_) (fun c67 => ?_)
        · have hp4 : 2 ^ (gD rw nx % 4) ≤ 4 := by
            rcases (show gD rw nx % 4 = 0 ∨ gD rw nx % 4 = 1 ∨ gD rw nx % 4 = 2 by omega) with q | q | q <;> rw [q] <;> decide
          have hpp := Nat.two_pow_pos (gD rw nx % 4)
          refine lv_aload_n hx hb dX7_packet_75 rfl (lv_at hl 1 rfl) ?_
          refine lv_aload_n hx hb dX7_packet_76 rfl (lv_at hl 1 rfl) ?_
          refine lv_iconst (v := nI 1) hx hb dX7_packet_77 (by decide) ?_
          refine lv_iload_n hx hb dX7_packet_78 rfl (lv_at hl 0 rfl) ?_
          refine lv_iconst (v := nI 4) hx hb dX7_packet_79 (by decide) ?_
          refine lv_irem hx hb dX7_packet_80 (by decide) (n_top (y := nI ((gD rw nx) % 4)) (pk_rem (by omega) (by omega) (by omega)) ?_)
          refine n_ishl hx hb dX7_packet_81 ?_
          refine n_top (y := nI (2 ^ (gD rw nx % 4))) (shl_pow (by omega)) ?_
          refine call_V (As := [.int (nI (2 ^ (gD rw nx % 4)))]) (rest := [.ref h0]) (n := 1) C h (c7_lengthOf l D dA B Z hZ h0 ad M F rw ra g (2 ^ (gD rw nx % 4)) 0 (nx + 1) nx (nI (((gD rw nx) / 4) % 16)) bs0 0 bo0 G hrs hra hrow hg hrl hrb (by omega) hp4) (lw_V q2197 q2199 qs58 q138 q2200) (by decide +kernel) (ci := 5) rfl rfl mw_mem0 (by decide) (by decide) rfl hl rfl (Nat.le_of_ble_eq_true rfl) dX7_packet_82 (by omega) (fun _ H locs _ h => ?_)
          have hle := lenS_eq (l := rw) (f := -1 - nI nx) hfx (2 ^ (gD rw nx % 4)) 0 (nx + 1)
          by_cases hin1 : nx + 1 + 2 ^ (gD rw nx % 4) ≤ rw.length
          · have hL := hle.1 hin1
            rw [hL] at h ⊢
            have hnum : (sl (gD rw) (nx + 1) (2 ^ (gD rw nx % 4))).foldl (fun v x => v * 256 + x) 0 = num (sliceL rw (nx + 1) (2 ^ (gD rw nx % 4))) := by rw [sliceL_sl hin1]; rfl
            rw [hnum] at h ⊢
            obtain ⟨vv, hvv⟩ : ∃ z, z = num (sliceL rw (nx + 1) (2 ^ (gD rw nx % 4))) := ⟨_, rfl⟩
            rw [← hvv] at h ⊢
            have h : Wd D B s (mw dA h0 ad (kM M 0 (nI (nx + 1 + 2 ^ (gD rw nx % 4))) (nI nx) (nI (((gD rw nx) / 4) % 16)) bs0 (nI 0) bo0 G) ++ F) H locs := h
            show W p l e R s m args below meth c H locs (0 + 0 + 0) (0 + 0 + 0) Q (F0 m 85 ls [.int (nI (if 65536 < vv then 65537 else vv)), .ref h0])
            refine call_V (As := [.int (nI (if 65536 < vv then 65537 else vv))]) (rest := []) (n := 1) C h (c7_collect l D dA B Z hZ h0 ad M F rw ra g (if 65536 < vv then 65537 else vv) 0 (nx + 1 + 2 ^ (gD rw nx % 4)) nx (nI (((gD rw nx) / 4) % 16)) bs0 0 bo0 G hrs hra hrow hg hrl hrb (by omega) (by first | omega | (split <;> omega)) (by omega) (by omega)) (lw_V q2204 q2206 qs59 q138 q2207) (by decide +kernel) (ci := 5) rfl rfl mw_mem0 (by decide) (by decide) rfl hl rfl (Nat.le_of_ble_eq_true rfl) dX7_packet_85 (by omega) (fun _ H locs _ h => ?_)
            by_cases hin2 : nx + 1 + 2 ^ (gD rw nx % 4) + vv ≤ rw.length
            · rw [if_pos rfl, if_pos (by split <;> omega)] at h
              have hvc : (if 65536 < vv then 65537 else vv) = vv := by rw [if_neg (by omega)]
              rw [hvc] at h
              have h : Wd D B s (mw dA h0 ad (kM M 0 (nI (nx + 1 + 2 ^ (gD rw nx % 4) + vv)) (nI nx) (nI (((gD rw nx) / 4) % 16)) bs0 (nI (0 + vv)) bo0 (appG G 0 (sl (gD rw) (nx + 1 + 2 ^ (gD rw nx % 4)) vv))) ++ F) H locs := h
              refine lv_goto (tgt := 220) hx hb dX7_packet_88 (by decide) ?_
              exact jE _ _ _ _ _ (Or.inl ⟨rfl, sliceL rw (nx + 1 + 2 ^ (gD rw nx % 4)) vv, by
                unfold pktS; rw [if_pos hnx, if_neg (by omega), if_pos c50, if_neg c67, if_pos (by rw [← hvv]; omega)]; rw [← hvv], by
                rw [sliceL_len (by omega), sliceL_sl (by omega)]
                have e := sl_app0 (G := G) (l := sl (gD rw) (nx + 1 + 2 ^ (gD rw nx % 4)) vv) (n := vv) (by rw [sl_len]; omega)
                rw [e, List.take_of_length_le (by rw [sl_len]; omega)], by rw [sliceL_len (by omega), Nat.zero_add]⟩) (by omega) _ _ h _ (lv_sub hl [1] rfl)
            · rw [if_pos rfl, if_neg (by split <;> omega)] at h
              have h : Wd D B s (mw dA h0 ad (kM M (-1 - nI nx) (nI (nx + 1 + 2 ^ (gD rw nx % 4))) (nI nx) (nI (((gD rw nx) / 4) % 16)) bs0 (nI 0) bo0 G) ++ F) H locs := h
              refine lv_goto (tgt := 220) hx hb dX7_packet_88 (by decide) ?_
              exact jE _ _ _ _ _ (Or.inr ⟨rfl, by
                unfold pktS; rw [if_pos hnx, if_neg (by omega), if_pos c50, if_neg c67, if_neg (by rw [← hvv]; omega)], by omega⟩) (by omega) _ _ h _ (lv_sub hl [1] rfl)
          · have hL := hle.2 (by omega) (by omega)
            rw [hL.1, hL.2] at h
            obtain ⟨vv, hvv⟩ : ∃ z, z = (if 65536 < (lenS rw (-1 - nI nx) (2 ^ (gD rw nx % 4)) (0, 0, nx + 1)).1 then 65537 else (lenS rw (-1 - nI nx) (2 ^ (gD rw nx % 4)) (0, 0, nx + 1)).1) := ⟨_, rfl⟩
            rw [← hvv]
            have hvl : vv < 100000 := by rw [hvv]; split <;> omega
            have h : Wd D B s (mw dA h0 ad (kM M (-1 - nI nx) (nI rw.length) (nI nx) (nI (((gD rw nx) / 4) % 16)) bs0 (nI 0) bo0 G) ++ F) H locs := h
            refine call_V (As := [.int (nI vv)]) (rest := []) (n := 1) C h (c7_collect l D dA B Z hZ h0 ad M F rw ra g vv (-1 - nI nx) rw.length nx (nI (((gD rw nx) / 4) % 16)) bs0 0 bo0 G hrs hra hrow hg hrl hrb (by omega) (by first | omega | (split <;> omega)) (by omega) (by omega)) (lw_V q2204 q2206 qs59 q138 q2207) (by decide +kernel) (ci := 5) rfl rfl mw_mem0 (by decide) (by decide) rfl hl rfl (Nat.le_of_ble_eq_true rfl) dX7_packet_85 (by omega) (fun _ H locs _ h => ?_)
            rw [if_neg hfx] at h
            refine lv_goto (tgt := 220) hx hb dX7_packet_88 (by decide) ?_
            exact jE _ _ _ _ _ (Or.inr ⟨rfl, by
              unfold pktS; rw [if_pos hnx, if_neg (by omega), if_pos c50, if_neg c67, if_neg (by omega)], by omega⟩) (by omega) _ _ h _ (lv_sub hl [1] rfl)
        · refine lv_aload_n hx hb dX7_packet_70 rfl (lv_at hl 1 rfl) ?_
          refine call_V (As := []) (rest := []) (n := 0) C h (c7_failPacket l D dA B Z hZ h0 ad (kM M 0 (nI (nx + 1)) (nI nx) (nI (((gD rw nx) / 4) % 16)) bs0 (nI 0) bo0 G) F nx rfl) (lw_V q2193 q2195 qs57 q138 q2196) (by decide +kernel) (ci := 5) rfl rfl mw_mem0 (by decide) (by decide) rfl hl rfl (Nat.le_of_ble_eq_true rfl) dX7_packet_71 (by omega) (fun _ H locs _ h => ?_)
          rw [kM_33] at h
          have h : Wd D B s (mw dA h0 ad (kM M (-1 - nI nx) (nI (nx + 1)) (nI nx) (nI (((gD rw nx) / 4) % 16)) bs0 (nI 0) bo0 G) ++ F) H locs := by rw [← hff]; exact h
          subst hQ
          have hp : pktS rw nx = none := by unfold pktS; rw [if_pos hnx, if_neg (by omega), if_pos c50, if_pos c67]
          have hpt : pktT rw nx = -1 - nI nx := by unfold pktT; rw [hp]
          obtain ⟨k8, hk8⟩ := nI_all (nI (((gD rw nx) / 4) % 16))
          obtain ⟨s8, hs8⟩ := nI_all (bs0)
          rw [hk8, hs8] at h
          exact ret_z C hr hlocks h (nx + 1, k8, s8, 0, bo0, G, []) (by unfold pktOk; rw [hp]; show _ ≤ _; omega) (by rw [hpt, decide_eq_false hfx]) (by rw [hpt, List.append_nil]) (by omega) (by omega) dX7_packet_74
    · refine lv_aload_n hx hb dX7_packet_41 rfl (lv_at hl 1 rfl) ?_
      refine call_V (As := []) (rest := []) (n := 0) C h (c7_failPacket l D dA B Z hZ h0 ad (kM M 0 (nI (nx + 1)) (nI nx) kd0 bs0 (nI 0) bo0 G) F nx rfl) (lw_V q2193 q2195 qs57 q138 q2196) (by decide +kernel) (ci := 5) rfl rfl mw_mem0 (by decide) (by decide) rfl hl rfl (Nat.le_of_ble_eq_true rfl) dX7_packet_42 (by omega) (fun _ H locs _ h => ?_)
      rw [kM_33] at h
      have h : Wd D B s (mw dA h0 ad (kM M (-1 - nI nx) (nI (nx + 1)) (nI nx) kd0 bs0 (nI 0) bo0 G) ++ F) H locs := by rw [← hff]; exact h
      subst hQ
      have hp : pktS rw nx = none := by
        first
          | exact hp
          | (unfold pktS; rw [if_pos hnx, if_pos c38])
      have hpt : pktT rw nx = -1 - nI nx := by unfold pktT; rw [hp]
      obtain ⟨k8, hk8⟩ := nI_all (kd0)
      obtain ⟨s8, hs8⟩ := nI_all (bs0)
      rw [hk8, hs8] at h
      exact ret_z C hr hlocks h (nx + 1, k8, s8, 0, bo0, G, []) (by unfold pktOk; rw [hp]; show _ ≤ _; omega) (by rw [hpt, decide_eq_false hfx]) (by rw [hpt, List.append_nil]) (by omega) (by omega) dX7_packet_45
  · rw [if_neg hnx, if_neg hnx, hff] at h
    rw [if_neg hnx]
    have hp : pktS rw nx = none := by unfold pktS; rw [if_neg hnx]
    refine lv_istore_n (lv' := [(1, .int (nI 0)), (0, .ref h0)]) hx hb dX7_packet_26 rfl hl (by decide) rfl (fun ls hl => ?_)
    refine lv_aload_n hx hb dX7_packet_27 rfl (lv_at hl 1 rfl) ?_
    refine m_gi C h 33 (by decide) rfl rfl q1903 (v := -1 - nI nx) rfl dX7_packet_28 ?_
    refine lv_if_ne (tgt := 41) hx hb dX7_packet_31 (by decide) (fun c31 => ?_) (fun c31 => by exfalso; exact hfx c31)
    refine lv_aload_n hx hb dX7_packet_41 rfl (lv_at hl 1 rfl) ?_
    refine call_V (As := []) (rest := []) (n := 0) C h (c7_failPacket l D dA B Z hZ h0 ad (kM M (-1 - nI nx) (nI nx) (nI nx) kd0 bs0 (nI 0) bo0 G) F nx rfl) (lw_V q2193 q2195 qs57 q138 q2196) (by decide +kernel) (ci := 5) rfl rfl mw_mem0 (by decide) (by decide) rfl hl rfl (Nat.le_of_ble_eq_true rfl) dX7_packet_42 (by omega) (fun _ H locs _ h => ?_)
    rw [kM_33] at h
    have h : Wd D B s (mw dA h0 ad (kM M (-1 - nI nx) (nI nx) (nI nx) kd0 bs0 (nI 0) bo0 G) ++ F) H locs := by rw [← hff2]; exact h
    subst hQ
    have hp : pktS rw nx = none := by
      first
        | exact hp
        | (unfold pktS; rw [if_pos hnx, if_pos c38])
    have hpt : pktT rw nx = -1 - nI nx := by unfold pktT; rw [hp]
    obtain ⟨k8, hk8⟩ := nI_all (kd0)
    obtain ⟨s8, hs8⟩ := nI_all (bs0)
    rw [hk8, hs8] at h
    exact ret_z C hr hlocks h (nx, k8, s8, 0, bo0, G, []) (by unfold pktOk; rw [hp]; show _ ≤ _; omega) (by rw [hpt, decide_eq_false hfx]) (by rw [hpt, List.append_nil]) (by omega) (by omega) dX7_packet_45
