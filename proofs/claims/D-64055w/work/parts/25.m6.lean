set_option maxRecDepth 100000
def lM (M : MS) (x33 : Int32) (x36 : Int32) (x37 : Int32) (x38 : Int32) : MS := sI (sI (sI (sI M 33 x33) 36 x36) 37 x37) 38 x38
theorem lM_id (M : MS) : lM M (mI M 33) (mI M 36) (mI M 37) (mI M 38) = M := MS.ext (by
    show upN (upN (upN (upN M.1 33 (M.1 33)) 36 (M.1 36)) 37 (M.1 37)) 38 (M.1 38) = M.1
    rw [upN_same M.1 33 _ rfl, upN_same M.1 36 _ rfl, upN_same M.1 37 _ rfl, upN_same M.1 38 _ rfl]) rfl rfl rfl rfl rfl
theorem lM_33 (M : MS) (x33 : Int32) (x36 : Int32) (x37 : Int32) (x38 : Int32) (y : Int32) : sI (lM M x33 x36 x37 x38) 33 y = lM M y x36 x37 x38 := MS.ext (by
    show upN (upN (upN (upN (upN M.1 33 x33) 36 x36) 37 x37) 38 x38) 33 y = upN (upN (upN (upN M.1 33 y) 36 x36) 37 x37) 38 x38
    rw [upN_comm _ _ _ (by decide : (38 : Nat) ≠ 33), upN_comm _ _ _ (by decide : (37 : Nat) ≠ 33), upN_comm _ _ _ (by decide : (36 : Nat) ≠ 33), upN_upN]) rfl rfl rfl rfl rfl
theorem lM_36 (M : MS) (x33 : Int32) (x36 : Int32) (x37 : Int32) (x38 : Int32) (y : Int32) : sI (lM M x33 x36 x37 x38) 36 y = lM M x33 y x37 x38 := MS.ext (by
    show upN (upN (upN (upN (upN M.1 33 x33) 36 x36) 37 x37) 38 x38) 36 y = upN (upN (upN (upN M.1 33 x33) 36 y) 37 x37) 38 x38
    rw [upN_comm _ _ _ (by decide : (38 : Nat) ≠ 36), upN_comm _ _ _ (by decide : (37 : Nat) ≠ 36), upN_upN]) rfl rfl rfl rfl rfl
theorem lM_37 (M : MS) (x33 : Int32) (x36 : Int32) (x37 : Int32) (x38 : Int32) (y : Int32) : sI (lM M x33 x36 x37 x38) 37 y = lM M x33 x36 y x38 := MS.ext (by
    show upN (upN (upN (upN (upN M.1 33 x33) 36 x36) 37 x37) 38 x38) 37 y = upN (upN (upN (upN M.1 33 x33) 36 x36) 37 y) 38 x38
    rw [upN_comm _ _ _ (by decide : (38 : Nat) ≠ 37), upN_upN]) rfl rfl rfl rfl rfl
theorem lM_38 (M : MS) (x33 : Int32) (x36 : Int32) (x37 : Int32) (x38 : Int32) (y : Int32) : sI (lM M x33 x36 x37 x38) 38 y = lM M x33 x36 x37 y := MS.ext (by
    show upN (upN (upN (upN (upN M.1 33 x33) 36 x36) 37 x37) 38 x38) 38 y = upN (upN (upN (upN M.1 33 x33) 36 x36) 37 x37) 38 y
    rw [upN_upN]) rfl rfl rfl rfl rfl
theorem lM_re (M : MS) (x33 : Int32) (x36 : Int32) (x37 : Int32) (x38 : Int32) (y33 : Int32) (y36 : Int32) (y37 : Int32) (y38 : Int32) : lM (lM M x33 x36 x37 x38) y33 y36 y37 y38 = lM M y33 y36 y37 y38 := by
  show sI (sI (sI (sI (lM M x33 x36 x37 x38) 33 y33) 36 y36) 37 y37) 38 y38 = _
  rw [lM_33, lM_36, lM_37, lM_38]

def isBl (x : Nat) : Bool := decide (x = 9) || decide (x = 13) || decide (x = 32)
def eolL (l : List Nat) (i : Nat) : Nat := if h : i < l.length ∧ gD l i ≠ 10 then eolL l (i + 1) else i
termination_by l.length - i
decreasing_by omega
theorem eolL_s {l : List Nat} {i : Nat} (h1 : i < l.length) (h2 : gD l i ≠ 10) : eolL l i = eolL l (i + 1) := by rw [eolL, dif_pos ⟨h1, h2⟩]
theorem eolL_e {l : List Nat} {i : Nat} (h : l.length ≤ i ∨ gD l i = 10) : eolL l i = i := by rw [eolL, dif_neg (by omega)]
theorem eolL_ge (l : List Nat) : ∀ n i, l.length - i < n → i ≤ eolL l i ∧ (i ≤ l.length → eolL l i ≤ l.length) := by
  intro n
  induction n with
  | zero => intro i h; omega
  | succ n ih =>
    intro i h
    by_cases q : i < l.length ∧ gD l i ≠ 10
    · rw [eolL_s q.1 q.2]
      have := ih (i + 1) (by omega)
      omega
    · rw [eolL_e (by omega)]; omega
def stripL (l : List Nat) (fr : Nat) : Nat → Nat
  | 0 => 0
  | t + 1 => if fr < t + 1 ∧ isBl (gD l t) = true then stripL l fr t else t + 1
theorem stripL_s {l : List Nat} {fr t : Nat} (h1 : fr < t) (h2 : isBl (gD l (t - 1)) = true) : stripL l fr t = stripL l fr (t - 1) := by
  obtain ⟨j, rfl⟩ : ∃ j, t = j + 1 := ⟨t - 1, by omega⟩
  rw [stripL, if_pos ⟨h1, h2⟩]; rfl
theorem stripL_e {l : List Nat} {fr t : Nat} (h : t ≤ fr ∨ isBl (gD l (t - 1)) = false) : stripL l fr t = t := by
  cases t with
  | zero => rfl
  | succ j =>
    rw [stripL, if_neg]
    rintro ⟨q1, q2⟩
    rcases h with h | h
    · omega
    · rw [show j + 1 - 1 = j by omega, q2] at h; cases h
theorem stripL_le (l : List Nat) (fr t : Nat) : stripL l fr t ≤ t ∧ (fr ≤ t → fr ≤ stripL l fr t) := by
  induction t with
  | zero => exact ⟨Nat.le_refl _, fun h => h⟩
  | succ t ih =>
    rw [stripL]
    split
    · omega
    · omega
def failT (t x : Int32) : Int32 := if t = 0 then x else t
/-- told, next, from, to -/
abbrev LU : Type := Int32 × Nat × Nat × Nat
def failLn (u : LU) (p : Nat) : LU := (failT u.1 (-100000 - nI p), u.2)
def lineS (l : List Nat) (u : LU) : Bool × LU := if u.1 = 0 then (if l.length ≤ u.2.1 then (false, failLn u l.length) else (true, (u.1, eolL l u.2.1 + 1, u.2.1, stripL l u.2.1 (eolL l u.2.1)))) else (false, u)
def colF (l : List Nat) (a n : Nat) : Bool := (List.range n).any (fun j => decide (gD l (a + j) = 58) && decide (gD l (a + j + 1) = 32))
theorem colF_s (l : List Nat) (a n : Nat) : colF l a (n + 1) = (colF l a n || (decide (gD l (a + n) = 58) && decide (gD l (a + n + 1) = 32))) := by simp [colF, List.range_succ]
def hasColon (l : List Nat) (a b : Nat) : Bool := colF l a (b - 1 - a)
def lnok (l : List Nat) (b : Bool) (v : LU) : Prop := b = true → v.2.2.1 ≤ v.2.2.2 ∧ v.2.2.2 ≤ l.length ∧ v.2.1 ≤ l.length + 1 ∧ v.2.2.2 < v.2.1
theorem lineS_ok (l : List Nat) (u : LU) (h : l.length ≤ 4096) (hn : u.2.1 ≤ 5000) : lnok l (lineS l u).1 (lineS l u).2 := by
  unfold lnok lineS
  intro hb
  split at hb
  · next h0 =>
    split at hb
    · cases hb
    · next h1 =>
      rw [if_pos h0, if_neg h1]
      have a1 := eolL_ge l (l.length - u.2.1 + 1) u.2.1 (by omega)
      have a2 := stripL_le l u.2.1 (eolL l u.2.1)
      show u.2.1 ≤ stripL l u.2.1 (eolL l u.2.1) ∧ stripL l u.2.1 (eolL l u.2.1) ≤ l.length ∧ eolL l u.2.1 + 1 ≤ l.length + 1 ∧ stripL l u.2.1 (eolL l u.2.1) < eolL l u.2.1 + 1
      omega
  · cases hb
theorem lineS_inc (l : List Nat) (u : LU) (hb : (lineS l u).1 = true) : u.2.1 < (lineS l u).2.2.1 := by
  unfold lineS at hb ⊢
  split at hb
  · next h0 =>
    split at hb
    · cases hb
    · next h1 =>
      rw [if_pos h0, if_neg h1]
      have a1 := eolL_ge l (l.length - u.2.1 + 1) u.2.1 (by omega)
      show u.2.1 < eolL l u.2.1 + 1
      omega
  · cases hb
def headsL : Nat → List Nat → Bool × LU → LU
  | 0, _, q => q.2
  | k + 1, l, q => if q.1 = true ∧ q.2.2.2.1 < q.2.2.2.2 then headsL k l (lineS l (if hasColon l q.2.2.2.1 q.2.2.2.2 = true then q.2 else failLn q.2 q.2.2.2.1)) else q.2
def headsS (l : List Nat) (u : LU) : LU := headsL (l.length + 2) l (lineS l u)
theorem headsL_s {k : Nat} {l : List Nat} {b : Bool} {v : LU} (hk : 0 < k) (hb : b = true) (hv : v.2.2.1 < v.2.2.2) : headsL k l (b, v) = headsL (k - 1) l (lineS l (if hasColon l v.2.2.1 v.2.2.2 = true then v else failLn v v.2.2.1)) := by
  obtain ⟨j, rfl⟩ : ∃ j, k = j + 1 := ⟨k - 1, by omega⟩
  rw [headsL, if_pos ⟨hb, hv⟩]; rfl
theorem headsL_e {k : Nat} {l : List Nat} {b : Bool} {v : LU} (h : b = false ∨ v.2.2.2 ≤ v.2.2.1) : headsL k l (b, v) = v := by
  cases k with
  | zero => rfl
  | succ k =>
    rw [headsL, if_neg]
    rintro ⟨q1, q2⟩
    rcases h with h | h
    · rw [h] at q1; cases q1
    · exact absurd q2 (by show ¬ v.2.2.1 < v.2.2.2; omega)

set_option maxHeartbeats 400000 in
set_option maxRecDepth 100000 in
theorem c7_fail (l : Launch) (D : va_G) (dA : Nat → ClassId) (B : Nat) (Z : State → Prop) (hZ : Stab B Z) (h0 : Nat) (ad : Nat → Nat) (M : MS) (F : va_W) (x : Int32)  :
    Ct (S := Unit) l D dA B Z yX7_fail cX7_fail 2 none 1 0 0 [.ref h0, .int x] (mw dA h0 ad M ++ F) (fun _ => True) (fun _ => none) (fun _ => mw dA h0 ad (sI M 33 (failT (mI M 33) x)) ++ F) := by
  refine Ct.mk2 (by decide) (Nat.le_of_ble_eq_true rfl) hZ ?_
  intro p e R s m args below meth c ls Q C hr hlocks hin hQ hl h
  have C0 := C
  obtain ⟨hx, hb, hml, hown, hts, -⟩ := C0
  have hl : lv_has ls 2 [(0, .ref h0), (1, .int x)] := hl
  refine lv_aload_n hx hb dX7_fail_0 rfl (lv_at hl 0 rfl) ?_
  have jf : ∀ (H : Heap) (locs : List Loc), Wd D B s (mw dA h0 ad M ++ F) H locs → ∀ (ls : Array Slot), lv_has ls 2 [(0, .ref h0), (1, .int x)] → W p l e R s m args below meth c H locs 0 0 Q (F0 m 16 ls [.int (failT (mI M 33) x), .ref h0]) := by
    intro   H locs h ls hl
    refine m_pi C h 33 (v := failT (mI M 33) x) (by decide) rfl rfl rfl q1903 rfl rfl dX7_fail_16 (fun H locs h => ?_)
    subst hQ
    exact ret_v C hr hlocks h () trivial rfl rfl (by omega) (by omega) dX7_fail_19
  refine lv_aload_n hx hb dX7_fail_1 rfl (lv_at hl 0 rfl) ?_
  refine m_gi C h 33 (by decide) rfl rfl q1903 (v := mI M 33) rfl dX7_fail_2 ?_
  refine lv_if_ne (tgt := 12) hx hb dX7_fail_5 (by decide) (fun c5 => ?_) (fun c5 => ?_)
  · refine lv_aload_n hx hb dX7_fail_12 rfl (lv_at hl 0 rfl) ?_
    refine m_gi C h 33 (by decide) rfl rfl q1903 (v := mI M 33) rfl dX7_fail_13 ?_
    refine n_top (y := failT (mI M 33) x) (by unfold failT; rw [if_neg c5]) ?_
    exact jf   _ _ h _ (lv_sub hl [0, 1] rfl)
  · refine lv_iload_n hx hb dX7_fail_8 rfl (lv_at hl 1 rfl) ?_
    refine lv_goto (tgt := 16) hx hb dX7_fail_9 (by decide) ?_
    refine n_top (y := failT (mI M 33) x) (by unfold failT; rw [if_pos c5]) ?_
    exact jf   _ _ h _ (lv_sub hl [0, 1] rfl)
set_option maxHeartbeats 400000 in
set_option maxRecDepth 100000 in
theorem c7_failLine (l : Launch) (D : va_G) (dA : Nat → ClassId) (B : Nat) (Z : State → Prop) (hZ : Stab B Z) (h0 : Nat) (ad : Nat → Nat) (M : MS) (F : va_W) (pl : Nat)  :
    Ct (S := Unit) l D dA B Z yX7_failLine cX7_failLine 2 none 2 0 0 [.ref h0, .int (nI pl)] (mw dA h0 ad M ++ F) (fun _ => True) (fun _ => none) (fun _ => mw dA h0 ad (sI M 33 (failT (mI M 33) (-100000 - nI pl))) ++ F) := by
  refine Ct.mk2 (by decide) (Nat.le_of_ble_eq_true rfl) hZ ?_
  intro p e R s m args below meth c ls Q C hr hlocks hin hQ hl h
  have C0 := C
  obtain ⟨hx, hb, hml, hown, hts, -⟩ := C0
  have hl : lv_has ls 2 [(0, .ref h0), (1, .int (nI pl))] := hl
  refine lv_aload_n hx hb dX7_failLine_0 rfl (lv_at hl 0 rfl) ?_
  refine lv_ldc hx hb hown (hts _ q2124) dX7_failLine_1 ?_
  refine lv_iload_n hx hb dX7_failLine_3 rfl (lv_at hl 1 rfl) ?_
  refine lv_isub hx hb dX7_failLine_4 ?_
  refine call_V (As := [.int ((-100000) - (nI pl))]) (rest := []) (n := 1) C h (c7_fail l D dA B Z hZ h0 ad M F (-100000 - nI pl)) (lw_V q2125 q2127 qs47 q138 q2128) (by decide +kernel) (ci := 5) rfl rfl mw_mem0 (by decide) (by decide) rfl hl rfl (Nat.le_of_ble_eq_true rfl) dX7_failLine_5 (by omega) (fun _ H locs _ h => ?_)
  subst hQ
  exact ret_v C hr hlocks h () trivial rfl rfl (by omega) (by omega) dX7_failLine_8
set_option maxHeartbeats 400000 in
set_option maxRecDepth 100000 in
theorem c7_isBlank (l : Launch) (D : va_G) (dA : Nat → ClassId) (B : Nat) (Z : State → Prop) (hZ : Stab B Z) (ws : va_W) (x : Nat) (h1 : x < 1000) :
    Ct (S := Unit) l D dA B Z yX7_isBlank cX7_isBlank 1 (some .boolean) 1 0 0 [.int (nI x)] (ws) (fun _ => True) (fun _ => some (.int (bZ (isBl x)))) (fun _ => ws) := by
  refine Ct.mk2 (by decide) (Nat.le_of_ble_eq_true rfl) hZ ?_
  intro p e R s m args below meth c ls Q C hr hlocks hin hQ hl h
  have C0 := C
  obtain ⟨hx, hb, hml, hown, hts, -⟩ := C0
  have hl : lv_has ls 1 [(0, .int (nI x))] := hl
  have jn : ∀ (tjn : Bool), (tjn = isBl x) → ∀ (H : Heap) (locs : List Loc), Wd D B s (ws) H locs → ∀ (ls : Array Slot), lv_has ls 1 [(0, .int (nI x))] → W p l e R s m args below meth c H locs 0 0 Q (F0 m 23 ls [.int (bZ tjn)]) := by
    intro tjn  hjn H locs h ls hl
    subst hQ
    subst hjn
    exact ret_z C hr hlocks h () trivial rfl rfl (by omega) (by omega) dX7_isBlank_23
  refine lv_iload_n hx hb dX7_isBlank_0 rfl (lv_at hl 0 rfl) ?_
  refine lv_bipush (v := nI 9) hx hb dX7_isBlank_1 (by decide) ?_
  refine n_icmp_eq (tgt := 18) hx hb (by omega) (by omega) dX7_isBlank_3 (by decide) (fun c3 => ?_) (fun c3 => ?_)
  · refine lv_iconst (v := nI 1) hx hb dX7_isBlank_18 (by decide) ?_
    refine lv_goto (tgt := 23) hx hb dX7_isBlank_19 (by decide) ?_
    refine n_top (y := bZ true) rfl ?_
    exact jn true (by unfold isBl; simp [*]) _ _ h _ (lv_sub hl [0] rfl)
  · refine lv_iload_n hx hb dX7_isBlank_6 rfl (lv_at hl 0 rfl) ?_
    refine lv_bipush (v := nI 13) hx hb dX7_isBlank_7 (by decide) ?_
    refine n_icmp_eq (tgt := 18) hx hb (by omega) (by omega) dX7_isBlank_9 (by decide) (fun c9 => ?_) (fun c9 => ?_)
    · refine lv_iconst (v := nI 1) hx hb dX7_isBlank_18 (by decide) ?_
      refine lv_goto (tgt := 23) hx hb dX7_isBlank_19 (by decide) ?_
      refine n_top (y := bZ true) rfl ?_
      exact jn true (by unfold isBl; simp [*]) _ _ h _ (lv_sub hl [0] rfl)
    · refine lv_iload_n hx hb dX7_isBlank_12 rfl (lv_at hl 0 rfl) ?_
      refine lv_bipush (v := nI 32) hx hb dX7_isBlank_13 (by decide) ?_
      refine n_icmp_ne (tgt := 22) hx hb (by omega) (by omega) dX7_isBlank_15 (by decide) (fun c15 => ?_) (fun c15 => ?_)
      · refine lv_iconst (v := nI 0) hx hb dX7_isBlank_22 (by decide) ?_
        refine n_top (y := bZ false) rfl ?_
        exact jn false (by unfold isBl; simp [*]) _ _ h _ (lv_sub hl [0] rfl)
      · refine lv_iconst (v := nI 1) hx hb dX7_isBlank_18 (by decide) ?_
        refine lv_goto (tgt := 23) hx hb dX7_isBlank_19 (by decide) ?_
        refine n_top (y := bZ true) rfl ?_
        exact jn true (by unfold isBl; simp [*]) _ _ h _ (lv_sub hl [0] rfl)
set_option maxHeartbeats 400000 in
set_option maxRecDepth 100000 in
theorem c7_line (l : Launch) (D : va_G) (dA : Nat → ClassId) (B : Nat) (Z : State → Prop) (hZ : Stab B Z) (h0 : Nat) (ad : Nat → Nat) (M : MS) (F : va_W) (tx : List Nat) (u : LU) (hsz : mI M 35 = nI tx.length) (htx : mR M 34 = some (ad 2)) (hT : ∀ j, j < tx.length → mG M 2 j = gD tx j) (htl : tx.length ≤ 4096) (hby : byt tx) (hn : u.2.1 ≤ 5000) :
    Ct (S := Unit) l D dA B Z yX7_line cX7_line 1 (some .boolean) 3 0 0 [.ref h0] (mw dA h0 ad (lM M u.1 (nI u.2.1) (nI u.2.2.1) (nI u.2.2.2)) ++ F) (fun _ => True) (fun _ => some (.int (bZ (lineS tx u).1))) (fun _ => mw dA h0 ad (lM M (lineS tx u).2.1 (nI (lineS tx u).2.2.1) (nI (lineS tx u).2.2.2.1) (nI (lineS tx u).2.2.2.2)) ++ F) := by
  refine Ct.mk2 (by decide) (Nat.le_of_ble_eq_true rfl) hZ ?_
  intro p e R s m args below meth c ls Q C hr hlocks hin hQ hl h
  have C0 := C
  obtain ⟨hx, hb, hml, hown, hts, -⟩ := C0
  have hl : lv_has ls 1 [(0, .ref h0)] := hl
  refine lv_aload_n hx hb dX7_line_0 rfl (lv_at hl 0 rfl) ?_
  refine m_gi C h 33 (by decide) rfl rfl q1903 (v := u.1) rfl dX7_line_1 ?_
  refine lv_if_eq (tgt := 9) hx hb dX7_line_4 (by decide) (fun c4 => ?_) (fun c4 => ?_)
  · refine lv_aload_n hx hb dX7_line_9 rfl (lv_at hl 0 rfl) ?_
    refine m_gi C h 36 (by decide) rfl rfl q1906 (v := nI u.2.1) rfl dX7_line_10 ?_
    refine lv_aload_n hx hb dX7_line_13 rfl (lv_at hl 0 rfl) ?_
    refine m_gi C h 35 (by decide) rfl rfl q1905 (v := nI tx.length) hsz dX7_line_14 ?_
    refine n_icmp_lt (tgt := 30) hx hb (by omega) (by omega) dX7_line_17 (by decide) (fun c17 => ?_) (fun c17 => ?_)
    · refine lv_aload_n hx hb dX7_line_30 rfl (lv_at hl 0 rfl) ?_
      refine lv_aload_n hx hb dX7_line_31 rfl (lv_at hl 0 rfl) ?_
      refine m_gi C h 36 (by decide) rfl rfl q1906 (v := nI u.2.1) rfl dX7_line_32 ?_
      refine m_pi C h 37 (v := nI u.2.1) (by decide) rfl rfl rfl q1907 rfl rfl dX7_line_35 (fun H locs h => ?_)
      rw [lM_37] at h
      have h : Wd D B s (mw dA h0 ad (lM M u.1 (nI u.2.1) (nI u.2.1) (nI u.2.2.2)) ++ F) H locs := h
      refine lv_aload_n hx hb dX7_line_38 rfl (lv_at hl 0 rfl) ?_
      refine lv_aload_n hx hb dX7_line_39 rfl (lv_at hl 0 rfl) ?_
      refine m_gi C h 37 (by decide) rfl rfl q1907 (v := nI u.2.1) rfl dX7_line_40 ?_
      refine m_pi C h 38 (v := nI u.2.1) (by decide) rfl rfl rfl q1908 rfl rfl dX7_line_43 (fun H locs h => ?_)
      rw [lM_38] at h
      have h : Wd D B s (mw dA h0 ad (lM M u.1 (nI u.2.1) (nI u.2.1) (nI u.2.1)) ++ F) H locs := h
      have loop : ∀ (nn : Nat) (t : Nat), (u.2.1 ≤ t) → (t ≤ tx.length) → (eolL tx u.2.1 = eolL tx t) → tx.length - t < nn → ∀ (H : Heap) (locs : List Loc), Wd D B s (mw dA h0 ad (lM M u.1 (nI u.2.1) (nI u.2.1) (nI t)) ++ F) H locs → ∀ (ls : Array Slot), lv_has ls 1 [(0, .ref h0)] → W p l e R s m args below meth c H locs 0 0 Q (F0 m 46 ls []) := by
        intro nn
        induction nn with
        | zero => intro t  hi0 hi1 hi2 hme; exact absurd hme (Nat.not_lt_zero _)
        | succ nn ih =>
          intro t  hi0 hi1 hi2 hme H locs h ls hl
          refine lv_aload_n hx hb dX7_line_46 rfl (lv_at hl 0 rfl) ?_
          refine m_gi C h 38 (by decide) rfl rfl q1908 (v := nI t) rfl dX7_line_47 ?_
          refine lv_aload_n hx hb dX7_line_50 rfl (lv_at hl 0 rfl) ?_
          refine m_gi C h 35 (by decide) rfl rfl q1905 (v := nI tx.length) hsz dX7_line_51 ?_
          refine n_icmp_ge (tgt := 84) hx hb (by omega) (by omega) dX7_line_54 (by decide) (fun c54 => ?_) (fun c54 => ?_)
          · have hex : eolL tx u.2.1 = t := by rw [hi2]; exact eolL_e (by omega)
            refine lv_aload_n hx hb dX7_line_84 rfl (lv_at hl 0 rfl) ?_
            refine lv_aload_n hx hb dX7_line_85 rfl (lv_at hl 0 rfl) ?_
            refine m_gi C h 38 (by decide) rfl rfl q1908 (v := nI t) rfl dX7_line_86 ?_
            refine lv_iconst (v := nI 1) hx hb dX7_line_89 (by decide) ?_
            refine lv_iadd hx hb dX7_line_90 (n_top (y := nI (t + 1)) (nI_add t 1) ?_)
            refine m_pi C h 36 (v := nI (t + 1)) (by decide) rfl rfl rfl q1906 rfl rfl dX7_line_91 (fun H locs h => ?_)
            rw [lM_36] at h
            have h : Wd D B s (mw dA h0 ad (lM M u.1 (nI (t + 1)) (nI u.2.1) (nI t)) ++ F) H locs := h
            have h : Wd D B s (mw dA h0 ad (lM M u.1 (nI (eolL tx u.2.1 + 1)) (nI u.2.1) (nI t)) ++ F) H locs := by rw [hex]; exact h
            obtain ⟨t0, ht0⟩ : ∃ z, z = t := ⟨_, rfl⟩
            have loopS : ∀ (nnS : Nat) (t : Nat), (u.2.1 ≤ t) → (t ≤ tx.length) → (stripL tx u.2.1 (eolL tx u.2.1) = stripL tx u.2.1 t) → t < nnS → ∀ (H : Heap) (locs : List Loc), Wd D B s (mw dA h0 ad (lM M u.1 (nI (eolL tx u.2.1 + 1)) (nI u.2.1) (nI t)) ++ F) H locs → ∀ (ls : Array Slot), lv_has ls 1 [(0, .ref h0)] → W p l e R s m args below meth c H locs 0 0 Q (F0 m 94 ls []) := by
              intro nnS
              induction nnS with
              | zero => intro t  hj0 hj1 hj2 hme; exact absurd hme (Nat.not_lt_zero _)
              | succ nnS ihS =>
                intro t  hj0 hj1 hj2 hme H locs h ls hl
                refine lv_aload_n hx hb dX7_line_94 rfl (lv_at hl 0 rfl) ?_
                refine m_gi C h 38 (by decide) rfl rfl q1908 (v := nI t) rfl dX7_line_95 ?_
                refine lv_aload_n hx hb dX7_line_98 rfl (lv_at hl 0 rfl) ?_
                refine m_gi C h 37 (by decide) rfl rfl q1907 (v := nI u.2.1) rfl dX7_line_99 ?_
                refine n_icmp_le (tgt := 135) hx hb (by omega) (by omega) dX7_line_102 (by decide) (fun c102 => ?_) (fun c102 => ?_)
                · refine lv_iconst (v := nI 1) hx hb dX7_line_135 (by decide) ?_
                  subst hQ
                  have hst : t ≤ u.2.1 ∨ isBl (gD tx (t - 1)) = false := by first | exact Or.inl c102 | exact Or.inr c119
                  refine n_top (y := bZ true) rfl ?_
                  exact ret_z C hr hlocks h () trivial (by unfold lineS; rw [if_pos c4, if_neg (by omega)]) (by unfold lineS; rw [if_pos c4, if_neg (by omega), hj2, stripL_e hst]) (by omega) (by omega) dX7_line_136
                · refine lv_aload_n hx hb dX7_line_105 rfl (lv_at hl 0 rfl) ?_
                  refine m_gr C h 34 (by decide) rfl rfl q1904 (v := some (ad 2)) htx dX7_line_106 ?_
                  refine lv_aload_n hx hb dX7_line_109 rfl (lv_at hl 0 rfl) ?_
                  refine m_gi C h 38 (by decide) rfl rfl q1908 (v := nI t) rfl dX7_line_110 ?_
                  refine lv_iconst (v := nI 1) hx hb dX7_line_113 (by decide) ?_
                  refine lv_isub hx hb dX7_line_114 (n_top (y := nI (t - 1)) (pk_sub (by omega)) ?_)
                  refine n_iald C h (v := (mG (lM M u.1 (nI (eolL tx u.2.1 + 1)) (nI u.2.1) (nI t)) 2) (t - 1)) (mw_memG (k := 2) (by decide)) (show t - 1 < 4096 by omega) (by decide) rfl dX7_line_115 ?_
                  refine n_top (y := nI (gD tx (t - 1))) (congrArg nI (hT (t - 1) (by omega))) ?_
                  have hb2 := byt_gD hby (t - 1)
                  refine call_S (As := [.int (nI (gD tx (t - 1)))]) (rest := []) (n := 1) C h (c7_isBlank l D dA B Z hZ _ (gD tx (t - 1)) (by omega)) (lw_S q2129 q2130 q138 q2131) (by decide +kernel) (by decide) (by decide) rfl hl rfl (Nat.le_of_ble_eq_true rfl) dX7_line_116 (by omega) (fun _ H locs _ h => ?_)
                  refine z_if_eq (tgt := 135) hx hb dX7_line_119 (by decide) (fun c119 => ?_) (fun c119 => ?_)
                  · refine lv_iconst (v := nI 1) hx hb dX7_line_135 (by decide) ?_
                    subst hQ
                    have hst : t ≤ u.2.1 ∨ isBl (gD tx (t - 1)) = false := by first | exact Or.inl c102 | exact Or.inr c119
                    refine n_top (y := bZ true) rfl ?_
                    exact ret_z C hr hlocks h () trivial (by unfold lineS; rw [if_pos c4, if_neg (by omega)]) (by unfold lineS; rw [if_pos c4, if_neg (by omega), hj2, stripL_e hst]) (by omega) (by omega) dX7_line_136
                  · refine lv_aload_n hx hb dX7_line_122 rfl (lv_at hl 0 rfl) ?_
                    refine lv_dup hx hb dX7_line_123 rfl ?_
                    refine m_gi C h 38 (by decide) rfl rfl q1908 (v := nI t) rfl dX7_line_124 ?_
                    refine lv_iconst (v := nI 1) hx hb dX7_line_127 (by decide) ?_
                    refine lv_isub hx hb dX7_line_128 (n_top (y := nI (t - 1)) (pk_sub (by omega)) ?_)
                    refine m_pi C h 38 (v := nI (t - 1)) (by decide) rfl rfl rfl q1908 rfl rfl dX7_line_129 (fun H locs h => ?_)
                    rw [lM_38] at h
                    have h : Wd D B s (mw dA h0 ad (lM M u.1 (nI (eolL tx u.2.1 + 1)) (nI u.2.1) (nI (t - 1))) ++ F) H locs := h
                    refine lv_goto (tgt := 94) hx hb dX7_line_132 (by decide) ?_
                    exact ihS (t - 1) (by omega) (by omega) (by rw [hj2]; exact stripL_s (by omega) c119) (by omega) _ _ h _ (lv_sub hl [0] rfl)
            exact loopS _ _ hi0 hi1 (by rw [hex]) (Nat.lt_succ_self _) _ _ h _ (lv_sub hl [0] rfl)
          · refine lv_aload_n hx hb dX7_line_57 rfl (lv_at hl 0 rfl) ?_
            refine m_gr C h 34 (by decide) rfl rfl q1904 (v := some (ad 2)) htx dX7_line_58 ?_
            refine lv_aload_n hx hb dX7_line_61 rfl (lv_at hl 0 rfl) ?_
            refine m_gi C h 38 (by decide) rfl rfl q1908 (v := nI t) rfl dX7_line_62 ?_
            refine n_iald C h (v := (mG (lM M u.1 (nI u.2.1) (nI u.2.1) (nI t)) 2) t) (mw_memG (k := 2) (by decide)) (show t < 4096 by omega) (by decide) rfl dX7_line_65 ?_
            refine n_top (y := nI (gD tx t)) (congrArg nI (hT t (by omega))) ?_
            have hb1 := byt_gD hby t
            refine lv_bipush (v := nI 10) hx hb dX7_line_66 (by decide) ?_
            refine n_icmp_eq (tgt := 84) hx hb (by omega) (by omega) dX7_line_68 (by decide) (fun c68 => ?_) (fun c68 => ?_)
            · have hex : eolL tx u.2.1 = t := by rw [hi2]; exact eolL_e (by omega)
              refine lv_aload_n hx hb dX7_line_84 rfl (lv_at hl 0 rfl) ?_
              refine lv_aload_n hx hb dX7_line_85 rfl (lv_at hl 0 rfl) ?_
              refine m_gi C h 38 (by decide) rfl rfl q1908 (v := nI t) rfl dX7_line_86 ?_
              refine lv_iconst (v := nI 1) hx hb dX7_line_89 (by decide) ?_
              refine lv_iadd hx hb dX7_line_90 (n_top (y := nI (t + 1)) (nI_add t 1) ?_)
              refine m_pi C h 36 (v := nI (t + 1)) (by decide) rfl rfl rfl q1906 rfl rfl dX7_line_91 (fun H locs h => ?_)
              rw [lM_36] at h
              have h : Wd D B s (mw dA h0 ad (lM M u.1 (nI (t + 1)) (nI u.2.1) (nI t)) ++ F) H locs := h
              have h : Wd D B s (mw dA h0 ad (lM M u.1 (nI (eolL tx u.2.1 + 1)) (nI u.2.1) (nI t)) ++ F) H locs := by rw [hex]; exact h
              obtain ⟨t0, ht0⟩ : ∃ z, z = t := ⟨_, rfl⟩
              have loopS : ∀ (nnS : Nat) (t : Nat), (u.2.1 ≤ t) → (t ≤ tx.length) → (stripL tx u.2.1 (eolL tx u.2.1) = stripL tx u.2.1 t) → t < nnS → ∀ (H : Heap) (locs : List Loc), Wd D B s (mw dA h0 ad (lM M u.1 (nI (eolL tx u.2.1 + 1)) (nI u.2.1) (nI t)) ++ F) H locs → ∀ (ls : Array Slot), lv_has ls 1 [(0, .ref h0)] → W p l e R s m args below meth c H locs 0 0 Q (F0 m 94 ls []) := by
                intro nnS
                induction nnS with
                | zero => intro t  hj0 hj1 hj2 hme; exact absurd hme (Nat.not_lt_zero _)
                | succ nnS ihS =>
                  intro t  hj0 hj1 hj2 hme H locs h ls hl
                  refine lv_aload_n hx hb dX7_line_94 rfl (lv_at hl 0 rfl) ?_
                  refine m_gi C h 38 (by decide) rfl rfl q1908 (v := nI t) rfl dX7_line_95 ?_
                  refine lv_aload_n hx hb dX7_line_98 rfl (lv_at hl 0 rfl) ?_
                  refine m_gi C h 37 (by decide) rfl rfl q1907 (v := nI u.2.1) rfl dX7_line_99 ?_
                  refine n_icmp_le (tgt := 135) hx hb (by omega) (by omega) dX7_line_102 (by decide) (fun c102 => ?_) (fun c102 => ?_)
                  · refine lv_iconst (v := nI 1) hx hb dX7_line_135 (by decide) ?_
                    subst hQ
                    have hst : t ≤ u.2.1 ∨ isBl (gD tx (t - 1)) = false := by first | exact Or.inl c102 | exact Or.inr c119
                    refine n_top (y := bZ true) rfl ?_
                    exact ret_z C hr hlocks h () trivial (by unfold lineS; rw [if_pos c4, if_neg (by omega)]) (by unfold lineS; rw [if_pos c4, if_neg (by omega), hj2, stripL_e hst]) (by omega) (by omega) dX7_line_136
                  · refine lv_aload_n hx hb dX7_line_105 rfl (lv_at hl 0 rfl) ?_
                    refine m_gr C h 34 (by decide) rfl rfl q1904 (v := some (ad 2)) htx dX7_line_106 ?_
                    refine lv_aload_n hx hb dX7_line_109 rfl (lv_at hl 0 rfl) ?_
                    refine m_gi C h 38 (by decide) rfl rfl q1908 (v := nI t) rfl dX7_line_110 ?_
                    refine lv_iconst (v := nI 1) hx hb dX7_line_113 (by decide) ?_
                    refine lv_isub hx hb dX7_line_114 (n_top (y := nI (t - 1)) (pk_sub (by omega)) ?_)
                    refine n_iald C h (v := (mG (lM M u.1 (nI (eolL tx u.2.1 + 1)) (nI u.2.1) (nI t)) 2) (t - 1)) (mw_memG (k := 2) (by decide)) (show t - 1 < 4096 by omega) (by decide) rfl dX7_line_115 ?_
                    refine n_top (y := nI (gD tx (t - 1))) (congrArg nI (hT (t - 1) (by omega))) ?_
                    have hb2 := byt_gD hby (t - 1)
                    refine call_S (As := [.int (nI (gD tx (t - 1)))]) (rest := []) (n := 1) C h (c7_isBlank l D dA B Z hZ _ (gD tx (t - 1)) (by omega)) (lw_S q2129 q2130 q138 q2131) (by decide +kernel) (by decide) (by decide) rfl hl rfl (Nat.le_of_ble_eq_true rfl) dX7_line_116 (by omega) (fun _ H locs _ h => ?_)
                    refine z_if_eq (tgt := 135) hx hb dX7_line_119 (by decide) (fun c119 => ?_) (fun c119 => ?_)
                    · refine lv_iconst (v := nI 1) hx hb dX7_line_135 (by decide) ?_
                      subst hQ
                      have hst : t ≤ u.2.1 ∨ isBl (gD tx (t - 1)) = false := by first | exact Or.inl c102 | exact Or.inr c119
                      refine n_top (y := bZ true) rfl ?_
                      exact ret_z C hr hlocks h () trivial (by unfold lineS; rw [if_pos c4, if_neg (by omega)]) (by unfold lineS; rw [if_pos c4, if_neg (by omega), hj2, stripL_e hst]) (by omega) (by omega) dX7_line_136
                    · refine lv_aload_n hx hb dX7_line_122 rfl (lv_at hl 0 rfl) ?_
                      refine lv_dup hx hb dX7_line_123 rfl ?_
                      refine m_gi C h 38 (by decide) rfl rfl q1908 (v := nI t) rfl dX7_line_124 ?_
                      refine lv_iconst (v := nI 1) hx hb dX7_line_127 (by decide) ?_
                      refine lv_isub hx hb dX7_line_128 (n_top (y := nI (t - 1)) (pk_sub (by omega)) ?_)
                      refine m_pi C h 38 (v := nI (t - 1)) (by decide) rfl rfl rfl q1908 rfl rfl dX7_line_129 (fun H locs h => ?_)
                      rw [lM_38] at h
                      have h : Wd D B s (mw dA h0 ad (lM M u.1 (nI (eolL tx u.2.1 + 1)) (nI u.2.1) (nI (t - 1))) ++ F) H locs := h
                      refine lv_goto (tgt := 94) hx hb dX7_line_132 (by decide) ?_
                      exact ihS (t - 1) (by omega) (by omega) (by rw [hj2]; exact stripL_s (by omega) c119) (by omega) _ _ h _ (lv_sub hl [0] rfl)
              exact loopS _ _ hi0 hi1 (by rw [hex]) (Nat.lt_succ_self _) _ _ h _ (lv_sub hl [0] rfl)
            · refine lv_aload_n hx hb dX7_line_71 rfl (lv_at hl 0 rfl) ?_
              refine lv_dup hx hb dX7_line_72 rfl ?_
              refine m_gi C h 38 (by decide) rfl rfl q1908 (v := nI t) rfl dX7_line_73 ?_
              refine lv_iconst (v := nI 1) hx hb dX7_line_76 (by decide) ?_
              refine lv_iadd hx hb dX7_line_77 (n_top (y := nI (t + 1)) (nI_add t 1) ?_)
              refine m_pi C h 38 (v := nI (t + 1)) (by decide) rfl rfl rfl q1908 rfl rfl dX7_line_78 (fun H locs h => ?_)
              rw [lM_38] at h
              have h : Wd D B s (mw dA h0 ad (lM M u.1 (nI u.2.1) (nI u.2.1) (nI (t + 1))) ++ F) H locs := h
              refine lv_goto (tgt := 46) hx hb dX7_line_81 (by decide) ?_
              exact ih (t + 1) (by omega) (by omega) (by rw [hi2, eolL_s c54 c68]) (by omega) _ _ h _ (lv_sub hl [0] rfl)
      exact loop _ _ (Nat.le_refl _) (by omega) rfl (Nat.lt_succ_self _) _ _ h _ (lv_sub hl [0] rfl)
    · refine lv_aload_n hx hb dX7_line_20 rfl (lv_at hl 0 rfl) ?_
      refine lv_aload_n hx hb dX7_line_21 rfl (lv_at hl 0 rfl) ?_
      refine m_gi C h 35 (by decide) rfl rfl q1905 (v := nI tx.length) hsz dX7_line_22 ?_
      refine call_V (As := [.int (nI tx.length)]) (rest := []) (n := 1) C h (c7_failLine l D dA B Z hZ h0 ad (lM M u.1 (nI u.2.1) (nI u.2.2.1) (nI u.2.2.2)) F tx.length) (lw_V q2120 q2122 qs46 q138 q2123) (by decide +kernel) (ci := 5) rfl rfl mw_mem0 (by decide) (by decide) rfl hl rfl (Nat.le_of_ble_eq_true rfl) dX7_line_25 (by omega) (fun _ H locs _ h => ?_)
      rw [lM_33] at h
      refine lv_iconst (v := nI 0) hx hb dX7_line_28 (by decide) ?_
      subst hQ
      refine n_top (y := bZ false) rfl ?_
      exact ret_z C hr hlocks h () trivial (by unfold lineS; rw [if_pos c4, if_pos c17]) (by unfold lineS; rw [if_pos c4, if_pos c17]; rfl) (by omega) (by omega) dX7_line_29
  · refine lv_iconst (v := nI 0) hx hb dX7_line_7 (by decide) ?_
    subst hQ
    refine n_top (y := bZ false) rfl ?_
    exact ret_z C hr hlocks h () trivial (by unfold lineS; rw [if_neg c4]) (by unfold lineS; rw [if_neg c4]) (by omega) (by omega) dX7_line_8
set_option maxHeartbeats 400000 in
set_option maxRecDepth 100000 in
theorem c7_heads (l : Launch) (D : va_G) (dA : Nat → ClassId) (B : Nat) (Z : State → Prop) (hZ : Stab B Z) (h0 : Nat) (ad : Nat → Nat) (M : MS) (F : va_W) (tx : List Nat) (u : LU) (hsz : mI M 35 = nI tx.length) (htx : mR M 34 = some (ad 2)) (hT : ∀ j, j < tx.length → mG M 2 j = gD tx j) (htl : tx.length ≤ 4096) (hby : byt tx) (hn : u.2.1 ≤ 5000) :
    Ct (S := Unit) l D dA B Z yX7_heads cX7_heads 4 none 4 0 0 [.ref h0] (mw dA h0 ad (lM M u.1 (nI u.2.1) (nI u.2.2.1) (nI u.2.2.2)) ++ F) (fun _ => True) (fun _ => none) (fun _ => mw dA h0 ad (lM M (headsS tx u).1 (nI (headsS tx u).2.1) (nI (headsS tx u).2.2.1) (nI (headsS tx u).2.2.2)) ++ F) := by
  refine Ct.mk2 (by decide) (Nat.le_of_ble_eq_true rfl) hZ ?_
  intro p e R s m args below meth c ls Q C hr hlocks hin hQ hl h
  have C0 := C
  obtain ⟨hx, hb, hml, hown, hts, -⟩ := C0
  have hl : lv_has ls 4 [(0, .ref h0)] := hl
  refine lv_aload_n hx hb dX7_heads_0 rfl (lv_at hl 0 rfl) ?_
  refine call_V (As := []) (rest := []) (n := 0) C h (c7_line l D dA B Z hZ h0 ad M F tx u hsz htx hT htl hby hn) (lw_V q2116 q2118 qs45 q138 q2119) (by decide +kernel) (ci := 5) rfl rfl mw_mem0 (by decide) (by decide) rfl hl rfl (Nat.le_of_ble_eq_true rfl) dX7_heads_1 (by omega) (fun _ H locs _ h => ?_)
  refine lv_istore_n (lv' := [(1, .int (bZ ((lineS tx u).1))), (0, .ref h0)]) hx hb dX7_heads_4 rfl hl (by decide) rfl (fun ls hl => ?_)
  obtain ⟨b0, v0, hbv⟩ : ∃ b0 v0, lineS tx u = (b0, v0) := ⟨_, _, rfl⟩
  have hok := lineS_ok tx u htl hn
  rw [hbv] at hok h hl
  have h : Wd D B s (mw dA h0 ad (lM M v0.1 (nI v0.2.1) (nI v0.2.2.1) (nI v0.2.2.2)) ++ F) H locs := h
  have hl : lv_has ls 4 [(1, .int (bZ b0)), (0, .ref h0)] := hl
  have hhs : headsS tx u = headsL (tx.length + 2) tx (b0, v0) := by unfold headsS; rw [hbv]
  have loop : ∀ (nn : Nat) (k : Nat) (b : Bool) (v : LU), (headsS tx u = headsL k tx (b, v)) → (b = true → tx.length + 1 < v.2.1 + k) → (lnok tx b v) → k < nn → ∀ (H : Heap) (locs : List Loc), Wd D B s (mw dA h0 ad (lM M v.1 (nI v.2.1) (nI v.2.2.1) (nI v.2.2.2)) ++ F) H locs → ∀ (ls : Array Slot), lv_has ls 4 [(1, .int (bZ b)), (0, .ref h0)] → W p l e R s m args below meth c H locs (0 + 0) (0 + 0) Q (F0 m 5 ls []) := by
    intro nn
    induction nn with
    | zero => intro k  b  v  hi0 hi1 hi2 hme; exact absurd hme (Nat.not_lt_zero _)
    | succ nn ih =>
      intro k  b  v  hi0 hi1 hi2 hme H locs h ls hl
      refine lv_iload_n hx hb dX7_heads_5 rfl (lv_at hl 0 rfl) ?_
      refine z_if_eq (tgt := 97) hx hb dX7_heads_6 (by decide) (fun c6 => ?_) (fun c6 => ?_)
      · subst hQ
        exact ret_v C hr hlocks h () trivial rfl (by
          rw [hi0, headsL_e (by first | exact Or.inl c6 | exact Or.inr c17)]) (by omega) (by omega) dX7_heads_97
      · obtain ⟨q1, q2, q3, q4⟩ := hi2 c6
        refine lv_aload_n hx hb dX7_heads_9 rfl (lv_at hl 1 rfl) ?_
        refine m_gi C h 38 (by decide) rfl rfl q1908 (v := nI v.2.2.2) rfl dX7_heads_10 ?_
        refine lv_aload_n hx hb dX7_heads_13 rfl (lv_at hl 1 rfl) ?_
        refine m_gi C h 37 (by decide) rfl rfl q1907 (v := nI v.2.2.1) rfl dX7_heads_14 ?_
        refine n_icmp_le (tgt := 97) hx hb (by omega) (by omega) dX7_heads_17 (by decide) (fun c17 => ?_) (fun c17 => ?_)
        · subst hQ
          exact ret_v C hr hlocks h () trivial rfl (by
            rw [hi0, headsL_e (by first | exact Or.inl c6 | exact Or.inr c17)]) (by omega) (by omega) dX7_heads_97
        · refine lv_iconst (v := nI 0) hx hb dX7_heads_20 (by decide) ?_
          refine lv_istore_n (lv' := [(2, .int (nI 0)), (1, .int (bZ b)), (0, .ref h0)]) hx hb dX7_heads_21 rfl hl (by decide) rfl (fun ls hl => ?_)
          refine lv_aload_n hx hb dX7_heads_22 rfl (lv_at hl 2 rfl) ?_
          refine m_gi C h 37 (by decide) rfl rfl q1907 (v := nI v.2.2.1) rfl dX7_heads_23 ?_
          refine lv_istore_n (lv' := [(3, .int (nI v.2.2.1)), (2, .int (nI 0)), (1, .int (bZ b)), (0, .ref h0)]) hx hb dX7_heads_26 rfl hl (by decide) rfl (fun ls hl => ?_)
          have hl : lv_has ls 4 [(3, .int (nI (v.2.2.1 + 0))), (2, .int (bZ (colF tx v.2.2.1 0))), (1, .int (bZ b)), (0, .ref h0)] := hl
          have loopC : ∀ (nnC : Nat) (i : Nat), (i ≤ v.2.2.2 - 1 - v.2.2.1) → v.2.2.2 - i < nnC → ∀ (H : Heap) (locs : List Loc), Wd D B s (mw dA h0 ad (lM M v.1 (nI v.2.1) (nI v.2.2.1) (nI v.2.2.2)) ++ F) H locs → ∀ (ls : Array Slot), lv_has ls 4 [(3, .int (nI (v.2.2.1 + i))), (2, .int (bZ (colF tx v.2.2.1 i))), (1, .int (bZ b)), (0, .ref h0)] → W p l e R s m args below meth c H locs (0 + 0) (0 + 0) Q (F0 m 27 ls []) := by
            intro nnC
            induction nnC with
            | zero => intro i  hc0 hme; exact absurd hme (Nat.not_lt_zero _)
            | succ nnC ihC =>
              intro i  hc0 hme H locs h ls hl
              refine lv_iload_n hx hb dX7_heads_27 rfl (lv_at hl 0 rfl) ?_
              refine lv_iconst (v := nI 1) hx hb dX7_heads_28 (by decide) ?_
              refine lv_iadd hx hb dX7_heads_29 (n_top (y := nI (v.2.2.1 + i + 1)) (nI_add (v.2.2.1 + i) 1) ?_)
              refine lv_aload_n hx hb dX7_heads_30 rfl (lv_at hl 3 rfl) ?_
              refine m_gi C h 38 (by decide) rfl rfl q1908 (v := nI v.2.2.2) rfl dX7_heads_31 ?_
              refine n_icmp_ge (tgt := 77) hx hb (by omega) (by omega) dX7_heads_34 (by decide) (fun c34 => ?_) (fun c34 => ?_)
              · have hcol : colF tx v.2.2.1 i = hasColon tx v.2.2.1 v.2.2.2 := by unfold hasColon; rw [show i = v.2.2.2 - 1 - v.2.2.1 by omega]
                rw [hcol] at hl
                have jd : ∀ (v2 : LU), (v2 = if hasColon tx v.2.2.1 v.2.2.2 = true then v else failLn v v.2.2.1) → (v2.2 = v.2) → ∀ (H : Heap) (locs : List Loc), Wd D B s (mw dA h0 ad (lM M v2.1 (nI v2.2.1) (nI v2.2.2.1) (nI v2.2.2.2)) ++ F) H locs → ∀ (ls : Array Slot), lv_has ls 4 [(0, .ref h0)] → W p l e R s m args below meth c H locs (0 + 0) (0 + 0) Q (F0 m 89 ls []) := by
                  intro v2  hv2 hv3 H locs h ls hl
                  refine lv_aload_n hx hb dX7_heads_89 rfl (lv_at hl 0 rfl) ?_
                  refine call_V (As := []) (rest := []) (n := 0) C h (c7_line l D dA B Z hZ h0 ad M F tx v2 hsz htx hT htl hby (by rw [hv3]; omega)) (lw_V q2116 q2118 qs45 q138 q2119) (by decide +kernel) (ci := 5) rfl rfl mw_mem0 (by decide) (by decide) rfl hl rfl (Nat.le_of_ble_eq_true rfl) dX7_heads_90 (by omega) (fun _ H locs _ h => ?_)
                  obtain ⟨b3, v3, hbv3⟩ : ∃ b3 v3, lineS tx v2 = (b3, v3) := ⟨_, _, rfl⟩
                  have hok2 := lineS_ok tx v2 htl (by rw [hv3]; omega)
                  have hinc : b3 = true → v2.2.1 < v3.2.1 := fun q => by
                    have q9 := lineS_inc tx v2 (by rw [hbv3]; exact q)
                    rw [hbv3] at q9; exact q9
                  rw [hbv3] at hok2 h ⊢
                  have hk1 := hi1 c6
                  have hstep : headsL k tx (b, v) = headsL (k - 1) tx (b3, v3) := by
                    have hk1 := hi1 c6
                    rw [← hbv3, hv2]; exact headsL_s (by omega) c6 c17
                  have hnx : b3 = true → tx.length + 1 < v3.2.1 + (k - 1) := fun q => by
                    have hk1 := hi1 c6
                    have q2 := hinc q
                    rw [hv3] at q2; omega
                  have h : Wd D B s (mw dA h0 ad (lM M v3.1 (nI v3.2.1) (nI v3.2.2.1) (nI v3.2.2.2)) ++ F) H locs := h
                  show W p l e R s m args below meth c H locs (0 + 0 + 0) (0 + 0 + 0) Q (F0 m 93 ls [.int (bZ b3)])
                  refine lv_istore_n (lv' := [(1, .int (bZ b3)), (0, .ref h0)]) hx hb dX7_heads_93 rfl hl (by decide) rfl (fun ls hl => ?_)
                  refine lv_goto (tgt := 5) hx hb dX7_heads_94 (by decide) ?_
                  exact ih (k - 1) _ _ (by rw [hi0, hstep]) hnx hok2 (by omega) _ _ h _ (lv_sub hl [0, 1] rfl)
                refine lv_iload_n hx hb dX7_heads_77 rfl (lv_at hl 1 rfl) ?_
                refine z_if_ne (tgt := 89) hx hb dX7_heads_78 (by decide) (fun c78 => ?_) (fun c78 => ?_)
                · exact jd v (by rw [if_pos c78]) rfl _ _ h _ (lv_sub hl [3] rfl)
                · refine lv_aload_n hx hb dX7_heads_81 rfl (lv_at hl 3 rfl) ?_
                  refine lv_aload_n hx hb dX7_heads_82 rfl (lv_at hl 3 rfl) ?_
                  refine m_gi C h 37 (by decide) rfl rfl q1907 (v := nI v.2.2.1) rfl dX7_heads_83 ?_
                  refine call_V (As := [.int (nI v.2.2.1)]) (rest := []) (n := 1) C h (c7_failLine l D dA B Z hZ h0 ad (lM M v.1 (nI v.2.1) (nI v.2.2.1) (nI v.2.2.2)) F v.2.2.1) (lw_V q2120 q2122 qs46 q138 q2123) (by decide +kernel) (ci := 5) rfl rfl mw_mem0 (by decide) (by decide) rfl hl rfl (Nat.le_of_ble_eq_true rfl) dX7_heads_86 (by omega) (fun _ H locs _ h => ?_)
                  rw [lM_33] at h
                  have h : Wd D B s (mw dA h0 ad (lM M ((failLn v v.2.2.1).1) (nI ((failLn v v.2.2.1).2.1)) (nI ((failLn v v.2.2.1).2.2.1)) (nI ((failLn v v.2.2.1).2.2.2))) ++ F) H locs := h
                  exact jd (failLn v v.2.2.1) (by rw [if_neg (by rw [c78]; decide)]) rfl _ _ h _ (lv_sub hl [3] rfl)
              · have hb1 := byt_gD hby (v.2.2.1 + i)
                have hb2 := byt_gD hby (v.2.2.1 + i + 1)
                have jc : ∀ (H : Heap) (locs : List Loc), Wd D B s (mw dA h0 ad (lM M v.1 (nI v.2.1) (nI v.2.2.1) (nI v.2.2.2)) ++ F) H locs → ∀ (ls : Array Slot), lv_has ls 4 [(3, .int (nI (v.2.2.1 + i))), (2, .int (bZ (colF tx v.2.2.1 i))), (1, .int (bZ b)), (0, .ref h0)] → W p l e R s m args below meth c H locs (0 + 0) (0 + 0) Q (F0 m 70 ls [.int (bZ (colF tx v.2.2.1 (i + 1)))]) := by
                  intro   H locs h ls hl
                  refine lv_istore_n (lv' := [(2, .int (bZ (colF tx v.2.2.1 (i + 1)))), (3, .int (nI (v.2.2.1 + i))), (1, .int (bZ b)), (0, .ref h0)]) hx hb dX7_heads_70 rfl hl (by decide) rfl (fun ls hl => ?_)
                  refine lv_iinc (v := nI (v.2.2.1 + i + 1)) (lv' := [(3, .int (nI (v.2.2.1 + i + 1))), (2, .int (bZ (colF tx v.2.2.1 (i + 1)))), (1, .int (bZ b)), (0, .ref h0)]) hx hb dX7_heads_71 hl (k := 1) rfl (nI_add (v.2.2.1 + i) 1) (by decide) rfl (fun ls hl => ?_)
                  refine lv_goto (tgt := 27) hx hb dX7_heads_74 (by decide) ?_
                  exact ihC (i + 1) (by omega) (by omega) _ _ h _ (lv_sub hl [0, 1, 2, 3] rfl)
                refine lv_iload_n hx hb dX7_heads_37 rfl (lv_at hl 1 rfl) ?_
                refine z_if_ne (tgt := 65) hx hb dX7_heads_38 (by decide) (fun c38 => ?_) (fun c38 => ?_)
                · refine lv_iconst (v := nI 1) hx hb dX7_heads_65 (by decide) ?_
                  refine lv_goto (tgt := 70) hx hb dX7_heads_66 (by decide) ?_
                  refine n_top (y := bZ (colF tx v.2.2.1 (i + 1))) (by rw [colF_s]; simp [*]; try rfl) ?_
                  exact jc   _ _ h _ (lv_sub hl [0, 1, 2, 3] rfl)
                · refine lv_aload_n hx hb dX7_heads_41 rfl (lv_at hl 3 rfl) ?_
                  refine m_gr C h 34 (by decide) rfl rfl q1904 (v := some (ad 2)) htx dX7_heads_42 ?_
                  refine lv_iload_n hx hb dX7_heads_45 rfl (lv_at hl 0 rfl) ?_
                  refine n_iald C h (v := (mG (lM M v.1 (nI v.2.1) (nI v.2.2.1) (nI v.2.2.2)) 2) (v.2.2.1 + i)) (mw_memG (k := 2) (by decide)) (show v.2.2.1 + i < 4096 by omega) (by decide) rfl dX7_heads_46 ?_
                  refine n_top (y := nI (gD tx (v.2.2.1 + i))) (congrArg nI (hT _ (by omega))) ?_
                  refine lv_bipush (v := nI 58) hx hb dX7_heads_47 (by decide) ?_
                  refine n_icmp_ne (tgt := 69) hx hb (by omega) (by omega) dX7_heads_49 (by decide) (fun c49 => ?_) (fun c49 => ?_)
                  · refine lv_iconst (v := nI 0) hx hb dX7_heads_69 (by decide) ?_
                    refine n_top (y := bZ (colF tx v.2.2.1 (i + 1))) (by rw [colF_s]; simp [*]; try rfl) ?_
                    exact jc   _ _ h _ (lv_sub hl [0, 1, 2, 3] rfl)
                  · refine lv_aload_n hx hb dX7_heads_52 rfl (lv_at hl 3 rfl) ?_
                    refine m_gr C h 34 (by decide) rfl rfl q1904 (v := some (ad 2)) htx dX7_heads_53 ?_
                    refine lv_iload_n hx hb dX7_heads_56 rfl (lv_at hl 0 rfl) ?_
                    refine lv_iconst (v := nI 1) hx hb dX7_heads_57 (by decide) ?_
                    refine lv_iadd hx hb dX7_heads_58 (n_top (y := nI (v.2.2.1 + i + 1)) (nI_add (v.2.2.1 + i) 1) ?_)
                    refine n_iald C h (v := (mG (lM M v.1 (nI v.2.1) (nI v.2.2.1) (nI v.2.2.2)) 2) (v.2.2.1 + i + 1)) (mw_memG (k := 2) (by decide)) (show v.2.2.1 + i + 1 < 4096 by omega) (by decide) rfl dX7_heads_59 ?_
                    refine n_top (y := nI (gD tx (v.2.2.1 + i + 1))) (congrArg nI (hT _ (by omega))) ?_
                    refine lv_bipush (v := nI 32) hx hb dX7_heads_60 (by decide) ?_
                    refine n_icmp_ne (tgt := 69) hx hb (by omega) (by omega) dX7_heads_62 (by decide) (fun c62 => ?_) (fun c62 => ?_)
                    · refine lv_iconst (v := nI 0) hx hb dX7_heads_69 (by decide) ?_
                      refine n_top (y := bZ (colF tx v.2.2.1 (i + 1))) (by rw [colF_s]; simp [*]; try rfl) ?_
                      exact jc   _ _ h _ (lv_sub hl [0, 1, 2, 3] rfl)
                    · refine lv_iconst (v := nI 1) hx hb dX7_heads_65 (by decide) ?_
                      refine lv_goto (tgt := 70) hx hb dX7_heads_66 (by decide) ?_
                      refine n_top (y := bZ (colF tx v.2.2.1 (i + 1))) (by rw [colF_s]; simp [*]; try rfl) ?_
                      exact jc   _ _ h _ (lv_sub hl [0, 1, 2, 3] rfl)
          exact loopC _ 0 (by omega) (Nat.lt_succ_self _) _ _ h _ (lv_sub hl [0, 1, 2, 3] rfl)
  exact loop _ (tx.length + 2) _ _ hhs (fun _ => by omega) hok (Nat.lt_succ_self _) _ _ h _ (lv_sub hl [0, 1] rfl)
