set_option maxRecDepth 100000

theorem lM_at (M : MS) (x : Int32) : sI M 36 x = lM M (mI M 33) x (mI M 37) (mI M 38) := by
  have h := lM_36 M (mI M 33) (mI M 36) (mI M 37) (mI M 38) x
  rw [lM_id] at h
  exact h
def bgL (k : Nat) : List Nat := [45, 45, 45, 45, 45, 66, 69, 71, 73, 78, 32] ++ labL k ++ [45, 45, 45, 45, 45]
def labF (tx : List Nat) (fr to : Nat) : Nat → Option Nat
  | 0 => none
  | k + 1 => if sl (gD tx) fr (to - fr) = bgL k then some k else labF tx fr to k
theorem labF_lt {tx : List Nat} {fr to : Nat} : ∀ {k j : Nat}, labF tx fr to k = some j → j < k := by
  intro k
  induction k with
  | zero => intro j h; cases h
  | succ k ih =>
    intro j h
    rw [labF] at h
    split at h
    · cases h; omega
    · have := ih h; omega
theorem labF_oI (tx : List Nat) (fr to : Nat) : oI (labF tx fr to 3) = -1 ↔ labF tx fr to 3 = none := by
  constructor
  · intro h
    cases q : labF tx fr to 3 with
    | none => rfl
    | some j =>
      have := labF_lt q
      rw [q] at h
      have h1 : j = 0 ∨ j = 1 ∨ j = 2 := by omega
      rcases h1 with r | r | r <;> rw [r] at h <;> exact absurd h (by decide)
  · intro h; rw [h]; rfl
def byLabS (tx : List Nat) (u : LU) : LU × List Nat := match labF tx u.2.2.1 u.2.2.2 3 with
  | none => (failLn u u.2.2.1, [])
  | some k => signsS tx (labL k) u

set_option maxHeartbeats 400000 in
set_option maxRecDepth 100000 in
theorem c7_startLines (l : Launch) (D : va_G) (dA : Nat → ClassId) (B : Nat) (Z : State → Prop) (hZ : Stab B Z) (h0 : Nat) (ad : Nat → Nat) (M : MS) (F : va_W) (tx : List Nat) (fr0 to0 : Nat) (hT : ∀ j, j < tx.length → mG M 2 j = gD tx j) (htl : tx.length ≤ 4096) (hby : byt tx) (h33 : mI M 33 = 0) (h37 : mI M 37 = nI fr0) (h38 : mI M 38 = nI to0) :
    Ct (S := Unit) l D dA B Z yX7_startLines cX7_startLines 4 none 4 0 0 [.ref h0, .ref (ad 2), .int (nI tx.length)] (mw dA h0 ad M ++ F) (fun _ => True) (fun _ => none) (fun _ => mw dA h0 ad (lM (sI (sR M 34 (some (ad 2))) 35 (nI tx.length)) (lineS tx (0, 0, fr0, to0)).2.1 (nI (lineS tx (0, 0, fr0, to0)).2.2.1) (nI (lineS tx (0, 0, fr0, to0)).2.2.2.1) (nI (lineS tx (0, 0, fr0, to0)).2.2.2.2)) ++ F) := by
  refine Ct.mk2 (by decide) (Nat.le_of_ble_eq_true rfl) hZ ?_
  intro p e R s m args below meth c ls Q C hr hlocks hin hQ hl h
  have C0 := C
  obtain ⟨hx, hb, hml, hown, hts, -⟩ := C0
  have hl : lv_has ls 4 [(0, .ref h0), (1, .ref (ad 2)), (2, .int (nI tx.length))] := hl
  refine lv_aload_n hx hb dX7_startLines_0 rfl (lv_at hl 0 rfl) ?_
  refine lv_aload_n hx hb dX7_startLines_1 rfl (lv_at hl 1 rfl) ?_
  refine m_pr C h 34 (v := some (ad 2)) (by decide) rfl rfl rfl q1904 rfl rfl dX7_startLines_2 (fun H locs h => ?_)
  refine lv_aload_n hx hb dX7_startLines_5 rfl (lv_at hl 0 rfl) ?_
  refine lv_iload_n hx hb dX7_startLines_6 rfl (lv_at hl 2 rfl) ?_
  refine m_pi C h 35 (v := nI tx.length) (by decide) rfl rfl rfl q1905 rfl rfl dX7_startLines_7 (fun H locs h => ?_)
  refine lv_aload_n hx hb dX7_startLines_10 rfl (lv_at hl 0 rfl) ?_
  refine lv_iconst (v := nI 0) hx hb dX7_startLines_11 (by decide) ?_
  refine m_pi C h 36 (v := nI 0) (by decide) rfl rfl rfl q1906 rfl rfl dX7_startLines_12 (fun H locs h => ?_)
  refine lv_aload_n hx hb dX7_startLines_15 rfl (lv_at hl 0 rfl) ?_
  have h : Wd D B s (mw dA h0 ad (lM (sI (sR M 34 (some (ad 2))) 35 (nI tx.length)) 0 (nI 0) (nI fr0) (nI to0)) ++ F) H locs := by
    have e1 := lM_at (sI (sR M 34 (some (ad 2))) 35 (nI tx.length)) (nI 0)
    have e2 : mI (sI (sR M 34 (some (ad 2))) 35 (nI tx.length)) 33 = 0 := h33
    have e3 : mI (sI (sR M 34 (some (ad 2))) 35 (nI tx.length)) 37 = nI fr0 := h37
    have e4 : mI (sI (sR M 34 (some (ad 2))) 35 (nI tx.length)) 38 = nI to0 := h38
    rw [e2, e3, e4] at e1
    rw [← e1]; exact h
  refine call_V (As := []) (rest := []) (n := 0) C h (c7_line l D dA B Z hZ h0 ad (sI (sR M 34 (some (ad 2))) 35 (nI tx.length)) F tx (0, 0, fr0, to0) rfl rfl hT htl hby (Nat.zero_le _)) (lw_V q2116 q2118 qs45 q138 q2119) (by decide +kernel) (ci := 5) rfl rfl mw_mem0 (by decide) (by decide) rfl hl rfl (Nat.le_of_ble_eq_true rfl) dX7_startLines_16 (by omega) (fun _ H locs _ h => ?_)
  refine lv_istore_n (lv' := [(3, .int (bZ ((lineS tx (0, 0, fr0, to0)).1))), (0, .ref h0), (1, .ref (ad 2)), (2, .int (nI tx.length))]) hx hb dX7_startLines_19 rfl hl (by decide) rfl (fun ls hl => ?_)
  subst hQ
  exact ret_v C hr hlocks h () trivial rfl rfl (by omega) (by omega) dX7_startLines_20
set_option maxHeartbeats 1000000 in
set_option maxRecDepth 100000 in
theorem c7_signsByLabel (l : Launch) (D : va_G) (dA : Nat → ClassId) (B : Nat) (Z : State → Prop) (hZ : Stab B Z) (h0 : Nat) (ad : Nat → Nat) (M : MS) (F : va_W) (tx : List Nat) (u : LU) (hzs : ZS dA B Z) (hsz : mI M 35 = nI tx.length) (htx : mR M 34 = some (ad 2)) (hT : ∀ j, j < tx.length → mG M 2 j = gD tx j) (htl : tx.length ≤ 4096) (hby : byt tx) (hn : u.2.1 ≤ 5000) (hG6 : ∀ j, mG M 6 j < 256) (h1 : u.2.2.1 ≤ u.2.2.2) (h2 : u.2.2.2 ≤ tx.length) (hu0 : u.1 = 0) :
    Ct (S := (Nat → Nat) × Nat × va_W) l D dA B Z yX7_signsByLabel cX7_signsByLabel 3 (some .int) 9 28 4800 [.ref h0] (mw dA h0 ad (lM M u.1 (nI u.2.1) (nI u.2.2.1) (nI u.2.2.2)) ++ F) (fun z => (∀ j, z.1 j < 256) ∧ ((byLabS tx u).1.1 = 0 → (z.2.1 = (byLabS tx u).2.length ∧ (∀ j, j < z.2.1 → z.1 j = gD (byLabS tx u).2 j) ∧ byt (byLabS tx u).2 ∧ z.2.1 ≤ tx.length))) (fun z => some (.int (nI z.2.1))) (fun z => mw dA h0 ad (gM M (byLabS tx u).1.1 (nI (byLabS tx u).1.2.1) (nI (byLabS tx u).1.2.2.1) (nI (byLabS tx u).1.2.2.2) z.1) ++ (F ++ z.2.2)) := by
  refine Ct.mk2 (by decide) (Nat.le_of_ble_eq_true rfl) hZ ?_
  intro p e R s m args below meth c ls Q C hr hlocks hin hQ hl h
  have C0 := C
  obtain ⟨hx, hb, hml, hown, hts, -⟩ := C0
  have hl : lv_has ls 3 [(0, .ref h0)] := hl
  obtain ⟨sa273, sv273, hr273, hk273⟩ := hzs.2.2.1 _ (List.mem_of_getElem? (l := strTab) (i := 19) rfl)
  obtain ⟨sa263, sv263, hr263, hk263⟩ := hzs.2.2.1 _ (List.mem_of_getElem? (l := strTab) (i := 18) rfl)
  refine lv_iconst (v := -1) hx hb dX7_signsByLabel_0 (by decide) ?_
  refine lv_istore_n (lv' := [(1, .int (-1)), (0, .ref h0)]) hx hb dX7_signsByLabel_1 rfl hl (by decide) rfl (fun ls hl => ?_)
  refine lv_iconst (v := nI 0) hx hb dX7_signsByLabel_2 (by decide) ?_
  refine lv_istore_n (lv' := [(2, .int (nI 0)), (1, .int (-1)), (0, .ref h0)]) hx hb dX7_signsByLabel_3 rfl hl (by decide) rfl (fun ls hl => ?_)
  have h : Wd D B s (mw dA h0 ad (lM M u.1 (nI u.2.1) (nI u.2.2.1) (nI u.2.2.2)) ++ (F ++ [])) s.heap [] := by rw [List.append_nil]; exact h
  have loop : ∀ (nn : Nat) (k cc cs : Nat) (E : va_W), (k ≤ 3) → (cc ≤ 7 * k) → (cs ≤ 1200 * k) → 4 - k < nn → ∀ (H : Heap) (locs : List Loc), Wd D B s (mw dA h0 ad (lM M u.1 (nI u.2.1) (nI u.2.2.1) (nI u.2.2.2)) ++ (F ++ E)) H locs → ∀ (ls : Array Slot), lv_has ls 3 [(0, .ref h0), (1, .int (oI (labF tx u.2.2.1 u.2.2.2 k))), (2, .int (nI k))] → W p l e R s m args below meth c H locs cc cs Q (F0 m 4 ls []) := by
    intro nn
    induction nn with
    | zero => intro k cc cs  E  hk hcc hcs hme; exact absurd hme (Nat.not_lt_zero _)
    | succ nn ih =>
      intro k cc cs  E  hk hcc hcs hme H locs h ls hl
      refine lv_iload_n hx hb dX7_signsByLabel_4 rfl (lv_at hl 2 rfl) ?_
      refine lv_iconst (v := nI 3) hx hb dX7_signsByLabel_5 (by decide) ?_
      refine n_icmp_ge (tgt := 57) hx hb (by omega) (by omega) dX7_signsByLabel_6 (by decide) (fun c6 => ?_) (fun c6 => ?_)
      · have hk3 : k = 3 := by omega
        subst hk3
        refine lv_iload_n hx hb dX7_signsByLabel_57 rfl (lv_at hl 1 rfl) ?_
        refine lv_iconst (v := -1) hx hb dX7_signsByLabel_58 (by decide) ?_
        refine lv_icmp_ne (tgt := 70) hx hb dX7_signsByLabel_59 (by decide) (fun c59 => ?_) (fun c59 => ?_)
        · have hlab := fun z => c59 ((labF_oI _ _ _).mpr z)
          refine lv_iload_n hx hb dX7_signsByLabel_70 rfl (lv_at hl 1 rfl) ?_
          refine lv_iconst (v := -1) hx hb dX7_signsByLabel_71 (by decide) ?_
          refine lv_icmp_ne (tgt := 79) hx hb dX7_signsByLabel_72 (by decide) (fun c72 => ?_) (fun c72 => by exfalso; exact c59 c72)
          obtain ⟨k9, hk9⟩ : ∃ z, labF tx u.2.2.1 u.2.2.2 3 = some z := by
            cases q : labF tx u.2.2.1 u.2.2.2 3 with
            | none => exact absurd q hlab
            | some z => exact ⟨z, rfl⟩
          have hk9l := labF_lt hk9
          rw [hk9] at hl
          have hl : lv_has ls 3 [(0, .ref h0), (1, .int (nI k9)), (2, .int (nI 3))] := hl
          have hRS : byLabS tx u = signsS tx (labL k9) u := by unfold byLabS; rw [hk9]
          refine lv_aload_n hx hb dX7_signsByLabel_79 rfl (lv_at hl 0 rfl) ?_
          refine lv_iload_n hx hb dX7_signsByLabel_80 rfl (lv_at hl 1 rfl) ?_
          refine call_S (As := [.int (nI k9)]) (rest := [.ref h0]) (n := 1) C h (c7_label l D dA B Z hZ _ k9 hzs hk9l) (lw_S q2140 q2141 q138 q2142) (by decide +kernel) (by decide) (by decide) rfl hl rfl (Nat.le_of_ble_eq_true rfl) dX7_signsByLabel_81 (by omega) (fun ul H locs hul h => ?_)
          obtain ⟨la, lv9⟩ := ul
          have hul : StrV dA B Z [] la lv9 (labL k9) := hul
          refine call_V (As := [.ref la]) (rest := []) (n := 1) C h (c7_signs l D dA B Z hZ h0 ad M (F ++ E) tx u la lv9 (labL k9) hzs hsz htx hT htl hby hn hG6 (nilup hul _) (labL_byt k9) (labL_len k9)) (lw_V q2154 q2156 qs50 q138 q2157) (by decide +kernel) (ci := 5) rfl rfl mw_mem0 (by decide) (by decide) rfl hl rfl (Nat.le_of_ble_eq_true rfl) dX7_signsByLabel_84 (by omega) (fun zs H locs hzz h => ?_)
          obtain ⟨G9, n9, E9⟩ := zs
          have h : Wd D B s (mw dA h0 ad (gM M (signsS tx (labL k9) u).1.1 (nI (signsS tx (labL k9) u).1.2.1) (nI (signsS tx (labL k9) u).1.2.2.1) (nI (signsS tx (labL k9) u).1.2.2.2) G9) ++ (F ++ E ++ E9)) H locs := h
          show W p l e R s m args below meth c H locs (cc + 0 + 7) (cs + 0 + 1200) Q (F0 m 87 ls [.int (nI n9)])
          subst hQ
          have h : Wd D B s (mw dA h0 ad (gM M (signsS tx (labL k9) u).1.1 (nI (signsS tx (labL k9) u).1.2.1) (nI (signsS tx (labL k9) u).1.2.2.1) (nI (signsS tx (labL k9) u).1.2.2.2) G9) ++ (F ++ (E ++ E9))) H locs := by rw [← List.append_assoc F]; exact h
          exact ret_i C hr hlocks h (G9, n9, E ++ E9) (by rw [hRS]; exact hzz) rfl (by rw [hRS]) (by omega) (by omega) dX7_signsByLabel_87
        · have hlab := (labF_oI _ _ _).mp c59
          refine lv_aload_n hx hb dX7_signsByLabel_62 rfl (lv_at hl 0 rfl) ?_
          refine lv_aload_n hx hb dX7_signsByLabel_63 rfl (lv_at hl 0 rfl) ?_
          refine m_gi C h 37 (by decide) rfl rfl q1907 (v := nI u.2.2.1) rfl dX7_signsByLabel_64 ?_
          refine call_V (As := [.int (nI u.2.2.1)]) (rest := []) (n := 1) C h (c7_failLine l D dA B Z hZ h0 ad (lM M u.1 (nI u.2.1) (nI u.2.2.1) (nI u.2.2.2)) (F ++ E) u.2.2.1) (lw_V q2120 q2122 qs46 q138 q2123) (by decide +kernel) (ci := 5) rfl rfl mw_mem0 (by decide) (by decide) rfl hl rfl (Nat.le_of_ble_eq_true rfl) dX7_signsByLabel_67 (by omega) (fun _ H locs _ h => ?_)
          have h : Wd D B s (mw dA h0 ad (sI (lM M u.1 (nI u.2.1) (nI u.2.2.1) (nI u.2.2.2)) 33 (failT u.1 (-100000 - nI u.2.2.1))) ++ (F ++ E)) H locs := h
          refine lv_iload_n hx hb dX7_signsByLabel_70 rfl (lv_at hl 1 rfl) ?_
          refine lv_iconst (v := -1) hx hb dX7_signsByLabel_71 (by decide) ?_
          refine lv_icmp_ne (tgt := 79) hx hb dX7_signsByLabel_72 (by decide) (fun c72 => by exfalso; exact c72 c59) (fun c72 => ?_)
          refine lv_iconst (v := nI 0) hx hb dX7_signsByLabel_75 (by decide) ?_
          refine lv_goto (tgt := 87) hx hb dX7_signsByLabel_76 (by decide) ?_
          subst hQ
          have hRS : byLabS tx u = (failLn u u.2.2.1, []) := by unfold byLabS; rw [hlab]
          have hne : failT u.1 (-100000 - nI u.2.2.1) ≠ 0 := failT_ne (code_ne _ (by omega))
          have h : Wd D B s (mw dA h0 ad (gM M (failT u.1 (-100000 - nI u.2.2.1)) (nI u.2.1) (nI u.2.2.1) (nI u.2.2.2) (mG M 6)) ++ (F ++ E)) H locs := by
            have e1 : gM M (failT u.1 (-100000 - nI u.2.2.1)) (nI u.2.1) (nI u.2.2.1) (nI u.2.2.2) (mG M 6) = lM M (failT u.1 (-100000 - nI u.2.2.1)) (nI u.2.1) (nI u.2.2.1) (nI u.2.2.2) := MS.ext rfl rfl rfl (upN_same _ _ _ rfl) rfl rfl
            rw [e1, ← lM_33]; exact h
          exact ret_i C hr hlocks h (mG M 6, 0, E) (⟨hG6, fun q => by rw [hRS] at q; exact absurd q hne⟩) rfl (by rw [hRS]; rfl) (by omega) (by omega) dX7_signsByLabel_87
      · refine lv_aload_n hx hb dX7_signsByLabel_9 rfl (lv_at hl 0 rfl) ?_
        refine o_new C h (RC := RJ12) (T := TJ12) (N := 4) (ci := 18) (fs := [.null, .int 0, .int (bZ false), .int 0]) rfl in_J12 tyJ12_ok q2136 q700 q155 dv_J12 (by omega) (by omega) dX7_signsByLabel_10 (fun o1 H h => ?_)
        have h : Wd D B s ([(o1, .inr (18, [.null, .int 0, .int (bZ false), .int 0]))] ++ (mw dA h0 ad (lM M u.1 (nI u.2.1) (nI u.2.2.1) (nI u.2.2.2)) ++ (F ++ E))) H locs := h.permL (perm_add (fun g f p0 p1 p2 => by (try simp only [p0, p1, p2]) <;> omega))
        refine lv_dup hx hb dX7_signsByLabel_13 rfl ?_
        refine call_I (As := []) (rest := [.ref o1, .ref h0]) (n := 0) C h (cJ_sbInit l D dA B Z hZ (mw dA h0 ad (lM M u.1 (nI u.2.1) (nI u.2.2.1) (nI u.2.2.2)) ++ (F ++ E)) o1 hzs) (lw_meth q703) q155 q2137 q702 rfl (by decide +kernel) (by decide) (by decide) rfl hl rfl (Nat.le_of_ble_eq_true rfl) dX7_signsByLabel_14 (by omega) (fun v0c H locs _ h => ?_)
        have h : Wd D B s ([(o1, .inr (18, [.ref v0c, .int (nI 0), .int (bZ false), .int (nI (([] : List Nat).length))])), (v0c, bar dA 16 (fun _ => 0))] ++ (mw dA h0 ad (lM M u.1 (nI u.2.1) (nI u.2.2.1) (nI u.2.2.2)) ++ (F ++ E))) H locs := h.permL (perm_add (fun g f p0 p1 p2 => by (try simp only [p0, p1, p2]) <;> omega))
        have hnl9 : ([] : List Nat).length = 0 := rfl
        have hsb0c := SBis_0
        have hnn0c : (16 : Nat) ≤ 16 := Nat.le_refl _
        refine s_ldcw C h hr273 dX7_signsByLabel_17 ?_
        have hle1c : ([45, 45, 45, 45, 45, 66, 69, 71, 73, 78, 32]).length ≤ 20 := by decide
        refine call_VR (As := [.ref sa273]) (rest := [.ref h0]) (n := 1) C h (cJ_append l D dA B Z hZ (mw dA h0 ad (lM M u.1 (nI u.2.1) (nI u.2.2.1) (nI u.2.2.2)) ++ (F ++ E)) o1 v0c 16 (fun _ => 0) false ([] : List Nat) sa273 sv273 ([45, 45, 45, 45, 45, 66, 69, 71, 73, 78, 32]) (nilup hk273 _) (by intro x hx; revert x; decide) (by omega) hzs hsb0c (by omega) (by (try simp only [List.length_append, List.length_nil]) <;> omega)) (lw_V q2139 q732 q733 q155 q734) (by decide +kernel) (o_recv C h (RC := RJ12) (T := TJ12) (N := 4) (List.mem_of_getElem? (i := 0) rfl) rfl) (by decide) (by decide) rfl hl rfl (Nat.le_of_ble_eq_true rfl) dX7_signsByLabel_20 (by omega) (fun u1c H locs hu1c h => ?_)
        obtain ⟨v1c, n1c, g1c, E1c⟩ := u1c
        obtain ⟨hsb1c, hnn1c⟩ := hu1c
        have h : Wd D B s ([(o1, .inr (18, [.ref v1c, .int (nI 0), .int (bZ false), .int (nI ((([] : List Nat) ++ [45, 45, 45, 45, 45, 66, 69, 71, 73, 78, 32]).length))])), (v1c, bar dA n1c g1c)] ++ ((mw dA h0 ad (lM M u.1 (nI u.2.1) (nI u.2.2.1) (nI u.2.2.2)) ++ (F ++ E)) ++ E1c)) H locs := h.permL (perm_add (fun g f p0 p1 p2 => by (try simp only [p0, p1, p2]) <;> omega))
        have hsb1c : SBis g1c n1c (([] : List Nat) ++ [45, 45, 45, 45, 45, 66, 69, 71, 73, 78, 32]) := hsb1c
        have hnn1c : n1c ≤ 2 * 16 + 2 + ((([] : List Nat)).length + ([45, 45, 45, 45, 45, 66, 69, 71, 73, 78, 32]).length) := hnn1c
        have hll1c : (([] : List Nat) ++ [45, 45, 45, 45, 45, 66, 69, 71, 73, 78, 32]).length ≤ 20 := by simp only [List.length_append, List.length_nil] at *; omega
        have hnz1c : n1c ≤ 54 := by simp only [List.length_nil] at hnn1c; omega
        refine lv_iload_n hx hb dX7_signsByLabel_23 rfl (lv_at hl 2 rfl) ?_
        refine call_S (As := [.int (nI k)]) (rest := [.ref o1, .ref h0]) (n := 1) C h (c7_label l D dA B Z hZ _ k hzs (by omega)) (lw_S q2140 q2141 q138 q2142) (by decide +kernel) (by decide) (by decide) rfl hl rfl (Nat.le_of_ble_eq_true rfl) dX7_signsByLabel_24 (by omega) (fun ul H locs hul h => ?_)
        obtain ⟨la, lv9⟩ := ul
        have hul : StrV dA B Z [] la lv9 (labL k) := hul
        have hle2c : (labL k).length ≤ 20 := Nat.le_trans (labL_len k) (by decide)
        refine call_VR (As := [.ref la]) (rest := [.ref h0]) (n := 1) C h (cJ_append l D dA B Z hZ ((mw dA h0 ad (lM M u.1 (nI u.2.1) (nI u.2.2.1) (nI u.2.2.2)) ++ (F ++ E)) ++ E1c) o1 v1c n1c g1c false (([] : List Nat) ++ [45, 45, 45, 45, 45, 66, 69, 71, 73, 78, 32]) la lv9 (labL k) (nilup hul _) (labL_byt k) (by omega) hzs hsb1c (by omega) (by (try simp only [List.length_append, List.length_nil]) <;> omega)) (lw_V q2139 q732 q733 q155 q734) (by decide +kernel) (o_recv C h (RC := RJ12) (T := TJ12) (N := 4) (List.mem_of_getElem? (i := 0) rfl) rfl) (by decide) (by decide) rfl hl rfl (Nat.le_of_ble_eq_true rfl) dX7_signsByLabel_27 (by omega) (fun u2c H locs hu2c h => ?_)
        obtain ⟨v2c, n2c, g2c, E2c⟩ := u2c
        obtain ⟨hsb2c, hnn2c⟩ := hu2c
        have h : Wd D B s ([(o1, .inr (18, [.ref v2c, .int (nI 0), .int (bZ false), .int (nI ((([] : List Nat) ++ [45, 45, 45, 45, 45, 66, 69, 71, 73, 78, 32] ++ labL k).length))])), (v2c, bar dA n2c g2c)] ++ (((mw dA h0 ad (lM M u.1 (nI u.2.1) (nI u.2.2.1) (nI u.2.2.2)) ++ (F ++ E)) ++ E1c) ++ E2c)) H locs := h.permL (perm_add (fun g f p0 p1 p2 => by (try simp only [p0, p1, p2]) <;> omega))
        have hsb2c : SBis g2c n2c (([] : List Nat) ++ [45, 45, 45, 45, 45, 66, 69, 71, 73, 78, 32] ++ labL k) := hsb2c
        have hnn2c : n2c ≤ 2 * n1c + 2 + ((([] : List Nat) ++ [45, 45, 45, 45, 45, 66, 69, 71, 73, 78, 32]).length + (labL k).length) := hnn2c
        have hll2c : (([] : List Nat) ++ [45, 45, 45, 45, 45, 66, 69, 71, 73, 78, 32] ++ labL k).length ≤ 40 := by simp only [List.length_append, List.length_nil] at *; omega
        have hnz2c : n2c ≤ 150 := by omega
        refine s_ldcw C h hr263 dX7_signsByLabel_30 ?_
        have hle3c : ([45, 45, 45, 45, 45]).length ≤ 20 := by decide
        refine call_VR (As := [.ref sa263]) (rest := [.ref h0]) (n := 1) C h (cJ_append l D dA B Z hZ (((mw dA h0 ad (lM M u.1 (nI u.2.1) (nI u.2.2.1) (nI u.2.2.2)) ++ (F ++ E)) ++ E1c) ++ E2c) o1 v2c n2c g2c false (([] : List Nat) ++ [45, 45, 45, 45, 45, 66, 69, 71, 73, 78, 32] ++ labL k) sa263 sv263 ([45, 45, 45, 45, 45]) (nilup hk263 _) (by intro x hx; revert x; decide) (by omega) hzs hsb2c (by omega) (by (try simp only [List.length_append, List.length_nil]) <;> omega)) (lw_V q2139 q732 q733 q155 q734) (by decide +kernel) (o_recv C h (RC := RJ12) (T := TJ12) (N := 4) (List.mem_of_getElem? (i := 0) rfl) rfl) (by decide) (by decide) rfl hl rfl (Nat.le_of_ble_eq_true rfl) dX7_signsByLabel_33 (by omega) (fun u3c H locs hu3c h => ?_)
        obtain ⟨v3c, n3c, g3c, E3c⟩ := u3c
        obtain ⟨hsb3c, hnn3c⟩ := hu3c
        have h : Wd D B s ([(o1, .inr (18, [.ref v3c, .int (nI 0), .int (bZ false), .int (nI ((([] : List Nat) ++ [45, 45, 45, 45, 45, 66, 69, 71, 73, 78, 32] ++ labL k ++ [45, 45, 45, 45, 45]).length))])), (v3c, bar dA n3c g3c)] ++ ((((mw dA h0 ad (lM M u.1 (nI u.2.1) (nI u.2.2.1) (nI u.2.2.2)) ++ (F ++ E)) ++ E1c) ++ E2c) ++ E3c)) H locs := h.permL (perm_add (fun g f p0 p1 p2 => by (try simp only [p0, p1, p2]) <;> omega))
        have hsb3c : SBis g3c n3c (([] : List Nat) ++ [45, 45, 45, 45, 45, 66, 69, 71, 73, 78, 32] ++ labL k ++ [45, 45, 45, 45, 45]) := hsb3c
        have hnn3c : n3c ≤ 2 * n2c + 2 + ((([] : List Nat) ++ [45, 45, 45, 45, 45, 66, 69, 71, 73, 78, 32] ++ labL k).length + ([45, 45, 45, 45, 45]).length) := hnn3c
        have hll3c : (([] : List Nat) ++ [45, 45, 45, 45, 45, 66, 69, 71, 73, 78, 32] ++ labL k ++ [45, 45, 45, 45, 45]).length ≤ 60 := by simp only [List.length_append, List.length_nil] at *; omega
        have hnz3c : n3c ≤ 370 := by omega
        refine call_VR (As := []) (rest := [.ref h0]) (n := 0) C h (cJ_toString l D dA B Z hZ ((((mw dA h0 ad (lM M u.1 (nI u.2.1) (nI u.2.2.1) (nI u.2.2.2)) ++ (F ++ E)) ++ E1c) ++ E2c) ++ E3c) o1 v3c n3c g3c false (([] : List Nat) ++ [45, 45, 45, 45, 45, 66, 69, 71, 73, 78, 32] ++ labL k ++ [45, 45, 45, 45, 45]) hzs hsb3c (by omega)) (lw_V q2147 q829 q830 q155 q831) (by decide +kernel) (o_recv C h (RC := RJ12) (T := TJ12) (N := 4) (List.mem_of_getElem? (i := 0) rfl) rfl) (by decide) (by decide) rfl hl rfl (Nat.le_of_ble_eq_true rfl) dX7_signsByLabel_36 (by omega) (fun usc H locs _ h => ?_)
        obtain ⟨src, sqc⟩ := usc
        have h : Wd D B s ([(src, .inr (17, [.ref sqc, .int (nI 0), .int 0, .int (bZ false)])), (sqc, bal dA (([] : List Nat) ++ [45, 45, 45, 45, 45, 66, 69, 71, 73, 78, 32] ++ labL k ++ [45, 45, 45, 45, 45])), (o1, .inr (18, [.ref v3c, .int (nI 0), .int (bZ false), .int (nI ((([] : List Nat) ++ [45, 45, 45, 45, 45, 66, 69, 71, 73, 78, 32] ++ labL k ++ [45, 45, 45, 45, 45]).length))])), (v3c, bar dA n3c g3c)] ++ ((((mw dA h0 ad (lM M u.1 (nI u.2.1) (nI u.2.2.1) (nI u.2.2.2)) ++ (F ++ E)) ++ E1c) ++ E2c) ++ E3c)) H locs := h.permL (perm_add (fun g f p0 p1 p2 => by (try simp only [p0, p1, p2]) <;> omega))
        obtain ⟨Lc, hLc⟩ : ∃ z, z = ([] : List Nat) ++ [45, 45, 45, 45, 45, 66, 69, 71, 73, 78, 32] ++ labL k ++ [45, 45, 45, 45, 45] := ⟨_, rfl⟩
        have h : Wd D B s (mw dA h0 ad (lM M u.1 (nI u.2.1) (nI u.2.2.1) (nI u.2.2.2)) ++ ((F ++ E) ++ ([(src, .inr (17, [.ref sqc, .int (nI 0), .int 0, .int (bZ false)])), (sqc, bal dA (([] : List Nat) ++ [45, 45, 45, 45, 45, 66, 69, 71, 73, 78, 32] ++ labL k ++ [45, 45, 45, 45, 45])), (o1, .inr (18, [.ref v3c, .int (nI 0), .int (bZ false), .int (nI ((([] : List Nat) ++ [45, 45, 45, 45, 45, 66, 69, 71, 73, 78, 32] ++ labL k ++ [45, 45, 45, 45, 45]).length))])), (v3c, bar dA n3c g3c)] ++ (E1c ++ E2c ++ E3c)))) H locs := h.permL (perm_add (fun g f p0 p1 p2 => by (try simp only [p0, p1, p2]) <;> omega))
        rw [← hLc] at h
        have hLcl : Lc.length < 100 := by rw [hLc]; omega
        have hLcb : byt Lc := by rw [hLc]; exact byt_app (byt_app (byt_app (fun x hx => absurd hx List.not_mem_nil) (by intro x hx; revert x; decide)) (labL_byt k)) (by intro x hx; revert x; decide)
        have hstc : StrV dA B Z ((F ++ E) ++ ([(src, .inr (17, [.ref sqc, .int (nI 0), .int 0, .int (bZ false)])), (sqc, bal dA Lc), (o1, .inr (18, [.ref v3c, .int (nI 0), .int (bZ false), .int (nI Lc.length)])), (v3c, bar dA n3c g3c)] ++ (E1c ++ E2c ++ E3c))) src sqc Lc := Or.inl ⟨.int 0, .int (bZ false), List.mem_append_right _ (List.mem_append_left _ List.mem_cons_self), List.mem_append_right _ (List.mem_append_left _ (List.mem_cons_of_mem _ List.mem_cons_self))⟩
        have hsl2 : Lc = bgL k := hLc
        refine call_V (As := [.ref src]) (rest := []) (n := 1) C h (c7_is l D dA B Z hZ h0 ad (lM M u.1 (nI u.2.1) (nI u.2.2.1) (nI u.2.2.2)) ((F ++ E) ++ ([(src, .inr (17, [.ref sqc, .int (nI 0), .int 0, .int (bZ false)])), (sqc, bal dA Lc), (o1, .inr (18, [.ref v3c, .int (nI 0), .int (bZ false), .int (nI Lc.length)])), (v3c, bar dA n3c g3c)] ++ (E1c ++ E2c ++ E3c))) tx u.2.2.1 u.2.2.2 src sqc Lc hzs htx hT htl hby rfl rfl h1 h2 hstc hLcb (by omega)) (lw_V q2148 q2150 qs49 q138 q2151) (by decide +kernel) (ci := 5) rfl rfl mw_mem0 (by decide) (by decide) rfl hl rfl (Nat.le_of_ble_eq_true rfl) dX7_signsByLabel_39 (by omega) (fun _ H locs _ h => ?_)
        have h : Wd D B s (mw dA h0 ad (lM M u.1 (nI u.2.1) (nI u.2.2.1) (nI u.2.2.2)) ++ (F ++ (E ++ ([(src, .inr (17, [.ref sqc, .int (nI 0), .int 0, .int (bZ false)])), (sqc, bal dA Lc), (o1, .inr (18, [.ref v3c, .int (nI 0), .int (bZ false), .int (nI Lc.length)])), (v3c, bar dA n3c g3c)] ++ (E1c ++ E2c ++ E3c))))) H locs := by rw [← List.append_assoc F E]; exact h
        have j50 : ∀ (H : Heap) (locs : List Loc), Wd D B s (mw dA h0 ad (lM M u.1 (nI u.2.1) (nI u.2.2.1) (nI u.2.2.2)) ++ (F ++ (E ++ ([(src, .inr (17, [.ref sqc, .int (nI 0), .int 0, .int (bZ false)])), (sqc, bal dA Lc), (o1, .inr (18, [.ref v3c, .int (nI 0), .int (bZ false), .int (nI Lc.length)])), (v3c, bar dA n3c g3c)] ++ (E1c ++ E2c ++ E3c))))) H locs → ∀ (ls : Array Slot), lv_has ls 3 [(0, .ref h0), (1, .int (oI (labF tx u.2.2.1 u.2.2.2 k))), (2, .int (nI k))] → W p l e R s m args below meth c H locs (cc + 1 + 1 + 1 + 0 + 1 + 1 + 2 + 0) (cs + 4 + 16 + (2 * 16 + 2 + ((([] : List Nat)).length + ([45, 45, 45, 45, 45, 66, 69, 71, 73, 78, 32]).length)) + 0 + (2 * n1c + 2 + ((([] : List Nat) ++ [45, 45, 45, 45, 45, 66, 69, 71, 73, 78, 32]).length + (labL k).length)) + (2 * n2c + 2 + ((([] : List Nat) ++ [45, 45, 45, 45, 45, 66, 69, 71, 73, 78, 32] ++ labL k).length + ([45, 45, 45, 45, 45]).length)) + (4 + (([] : List Nat) ++ [45, 45, 45, 45, 45, 66, 69, 71, 73, 78, 32] ++ labL k ++ [45, 45, 45, 45, 45]).length) + 0) Q (F0 m 50 ls [.int (oI (labF tx u.2.2.1 u.2.2.2 (k + 1)))]) := by
          intro   H locs h ls hl
          refine lv_istore_n (lv' := [(1, .int (oI (labF tx u.2.2.1 u.2.2.2 (k + 1)))), (0, .ref h0), (2, .int (nI k))]) hx hb dX7_signsByLabel_50 rfl hl (by decide) rfl (fun ls hl => ?_)
          refine lv_iinc (v := nI (k + 1)) (lv' := [(2, .int (nI (k + 1))), (1, .int (oI (labF tx u.2.2.1 u.2.2.2 (k + 1)))), (0, .ref h0)]) hx hb dX7_signsByLabel_51 hl (k := 2) rfl (nI_add k 1) (by decide) rfl (fun ls hl => ?_)
          refine lv_goto (tgt := 4) hx hb dX7_signsByLabel_54 (by decide) ?_
          exact ih (k + 1) _ _ (E ++ ([(src, .inr (17, [.ref sqc, .int (nI 0), .int 0, .int (bZ false)])), (sqc, bal dA Lc), (o1, .inr (18, [.ref v3c, .int (nI 0), .int (bZ false), .int (nI Lc.length)])), (v3c, bar dA n3c g3c)] ++ (E1c ++ E2c ++ E3c))) (by omega) (by omega) (by omega) (by omega) _ _ h _ (lv_sub hl [2, 1, 0] rfl)
        refine z_if_eq (tgt := 49) hx hb dX7_signsByLabel_42 (by decide) (fun c42 => ?_) (fun c42 => ?_)
        · refine lv_iload_n hx hb dX7_signsByLabel_49 rfl (lv_at hl 1 rfl) ?_
          refine n_top (y := oI (labF tx u.2.2.1 u.2.2.2 (k + 1))) (by rw [labF, if_neg (fun z => of_decide_eq_false c42 (z.trans hsl2.symm))]) ?_
          exact j50   _ _ h _ (lv_sub hl [0, 1, 2] rfl)
        · refine lv_iload_n hx hb dX7_signsByLabel_45 rfl (lv_at hl 2 rfl) ?_
          refine lv_goto (tgt := 50) hx hb dX7_signsByLabel_46 (by decide) ?_
          refine n_top (y := oI (labF tx u.2.2.1 u.2.2.2 (k + 1))) (by rw [labF, if_pos ((of_decide_eq_true c42).trans hsl2)]; rfl) ?_
          exact j50   _ _ h _ (lv_sub hl [0, 1, 2] rfl)
  exact loop _ 0 _ _ [] (by omega) (by omega) (by omega) (Nat.lt_succ_self _) _ _ h _ (lv_sub hl [2, 1, 0] rfl)
