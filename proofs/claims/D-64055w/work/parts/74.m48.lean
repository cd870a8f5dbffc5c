set_option maxRecDepth 100000
def bsL : List Nat := [45, 45, 45, 45, 45, 66, 69, 71, 73, 78, 32, 83, 69, 65, 76, 45, 45, 45, 45, 45]
def btL : List Nat := [45, 45, 45, 45, 45, 66, 69, 71, 73, 78, 32, 83, 69, 65, 76, 69, 68, 32, 84, 69, 88, 84, 45, 45, 45, 45, 45]
def slL : List Nat := [83, 69, 65, 76]

/-- a line of a clear text: a dash must have a blank; where it begins -/
def ckU (tx : List Nat) (u : LU) : LU := if u.2.2.1 < u.2.2.2 ∧ gD tx u.2.2.1 = 45 then (if u.2.2.1 + 1 < tx.length ∧ gD tx (u.2.2.1 + 1) = 32 then u else failLn u u.2.2.1) else u
def ckB (tx : List Nat) (u : LU) : Nat := if u.2.2.1 < u.2.2.2 ∧ gD tx u.2.2.1 = 45 then (if u.2.2.1 + 2 < u.2.2.2 then u.2.2.1 + 2 else u.2.2.2) else u.2.2.1
def ckA (tx : List Nat) (u : LU) (acc : List Nat) (bg : Bool) : List Nat := acc ++ (if bg = true then [10] else []) ++ sl (gD tx) (ckB tx u) (u.2.2.2 - ckB tx u)
def isL (tx : List Nat) (u : LU) (l : List Nat) : Bool := decide (sl (gD tx) u.2.2.1 (u.2.2.2 - u.2.2.1) = l)
def rcL (tx : List Nat) : Nat → Bool → LU → List Nat → Bool → LU × List Nat
  | 0, _, u, acc, _ => (u, acc)
  | f + 1, b, u, acc, bg => if b = true ∧ isL tx u bsL = false then rcL tx f (lineS tx (ckU tx u)).1 (lineS tx (ckU tx u)).2 (ckA tx u acc bg) true else (u, acc)
theorem rcL_f {tx : List Nat} {f : Nat} {b : Bool} {u : LU} {acc : List Nat} {bg : Bool} (h : ¬ (b = true ∧ isL tx u bsL = false)) : rcL tx f b u acc bg = (u, acc) := by
  cases f with
  | zero => rfl
  | succ f => rw [rcL, if_neg h]
theorem rcL_s {tx : List Nat} {f : Nat} {b : Bool} {u : LU} {acc : List Nat} {bg : Bool} (h : b = true) (h2 : isL tx u bsL = false) : rcL tx (f + 1) b u acc bg = rcL tx f (lineS tx (ckU tx u)).1 (lineS tx (ckU tx u)).2 (ckA tx u acc bg) true := by rw [rcL, if_pos ⟨h, h2⟩]
def rcO (rw tx : List Nat) (o : Int32 × List Nat × Nat) : Int32 × List Nat × List Nat := if o.1 = 0 then (if sType o.2.1 = 1 then (endS rw o.2.2, o.2.1, tx) else (-1 - nI 0, [], [])) else (o.1, [], [])
def rcE (tx : List Nat) (u : LU) (acc : List Nat) : Int32 × List Nat × List Nat :=
  if u.1 = 0 then (if (signsS tx slL u).1.1 = 0 then rcO (signsS tx slL u).2 acc (ownS (signsS tx slL u).2 0) else ((signsS tx slL u).1.1, [], [])) else (u.1, [], [])
def rcR (tx : List Nat) (u : LU) : LU × List Nat := rcL tx (tx.length + 2) (lineS tx (headsS tx u)).1 (lineS tx (headsS tx u)).2 [] false
def rcS (tx : List Nat) (u : LU) : Int32 × List Nat × List Nat := rcE tx (rcR tx u).1 (rcR tx u).2
theorem ckU_2 (tx : List Nat) (u : LU) : (ckU tx u).2 = u.2 := by
  unfold ckU
  split
  · split <;> rfl
  · rfl
theorem ckB_le {tx : List Nat} {u : LU} (h : u.2.2.1 ≤ u.2.2.2) : u.2.2.1 ≤ ckB tx u ∧ ckB tx u ≤ u.2.2.2 := by
  unfold ckB
  split
  · split <;> omega
  · exact ⟨Nat.le_refl _, h⟩
theorem ckA_len (tx : List Nat) (u : LU) (acc : List Nat) (bg : Bool) : (ckA tx u acc bg).length ≤ acc.length + bg.toNat + (u.2.2.2 - ckB tx u) := by
  unfold ckA
  rw [List.length_append, List.length_append, sl_len]
  cases bg
  · exact Nat.le_refl _
  · exact Nat.le_refl _
theorem ckA_byt {tx : List Nat} (ht : byt tx) (u : LU) {acc : List Nat} (h : byt acc) (bg : Bool) : byt (ckA tx u acc bg) := by
  refine byt_app (byt_app h ?_) (sl_byt (fun j => byt_gD ht j))
  cases bg
  · intro x hx; cases hx
  · exact byt_one (by decide)

theorem lM_g7 (M : MS) (G G' : Nat → Nat) (a b c d : Int32) : sG (lM (sG M 7 G) a b c d) 7 G' = lM (sG M 7 G') a b c d := MS.ext rfl rfl rfl (upN_upN _ _ _ _) rfl rfl
set_option maxHeartbeats 3000000 in
set_option maxRecDepth 100000 in
theorem c7_readClear (l : Launch) (D : va_G) (dA : Nat → ClassId) (B : Nat) (Z : State → Prop) (hZ : Stab B Z) (h0 : Nat) (ad : Nat → Nat) (M : MS) (F : va_W) (tx : List Nat) (u0 : LU) (hzs : ZS dA B Z) (hI : MI M) (hsz : mI M 35 = nI tx.length) (htx : mR M 34 = some (ad 2)) (hT : ∀ j, j < tx.length → mG M 2 j = gD tx j) (htl : tx.length ≤ 4096) (hby : byt tx) (hn0 : u0.2.1 ≤ 5000) (hG6 : ∀ j, mG M 6 j < 256) :
    Ct (S := MS × va_W) l D dA B Z yX7_readClear cX7_readClear 7 none 9 (tx.length + 12) (7 * tx.length + 1200) [.ref h0] (mw dA h0 ad (lM M u0.1 (nI u0.2.1) (nI u0.2.2.1) (nI u0.2.2.2)) ++ F) (fun u => MI u.1 ∧ Kl M u.1 ∧ mI u.1 33 = (rcS tx u0).1 ∧ ((rcS tx u0).1 = 0 → CaseIs dA (F ++ u.2) ad u.1 tx.length (rcS tx u0).2.1 (rcS tx u0).2.2)) (fun _ => none) (fun u => mw dA h0 ad u.1 ++ (F ++ u.2)) := by
  refine Ct.mk2 (by decide) (Nat.le_of_ble_eq_true rfl) hZ ?_
  intro p e R s m args below meth c ls Q C hr hlocks hin hQ hl h
  have C0 := C
  obtain ⟨hx, hb, hml, hown, hts, -⟩ := C0
  have hl : lv_has ls 7 [(0, .ref h0)] := hl
  obtain ⟨sa594, sv594, hr594, hk594⟩ := hzs.2.2.1 _ (List.mem_of_getElem? (l := strTab) (i := 20) rfl)
  obtain ⟨sa220, sv220, hr220, hk220⟩ := hzs.2.2.1 _ (List.mem_of_getElem? (l := strTab) (i := 15) rfl)
  refine lv_aload_n hx hb dX7_readClear_0 rfl (lv_at hl 0 rfl) ?_
  refine call_V (As := []) (rest := []) (n := 0) C h (c7_heads l D dA B Z hZ h0 ad M F tx u0 hsz htx hT htl hby hn0) (lw_V q2158 q2160 qs51 q138 q2161) (by decide +kernel) (ci := 5) rfl rfl mw_mem0 (by decide) (by decide) rfl hl rfl (Nat.le_of_ble_eq_true rfl) dX7_readClear_1 (by omega) (fun _ H locs _ h => ?_)
  obtain ⟨u1, hu1⟩ : ∃ z, z = headsS tx u0 := ⟨_, rfl⟩
  have hn1 : u1.2.1 ≤ 5000 := by rw [hu1]; exact headsS_le tx u0 htl hn0
  have h : Wd D B s (mw dA h0 ad (lM M (headsS tx u0).1 (nI (headsS tx u0).2.1) (nI (headsS tx u0).2.2.1) (nI (headsS tx u0).2.2.2)) ++ F) H locs := h
  rw [← hu1] at h
  refine lv_aload_n hx hb dX7_readClear_4 rfl (lv_at hl 0 rfl) ?_
  refine m_gc C h 7 (by decide) rfl rfl q1877 dX7_readClear_5 ?_
  refine lv_astore_n (lv' := [(1, .ref (ad 7)), (0, .ref h0)]) hx hb dX7_readClear_8 rfl hl (by decide) rfl (fun ls hl => ?_)
  refine lv_iconst (v := nI 0) hx hb dX7_readClear_9 (by decide) ?_
  refine lv_istore_n (lv' := [(2, .int (nI 0)), (1, .ref (ad 7)), (0, .ref h0)]) hx hb dX7_readClear_10 rfl hl (by decide) rfl (fun ls hl => ?_)
  have jz : ∀ (u : LU) (acc : List Nat), (rcR tx u0 = (u, acc)) → (u.2.1 ≤ 5000) → (acc.length ≤ tx.length) → (byt acc) → ∀ (H : Heap) (locs : List Loc), Wd D B s (mw dA h0 ad (lM (sG M 7 (appG (mG M 7) 0 acc)) u.1 (nI u.2.1) (nI u.2.2.1) (nI u.2.2.2)) ++ F) H locs → ∀ (ls : Array Slot), lv_has ls 7 [(0, .ref h0), (1, .ref (ad 7)), (2, .int (nI acc.length))] → W p l e R s m args below meth c H locs (0 + 0) (0 + 0) Q (F0 m 197 ls []) := by
    intro u  acc  hrc hnn hal hab H locs h ls hl
    refine lv_aload_n hx hb dX7_readClear_197 rfl (lv_at hl 0 rfl) ?_
    refine m_gi C h 33 (by decide) rfl rfl q1903 (v := u.1) rfl dX7_readClear_198 ?_
    refine lv_if_ne (tgt := 213) hx hb dX7_readClear_201 (by decide) (fun c201 => ?_) (fun c201 => ?_)
    · have hE1 : rcS tx u0 = (u.1, [], []) := by unfold rcS rcE; rw [hrc]; exact if_neg c201
      refine lv_iconst (v := nI 0) hx hb dX7_readClear_213 (by decide) ?_
      refine lv_istore (lv' := [(5, .int (nI 0)), (0, .ref h0), (1, .ref (ad 7)), (2, .int (nI acc.length))]) hx hb dX7_readClear_214 hl (by decide) rfl (fun ls hl => ?_)
      refine lv_aload_n hx hb dX7_readClear_216 rfl (lv_at hl 1 rfl) ?_
      refine m_gi C h 33 (by decide) rfl rfl q1903 (v := u.1) rfl dX7_readClear_217 ?_
      refine lv_if_eq (tgt := 224) hx hb dX7_readClear_220 (by decide) (fun c220 => by exfalso; exact c201 c220) (fun c220 => ?_)
      subst hQ
      have h : Wd D B s (mw dA h0 ad (lM (sG M 7 (appG (mG M 7) 0 acc)) u.1 (nI u.2.1) (nI u.2.2.1) (nI u.2.2.2)) ++ (F ++ ([]))) H locs := by (try simp only [List.append_assoc, List.append_nil] at h ⊢); exact h
      exact ret_v C hr hlocks h ((lM (sG M 7 (appG (mG M 7) 0 acc)) u.1 (nI u.2.1) (nI u.2.2.1) (nI u.2.2.2)), []) (⟨hI, ((Kl.rfl' M).sG (by decide)).trans (lM_kl _ _ _ _ _), by rw [hE1]; rfl, fun z => by rw [hE1] at z; exact absurd z c201⟩) rfl rfl (by omega) (by omega) dX7_readClear_223
    · refine lv_aload_n hx hb dX7_readClear_204 rfl (lv_at hl 0 rfl) ?_
      refine s_ldc C h hr220 dX7_readClear_205 ?_
      have hu00 : u.1 = 0 := c201
      obtain ⟨sl9, hsl9⟩ : ∃ z, z = slL := ⟨_, rfl⟩
      have hslk : StrV dA B Z [] sa220 sv220 sl9 := by rw [hsl9]; exact hk220
      have hslb : byt sl9 := by rw [hsl9]; intro x hx; revert x; decide
      have hsll : sl9.length ≤ 13 := by rw [hsl9]; decide
      refine call_V (As := [.ref sa220]) (rest := []) (n := 1) C h (c7_signs l D dA B Z hZ h0 ad (sG M 7 (appG (mG M 7) 0 acc)) F tx u sa220 sv220 sl9 hzs hsz htx hT htl hby hnn hG6 (nilup hslk _) hslb hsll) (lw_V q2154 q2156 qs50 q138 q2157) (by decide +kernel) (ci := 5) rfl rfl mw_mem0 (by decide) (by decide) rfl hl rfl (Nat.le_of_ble_eq_true rfl) dX7_readClear_207 (by omega) (fun zs H locs hzz h => ?_)
      obtain ⟨G9, n9, E9⟩ := zs
      obtain ⟨S9, hS9⟩ : ∃ z, z = signsS tx sl9 u := ⟨_, rfl⟩
      rw [← hS9] at hzz
      obtain ⟨hG9, hzz⟩ := hzz
      dsimp only at hG9 hzz
      have h : Wd D B s (mw dA h0 ad (gM (sG M 7 (appG (mG M 7) 0 acc)) (signsS tx sl9 u).1.1 (nI (signsS tx sl9 u).1.2.1) (nI (signsS tx sl9 u).1.2.2.1) (nI (signsS tx sl9 u).1.2.2.2) G9) ++ (F ++ E9)) H locs := h
      rw [← hS9] at h
      obtain ⟨M4, hM4⟩ : ∃ z, z = gM (sG M 7 (appG (mG M 7) 0 acc)) S9.1.1 (nI S9.1.2.1) (nI S9.1.2.2.1) (nI S9.1.2.2.2) G9 := ⟨_, rfl⟩
      rw [← hM4] at h
      have hKl4 : Kl M M4 := by rw [hM4]; exact ((Kl.rfl' M).sG (by decide)).trans (gM_kl _ _ _ _ _ _ hG9)
      have hI4 : MI M4 := by rw [hM4]; exact hI
      have h334 : mI M4 33 = S9.1.1 := by rw [hM4]; rfl
      have h74 : ∀ j, j < acc.length → mG M4 7 j = gD acc j := by rw [hM4]; exact app_get0
      have h64 : mG M4 6 = G9 := by rw [hM4]; rfl
      have hE0 : rcS tx u0 = (if S9.1.1 = 0 then rcO S9.2 acc (ownS S9.2 0) else (S9.1.1, [], [])) := by unfold rcS rcE; rw [hrc]; dsimp only; rw [if_pos hu00, ← hsl9, ← hS9]
      show W p l e R s m args below meth c H locs (0 + 0 + 7) (0 + 0 + 1200) Q (F0 m 210 ls [.int (nI n9)])
      refine lv_goto (tgt := 214) hx hb dX7_readClear_210 (by decide) ?_
      refine lv_istore (lv' := [(5, .int (nI n9)), (0, .ref h0), (1, .ref (ad 7)), (2, .int (nI acc.length))]) hx hb dX7_readClear_214 hl (by decide) rfl (fun ls hl => ?_)
      refine lv_aload_n hx hb dX7_readClear_216 rfl (lv_at hl 1 rfl) ?_
      refine m_gi C h 33 (by decide) rfl rfl q1903 (v := S9.1.1) h334 dX7_readClear_217 ?_
      refine lv_if_eq (tgt := 224) hx hb dX7_readClear_220 (by decide) (fun c220 => ?_) (fun c220 => ?_)
      · obtain ⟨hz1, hz2, hz3, hz4⟩ := hzz c220
        obtain ⟨rw9, hrw9⟩ : ∃ z, z = S9.2 := ⟨_, rfl⟩
        rw [← hrw9] at hz1 hz2 hz3
        have hE1 : rcS tx u0 = rcO rw9 acc (ownS rw9 0) := by rw [hE0, if_pos c220, ← hrw9]
        rw [hz1] at hl hz2 hz4
        have hl : lv_has ls 7 [(5, .int (nI rw9.length)), (0, .ref h0), (1, .ref (ad 7)), (2, .int (nI acc.length))] := hl
        have hrwl : rw9.length ≤ 4096 := by omega
        refine lv_aload_n hx hb dX7_readClear_224 rfl (lv_at hl 1 rfl) ?_
        refine lv_aload_n hx hb dX7_readClear_225 rfl (lv_at hl 1 rfl) ?_
        refine m_gc C h 6 (by decide) rfl rfl q1876 dX7_readClear_226 ?_
        refine lv_iload hx hb dX7_readClear_229 (lv_at hl 0 rfl) ?_
        refine call_V (As := [.ref (ad 6), .int (nI rw9.length)]) (rest := []) (n := 2) C h (c7_open l D dA B Z hZ h0 ad M4 (F ++ E9) (ad 6) rw9.length) (lw_V q2177 q2179 qs53 q138 q2180) (by decide +kernel) (ci := 5) rfl rfl mw_mem0 (by decide) (by decide) rfl hl rfl (Nat.le_of_ble_eq_true rfl) dX7_readClear_231 (by omega) (fun _ H locs _ h => ?_)
        obtain ⟨M5, hM5⟩ : ∃ z, z = (sI (sI (sI (sR M4 39 (some (ad 6))) 40 (nI rw9.length)) 41 (nI 0)) 42 (nI 0)) := ⟨_, rfl⟩
        have h : Wd D B s (mw dA h0 ad (sI (sI (sI (sR M4 39 (some (ad 6))) 40 (nI rw9.length)) 41 (nI 0)) 42 (nI 0)) ++ (F ++ E9)) H locs := h
        rw [← hM5] at h
        have hKl5 : Kl M M5 := by rw [hM5]; exact (((hKl4.sR (by decide)).sI (by decide)).sI (by decide)).sI (by decide)
        have hI5 : MI M5 := by rw [hM5]; exact hI4
        have h335 : mI M5 33 = 0 := by rw [hM5]; exact h334.trans c220
        have h415 : mI M5 41 = nI 0 := by rw [hM5]; rfl
        have hRw5 : RowAt ad M5 6 rw9 := by rw [hM5]; exact ⟨Or.inr rfl, rfl, rfl, by show ∀ j, j < rw9.length → mG M4 6 j = gD rw9 j; rw [h64]; exact hz2, hrwl, hz3⟩
        have h75 : ∀ j, j < acc.length → mG M5 7 j = gD acc j := by rw [hM5]; exact h74
        refine lv_aload_n hx hb dX7_readClear_234 rfl (lv_at hl 1 rfl) ?_
        obtain ⟨o, ho⟩ : ∃ z, z = ownS rw9 0 := ⟨_, rfl⟩
        have hok := fun q9 => ownS_ok (rw := rw9) (nx := 0) hz3 (by omega) q9
        rw [← ho] at hok hE1
        refine call_V (As := []) (rest := []) (n := 0) C h (c7_ownSeal l D dA B Z hZ h0 ad M5 (F ++ E9) rw9 6 0 hI5 hRw5 h335 h415 (Nat.zero_le _)) (lw_V q2385 q2387 qs90 q138 q2388) (by decide +kernel) (ci := 5) rfl rfl mw_mem0 (by decide) (by decide) rfl hl rfl (Nat.le_of_ble_eq_true rfl) dX7_readClear_235 (by omega) (fun u6 H locs hu6 h => ?_)
        obtain ⟨M6, E6⟩ := u6
        rw [← ho] at hu6
        obtain ⟨hI6, hKm6, h336, hu6⟩ := hu6
        dsimp only at hI6 hKm6 h336 hu6
        have hKl6 : Kl M M6 := hKl5.trans hKm6.kl
        have h : Wd D B s (mw dA h0 ad M6 ++ (F ++ E9 ++ E6)) H locs := h
        have hRw6 : RowAt ad M6 6 rw9 := hRw5.km hKm6
        rw [← ho]
        refine z_if_ne (tgt := 242) hx hb dX7_readClear_238 (by decide) (fun c238 => ?_) (fun c238 => ?_)
        · have ho0 : o.1 = 0 := of_decide_eq_true c238
          obtain ⟨h416, hon, h426, hcs, hS6⟩ := hu6 ho0
          have hok := hok ho0
          have h336z : mI M6 33 = 0 := h336.trans ho0
          have hoty := sType_lt hok.2.1
          have hz0 : ¬ (-1 - nI 0 : Int32) = 0 := m1_ne (by decide)
          refine lv_aload_n hx hb dX7_readClear_242 rfl (lv_at hl 1 rfl) ?_
          refine m_gi C h 56 (by decide) rfl rfl q1926 (v := nI (sType o.2.1)) hS6.1 dX7_readClear_243 ?_
          refine lv_iconst (v := nI 1) hx hb dX7_readClear_246 (by decide) ?_
          refine n_icmp_eq (tgt := 256) hx hb (by omega) (by omega) dX7_readClear_247 (by decide) (fun c247 => ?_) (fun c247 => ?_)
          · refine lv_aload_n hx hb dX7_readClear_256 rfl (lv_at hl 1 rfl) ?_
            have hE2 : rcS tx u0 = (endS rw9 o.2.2, o.2.1, acc) := by rw [hE1]; unfold rcO; rw [if_pos ho0, if_pos c247]
            refine call_V (As := []) (rest := []) (n := 0) C h (c7_mustEnd l D dA B Z hZ h0 ad M6 (F ++ E9 ++ E6) rw9 6 o.2.2 0 hI6 hRw6 h336z h416 hon) (lw_V q2389 q2391 qs91 q138 q2392) (by decide +kernel) (ci := 5) rfl rfl mw_mem0 (by decide) (by decide) rfl hl rfl (Nat.le_of_ble_eq_true rfl) dX7_readClear_257 (by omega) (fun u7 H locs hu7 h => ?_)
            obtain ⟨M7, E7⟩ := u7
            obtain ⟨hI7, hKm7, h717, h337⟩ := hu7
            dsimp only at hI7 hKm7 h717 h337
            have h : Wd D B s (mw dA h0 ad M7 ++ ((F ++ E9 ++ E6) ++ E7)) H locs := h
            refine lv_aload_n hx hb dX7_readClear_260 rfl (lv_at hl 1 rfl) ?_
            refine lv_aload_n hx hb dX7_readClear_261 rfl (lv_at hl 2 rfl) ?_
            refine m_pr C h 72 (v := some (ad 7)) (by decide) rfl rfl rfl q1942 rfl rfl dX7_readClear_262 (fun H locs h => ?_)
            refine lv_aload_n hx hb dX7_readClear_265 rfl (lv_at hl 1 rfl) ?_
            refine lv_iload_n hx hb dX7_readClear_266 rfl (lv_at hl 3 rfl) ?_
            refine m_pi C h 73 (v := nI acc.length) (by decide) rfl rfl rfl q1943 rfl rfl dX7_readClear_267 (fun H locs h => ?_)
            subst hQ
            rw [if_pos rfl] at h337
            have kmg : mG M7 7 = mG M5 7 := (hKm7.2.2.1 7 (by decide) (by decide)).trans (hKm6.2.2.1 7 (by decide) (by decide))
            have hcase : CaseIs dA (F ++ E9 ++ E6 ++ E7) ad (sI (sR M7 72 (some (ad 7))) 73 (nI acc.length)) tx.length o.2.1 acc := by
              obtain ⟨a, z1, z2⟩ := hcs
              exact ⟨⟨a, h717.trans z1, List.mem_append_left _ z2⟩, ⟨7, by decide, rfl, by show ∀ j, j < acc.length → mG M7 7 j = gD acc j; rw [kmg]; exact h75⟩, rfl, ⟨hok.1, hok.2.1, Nat.le_trans hok.2.2.1 hz4, htl⟩, hab, by omega⟩
            have h : Wd D B s (mw dA h0 ad (sI (sR M7 72 (some (ad 7))) 73 (nI acc.length)) ++ (F ++ (E9 ++ (E6 ++ (E7))))) H locs := by (try simp only [List.append_assoc, List.append_nil] at h ⊢); exact h
            exact ret_v C hr hlocks h (sI (sR M7 72 (some (ad 7))) 73 (nI acc.length), E9 ++ (E6 ++ (E7))) (⟨hI7, ((hKl6.trans hKm7.kl).sR (by decide)).sI (by decide), by rw [hE2]; exact h337, fun _ => by
                rw [hE2]
                simp only [List.append_assoc] at hcase ⊢; exact hcase⟩) rfl rfl (by omega) (by omega) dX7_readClear_270
          · refine lv_aload_n hx hb dX7_readClear_250 rfl (lv_at hl 1 rfl) ?_
            refine call_V (As := []) (rest := []) (n := 0) C h (c7_failPacket l D dA B Z hZ h0 ad M6 (F ++ E9 ++ E6) 0 h426) (lw_V q2193 q2195 qs57 q138 q2196) (by decide +kernel) (ci := 5) rfl rfl mw_mem0 (by decide) (by decide) rfl hl rfl (Nat.le_of_ble_eq_true rfl) dX7_readClear_251 (by omega) (fun _ H locs _ h => ?_)
            have h : Wd D B s (mw dA h0 ad (sI M6 33 (failT (mI M6 33) (-1 - nI 0))) ++ (F ++ E9 ++ E6)) H locs := h
            refine lv_istore (lv' := [(6, .int (bZ false)), (5, .int (nI rw9.length)), (0, .ref h0), (1, .ref (ad 7)), (2, .int (nI acc.length))]) hx hb dX7_readClear_254 hl (by decide) rfl (fun ls hl => ?_)
            refine lv_aload_n hx hb dX7_readClear_256 rfl (lv_at hl 2 rfl) ?_
            have h33f : mI (sI M6 33 (failT (mI M6 33) (-1 - nI 0))) 33 = -1 - nI 0 := by show failT (mI M6 33) (-1 - nI 0) = _; rw [h336z]; rfl
            have hE2 : rcS tx u0 = (-1 - nI 0, [], []) := by rw [hE1]; unfold rcO; rw [if_pos ho0, if_neg c247]
            refine call_V (As := []) (rest := []) (n := 0) C h (c7_mustEnd l D dA B Z hZ h0 ad (sI M6 33 (failT (mI M6 33) (-1 - nI 0))) (F ++ E9 ++ E6) rw9 6 o.2.2 (-1 - nI 0) hI6 (hRw6.km (Km.sI _ _ (by decide))) h33f h416 hon) (lw_V q2389 q2391 qs91 q138 q2392) (by decide +kernel) (ci := 5) rfl rfl mw_mem0 (by decide) (by decide) rfl hl rfl (Nat.le_of_ble_eq_true rfl) dX7_readClear_257 (by omega) (fun u7 H locs hu7 h => ?_)
            obtain ⟨M7, E7⟩ := u7
            obtain ⟨hI7, hKm7, h717, h337⟩ := hu7
            dsimp only at hI7 hKm7 h717 h337
            have h : Wd D B s (mw dA h0 ad M7 ++ ((F ++ E9 ++ E6) ++ E7)) H locs := h
            refine lv_aload_n hx hb dX7_readClear_260 rfl (lv_at hl 2 rfl) ?_
            refine lv_aload_n hx hb dX7_readClear_261 rfl (lv_at hl 3 rfl) ?_
            refine m_pr C h 72 (v := some (ad 7)) (by decide) rfl rfl rfl q1942 rfl rfl dX7_readClear_262 (fun H locs h => ?_)
            refine lv_aload_n hx hb dX7_readClear_265 rfl (lv_at hl 2 rfl) ?_
            refine lv_iload_n hx hb dX7_readClear_266 rfl (lv_at hl 4 rfl) ?_
            refine m_pi C h 73 (v := nI acc.length) (by decide) rfl rfl rfl q1943 rfl rfl dX7_readClear_267 (fun H locs h => ?_)
            subst hQ
            rw [if_neg hz0] at h337
            have h : Wd D B s (mw dA h0 ad (sI (sR M7 72 (some (ad 7))) 73 (nI acc.length)) ++ (F ++ (E9 ++ (E6 ++ (E7))))) H locs := by (try simp only [List.append_assoc, List.append_nil] at h ⊢); exact h
            exact ret_v C hr hlocks h (sI (sR M7 72 (some (ad 7))) 73 (nI acc.length), E9 ++ (E6 ++ (E7))) (⟨hI7, (((hKl6.sI (by decide)).trans hKm7.kl).sR (by decide)).sI (by decide), by rw [hE2]; exact h337, fun z => by rw [hE2] at z; exact absurd z hz0⟩) rfl rfl (by omega) (by omega) dX7_readClear_270
        · have ho0 : ¬ o.1 = 0 := of_decide_eq_false c238
          have hE2 : rcS tx u0 = (o.1, [], []) := by rw [hE1]; unfold rcO; rw [if_neg ho0]
          subst hQ
          have h : Wd D B s (mw dA h0 ad M6 ++ (F ++ (E9 ++ (E6)))) H locs := by (try simp only [List.append_assoc, List.append_nil] at h ⊢); exact h
          exact ret_v C hr hlocks h (M6, E9 ++ (E6)) (⟨hI6, hKl6, by rw [hE2]; exact h336, fun z => by rw [hE2] at z; exact absurd z ho0⟩) rfl rfl (by omega) (by omega) dX7_readClear_241
      · have hE1 : rcS tx u0 = (S9.1.1, [], []) := by rw [hE0, if_neg c220]
        subst hQ
        have h : Wd D B s (mw dA h0 ad M4 ++ (F ++ (E9))) H locs := by (try simp only [List.append_assoc, List.append_nil] at h ⊢); exact h
        exact ret_v C hr hlocks h (M4, E9) (⟨hI4, hKl4, by rw [hE1]; exact h334, fun z => by rw [hE1] at z; exact absurd z c220⟩) rfl rfl (by omega) (by omega) dX7_readClear_223
  refine lv_iconst (v := nI 0) hx hb dX7_readClear_11 (by decide) ?_
  refine lv_istore_n (lv' := [(3, .int (nI 0)), (2, .int (nI 0)), (1, .ref (ad 7)), (0, .ref h0)]) hx hb dX7_readClear_12 rfl hl (by decide) rfl (fun ls hl => ?_)
  refine lv_aload_n hx hb dX7_readClear_13 rfl (lv_at hl 3 rfl) ?_
  refine call_V (As := []) (rest := []) (n := 0) C h (c7_line l D dA B Z hZ h0 ad M F tx u1 hsz htx hT htl hby hn1) (lw_V q2116 q2118 qs45 q138 q2119) (by decide +kernel) (ci := 5) rfl rfl mw_mem0 (by decide) (by decide) rfl hl rfl (Nat.le_of_ble_eq_true rfl) dX7_readClear_14 (by omega) (fun _ H locs _ h => ?_)
  obtain ⟨b2, u2, hbu⟩ : ∃ x y, lineS tx u1 = (x, y) := ⟨_, _, rfl⟩
  have hln2 : lnok tx b2 u2 := by have := lineS_ok tx u1 htl hn1; rw [hbu] at this; exact this
  have hn2 : u2.2.1 ≤ 5000 := lineS_le hbu hn1 htl
  have h : Wd D B s (mw dA h0 ad (lM M (lineS tx u1).2.1 (nI (lineS tx u1).2.2.1) (nI (lineS tx u1).2.2.2.1) (nI (lineS tx u1).2.2.2.2)) ++ F) H locs := h
  rw [hbu] at h
  rw [hbu]
  show W p l e R s m args below meth c H locs (0 + 0 + 0) (0 + 0 + 0) Q (F0 m 17 ls [.int (bZ b2)])
  have hR0 : rcR tx u0 = rcL tx (tx.length + 2) b2 u2 [] false := by unfold rcR; rw [← hu1, hbu]
  refine lv_istore (lv' := [(4, .int (bZ b2)), (3, .int (nI 0)), (2, .int (nI 0)), (1, .ref (ad 7)), (0, .ref h0)]) hx hb dX7_readClear_17 hl (by decide) rfl (fun ls hl => ?_)
  have h : Wd D B s (mw dA h0 ad (lM (sG M 7 (appG (mG M 7) 0 ([] : List Nat))) u2.1 (nI u2.2.1) (nI u2.2.2.1) (nI u2.2.2.2)) ++ F) H locs := by rw [appG_nil, sG_id]; exact h
  have hl : lv_has ls 7 [(4, .int (bZ b2)), (3, .int (bZ false)), (2, .int (nI (([] : List Nat).length))), (1, .ref (ad 7)), (0, .ref h0)] := hl
  have loop : ∀ (nn : Nat) (f : Nat) (b : Bool) (u : LU) (acc : List Nat) (bg : Bool), (lnok tx b u) → (u.2.1 ≤ 5000) → (rcR tx u0 = rcL tx f b u acc bg) → (b = true → u.1 = 0 ∧ acc.length + bg.toNat ≤ u.2.2.1 ∧ tx.length < f + u.2.2.1) → (acc.length ≤ tx.length) → (byt acc) → (b = false → u.1 ≠ 0) → f < nn → ∀ (H : Heap) (locs : List Loc), Wd D B s (mw dA h0 ad (lM (sG M 7 (appG (mG M 7) 0 acc)) u.1 (nI u.2.1) (nI u.2.2.1) (nI u.2.2.2)) ++ F) H locs → ∀ (ls : Array Slot), lv_has ls 7 [(0, .ref h0), (1, .ref (ad 7)), (2, .int (nI acc.length)), (3, .int (bZ bg)), (4, .int (bZ b))] → W p l e R s m args below meth c H locs (0 + 0 + 0) (0 + 0 + 0) Q (F0 m 19 ls []) := by
    intro nn
    induction nn with
    | zero => intro f  b  u  acc  bg  hln hnn hrc hbt hal hab hbf hme; exact absurd hme (Nat.not_lt_zero _)
    | succ nn ih =>
      intro f  b  u  acc  bg  hln hnn hrc hbt hal hab hbf hme H locs h ls hl
      refine lv_iload hx hb dX7_readClear_19 (lv_at hl 4 rfl) ?_
      refine z_if_eq (tgt := 197) hx hb dX7_readClear_21 (by decide) (fun c21 => ?_) (fun c21 => ?_)
      · exact jz u acc (by rw [hrc]; exact rcL_f (by first | exact (fun z => absurd (c21.symm.trans z.1) (by decide)) | exact (fun z => absurd (c31.symm.trans z.2) (by decide)))) hnn hal hab _ _ h _ (lv_sub hl [0, 1, 2] rfl)
      · have hbtt := hbt c21
        obtain ⟨ln1, ln2, ln3, ln4⟩ := hln c21
        refine lv_aload_n hx hb dX7_readClear_24 rfl (lv_at hl 0 rfl) ?_
        refine s_ldcw C h hr594 dX7_readClear_25 ?_
        obtain ⟨sb, hsb⟩ : ∃ z, z = bsL := ⟨_, rfl⟩
        have hsbk : StrV dA B Z [] sa594 sv594 sb := by rw [hsb]; exact hk594
        have hsbb : byt sb := by rw [hsb]; intro x hx; revert x; decide
        have hsbl : sb.length ≤ 30 := by rw [hsb]; decide
        refine call_V (As := [.ref sa594]) (rest := []) (n := 1) C h (c7_is l D dA B Z hZ h0 ad (lM (sG M 7 (appG (mG M 7) 0 acc)) u.1 (nI u.2.1) (nI u.2.2.1) (nI u.2.2.2)) F tx u.2.2.1 u.2.2.2 sa594 sv594 sb hzs htx hT htl hby rfl rfl ln1 ln2 (nilup hsbk _) hsbb (by omega)) (lw_V q2148 q2150 qs49 q138 q2151) (by decide +kernel) (ci := 5) rfl rfl mw_mem0 (by decide) (by decide) rfl hl rfl (Nat.le_of_ble_eq_true rfl) dX7_readClear_28 (by omega) (fun _ H locs _ h => ?_)
        rw [hsb]
        show W p l e R s m args below meth c H locs (0 + 0 + 0 + 0) (0 + 0 + 0 + 0) Q (F0 m 31 ls [.int (bZ (isL tx u bsL))])
        refine z_if_ne (tgt := 197) hx hb dX7_readClear_31 (by decide) (fun c31 => ?_) (fun c31 => ?_)
        · exact jz u acc (by rw [hrc]; exact rcL_f (by first | exact (fun z => absurd (c21.symm.trans z.1) (by decide)) | exact (fun z => absurd (c31.symm.trans z.2) (by decide)))) hnn hal hab _ _ h _ (lv_sub hl [0, 1, 2] rfl)
        · obtain ⟨f1, rfl⟩ : ∃ z, f = z + 1 := ⟨f - 1, by omega⟩
          have hrc1 : rcR tx u0 = rcL tx f1 (lineS tx (ckU tx u)).1 (lineS tx (ckU tx u)).2 (ckA tx u acc bg) true := by rw [hrc, rcL_s c21 c31]
          have hb7 := byt_gD hby u.2.2.1
          have hb8 := byt_gD hby (u.2.2.1 + 1)
          have hcb := ckB_le (tx := tx) ln1
          have hca := ckA_len tx u acc bg
          obtain ⟨uc, huc⟩ : ∃ z, z = ckU tx u := ⟨_, rfl⟩
          have huc2 : uc.2 = u.2 := by rw [huc]; exact ckU_2 tx u
          obtain ⟨cb, hcbe⟩ : ∃ z, z = ckB tx u := ⟨_, rfl⟩
          rw [← hcbe] at hcb hca
          have e21 : uc.2.1 = u.2.1 := by rw [huc2]
          have e221 : uc.2.2.1 = u.2.2.1 := by rw [huc2]
          have e222 : uc.2.2.2 = u.2.2.2 := by rw [huc2]
          have jk : ∀ (H : Heap) (locs : List Loc), Wd D B s (mw dA h0 ad (lM (sG M 7 (appG (mG M 7) 0 acc)) uc.1 (nI uc.2.1) (nI uc.2.2.1) (nI uc.2.2.2)) ++ F) H locs → ∀ (ls : Array Slot), lv_has ls 7 [(5, .int (nI cb)), (0, .ref h0), (1, .ref (ad 7)), (2, .int (nI acc.length)), (3, .int (bZ bg)), (4, .int (bZ b))] → W p l e R s m args below meth c H locs (0 + 0 + 0 + 0) (0 + 0 + 0 + 0) Q (F0 m 142 ls []) := by
            intro   H locs h ls hl
            obtain ⟨a1, ha1⟩ : ∃ z, z = (acc ++ (if bg = true then [10] else [])) := ⟨_, rfl⟩
            have ha1l : a1.length = acc.length + bg.toNat := by rw [ha1, List.length_append]; cases bg <;> rfl
            have jy : ∀ (H : Heap) (locs : List Loc), Wd D B s (mw dA h0 ad (lM (sG M 7 (appG (mG M 7) 0 a1)) uc.1 (nI uc.2.1) (nI uc.2.2.1) (nI uc.2.2.2)) ++ F) H locs → ∀ (ls : Array Slot), lv_has ls 7 [(5, .int (nI cb)), (0, .ref h0), (1, .ref (ad 7)), (2, .int (nI a1.length)), (3, .int (bZ bg)), (4, .int (bZ b))] → W p l e R s m args below meth c H locs (0 + 0 + 0 + 0) (0 + 0 + 0 + 0) Q (F0 m 154 ls []) := by
              intro   H locs h ls hl
              refine lv_iconst (v := nI 1) hx hb dX7_readClear_154 (by decide) ?_
              refine lv_istore_n (lv' := [(3, .int (nI 1)), (5, .int (nI cb)), (0, .ref h0), (1, .ref (ad 7)), (2, .int (nI a1.length)), (4, .int (bZ b))]) hx hb dX7_readClear_155 rfl hl (by decide) rfl (fun ls hl => ?_)
              refine lv_iload hx hb dX7_readClear_156 (lv_at hl 1 rfl) ?_
              refine lv_istore (lv' := [(6, .int (nI cb)), (3, .int (nI 1)), (5, .int (nI cb)), (0, .ref h0), (1, .ref (ad 7)), (2, .int (nI a1.length)), (4, .int (bZ b))]) hx hb dX7_readClear_158 hl (by decide) rfl (fun ls hl => ?_)
              have h : Wd D B s (mw dA h0 ad (lM (sG M 7 (appG (mG M 7) 0 (a1 ++ sl (gD tx) cb 0))) uc.1 (nI uc.2.1) (nI uc.2.2.1) (nI uc.2.2.2)) ++ F) H locs := by rw [sl_0, List.append_nil]; exact h
              have hz160 := 0
              have hl : lv_has ls 7 [(6, .int (nI (cb + 0))), (3, .int (bZ true)), (5, .int (nI cb)), (0, .ref h0), (1, .ref (ad 7)), (2, .int (nI (a1.length + 0))), (4, .int (bZ b))] := hl
              have loopJ : ∀ (nnJ : Nat) (j : Nat), (cb + j ≤ u.2.2.2) → u.2.2.2 - (cb + j) < nnJ → ∀ (H : Heap) (locs : List Loc), Wd D B s (mw dA h0 ad (lM (sG M 7 (appG (mG M 7) 0 (a1 ++ sl (gD tx) cb j))) uc.1 (nI uc.2.1) (nI uc.2.2.1) (nI uc.2.2.2)) ++ F) H locs → ∀ (ls : Array Slot), lv_has ls 7 [(0, .ref h0), (1, .ref (ad 7)), (2, .int (nI (a1.length + j))), (3, .int (bZ true)), (6, .int (nI (cb + j)))] → W p l e R s m args below meth c H locs (0 + 0 + 0 + 0) (0 + 0 + 0 + 0) Q (F0 m 160 ls []) := by
                intro nnJ
                induction nnJ with
                | zero => intro j  hi0 hme; exact absurd hme (Nat.not_lt_zero _)
                | succ nnJ ihJ =>
                  intro j  hi0 hme H locs h ls hl
                  refine lv_iload hx hb dX7_readClear_160 (lv_at hl 4 rfl) ?_
                  refine lv_aload_n hx hb dX7_readClear_162 rfl (lv_at hl 0 rfl) ?_
                  refine m_gi C h 38 (by decide) rfl rfl q1908 (v := nI uc.2.2.2) rfl dX7_readClear_163 ?_
                  refine n_icmp_ge (tgt := 188) hx hb (by omega) (by omega) dX7_readClear_166 (by decide) (fun c166 => ?_) (fun c166 => ?_)
                  · refine lv_aload_n hx hb dX7_readClear_188 rfl (lv_at hl 0 rfl) ?_
                    have hj9 : j = u.2.2.2 - cb := by omega
                    rw [hj9] at h hl
                    have hcA : a1 ++ sl (gD tx) cb (u.2.2.2 - cb) = ckA tx u acc bg := by rw [ha1, hcbe]; rfl
                    have hlA : a1.length + (u.2.2.2 - cb) = (ckA tx u acc bg).length := by rw [← hcA, List.length_append, sl_len]
                    rw [hcA] at h
                    rw [hlA] at hl
                    have hl : lv_has ls 7 [(0, .ref h0), (1, .ref (ad 7)), (2, .int (nI ((ckA tx u acc bg).length))), (3, .int (bZ true)), (6, .int (nI (cb + (u.2.2.2 - cb))))] := hl
                    have h : Wd D B s (mw dA h0 ad (lM (sG M 7 (appG (mG M 7) 0 (ckA tx u acc bg))) uc.1 (nI uc.2.1) (nI uc.2.2.1) (nI uc.2.2.2)) ++ F) H locs := h
                    refine call_V (As := []) (rest := []) (n := 0) C h (c7_line l D dA B Z hZ h0 ad (sG M 7 (appG (mG M 7) 0 (ckA tx u acc bg))) F tx uc hsz htx hT htl hby (by omega)) (lw_V q2116 q2118 qs45 q138 q2119) (by decide +kernel) (ci := 5) rfl rfl mw_mem0 (by decide) (by decide) rfl hl rfl (Nat.le_of_ble_eq_true rfl) dX7_readClear_189 (by omega) (fun _ H locs _ h => ?_)
                    obtain ⟨b3, u3, hbu3⟩ : ∃ x y, lineS tx uc = (x, y) := ⟨_, _, rfl⟩
                    have hln3 : lnok tx b3 u3 := by have := lineS_ok tx uc htl (by omega); rw [hbu3] at this; exact this
                    have hn3 : u3.2.1 ≤ 5000 := lineS_le hbu3 (by omega) htl
                    have h : Wd D B s (mw dA h0 ad (lM (sG M 7 (appG (mG M 7) 0 (ckA tx u acc bg))) (lineS tx uc).2.1 (nI (lineS tx uc).2.2.1) (nI (lineS tx uc).2.2.2.1) (nI (lineS tx uc).2.2.2.2)) ++ F) H locs := h
                    rw [hbu3] at h
                    rw [hbu3]
                    show W p l e R s m args below meth c H locs (0 + 0 + 0 + 0 + 0) (0 + 0 + 0 + 0 + 0) Q (F0 m 192 ls [.int (bZ b3)])
                    have hrc2 : rcR tx u0 = rcL tx f1 b3 u3 (ckA tx u acc bg) true := by rw [hrc1, ← huc, hbu3]
                    have hal2 : (ckA tx u acc bg).length ≤ tx.length := by omega
                    have hb3 : b3 = true → u3.1 = 0 ∧ (ckA tx u acc bg).length + true.toNat ≤ u3.2.2.1 ∧ tx.length < f1 + u3.2.2.1 := by
                      intro q
                      have g := lineS_t hbu3 q
                      have g2 := g.2.2.1
                      rw [huc2] at g2
                      refine ⟨g.1, ?_, by omega⟩
                      show (ckA tx u acc bg).length + 1 ≤ _
                      omega
                    refine lv_istore (lv' := [(4, .int (bZ b3)), (0, .ref h0), (1, .ref (ad 7)), (2, .int (nI ((ckA tx u acc bg).length))), (3, .int (bZ true)), (6, .int (nI (cb + (u.2.2.2 - cb))))]) hx hb dX7_readClear_192 hl (by decide) rfl (fun ls hl => ?_)
                    refine lv_goto (tgt := 19) hx hb dX7_readClear_194 (by decide) ?_
                    exact ih f1 b3 u3 (ckA tx u acc bg) true hln3 hn3 hrc2 hb3 hal2 (ckA_byt hby u hab bg) (fun q => lineS_f hbu3 htl q) (by omega) _ _ h _ (lv_sub hl [1, 2, 3, 4, 0] rfl)
                  · refine lv_aload_n hx hb dX7_readClear_169 rfl (lv_at hl 1 rfl) ?_
                    refine lv_iload_n hx hb dX7_readClear_170 rfl (lv_at hl 2 rfl) ?_
                    refine lv_aload_n hx hb dX7_readClear_171 rfl (lv_at hl 0 rfl) ?_
                    refine m_gr C h 34 (by decide) rfl rfl q1904 (v := some (ad 2)) htx dX7_readClear_172 ?_
                    refine lv_iload hx hb dX7_readClear_175 (lv_at hl 4 rfl) ?_
                    refine n_iald C h (v := (mG M 2) (cb + j)) (mw_memG (k := 2) (by decide)) (show cb + j < 4096 by omega) (by decide) rfl dX7_readClear_177 ?_
                    refine n_top (y := nI (gD tx (cb + j))) (congrArg nI (hT _ (by omega))) ?_
                    refine m_iast C h 7 (v := gD tx (cb + j)) (by decide) (n := 4096) rfl (by omega) dX7_readClear_178 (fun H locs h => ?_)
                    have e3 := appG_snoc (mG M 7) 0 (a1 ++ sl (gD tx) cb j) (gD tx (cb + j)) (k := a1.length + j) (by rw [List.length_append, sl_len, Nat.zero_add])
                    have e2 := sl_succ (gD tx) cb j
                    have h : Wd D B s (mw dA h0 ad (lM (sG M 7 (appG (mG M 7) 0 (a1 ++ sl (gD tx) cb (j + 1)))) uc.1 (nI uc.2.1) (nI uc.2.2.1) (nI uc.2.2.2)) ++ F) H locs := by rw [e2, ← List.append_assoc, ← e3]; rw [lM_g7] at h; exact h
                    refine lv_iinc (v := nI (a1.length + j + 1)) (lv' := [(2, .int (nI (a1.length + j + 1))), (0, .ref h0), (1, .ref (ad 7)), (3, .int (bZ true)), (6, .int (nI (cb + j)))]) hx hb dX7_readClear_179 hl (k := 2) rfl (nI_add (a1.length + j) 1) (by decide) rfl (fun ls hl => ?_)
                    refine lv_iinc (v := nI (cb + j + 1)) (lv' := [(6, .int (nI (cb + j + 1))), (2, .int (nI (a1.length + j + 1))), (0, .ref h0), (1, .ref (ad 7)), (3, .int (bZ true))]) hx hb dX7_readClear_182 hl (k := 4) rfl (nI_add (cb + j) 1) (by decide) rfl (fun ls hl => ?_)
                    refine lv_goto (tgt := 160) hx hb dX7_readClear_185 (by decide) ?_
                    exact ihJ (j + 1) (by omega) (by omega) _ _ h _ (lv_sub hl [2, 3, 1, 4, 0] rfl)
              exact loopJ _ 0 (by omega) (Nat.lt_succ_self _) _ _ h _ (lv_sub hl [3, 4, 5, 1, 0] rfl)
            refine lv_iload_n hx hb dX7_readClear_142 rfl (lv_at hl 4 rfl) ?_
            refine z_if_eq (tgt := 154) hx hb dX7_readClear_143 (by decide) (fun c143 => ?_) (fun c143 => ?_)
            · have e1 : a1 = acc := by rw [ha1, if_neg (by rw [c143]; decide), List.append_nil]
              have h : Wd D B s (mw dA h0 ad (lM (sG M 7 (appG (mG M 7) 0 a1)) uc.1 (nI uc.2.1) (nI uc.2.2.1) (nI uc.2.2.2)) ++ F) H locs := by rw [e1]; exact h
              have hl : lv_has ls 7 [(5, .int (nI cb)), (0, .ref h0), (1, .ref (ad 7)), (2, .int (nI a1.length)), (3, .int (bZ bg)), (4, .int (bZ b))] := by rw [e1]; exact lv_sub hl [0, 1, 2, 3, 4, 5] rfl
              exact jy   _ _ h _ (lv_sub hl [0, 1, 2, 3, 4, 5] rfl)
            · have hbg1 : bg.toNat = 1 := by rw [c143]; rfl
              refine lv_aload_n hx hb dX7_readClear_146 rfl (lv_at hl 2 rfl) ?_
              refine lv_iload_n hx hb dX7_readClear_147 rfl (lv_at hl 3 rfl) ?_
              refine lv_bipush (v := nI 10) hx hb dX7_readClear_148 (by decide) ?_
              refine m_iast C h 7 (v := 10) (by decide) (n := 4096) rfl (by omega) dX7_readClear_150 (fun H locs h => ?_)
              have e3 := appG_snoc (mG M 7) 0 acc 10 (k := acc.length) (by rw [Nat.zero_add])
              have h : Wd D B s (mw dA h0 ad (lM (sG M 7 (appG (mG M 7) 0 (acc ++ [10]))) uc.1 (nI uc.2.1) (nI uc.2.2.1) (nI uc.2.2.2)) ++ F) H locs := by rw [← e3]; rw [lM_g7] at h; exact h
              refine lv_iinc (v := nI (acc.length + 1)) (lv' := [(2, .int (nI (acc.length + 1))), (5, .int (nI cb)), (0, .ref h0), (1, .ref (ad 7)), (3, .int (bZ bg)), (4, .int (bZ b))]) hx hb dX7_readClear_151 hl (k := 3) rfl (nI_add acc.length 1) (by decide) rfl (fun ls hl => ?_)
              have e1 : a1 = acc ++ [10] := by rw [ha1, if_pos c143]
              have h : Wd D B s (mw dA h0 ad (lM (sG M 7 (appG (mG M 7) 0 a1)) uc.1 (nI uc.2.1) (nI uc.2.2.1) (nI uc.2.2.2)) ++ F) H locs := by rw [e1]; exact h
              have hl : lv_has ls 7 [(5, .int (nI cb)), (0, .ref h0), (1, .ref (ad 7)), (2, .int (nI a1.length)), (3, .int (bZ bg)), (4, .int (bZ b))] := by rw [e1, List.length_append]; exact lv_sub hl [1, 2, 3, 0, 4, 5] rfl
              exact jy   _ _ h _ (lv_sub hl [0, 1, 2, 3, 4, 5] rfl)
          refine lv_aload_n hx hb dX7_readClear_34 rfl (lv_at hl 0 rfl) ?_
          refine m_gi C h 37 (by decide) rfl rfl q1907 (v := nI u.2.2.1) rfl dX7_readClear_35 ?_
          refine lv_istore (lv' := [(5, .int (nI u.2.2.1)), (0, .ref h0), (1, .ref (ad 7)), (2, .int (nI acc.length)), (3, .int (bZ bg)), (4, .int (bZ b))]) hx hb dX7_readClear_38 hl (by decide) rfl (fun ls hl => ?_)
          refine lv_aload_n hx hb dX7_readClear_40 rfl (lv_at hl 1 rfl) ?_
          refine m_gi C h 38 (by decide) rfl rfl q1908 (v := nI u.2.2.2) rfl dX7_readClear_41 ?_
          refine lv_aload_n hx hb dX7_readClear_44 rfl (lv_at hl 1 rfl) ?_
          refine m_gi C h 37 (by decide) rfl rfl q1907 (v := nI u.2.2.1) rfl dX7_readClear_45 ?_
          refine n_icmp_le (tgt := 142) hx hb (by omega) (by omega) dX7_readClear_48 (by decide) (fun c48 => ?_) (fun c48 => ?_)
          · have e1 : ckU tx u = u := by unfold ckU; rw [if_neg (by first | exact fun z => absurd z.1 (by omega) | exact fun z => c62 z.2)]
            have e2 : cb = u.2.2.1 := by rw [hcbe]; unfold ckB; rw [if_neg (by first | exact fun z => absurd z.1 (by omega) | exact fun z => c62 z.2)]
            have h : Wd D B s (mw dA h0 ad (lM (sG M 7 (appG (mG M 7) 0 acc)) uc.1 (nI uc.2.1) (nI uc.2.2.1) (nI uc.2.2.2)) ++ F) H locs := by rw [huc, e1]; exact h
            have hl : lv_has ls 7 [(5, .int (nI cb)), (0, .ref h0), (1, .ref (ad 7)), (2, .int (nI acc.length)), (3, .int (bZ bg)), (4, .int (bZ b))] := by rw [e2]; exact lv_sub hl [0, 1, 2, 3, 4, 5] rfl
            exact jk   _ _ h _ (lv_sub hl [0, 1, 2, 3, 4, 5] rfl)
          · refine lv_aload_n hx hb dX7_readClear_51 rfl (lv_at hl 1 rfl) ?_
            refine m_gr C h 34 (by decide) rfl rfl q1904 (v := some (ad 2)) htx dX7_readClear_52 ?_
            refine lv_aload_n hx hb dX7_readClear_55 rfl (lv_at hl 1 rfl) ?_
            refine m_gi C h 37 (by decide) rfl rfl q1907 (v := nI u.2.2.1) rfl dX7_readClear_56 ?_
            refine n_iald C h (v := (mG M 2) u.2.2.1) (mw_memG (k := 2) (by decide)) (show u.2.2.1 < 4096 by omega) (by decide) rfl dX7_readClear_59 ?_
            refine n_top (y := nI (gD tx u.2.2.1)) (congrArg nI (hT _ (by omega))) ?_
            refine lv_bipush (v := nI 45) hx hb dX7_readClear_60 (by decide) ?_
            refine n_icmp_ne (tgt := 142) hx hb (by omega) (by omega) dX7_readClear_62 (by decide) (fun c62 => ?_) (fun c62 => ?_)
            · have e1 : ckU tx u = u := by unfold ckU; rw [if_neg (by first | exact fun z => absurd z.1 (by omega) | exact fun z => c62 z.2)]
              have e2 : cb = u.2.2.1 := by rw [hcbe]; unfold ckB; rw [if_neg (by first | exact fun z => absurd z.1 (by omega) | exact fun z => c62 z.2)]
              have h : Wd D B s (mw dA h0 ad (lM (sG M 7 (appG (mG M 7) 0 acc)) uc.1 (nI uc.2.1) (nI uc.2.2.1) (nI uc.2.2.2)) ++ F) H locs := by rw [huc, e1]; exact h
              have hl : lv_has ls 7 [(5, .int (nI cb)), (0, .ref h0), (1, .ref (ad 7)), (2, .int (nI acc.length)), (3, .int (bZ bg)), (4, .int (bZ b))] := by rw [e2]; exact lv_sub hl [0, 1, 2, 3, 4, 5] rfl
              exact jk   _ _ h _ (lv_sub hl [0, 1, 2, 3, 4, 5] rfl)
            · have jq : ∀ (H : Heap) (locs : List Loc), Wd D B s (mw dA h0 ad (lM (sG M 7 (appG (mG M 7) 0 acc)) u.1 (nI u.2.1) (nI u.2.2.1) (nI u.2.2.2)) ++ F) H locs → ∀ (ls : Array Slot), lv_has ls 7 [(5, .int (nI u.2.2.1)), (0, .ref h0), (1, .ref (ad 7)), (2, .int (nI acc.length)), (3, .int (bZ bg)), (4, .int (bZ b))] → W p l e R s m args below meth c H locs (0 + 0 + 0 + 0) (0 + 0 + 0 + 0) Q (F0 m 99 ls [.int (bZ (decide (u.2.2.1 + 1 < tx.length ∧ gD tx (u.2.2.1 + 1) = 32)))]) := by
                intro   H locs h ls hl
                refine lv_istore (lv' := [(6, .int (bZ (decide (u.2.2.1 + 1 < tx.length ∧ gD tx (u.2.2.1 + 1) = 32)))), (5, .int (nI u.2.2.1)), (0, .ref h0), (1, .ref (ad 7)), (2, .int (nI acc.length)), (3, .int (bZ bg)), (4, .int (bZ b))]) hx hb dX7_readClear_99 hl (by decide) rfl (fun ls hl => ?_)
                refine lv_iload hx hb dX7_readClear_101 (lv_at hl 0 rfl) ?_
                refine z_if_ne (tgt := 114) hx hb dX7_readClear_103 (by decide) (fun c103 => ?_) (fun c103 => ?_)
                · refine lv_aload_n hx hb dX7_readClear_114 rfl (lv_at hl 2 rfl) ?_
                  refine m_gi C h 37 (by decide) rfl rfl q1907 (v := nI u.2.2.1) rfl dX7_readClear_115 ?_
                  refine lv_iconst (v := nI 2) hx hb dX7_readClear_118 (by decide) ?_
                  refine lv_iadd hx hb dX7_readClear_119 (n_top (y := nI (u.2.2.1 + 2)) (nI_add u.2.2.1 2) ?_)
                  refine lv_aload_n hx hb dX7_readClear_120 rfl (lv_at hl 2 rfl) ?_
                  refine m_gi C h 38 (by decide) rfl rfl q1908 (v := nI u.2.2.2) rfl dX7_readClear_121 ?_
                  refine n_icmp_ge (tgt := 136) hx hb (by omega) (by omega) dX7_readClear_124 (by decide) (fun c124 => ?_) (fun c124 => ?_)
                  · refine lv_aload_n hx hb dX7_readClear_136 rfl (lv_at hl 2 rfl) ?_
                    refine m_gi C h 38 (by decide) rfl rfl q1908 (v := nI u.2.2.2) rfl dX7_readClear_137 ?_
                    refine lv_istore (lv' := [(5, .int (nI u.2.2.2)), (6, .int (bZ (decide (u.2.2.1 + 1 < tx.length ∧ gD tx (u.2.2.1 + 1) = 32)))), (0, .ref h0), (1, .ref (ad 7)), (2, .int (nI acc.length)), (3, .int (bZ bg)), (4, .int (bZ b))]) hx hb dX7_readClear_140 hl (by decide) rfl (fun ls hl => ?_)
                    have e1 : ckU tx u = u := by unfold ckU; rw [if_pos ⟨c48, c62⟩, if_pos (of_decide_eq_true c103)]
                    have e2 : cb = u.2.2.2 := by rw [hcbe]; unfold ckB; rw [if_pos ⟨c48, c62⟩]; first | rw [if_pos c124] | rw [if_neg (by omega)]
                    have h : Wd D B s (mw dA h0 ad (lM (sG M 7 (appG (mG M 7) 0 acc)) uc.1 (nI uc.2.1) (nI uc.2.2.1) (nI uc.2.2.2)) ++ F) H locs := by rw [huc, e1]; exact h
                    have hl : lv_has ls 7 [(5, .int (nI cb)), (0, .ref h0), (1, .ref (ad 7)), (2, .int (nI acc.length)), (3, .int (bZ bg)), (4, .int (bZ b))] := by rw [e2]; exact lv_sub hl [0, 2, 3, 4, 5, 6] rfl
                    exact jk   _ _ h _ (lv_sub hl [0, 1, 2, 3, 4, 5] rfl)
                  · refine lv_aload_n hx hb dX7_readClear_127 rfl (lv_at hl 2 rfl) ?_
                    refine m_gi C h 37 (by decide) rfl rfl q1907 (v := nI u.2.2.1) rfl dX7_readClear_128 ?_
                    refine lv_iconst (v := nI 2) hx hb dX7_readClear_131 (by decide) ?_
                    refine lv_iadd hx hb dX7_readClear_132 (n_top (y := nI (u.2.2.1 + 2)) (nI_add u.2.2.1 2) ?_)
                    refine lv_goto (tgt := 140) hx hb dX7_readClear_133 (by decide) ?_
                    refine lv_istore (lv' := [(5, .int (nI (u.2.2.1 + 2))), (6, .int (bZ (decide (u.2.2.1 + 1 < tx.length ∧ gD tx (u.2.2.1 + 1) = 32)))), (0, .ref h0), (1, .ref (ad 7)), (2, .int (nI acc.length)), (3, .int (bZ bg)), (4, .int (bZ b))]) hx hb dX7_readClear_140 hl (by decide) rfl (fun ls hl => ?_)
                    have e1 : ckU tx u = u := by unfold ckU; rw [if_pos ⟨c48, c62⟩, if_pos (of_decide_eq_true c103)]
                    have e2 : cb = u.2.2.1 + 2 := by rw [hcbe]; unfold ckB; rw [if_pos ⟨c48, c62⟩]; first | rw [if_pos c124] | rw [if_neg (by omega)]
                    have h : Wd D B s (mw dA h0 ad (lM (sG M 7 (appG (mG M 7) 0 acc)) uc.1 (nI uc.2.1) (nI uc.2.2.1) (nI uc.2.2.2)) ++ F) H locs := by rw [huc, e1]; exact h
                    have hl : lv_has ls 7 [(5, .int (nI cb)), (0, .ref h0), (1, .ref (ad 7)), (2, .int (nI acc.length)), (3, .int (bZ bg)), (4, .int (bZ b))] := by rw [e2]; exact lv_sub hl [0, 2, 3, 4, 5, 6] rfl
                    exact jk   _ _ h _ (lv_sub hl [0, 1, 2, 3, 4, 5] rfl)
                · refine lv_aload_n hx hb dX7_readClear_106 rfl (lv_at hl 2 rfl) ?_
                  refine lv_aload_n hx hb dX7_readClear_107 rfl (lv_at hl 2 rfl) ?_
                  refine m_gi C h 37 (by decide) rfl rfl q1907 (v := nI u.2.2.1) rfl dX7_readClear_108 ?_
                  refine call_V (As := [.int (nI u.2.2.1)]) (rest := []) (n := 1) C h (c7_failLine l D dA B Z hZ h0 ad (lM (sG M 7 (appG (mG M 7) 0 acc)) u.1 (nI u.2.1) (nI u.2.2.1) (nI u.2.2.2)) F u.2.2.1) (lw_V q2120 q2122 qs46 q138 q2123) (by decide +kernel) (ci := 5) rfl rfl mw_mem0 (by decide) (by decide) rfl hl rfl (Nat.le_of_ble_eq_true rfl) dX7_readClear_111 (by omega) (fun _ H locs _ h => ?_)
                  have h : Wd D B s (mw dA h0 ad (lM (sG M 7 (appG (mG M 7) 0 acc)) (failLn u u.2.2.1).1 (nI u.2.1) (nI u.2.2.1) (nI u.2.2.2)) ++ F) H locs := by rw [lM_33] at h; exact h
                  refine lv_aload_n hx hb dX7_readClear_114 rfl (lv_at hl 2 rfl) ?_
                  refine m_gi C h 37 (by decide) rfl rfl q1907 (v := nI u.2.2.1) rfl dX7_readClear_115 ?_
                  refine lv_iconst (v := nI 2) hx hb dX7_readClear_118 (by decide) ?_
                  refine lv_iadd hx hb dX7_readClear_119 (n_top (y := nI (u.2.2.1 + 2)) (nI_add u.2.2.1 2) ?_)
                  refine lv_aload_n hx hb dX7_readClear_120 rfl (lv_at hl 2 rfl) ?_
                  refine m_gi C h 38 (by decide) rfl rfl q1908 (v := nI u.2.2.2) rfl dX7_readClear_121 ?_
                  refine n_icmp_ge (tgt := 136) hx hb (by omega) (by omega) dX7_readClear_124 (by decide) (fun c124 => ?_) (fun c124 => ?_)
                  · refine lv_aload_n hx hb dX7_readClear_136 rfl (lv_at hl 2 rfl) ?_
                    refine m_gi C h 38 (by decide) rfl rfl q1908 (v := nI u.2.2.2) rfl dX7_readClear_137 ?_
                    refine lv_istore (lv' := [(5, .int (nI u.2.2.2)), (6, .int (bZ (decide (u.2.2.1 + 1 < tx.length ∧ gD tx (u.2.2.1 + 1) = 32)))), (0, .ref h0), (1, .ref (ad 7)), (2, .int (nI acc.length)), (3, .int (bZ bg)), (4, .int (bZ b))]) hx hb dX7_readClear_140 hl (by decide) rfl (fun ls hl => ?_)
                    have e1 : ckU tx u = failLn u u.2.2.1 := by unfold ckU; rw [if_pos ⟨c48, c62⟩, if_neg (of_decide_eq_false c103)]
                    have e2 : cb = u.2.2.2 := by rw [hcbe]; unfold ckB; rw [if_pos ⟨c48, c62⟩]; first | rw [if_pos c124] | rw [if_neg (by omega)]
                    have h : Wd D B s (mw dA h0 ad (lM (sG M 7 (appG (mG M 7) 0 acc)) uc.1 (nI uc.2.1) (nI uc.2.2.1) (nI uc.2.2.2)) ++ F) H locs := by rw [huc, e1]; exact h
                    have hl : lv_has ls 7 [(5, .int (nI cb)), (0, .ref h0), (1, .ref (ad 7)), (2, .int (nI acc.length)), (3, .int (bZ bg)), (4, .int (bZ b))] := by rw [e2]; exact lv_sub hl [0, 2, 3, 4, 5, 6] rfl
                    exact jk   _ _ h _ (lv_sub hl [0, 1, 2, 3, 4, 5] rfl)
                  · refine lv_aload_n hx hb dX7_readClear_127 rfl (lv_at hl 2 rfl) ?_
                    refine m_gi C h 37 (by decide) rfl rfl q1907 (v := nI u.2.2.1) rfl dX7_readClear_128 ?_
                    refine lv_iconst (v := nI 2) hx hb dX7_readClear_131 (by decide) ?_
                    refine lv_iadd hx hb dX7_readClear_132 (n_top (y := nI (u.2.2.1 + 2)) (nI_add u.2.2.1 2) ?_)
                    refine lv_goto (tgt := 140) hx hb dX7_readClear_133 (by decide) ?_
                    refine lv_istore (lv' := [(5, .int (nI (u.2.2.1 + 2))), (6, .int (bZ (decide (u.2.2.1 + 1 < tx.length ∧ gD tx (u.2.2.1 + 1) = 32)))), (0, .ref h0), (1, .ref (ad 7)), (2, .int (nI acc.length)), (3, .int (bZ bg)), (4, .int (bZ b))]) hx hb dX7_readClear_140 hl (by decide) rfl (fun ls hl => ?_)
                    have e1 : ckU tx u = failLn u u.2.2.1 := by unfold ckU; rw [if_pos ⟨c48, c62⟩, if_neg (of_decide_eq_false c103)]
                    have e2 : cb = u.2.2.1 + 2 := by rw [hcbe]; unfold ckB; rw [if_pos ⟨c48, c62⟩]; first | rw [if_pos c124] | rw [if_neg (by omega)]
                    have h : Wd D B s (mw dA h0 ad (lM (sG M 7 (appG (mG M 7) 0 acc)) uc.1 (nI uc.2.1) (nI uc.2.2.1) (nI uc.2.2.2)) ++ F) H locs := by rw [huc, e1]; exact h
                    have hl : lv_has ls 7 [(5, .int (nI cb)), (0, .ref h0), (1, .ref (ad 7)), (2, .int (nI acc.length)), (3, .int (bZ bg)), (4, .int (bZ b))] := by rw [e2]; exact lv_sub hl [0, 2, 3, 4, 5, 6] rfl
                    exact jk   _ _ h _ (lv_sub hl [0, 1, 2, 3, 4, 5] rfl)
              refine lv_aload_n hx hb dX7_readClear_65 rfl (lv_at hl 1 rfl) ?_
              refine m_gi C h 37 (by decide) rfl rfl q1907 (v := nI u.2.2.1) rfl dX7_readClear_66 ?_
              refine lv_iconst (v := nI 1) hx hb dX7_readClear_69 (by decide) ?_
              refine lv_iadd hx hb dX7_readClear_70 (n_top (y := nI (u.2.2.1 + 1)) (nI_add u.2.2.1 1) ?_)
              refine lv_aload_n hx hb dX7_readClear_71 rfl (lv_at hl 1 rfl) ?_
              refine m_gi C h 35 (by decide) rfl rfl q1905 (v := nI tx.length) hsz dX7_readClear_72 ?_
              refine n_icmp_ge (tgt := 98) hx hb (by omega) (by omega) dX7_readClear_75 (by decide) (fun c75 => ?_) (fun c75 => ?_)
              · refine lv_iconst (v := nI 0) hx hb dX7_readClear_98 (by decide) ?_
                refine n_top (y := bZ (decide (u.2.2.1 + 1 < tx.length ∧ gD tx (u.2.2.1 + 1) = 32))) (by rw [decide_eq_false (by first | exact fun z => absurd z.1 (by omega) | exact fun z => c91 z.2)]; rfl) ?_
                exact jq   _ _ h _ (lv_sub hl [0, 1, 2, 3, 4, 5] rfl)
              · refine lv_aload_n hx hb dX7_readClear_78 rfl (lv_at hl 1 rfl) ?_
                refine m_gr C h 34 (by decide) rfl rfl q1904 (v := some (ad 2)) htx dX7_readClear_79 ?_
                refine lv_aload_n hx hb dX7_readClear_82 rfl (lv_at hl 1 rfl) ?_
                refine m_gi C h 37 (by decide) rfl rfl q1907 (v := nI u.2.2.1) rfl dX7_readClear_83 ?_
                refine lv_iconst (v := nI 1) hx hb dX7_readClear_86 (by decide) ?_
                refine lv_iadd hx hb dX7_readClear_87 (n_top (y := nI (u.2.2.1 + 1)) (nI_add u.2.2.1 1) ?_)
                refine n_iald C h (v := (mG M 2) (u.2.2.1 + 1)) (mw_memG (k := 2) (by decide)) (show u.2.2.1 + 1 < 4096 by omega) (by decide) rfl dX7_readClear_88 ?_
                refine n_top (y := nI (gD tx (u.2.2.1 + 1))) (congrArg nI (hT _ (by omega))) ?_
                refine lv_bipush (v := nI 32) hx hb dX7_readClear_89 (by decide) ?_
                refine n_icmp_ne (tgt := 98) hx hb (by omega) (by omega) dX7_readClear_91 (by decide) (fun c91 => ?_) (fun c91 => ?_)
                · refine lv_iconst (v := nI 0) hx hb dX7_readClear_98 (by decide) ?_
                  refine n_top (y := bZ (decide (u.2.2.1 + 1 < tx.length ∧ gD tx (u.2.2.1 + 1) = 32))) (by rw [decide_eq_false (by first | exact fun z => absurd z.1 (by omega) | exact fun z => c91 z.2)]; rfl) ?_
                  exact jq   _ _ h _ (lv_sub hl [0, 1, 2, 3, 4, 5] rfl)
                · refine lv_iconst (v := nI 1) hx hb dX7_readClear_94 (by decide) ?_
                  refine lv_goto (tgt := 99) hx hb dX7_readClear_95 (by decide) ?_
                  refine n_top (y := bZ (decide (u.2.2.1 + 1 < tx.length ∧ gD tx (u.2.2.1 + 1) = 32))) (by rw [decide_eq_true ⟨c75, c91⟩]; rfl) ?_
                  exact jq   _ _ h _ (lv_sub hl [0, 1, 2, 3, 4, 5] rfl)
  exact loop _ (tx.length + 2) b2 u2 [] false hln2 hn2 hR0 (fun q => ⟨(lineS_t hbu q).1, Nat.zero_le _, by omega⟩) (Nat.zero_le _) (fun x hx => absurd hx List.not_mem_nil) (fun q => lineS_f hbu htl q) (Nat.lt_succ_self _) _ _ h _ (lv_sub hl [4, 3, 2, 1, 0] rfl)

/-- the case in a tape -/
def csT (tp dc : List Nat) (u : LU) : Int32 × List Nat × List Nat :=
  if isL tp u btL = true then rcS tp u else if (byLabS tp u).1.1 = 0 then (if (byLabS tp u).2.length = 0 then (-1, [], []) else rpS (byLabS tp u).2 dc) else ((byLabS tp u).1.1, [], [])
def csS (tp dc : List Nat) : Int32 × List Nat × List Nat := if tp.length = 0 then (-1, [], []) else if 127 < gD tp 0 then rpS tp dc else csT tp dc (lineS tp (0, 0, 0, 0)).2

set_option maxHeartbeats 1000000 in
set_option maxRecDepth 100000 in
theorem c7_readCase (l : Launch) (D : va_G) (dA : Nat → ClassId) (B : Nat) (Z : State → Prop) (hZ : Stab B Z) (h0 : Nat) (ad : Nat → Nat) (M : MS) (F : va_W) (tp dc : List Nat) (fr0 to0 : Nat) (hzs : ZS dA B Z) (hI : MI M) (hT : ∀ j, j < tp.length → mG M 2 j = gD tp j) (htl : tp.length ≤ 4096) (hby : byt tp) (h33 : mI M 33 = 0) (h37 : mI M 37 = nI fr0) (h38 : mI M 38 = nI to0) (hG6 : ∀ j, mG M 6 j < 256) (h3 : mI M 3 = nI dc.length) (hdc : ∀ j, j < dc.length → mG M 4 j = gD dc j) (hdb : byt dc) (hdl : dc.length ≤ 4096) :
    Ct (S := MS × va_W) l D dA B Z yX7_readCase cX7_readCase 4 none 10 (tp.length + 40) (9 * tp.length + 4900) [.ref h0, .ref (ad 2), .int (nI tp.length)] (mw dA h0 ad M ++ F) (fun u => MI u.1 ∧ Kl M u.1 ∧ mI u.1 33 = (csS tp dc).1 ∧ ((csS tp dc).1 = 0 → CaseIs dA (F ++ u.2) ad u.1 tp.length (csS tp dc).2.1 (csS tp dc).2.2)) (fun _ => none) (fun u => mw dA h0 ad u.1 ++ (F ++ u.2)) := by
  refine Ct.mk2 (by decide) (Nat.le_of_ble_eq_true rfl) hZ ?_
  intro p e R s m args below meth c ls Q C hr hlocks hin hQ hl h
  have C0 := C
  obtain ⟨hx, hb, hml, hown, hts, -⟩ := C0
  have hl : lv_has ls 4 [(0, .ref h0), (1, .ref (ad 2)), (2, .int (nI tp.length))] := hl
  obtain ⟨sa599, sv599, hr599, hk599⟩ := hzs.2.2.1 _ (List.mem_of_getElem? (l := strTab) (i := 21) rfl)
  refine lv_iload_n hx hb dX7_readCase_0 rfl (lv_at hl 2 rfl) ?_
  refine n_if_ne (tgt := 10) hx hb (by omega) dX7_readCase_1 (by decide) (fun c1 => ?_) (fun c1 => ?_)
  · have hb0 := byt_gD hby 0
    refine lv_aload_n hx hb dX7_readCase_10 rfl (lv_at hl 1 rfl) ?_
    refine lv_iconst (v := nI 0) hx hb dX7_readCase_11 (by decide) ?_
    refine n_iald C h (v := (mG M 2) 0) (mw_memG (k := 2) (by decide)) (show 0 < 4096 by omega) (by decide) rfl dX7_readCase_12 ?_
    refine n_top (y := nI (gD tp 0)) (congrArg nI (hT _ (by omega))) ?_
    refine lv_bipush (v := nI 127) hx hb dX7_readCase_13 (by decide) ?_
    refine n_icmp_le (tgt := 25) hx hb (by omega) (by omega) dX7_readCase_15 (by decide) (fun c15 => ?_) (fun c15 => ?_)
    · obtain ⟨b1, u, hbu⟩ : ∃ x y, lineS tp (0, 0, 0, 0) = (x, y) := ⟨_, _, rfl⟩
      have hbt : b1 = true := by have := lineS_y (l := tp) (u := (0, 0, 0, 0)) rfl (by show 0 < tp.length; omega); rw [hbu] at this; exact this
      have hln : lnok tp b1 u := by have := lineS_ok tp (0, 0, 0, 0) htl (Nat.zero_le _); rw [hbu] at this; exact this
      obtain ⟨ln1, ln2, ln3, ln4⟩ := hln hbt
      have hu0 := (lineS_t hbu hbt).1
      have hun : u.2.1 ≤ 5000 := by omega
      have hU0 : csS tp dc = csT tp dc u := by unfold csS; rw [if_neg c1, if_neg (by omega), hbu]
      have e0 := lineS_0 (l := tp) (a := fr0) (b := to0) (by omega)
      rw [hbu] at e0
      refine lv_aload_n hx hb dX7_readCase_25 rfl (lv_at hl 0 rfl) ?_
      refine lv_aload_n hx hb dX7_readCase_26 rfl (lv_at hl 1 rfl) ?_
      refine lv_iload_n hx hb dX7_readCase_27 rfl (lv_at hl 2 rfl) ?_
      refine call_V (As := [.ref (ad 2), .int (nI tp.length)]) (rest := []) (n := 2) C h (c7_startLines l D dA B Z hZ h0 ad M F tp fr0 to0 hT htl hby h33 h37 h38) (lw_V q2112 q2114 qs44 q138 q2115) (by decide +kernel) (ci := 5) rfl rfl mw_mem0 (by decide) (by decide) rfl hl rfl (Nat.le_of_ble_eq_true rfl) dX7_readCase_28 (by omega) (fun _ H locs _ h => ?_)
      obtain ⟨M1, hM1⟩ : ∃ z, z = (sI (sR M 34 (some (ad 2))) 35 (nI tp.length)) := ⟨_, rfl⟩
      have h : Wd D B s (mw dA h0 ad (lM (sI (sR M 34 (some (ad 2))) 35 (nI tp.length)) (lineS tp (0, 0, fr0, to0)).2.1 (nI (lineS tp (0, 0, fr0, to0)).2.2.1) (nI (lineS tp (0, 0, fr0, to0)).2.2.2.1) (nI (lineS tp (0, 0, fr0, to0)).2.2.2.2)) ++ F) H locs := h
      rw [e0, ← hM1] at h
      have hKl1 : Kl M M1 := by rw [hM1]; exact ((Kl.rfl' M).sR (by decide)).sI (by decide)
      have hI1 : MI M1 := by rw [hM1]; exact hI
      have hsz1 : mI M1 35 = nI tp.length := by rw [hM1]; rfl
      have htx1 : mR M1 34 = some (ad 2) := by rw [hM1]; rfl
      have hT1 : ∀ j, j < tp.length → mG M1 2 j = gD tp j := by rw [hM1]; exact hT
      have hG61 : ∀ j, mG M1 6 j < 256 := by rw [hM1]; exact hG6
      have h31 : mI M1 3 = nI dc.length := by rw [hM1]; exact h3
      have hdc1 : ∀ j, j < dc.length → mG M1 4 j = gD dc j := by rw [hM1]; exact hdc
      have h : Wd D B s (mw dA h0 ad (lM M1 u.1 (nI u.2.1) (nI u.2.2.1) (nI u.2.2.2)) ++ F) H locs := h
      refine lv_aload_n hx hb dX7_readCase_31 rfl (lv_at hl 0 rfl) ?_
      refine m_gi C h 33 (by decide) rfl rfl q1903 (v := u.1) rfl dX7_readCase_32 ?_
      refine lv_if_eq (tgt := 39) hx hb dX7_readCase_35 (by decide) (fun c35 => ?_) (fun c35 => by exfalso; exact c35 hu0)
      refine lv_aload_n hx hb dX7_readCase_39 rfl (lv_at hl 0 rfl) ?_
      refine s_ldcw C h hr599 dX7_readCase_40 ?_
      obtain ⟨sb, hsb⟩ : ∃ z, z = btL := ⟨_, rfl⟩
      have hsbk : StrV dA B Z [] sa599 sv599 sb := by rw [hsb]; exact hk599
      have hsbb : byt sb := by rw [hsb]; intro x hx; revert x; decide
      have hsbl : sb.length ≤ 30 := by rw [hsb]; decide
      refine call_V (As := [.ref sa599]) (rest := []) (n := 1) C h (c7_is l D dA B Z hZ h0 ad (lM M1 u.1 (nI u.2.1) (nI u.2.2.1) (nI u.2.2.2)) F tp u.2.2.1 u.2.2.2 sa599 sv599 sb hzs htx1 hT1 htl hby rfl rfl ln1 ln2 (nilup hsbk _) hsbb (by omega)) (lw_V q2148 q2150 qs49 q138 q2151) (by decide +kernel) (ci := 5) rfl rfl mw_mem0 (by decide) (by decide) rfl hl rfl (Nat.le_of_ble_eq_true rfl) dX7_readCase_43 (by omega) (fun _ H locs _ h => ?_)
      rw [hsb]
      show W p l e R s m args below meth c H locs (0 + 0 + 0) (0 + 0 + 0) Q (F0 m 46 ls [.int (bZ (isL tp u btL))])
      refine z_if_eq (tgt := 54) hx hb dX7_readCase_46 (by decide) (fun c46 => ?_) (fun c46 => ?_)
      · refine lv_aload_n hx hb dX7_readCase_54 rfl (lv_at hl 0 rfl) ?_
        obtain ⟨S9, hS9⟩ : ∃ z, z = byLabS tp u := ⟨_, rfl⟩
        have hU1 : csS tp dc = if S9.1.1 = 0 then (if S9.2.length = 0 then (-1, [], []) else rpS S9.2 dc) else (S9.1.1, [], []) := by rw [hU0]; unfold csT; rw [if_neg (by rw [c46]; decide), ← hS9]
        refine call_V (As := []) (rest := []) (n := 0) C h (c7_signsByLabel l D dA B Z hZ h0 ad M1 F tp u hzs hsz1 htx1 hT1 htl hby hun hG61 ln1 ln2 hu0) (lw_V q2132 q2134 qs48 q138 q2135) (by decide +kernel) (ci := 5) rfl rfl mw_mem0 (by decide) (by decide) rfl hl rfl (Nat.le_of_ble_eq_true rfl) dX7_readCase_55 (by omega) (fun zs H locs hzz h => ?_)
        obtain ⟨G9, n9, E9⟩ := zs
        rw [← hS9] at hzz
        obtain ⟨hG9, hzz⟩ := hzz
        dsimp only at hG9 hzz
        have h : Wd D B s (mw dA h0 ad (gM M1 (byLabS tp u).1.1 (nI (byLabS tp u).1.2.1) (nI (byLabS tp u).1.2.2.1) (nI (byLabS tp u).1.2.2.2) G9) ++ (F ++ E9)) H locs := h
        rw [← hS9] at h
        obtain ⟨M4, hM4⟩ : ∃ z, z = gM M1 S9.1.1 (nI S9.1.2.1) (nI S9.1.2.2.1) (nI S9.1.2.2.2) G9 := ⟨_, rfl⟩
        rw [← hM4] at h
        have hKl4 : Kl M M4 := by rw [hM4]; exact hKl1.trans (gM_kl _ _ _ _ _ _ hG9)
        have hI4 : MI M4 := by rw [hM4]; exact hI1
        have h334 : mI M4 33 = S9.1.1 := by rw [hM4]; rfl
        have h64 : mG M4 6 = G9 := by rw [hM4]; rfl
        have h34 : mI M4 3 = nI dc.length := by rw [hM4]; exact h31
        have hdc4 : ∀ j, j < dc.length → mG M4 4 j = gD dc j := by rw [hM4]; exact hdc1
        show W p l e R s m args below meth c H locs (0 + 0 + 0 + 28) (0 + 0 + 0 + 4800) Q (F0 m 58 ls [.int (nI n9)])
        refine lv_istore_n (lv' := [(3, .int (nI n9)), (0, .ref h0), (1, .ref (ad 2)), (2, .int (nI tp.length))]) hx hb dX7_readCase_58 rfl hl (by decide) rfl (fun ls hl => ?_)
        refine lv_aload_n hx hb dX7_readCase_59 rfl (lv_at hl 1 rfl) ?_
        refine m_gi C h 33 (by decide) rfl rfl q1903 (v := S9.1.1) h334 dX7_readCase_60 ?_
        refine lv_if_ne (tgt := 75) hx hb dX7_readCase_63 (by decide) (fun c63 => ?_) (fun c63 => ?_)
        · have hU : csS tp dc = (S9.1.1, [], []) := by rw [hU1, if_neg c63]
          refine lv_aload_n hx hb dX7_readCase_75 rfl (lv_at hl 1 rfl) ?_
          refine m_gi C h 33 (by decide) rfl rfl q1903 (v := S9.1.1) h334 dX7_readCase_76 ?_
          refine lv_if_ne (tgt := 91) hx hb dX7_readCase_79 (by decide) (fun c79 => ?_) (fun c79 => by exfalso; exact c63 c79)
          subst hQ
          have h : Wd D B s (mw dA h0 ad M4 ++ (F ++ (E9))) H locs := by (try simp only [List.append_assoc, List.append_nil] at h ⊢); exact h
          exact ret_v C hr hlocks h (M4, E9) (⟨hI4, hKl4, by rw [hU]; exact h334, fun z => by rw [hU] at z; exact absurd z c63⟩) rfl rfl (by omega) (by omega) dX7_readCase_91
        · obtain ⟨hz1, hz2, hz3, hz4⟩ := hzz c63
          obtain ⟨rw9, hrw9⟩ : ∃ z, z = S9.2 := ⟨_, rfl⟩
          rw [← hrw9] at hz1 hz2 hz3
          rw [hz1] at hl hz2 hz4
          rw [if_pos c63, ← hrw9] at hU1
          have hl : lv_has ls 4 [(3, .int (nI rw9.length)), (0, .ref h0), (1, .ref (ad 2)), (2, .int (nI tp.length))] := hl
          have hrwl : rw9.length ≤ 4096 := by omega
          refine lv_iload_n hx hb dX7_readCase_66 rfl (lv_at hl 0 rfl) ?_
          refine n_if_ne (tgt := 75) hx hb (by omega) dX7_readCase_67 (by decide) (fun c67 => ?_) (fun c67 => ?_)
          · have hU : csS tp dc = rpS rw9 dc := by rw [hU1, if_neg c67]
            refine lv_aload_n hx hb dX7_readCase_75 rfl (lv_at hl 1 rfl) ?_
            refine m_gi C h 33 (by decide) rfl rfl q1903 (v := S9.1.1) h334 dX7_readCase_76 ?_
            refine lv_if_ne (tgt := 91) hx hb dX7_readCase_79 (by decide) (fun c79 => by exfalso; exact c79 c63) (fun c79 => ?_)
            refine lv_aload_n hx hb dX7_readCase_82 rfl (lv_at hl 1 rfl) ?_
            refine lv_aload_n hx hb dX7_readCase_83 rfl (lv_at hl 1 rfl) ?_
            refine m_gc C h 6 (by decide) rfl rfl q1876 dX7_readCase_84 ?_
            refine lv_iload_n hx hb dX7_readCase_87 rfl (lv_at hl 0 rfl) ?_
            have h334z : mI M4 33 = 0 := h334.trans c63
            refine call_V (As := [.ref (ad 6), .int (nI rw9.length)]) (rest := []) (n := 2) C h (c7_readPackets l D dA B Z hZ h0 ad M4 (F ++ E9) rw9 dc 6 hI4 (Or.inr rfl) (by rw [h64]; exact hz2) hrwl hz3 h334z h34 hdc4 hdb hdl) (lw_V q2381 q2383 qs89 q138 q2384) (by decide +kernel) (ci := 5) rfl rfl mw_mem0 (by decide) (by decide) rfl hl rfl (Nat.le_of_ble_eq_true rfl) dX7_readCase_88 (by omega) (fun ur H locs hur h => ?_)
            obtain ⟨M2, E2⟩ := ur
            obtain ⟨hI2, hKl2, h332, hc2⟩ := hur
            dsimp only at hI2 hKl2 h332 hc2
            have hKl2 := hKl4.trans hKl2
            have h : Wd D B s (mw dA h0 ad M2 ++ (F ++ E9 ++ E2)) H locs := h
            subst hQ
            have h : Wd D B s (mw dA h0 ad M2 ++ (F ++ (E9 ++ (E2)))) H locs := by (try simp only [List.append_assoc, List.append_nil] at h ⊢); exact h
            exact ret_v C hr hlocks h (M2, E9 ++ (E2)) (⟨hI2, hKl2, by rw [hU]; exact h332, fun z => by rw [hU] at z ⊢; rw [← List.append_assoc]; exact (hc2 z).mono hz4 htl⟩) rfl rfl (by omega) (by omega) dX7_readCase_91
          · refine lv_aload_n hx hb dX7_readCase_70 rfl (lv_at hl 1 rfl) ?_
            refine lv_iconst (v := -1) hx hb dX7_readCase_71 (by decide) ?_
            have hU : csS tp dc = (-1, [], []) := by rw [hU1, if_pos c67]
            refine call_V (As := [.int (-1)]) (rest := []) (n := 1) C h (c7_fail l D dA B Z hZ h0 ad M4 (F ++ E9) (-1)) (lw_V q2125 q2127 qs47 q138 q2128) (by decide +kernel) (ci := 5) rfl rfl mw_mem0 (by decide) (by decide) rfl hl rfl (Nat.le_of_ble_eq_true rfl) dX7_readCase_72 (by omega) (fun _ H locs _ h => ?_)
            have h : Wd D B s (mw dA h0 ad (sI M4 33 (failT (mI M4 33) (-1))) ++ (F ++ E9)) H locs := h
            have hft : failT (mI M4 33) (-1) = -1 := by rw [h334, c63]; rfl
            refine lv_aload_n hx hb dX7_readCase_75 rfl (lv_at hl 1 rfl) ?_
            refine m_gi C h 33 (by decide) rfl rfl q1903 (v := failT (mI M4 33) (-1)) rfl dX7_readCase_76 ?_
            refine lv_if_ne (tgt := 91) hx hb dX7_readCase_79 (by decide) (fun c79 => ?_) (fun c79 => by exfalso; rw [hft] at c79; exact absurd c79 (by decide))
            subst hQ
            have h : Wd D B s (mw dA h0 ad (sI M4 33 (failT (mI M4 33) (-1))) ++ (F ++ (E9))) H locs := by (try simp only [List.append_assoc, List.append_nil] at h ⊢); exact h
            exact ret_v C hr hlocks h ((sI M4 33 (failT (mI M4 33) (-1))), E9) (⟨hI4, hKl4.sI (by decide), by rw [hU]; exact hft, fun z => by rw [hU] at z; exact absurd z (by decide)⟩) rfl rfl (by omega) (by omega) dX7_readCase_91
      · refine lv_aload_n hx hb dX7_readCase_49 rfl (lv_at hl 0 rfl) ?_
        have hU : csS tp dc = rcS tp u := by rw [hU0]; unfold csT; rw [if_pos c46]
        refine call_V (As := []) (rest := []) (n := 0) C h (c7_readClear l D dA B Z hZ h0 ad M1 F tp u hzs hI1 hsz1 htx1 hT1 htl hby hun hG61) (lw_V q2394 q2396 qs92 q138 q2397) (by decide +kernel) (ci := 5) rfl rfl mw_mem0 (by decide) (by decide) rfl hl rfl (Nat.le_of_ble_eq_true rfl) dX7_readCase_50 (by omega) (fun ur H locs hur h => ?_)
        obtain ⟨M2, E2⟩ := ur
        obtain ⟨hI2, hKl2, h332, hc2⟩ := hur
        dsimp only at hI2 hKl2 h332 hc2
        have hKl2 := hKl1.trans hKl2
        have h : Wd D B s (mw dA h0 ad M2 ++ (F ++ E2)) H locs := h
        subst hQ
        have h : Wd D B s (mw dA h0 ad M2 ++ (F ++ (E2))) H locs := by (try simp only [List.append_assoc, List.append_nil] at h ⊢); exact h
        exact ret_v C hr hlocks h (M2, E2) (⟨hI2, hKl2, by rw [hU]; exact h332, fun z => by rw [hU] at z ⊢; exact hc2 z⟩) rfl rfl (by omega) (by omega) dX7_readCase_53
    · have hU : csS tp dc = rpS tp dc := by unfold csS; rw [if_neg c1, if_pos c15]
      refine lv_aload_n hx hb dX7_readCase_18 rfl (lv_at hl 0 rfl) ?_
      refine lv_aload_n hx hb dX7_readCase_19 rfl (lv_at hl 1 rfl) ?_
      refine lv_iload_n hx hb dX7_readCase_20 rfl (lv_at hl 2 rfl) ?_
      refine call_V (As := [.ref (ad 2), .int (nI tp.length)]) (rest := []) (n := 2) C h (c7_readPackets l D dA B Z hZ h0 ad M F tp dc 2 hI (Or.inl rfl) hT htl hby h33 h3 hdc hdb hdl) (lw_V q2381 q2383 qs89 q138 q2384) (by decide +kernel) (ci := 5) rfl rfl mw_mem0 (by decide) (by decide) rfl hl rfl (Nat.le_of_ble_eq_true rfl) dX7_readCase_21 (by omega) (fun ur H locs hur h => ?_)
      obtain ⟨M2, E2⟩ := ur
      obtain ⟨hI2, hKl2, h332, hc2⟩ := hur
      dsimp only at hI2 hKl2 h332 hc2
      have h : Wd D B s (mw dA h0 ad M2 ++ (F ++ E2)) H locs := h
      subst hQ
      have h : Wd D B s (mw dA h0 ad M2 ++ (F ++ (E2))) H locs := by (try simp only [List.append_assoc, List.append_nil] at h ⊢); exact h
      exact ret_v C hr hlocks h (M2, E2) (⟨hI2, hKl2, by rw [hU]; exact h332, fun z => by rw [hU] at z ⊢; exact hc2 z⟩) rfl rfl (by omega) (by omega) dX7_readCase_24
  · have hU : csS tp dc = (-1, [], []) := by unfold csS; rw [if_pos c1]
    refine lv_aload_n hx hb dX7_readCase_4 rfl (lv_at hl 0 rfl) ?_
    refine lv_iconst (v := -1) hx hb dX7_readCase_5 (by decide) ?_
    refine call_V (As := [.int (-1)]) (rest := []) (n := 1) C h (c7_fail l D dA B Z hZ h0 ad M F (-1)) (lw_V q2125 q2127 qs47 q138 q2128) (by decide +kernel) (ci := 5) rfl rfl mw_mem0 (by decide) (by decide) rfl hl rfl (Nat.le_of_ble_eq_true rfl) dX7_readCase_6 (by omega) (fun _ H locs _ h => ?_)
    have h : Wd D B s (mw dA h0 ad (sI M 33 (failT (mI M 33) (-1))) ++ F) H locs := h
    subst hQ
    have h : Wd D B s (mw dA h0 ad (sI M 33 (failT (mI M 33) (-1))) ++ (F ++ ([]))) H locs := by (try simp only [List.append_assoc, List.append_nil] at h ⊢); exact h
    exact ret_v C hr hlocks h ((sI M 33 (failT (mI M 33) (-1))), []) (⟨hI, (Kl.rfl' M).sI (by decide), by rw [hU]; show failT (mI M 33) (-1) = _; rw [h33]; rfl, fun z => by rw [hU] at z; exact absurd z (by decide)⟩) rfl rfl (by omega) (by omega) dX7_readCase_9
