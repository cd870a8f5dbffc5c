set_option maxRecDepth 100000
def gM (M : MS) (x33 : Int32) (x36 : Int32) (x37 : Int32) (x38 : Int32) (x6 : Nat → Nat) : MS := sG (sI (sI (sI (sI M 33 x33) 36 x36) 37 x37) 38 x38) 6 x6
theorem gM_id (M : MS) : gM M (mI M 33) (mI M 36) (mI M 37) (mI M 38) (mG M 6) = M := MS.ext (by
    show upN (upN (upN (upN M.1 33 (M.1 33)) 36 (M.1 36)) 37 (M.1 37)) 38 (M.1 38) = M.1
    rw [upN_same M.1 33 _ rfl, upN_same M.1 36 _ rfl, upN_same M.1 37 _ rfl, upN_same M.1 38 _ rfl]) rfl rfl (by
    show upN M.2.2.2.1 6 (M.2.2.2.1 6) = M.2.2.2.1
    rw [upN_same M.2.2.2.1 6 _ rfl]) rfl rfl
theorem gM_33 (M : MS) (x33 : Int32) (x36 : Int32) (x37 : Int32) (x38 : Int32) (x6 : Nat → Nat) (y : Int32) : sI (gM M x33 x36 x37 x38 x6) 33 y = gM M y x36 x37 x38 x6 := MS.ext (by
    show upN (upN (upN (upN (upN M.1 33 x33) 36 x36) 37 x37) 38 x38) 33 y = upN (upN (upN (upN M.1 33 y) 36 x36) 37 x37) 38 x38
    rw [upN_comm _ _ _ (by decide : (38 : Nat) ≠ 33), upN_comm _ _ _ (by decide : (37 : Nat) ≠ 33), upN_comm _ _ _ (by decide : (36 : Nat) ≠ 33), upN_upN]) rfl rfl rfl rfl rfl
theorem gM_36 (M : MS) (x33 : Int32) (x36 : Int32) (x37 : Int32) (x38 : Int32) (x6 : Nat → Nat) (y : Int32) : sI (gM M x33 x36 x37 x38 x6) 36 y = gM M x33 y x37 x38 x6 := MS.ext (by
    show upN (upN (upN (upN (upN M.1 33 x33) 36 x36) 37 x37) 38 x38) 36 y = upN (upN (upN (upN M.1 33 x33) 36 y) 37 x37) 38 x38
    rw [upN_comm _ _ _ (by decide : (38 : Nat) ≠ 36), upN_comm _ _ _ (by decide : (37 : Nat) ≠ 36), upN_upN]) rfl rfl rfl rfl rfl
theorem gM_37 (M : MS) (x33 : Int32) (x36 : Int32) (x37 : Int32) (x38 : Int32) (x6 : Nat → Nat) (y : Int32) : sI (gM M x33 x36 x37 x38 x6) 37 y = gM M x33 x36 y x38 x6 := MS.ext (by
    show upN (upN (upN (upN (upN M.1 33 x33) 36 x36) 37 x37) 38 x38) 37 y = upN (upN (upN (upN M.1 33 x33) 36 x36) 37 y) 38 x38
    rw [upN_comm _ _ _ (by decide : (38 : Nat) ≠ 37), upN_upN]) rfl rfl rfl rfl rfl
theorem gM_38 (M : MS) (x33 : Int32) (x36 : Int32) (x37 : Int32) (x38 : Int32) (x6 : Nat → Nat) (y : Int32) : sI (gM M x33 x36 x37 x38 x6) 38 y = gM M x33 x36 x37 y x6 := MS.ext (by
    show upN (upN (upN (upN (upN M.1 33 x33) 36 x36) 37 x37) 38 x38) 38 y = upN (upN (upN (upN M.1 33 x33) 36 x36) 37 x37) 38 y
    rw [upN_upN]) rfl rfl rfl rfl rfl
theorem gM_6 (M : MS) (x33 : Int32) (x36 : Int32) (x37 : Int32) (x38 : Int32) (x6 : Nat → Nat) (y : Nat → Nat) : sG (gM M x33 x36 x37 x38 x6) 6 y = gM M x33 x36 x37 x38 y := MS.ext rfl rfl rfl (by
    show upN (upN M.2.2.2.1 6 x6) 6 y = upN M.2.2.2.1 6 y
    rw [upN_upN]) rfl rfl
theorem gM_re (M : MS) (x33 : Int32) (x36 : Int32) (x37 : Int32) (x38 : Int32) (x6 : Nat → Nat) (y33 : Int32) (y36 : Int32) (y37 : Int32) (y38 : Int32) (y6 : Nat → Nat) : gM (gM M x33 x36 x37 x38 x6) y33 y36 y37 y38 y6 = gM M y33 y36 y37 y38 y6 := by
  show sG (sI (sI (sI (sI (gM M x33 x36 x37 x38 x6) 33 y33) 36 y36) 37 y37) 38 y38) 6 y6 = _
  rw [gM_33, gM_36, gM_37, gM_38, gM_6]
theorem lM_gM (M : MS) (x33 : Int32) (x36 : Int32) (x37 : Int32) (x38 : Int32) (x6 : Nat → Nat) (y33 : Int32) (y36 : Int32) (y37 : Int32) (y38 : Int32) : lM (gM M x33 x36 x37 x38 x6) y33 y36 y37 y38 = gM M y33 y36 y37 y38 x6 := by
  show sI (sI (sI (sI (gM M x33 x36 x37 x38 x6) 33 y33) 36 y36) 37 y37) 38 y38 = _
  rw [gM_33, gM_36, gM_37, gM_38]

theorem bF_ok {v : Int32} {vv j : Nat} (h : v = nI vv) (hv : vv < 2147483648) (hj : j < 3) {x : Nat} (hx : x < 256) (e : shr v (nI (16 - 8 * j)) &&& nI 255 = nI x) : x = byF vv j := by
  have e1 : shr (nI vv) (nI (16 - 8 * j)) = nI (vv / 2 ^ (16 - 8 * j)) := n_shrN hv (by omega)
  have h2 : vv / 2 ^ (16 - 8 * j) < 2147483648 := Nat.lt_of_le_of_lt (Nat.div_le_self _ _) hv
  rw [h, e1, show nI 255 = 255 from rfl, pk_andN (Nat.lt_trans h2 (by decide)) 8 (by decide)] at e
  have h3 := (nI_eq (Nat.lt_trans (Nat.mod_lt (vv / 2 ^ (16 - 8 * j)) (by decide : 0 < 2 ^ 8)) (by decide)) (by omega)).mp e
  unfold byF
  exact h3.symm
theorem foursF_s {tx : List Nat} {n p : Nat} {acc b : List Nat} (h : fourF tx p = some b) : foursF tx (n + 1) p false acc = foursF tx n (p + 4) (decide (b.length < 3)) (acc ++ b) := by
  rw [foursF, if_neg (by decide), h]
theorem foursF_n {tx : List Nat} {n p : Nat} {e : Bool} {acc : List Nat} (h : e = true ∨ fourF tx p = none) : foursF tx (n + 1) p e acc = none := by
  rw [foursF]
  split
  · rfl
  · next q =>
    rcases h with h | h
    · exact absurd h q
    · rw [h]

set_option maxHeartbeats 1000000 in
set_option maxRecDepth 100000 in
theorem c7_signs (l : Launch) (D : va_G) (dA : Nat → ClassId) (B : Nat) (Z : State → Prop) (hZ : Stab B Z) (h0 : Nat) (ad : Nat → Nat) (M : MS) (F : va_W) (tx : List Nat) (u : LU) (la lv9 : Nat) (ll : List Nat) (hzs : ZS dA B Z) (hsz : mI M 35 = nI tx.length) (htx : mR M 34 = some (ad 2)) (hT : ∀ j, j < tx.length → mG M 2 j = gD tx j) (htl : tx.length ≤ 4096) (hby : byt tx) (hn : u.2.1 ≤ 5000) (hG6 : ∀ j, mG M 6 j < 256) (hs : StrV dA B Z F la lv9 ll) (hlb : byt ll) (hll : ll.length ≤ 13) :
    Ct (S := (Nat → Nat) × Nat × va_W) l D dA B Z yX7_signs cX7_signs 10 (some .int) 8 7 1200 [.ref h0, .ref la] (mw dA h0 ad (lM M u.1 (nI u.2.1) (nI u.2.2.1) (nI u.2.2.2)) ++ F) (fun z => (∀ j, z.1 j < 256) ∧ ((signsS tx ll u).1.1 = 0 → (z.2.1 = (signsS tx ll u).2.length ∧ (∀ j, j < z.2.1 → z.1 j = gD (signsS tx ll u).2 j) ∧ byt (signsS tx ll u).2 ∧ z.2.1 ≤ tx.length))) (fun z => some (.int (nI z.2.1))) (fun z => mw dA h0 ad (gM M (signsS tx ll u).1.1 (nI (signsS tx ll u).1.2.1) (nI (signsS tx ll u).1.2.2.1) (nI (signsS tx ll u).1.2.2.2) z.1) ++ (F ++ z.2.2)) := by
  refine Ct.mk2 (by decide) (Nat.le_of_ble_eq_true rfl) hZ ?_
  intro p e R s m args below meth c ls Q C hr hlocks hin hQ hl h
  have C0 := C
  obtain ⟨hx, hb, hml, hown, hts, -⟩ := C0
  have hl : lv_has ls 10 [(0, .ref h0), (1, .ref la)] := hl
  have hG0 : lM M u.1 (nI u.2.1) (nI u.2.2.1) (nI u.2.2.2) = gM M u.1 (nI u.2.1) (nI u.2.2.1) (nI u.2.2.2) (mG M 6) := MS.ext rfl rfl rfl (upN_same _ _ _ rfl).symm rfl rfl
  have h : Wd D B s (mw dA h0 ad (gM M u.1 (nI u.2.1) (nI u.2.2.1) (nI u.2.2.2) (mG M 6)) ++ F) s.heap [] := by rw [← hG0]; exact h
  refine lv_aload_n hx hb dX7_signs_0 rfl (lv_at hl 0 rfl) ?_
  have h : Wd D B s (mw dA h0 ad (lM (gM M u.1 (nI u.2.1) (nI u.2.2.1) (nI u.2.2.2) (mG M 6)) (u.1, u.2).1 (nI (u.1, u.2).2.1) (nI (u.1, u.2).2.2.1) (nI (u.1, u.2).2.2.2)) ++ F) s.heap [] := by rw [lM_gM]; exact h
  refine call_V (As := []) (rest := []) (n := 0) C h (c7_heads l D dA B Z hZ h0 ad (gM M u.1 (nI u.2.1) (nI u.2.2.1) (nI u.2.2.2) (mG M 6)) F tx (u.1, u.2) hsz htx hT htl hby hn) (lw_V q2158 q2160 qs51 q138 q2161) (by decide +kernel) (ci := 5) rfl rfl mw_mem0 (by decide) (by decide) rfl hl rfl (Nat.le_of_ble_eq_true rfl) dX7_signs_1 (by omega) (fun _ H locs _ h => ?_)
  rw [lM_gM] at h
  obtain ⟨u1, hu1⟩ : ∃ z, z = headsS tx u := ⟨_, rfl⟩
  have h : Wd D B s (mw dA h0 ad (gM M (headsS tx u).1 (nI (headsS tx u).2.1) (nI (headsS tx u).2.2.1) (nI (headsS tx u).2.2.2) (mG M 6)) ++ F) H locs := h
  rw [← hu1] at h
  have hn1 : u1.2.1 ≤ 5000 := by rw [hu1]; exact headsS_le tx u htl hn
  refine lv_aload_n hx hb dX7_signs_4 rfl (lv_at hl 0 rfl) ?_
  refine m_gc C h 6 (by decide) rfl rfl q1876 dX7_signs_5 ?_
  refine lv_astore_n (lv' := [(2, .ref (ad 6)), (0, .ref h0), (1, .ref la)]) hx hb dX7_signs_8 rfl hl (by decide) rfl (fun ls hl => ?_)
  refine lv_iconst (v := nI 0) hx hb dX7_signs_9 (by decide) ?_
  refine lv_istore_n (lv' := [(3, .int (nI 0)), (2, .ref (ad 6)), (0, .ref h0), (1, .ref la)]) hx hb dX7_signs_10 rfl hl (by decide) rfl (fun ls hl => ?_)
  refine lv_iconst (v := nI 0) hx hb dX7_signs_11 (by decide) ?_
  refine lv_istore (lv' := [(4, .int (nI 0)), (3, .int (nI 0)), (2, .ref (ad 6)), (0, .ref h0), (1, .ref la)]) hx hb dX7_signs_12 hl (by decide) rfl (fun ls hl => ?_)
  refine lv_aload_n hx hb dX7_signs_14 rfl (lv_at hl 3 rfl) ?_
  have h : Wd D B s (mw dA h0 ad (lM (gM M u1.1 (nI u1.2.1) (nI u1.2.2.1) (nI u1.2.2.2) (mG M 6)) (u1.1, u1.2).1 (nI (u1.1, u1.2).2.1) (nI (u1.1, u1.2).2.2.1) (nI (u1.1, u1.2).2.2.2)) ++ F) H locs := by rw [lM_gM]; exact h
  refine call_V (As := []) (rest := []) (n := 0) C h (c7_line l D dA B Z hZ h0 ad (gM M u1.1 (nI u1.2.1) (nI u1.2.2.1) (nI u1.2.2.2) (mG M 6)) F tx (u1.1, u1.2) hsz htx hT htl hby hn1) (lw_V q2116 q2118 qs45 q138 q2119) (by decide +kernel) (ci := 5) rfl rfl mw_mem0 (by decide) (by decide) rfl hl rfl (Nat.le_of_ble_eq_true rfl) dX7_signs_15 (by omega) (fun _ H locs _ h => ?_)
  rw [lM_gM] at h
  have hok0 := lineS_ok tx u1 htl hn1
  obtain ⟨b0, v0, hbv0⟩ : ∃ b0 v0, lineS tx u1 = (b0, v0) := ⟨_, _, rfl⟩
  have h : Wd D B s (mw dA h0 ad (gM M (lineS tx u1).2.1 (nI (lineS tx u1).2.2.1) (nI (lineS tx u1).2.2.2.1) (nI (lineS tx u1).2.2.2.2) (mG M 6)) ++ F) H locs := h
  show W p l e R s m args below meth c H locs (0 + 0 + 0) (0 + 0 + 0) Q (F0 m 18 ls [.int (bZ ((lineS tx u1).1))])
  rw [hbv0] at hok0 h ⊢
  have hok0 : lnok tx b0 v0 := hok0
  have h : Wd D B s (mw dA h0 ad (gM M v0.1 (nI v0.2.1) (nI v0.2.2.1) (nI v0.2.2.2) (mG M 6)) ++ F) H locs := h
  show W p l e R s m args below meth c H locs (0 + 0 + 0) (0 + 0 + 0) Q (F0 m 18 ls [.int (bZ b0)])
  refine lv_istore (lv' := [(5, .int (bZ b0)), (4, .int (nI 0)), (3, .int (nI 0)), (2, .ref (ad 6)), (0, .ref h0), (1, .ref la)]) hx hb dX7_signs_18 hl (by decide) rfl (fun ls hl => ?_)
  obtain ⟨R0, hR0⟩ : ∃ z, z = bodyF tx (tx.length + 2) false [] (b0, v0) := ⟨_, rfl⟩
  have hlf : b0 = false → v0.1 ≠ 0 := fun q => lineS_f hbv0 htl q
  have j286 : ∀ (n : Nat) (G : Nat → Nat), (n ≤ tx.length) → (R0.1.1 = 0 → (n = R0.2.length ∧ (∀ j, j < n → G j = gD R0.2 j) ∧ byt R0.2 ∧ lnok tx true R0.1)) → (R0.1.2.1 ≤ 5000) → (∀ j, G j < 256) → ∀ (H : Heap) (locs : List Loc), Wd D B s (mw dA h0 ad (gM M R0.1.1 (nI R0.1.2.1) (nI R0.1.2.2.1) (nI R0.1.2.2.2) G) ++ F) H locs → ∀ (ls : Array Slot), lv_has ls 10 [(0, .ref h0), (1, .ref la), (2, .ref (ad 6)), (3, .int (nI n))] → W p l e R s m args below meth c H locs (0 + 0 + 0) (0 + 0 + 0) Q (F0 m 286 ls []) := by
    intro n  G  hn9 hG9 hnx9 hGb H locs h ls hl
    have hcn0 : (-100000 - nI R0.1.2.2.1 : Int32) ≠ 0 ∨ R0.1.1 ≠ 0 := by
      by_cases q : R0.1.1 = 0
      · obtain ⟨-, -, -, q9⟩ := hG9 q
        exact Or.inl (code_ne _ (by have := q9 rfl; omega))
      · exact Or.inr q
    have j317 : ∀ (t5 : Int32), (t5 = 0 → (R0.1.1 = 0 ∧ R0.1.2.2.2 - R0.1.2.2.1 = 5)) → (t5 ≠ 0 → (R0.1.1 ≠ 0 ∧ t5 = R0.1.1) ∨ (R0.1.1 = 0 ∧ t5 = (-100000 - nI R0.1.2.2.1) ∧ sumOk tx R0.1.2.2.1 R0.1.2.2.2 R0.2 = false)) → ∀ (H : Heap) (locs : List Loc), Wd D B s (mw dA h0 ad (gM M t5 (nI R0.1.2.1) (nI R0.1.2.2.1) (nI R0.1.2.2.2) G) ++ F) H locs → ∀ (ls : Array Slot), lv_has ls 10 [(0, .ref h0), (1, .ref la), (2, .ref (ad 6)), (3, .int (nI n)), (6, .int (nI 0))] → W p l e R s m args below meth c H locs (0 + 0 + 0) (0 + 0 + 0) Q (F0 m 317 ls []) := by
      intro t5  hy0 hy1 H locs h ls hl
      refine lv_iconst (v := nI 1) hx hb dX7_signs_317 (by decide) ?_
      refine lv_istore (lv' := [(7, .int (nI 1)), (0, .ref h0), (1, .ref la), (2, .ref (ad 6)), (3, .int (nI n)), (6, .int (nI 0))]) hx hb dX7_signs_318 hl (by decide) rfl (fun ls hl => ?_)
      have j353 : ∀ (sm t6 : Int32), (t6 = 0 → (R0.1.1 = 0 ∧ R0.1.2.2.2 - R0.1.2.2.1 = 5 ∧ ok5 tx R0.1.2.2.1 4 = true ∧ sm = nI (sum5 tx R0.1.2.2.1 4))) → (t6 ≠ 0 → (R0.1.1 ≠ 0 ∧ t6 = R0.1.1) ∨ (R0.1.1 = 0 ∧ t6 = (-100000 - nI R0.1.2.2.1) ∧ sumOk tx R0.1.2.2.1 R0.1.2.2.2 R0.2 = false)) → ∀ (H : Heap) (locs : List Loc), Wd D B s (mw dA h0 ad (gM M t6 (nI R0.1.2.1) (nI R0.1.2.2.1) (nI R0.1.2.2.2) G) ++ F) H locs → ∀ (ls : Array Slot), lv_has ls 10 [(0, .ref h0), (1, .ref la), (2, .ref (ad 6)), (3, .int (nI n)), (6, .int sm)] → W p l e R s m args below meth c H locs (0 + 0 + 0) (0 + 0 + 0) Q (F0 m 353 ls []) := by
        intro sm t6  hx0 hx1 H locs h ls hl
        have j378 : ∀ (t8 : Int32), (t8 = (if R0.1.1 = 0 then (if sumOk tx R0.1.2.2.1 R0.1.2.2.2 R0.2 = true then 0 else (-100000 - nI R0.1.2.2.1)) else R0.1.1)) → ∀ (H : Heap) (locs : List Loc), Wd D B s (mw dA h0 ad (gM M t8 (nI R0.1.2.1) (nI R0.1.2.2.1) (nI R0.1.2.2.2) G) ++ F) H locs → ∀ (ls : Array Slot), lv_has ls 10 [(0, .ref h0), (1, .ref la), (2, .ref (ad 6)), (3, .int (nI n))] → W p l e R s m args below meth c H locs (0 + 0 + 0) (0 + 0 + 0) Q (F0 m 378 ls []) := by
          intro t8  ht8 H locs h ls hl
          refine lv_aload_n hx hb dX7_signs_378 rfl (lv_at hl 0 rfl) ?_
          have h : Wd D B s (mw dA h0 ad (lM (gM M t8 (nI R0.1.2.1) (nI R0.1.2.2.1) (nI R0.1.2.2.2) G) (t8, R0.1.2).1 (nI (t8, R0.1.2).2.1) (nI (t8, R0.1.2).2.2.1) (nI (t8, R0.1.2).2.2.2)) ++ F) H locs := by rw [lM_gM]; exact h
          refine call_V (As := []) (rest := []) (n := 0) C h (c7_line l D dA B Z hZ h0 ad (gM M t8 (nI R0.1.2.1) (nI R0.1.2.2.1) (nI R0.1.2.2.2) G) F tx (t8, R0.1.2) hsz htx hT htl hby (by show R0.1.2.1 ≤ _; omega)) (lw_V q2116 q2118 qs45 q138 q2119) (by decide +kernel) (ci := 5) rfl rfl mw_mem0 (by decide) (by decide) rfl hl rfl (Nat.le_of_ble_eq_true rfl) dX7_signs_379 (by omega) (fun _ H locs _ h => ?_)
          rw [lM_gM] at h
          have hok3 := lineS_ok tx (t8, R0.1.2) htl (by show R0.1.2.1 ≤ _; omega)
          obtain ⟨b3, v3, hbv3⟩ : ∃ b3 v3, lineS tx (t8, R0.1.2) = (b3, v3) := ⟨_, _, rfl⟩
          have h : Wd D B s (mw dA h0 ad (gM M (lineS tx (t8, R0.1.2)).2.1 (nI (lineS tx (t8, R0.1.2)).2.2.1) (nI (lineS tx (t8, R0.1.2)).2.2.2.1) (nI (lineS tx (t8, R0.1.2)).2.2.2.2) G) ++ F) H locs := h
          show W p l e R s m args below meth c H locs (0 + 0 + 0 + 0) (0 + 0 + 0 + 0) Q (F0 m 382 ls [.int (bZ ((lineS tx (t8, R0.1.2)).1))])
          rw [hbv3] at hok3 h ⊢
          have hok3 : lnok tx b3 v3 := hok3
          have h : Wd D B s (mw dA h0 ad (gM M v3.1 (nI v3.2.1) (nI v3.2.2.1) (nI v3.2.2.2) G) ++ F) H locs := h
          show W p l e R s m args below meth c H locs (0 + 0 + 0 + 0) (0 + 0 + 0 + 0) Q (F0 m 382 ls [.int (bZ b3)])
          have hvn3 := lineS_le hbv3 (show R0.1.2.1 ≤ _ by omega) htl
          have hSS : signsS tx ll u = (endF tx ll (b3, v3), R0.2) ∨ (b3 = false ∧ signsS tx ll u = (v3, R0.2)) := by
            have e0 : bodyF tx (tx.length + 2) false [] (lineS tx (headsS tx u)) = R0 := by rw [← hu1, hbv0]; exact hR0.symm
            unfold signsS
            rw [e0]
            by_cases y1 : R0.1.1 = 0
            · rw [if_pos y1] at ht8 ⊢
              cases y2 : sumOk tx R0.1.2.2.1 R0.1.2.2.2 R0.2 with
              | true =>
                rw [y2, if_pos rfl] at ht8
                rw [if_pos rfl]
                have e1 : R0.1 = (t8, R0.1.2) := by rw [ht8, ← y1]
                rw [e1, hbv3]; exact Or.inl rfl
              | false =>
                rw [y2, if_neg (by decide)] at ht8
                rw [if_neg (by decide)]
                have e1 : failLn R0.1 R0.1.2.2.1 = (t8, R0.1.2) := by unfold failLn; rw [y1, failT_0, ht8]
                have e2 : t8 ≠ 0 := by rw [ht8]; exact hcn0.resolve_right (fun z => z y1)
                rw [lineS_n (u := (t8, R0.1.2)) e2] at hbv3
                cases hbv3
                rw [e1]; exact Or.inr ⟨rfl, rfl⟩
            · rw [if_neg y1] at ht8 ⊢
              have e2 : t8 ≠ 0 := by rw [ht8]; exact y1
              rw [lineS_n (u := (t8, R0.1.2)) e2] at hbv3
              cases hbv3
              refine Or.inr ⟨rfl, ?_⟩
              rw [ht8]
          have hAG : (signsS tx ll u).1.1 = 0 → R0.1.1 = 0 := by
            intro q
            by_cases y1 : R0.1.1 = 0
            · exact y1
            · exfalso
              rw [if_neg y1] at ht8
              have e2 : t8 ≠ 0 := by rw [ht8]; exact y1
              rw [lineS_n (u := (t8, R0.1.2)) e2] at hbv3
              cases hbv3
              rcases hSS with e | ⟨-, e⟩
              · rw [e] at q; exact e2 q
              · rw [e] at q; exact e2 q
          have hS2 : (signsS tx ll u).2 = R0.2 := by rcases hSS with e | ⟨-, e⟩ <;> rw [e]
          have loopF : ∀ (nnloopF : Nat) (f9 : Nat) (w9 : LU) (E9 : va_W), ((signsS tx ll u).1 = tailF tx f9 w9) → (w9.1 = 0 → tx.length + 1 < w9.2.1 + f9) → (w9.2.1 ≤ 5000) → f9 < nnloopF → ∀ (H : Heap) (locs : List Loc), Wd D B s (mw dA h0 ad (gM M w9.1 (nI w9.2.1) (nI w9.2.2.1) (nI w9.2.2.2) G) ++ (F ++ E9)) H locs → ∀ (ls : Array Slot), lv_has ls 10 [(0, .ref h0), (1, .ref la), (2, .ref (ad 6)), (3, .int (nI n))] → W p l e R s m args below meth c H locs 7 1200 Q (F0 m 426 ls []) := by
            intro nnloopF
            induction nnloopF with
            | zero => intro f9  w9  E9  hw0 hw1 hw2 hme; exact absurd hme (Nat.not_lt_zero _)
            | succ nnloopF ihloopF =>
              intro f9  w9  E9  hw0 hw1 hw2 hme H locs h ls hl
              refine lv_aload_n hx hb dX7_signs_426 rfl (lv_at hl 0 rfl) ?_
              refine m_gi C h 33 (by decide) rfl rfl q1903 (v := w9.1) rfl dX7_signs_427 ?_
              refine lv_if_ne (tgt := 473) hx hb dX7_signs_430 (by decide) (fun c430 => ?_) (fun c430 => ?_)
              · refine lv_iload_n hx hb dX7_signs_473 rfl (lv_at hl 3 rfl) ?_
                subst hQ
                have hfin : (signsS tx ll u).1 = w9 := by rw [hw0]; exact tailF_n (by first | (intro z; exact c430 z.1) | (intro z; have := z.2; omega))
                exact ret_i C hr hlocks h (G, n, E9) (⟨hGb, fun q => by
                  obtain ⟨z1, z2, z3, -⟩ := hG9 (hAG q)
                  rw [hS2]
                  exact ⟨z1, z2, z3, hn9⟩⟩) rfl (by rw [hfin]) (by omega) (by omega) dX7_signs_474
              · have hw90 : w9.1 = 0 := c430
                have hw91 := hw1 hw90
                refine lv_aload_n hx hb dX7_signs_433 rfl (lv_at hl 0 rfl) ?_
                refine m_gi C h 36 (by decide) rfl rfl q1906 (v := nI w9.2.1) rfl dX7_signs_434 ?_
                refine lv_aload_n hx hb dX7_signs_437 rfl (lv_at hl 0 rfl) ?_
                refine m_gi C h 35 (by decide) rfl rfl q1905 (v := nI tx.length) hsz dX7_signs_438 ?_
                refine n_icmp_ge (tgt := 473) hx hb (by omega) (by omega) dX7_signs_441 (by decide) (fun c441 => ?_) (fun c441 => ?_)
                · refine lv_iload_n hx hb dX7_signs_473 rfl (lv_at hl 3 rfl) ?_
                  subst hQ
                  have hfin : (signsS tx ll u).1 = w9 := by rw [hw0]; exact tailF_n (by first | (intro z; exact c430 z.1) | (intro z; have := z.2; omega))
                  exact ret_i C hr hlocks h (G, n, E9) (⟨hGb, fun q => by
                    obtain ⟨z1, z2, z3, -⟩ := hG9 (hAG q)
                    rw [hS2]
                    exact ⟨z1, z2, z3, hn9⟩⟩) rfl (by rw [hfin]) (by omega) (by omega) dX7_signs_474
                · have hw92 : w9.2.1 < tx.length := by omega
                  obtain ⟨f9, rfl⟩ : ∃ z, f9 = z + 1 := ⟨f9 - 1, by omega⟩
                  refine lv_aload_n hx hb dX7_signs_444 rfl (lv_at hl 0 rfl) ?_
                  have h : Wd D B s (mw dA h0 ad (lM (gM M w9.1 (nI w9.2.1) (nI w9.2.2.1) (nI w9.2.2.2) G) w9.1 (nI w9.2.1) (nI w9.2.2.1) (nI w9.2.2.2)) ++ (F ++ E9)) H locs := by rw [lM_gM]; exact h
                  refine call_V (As := []) (rest := []) (n := 0) C h (c7_line l D dA B Z hZ h0 ad (gM M w9.1 (nI w9.2.1) (nI w9.2.2.1) (nI w9.2.2.2) G) (F ++ E9) tx w9 hsz htx hT htl hby hw2) (lw_V q2116 q2118 qs45 q138 q2119) (by decide +kernel) (ci := 5) rfl rfl mw_mem0 (by decide) (by decide) rfl hl rfl (Nat.le_of_ble_eq_true rfl) dX7_signs_445 (by omega) (fun _ H locs _ h => ?_)
                  rw [lM_gM] at h
                  have hy4 := lineS_y hw90 hw92
                  have hok4 := lineS_ok tx w9 htl hw2
                  have hin4 := lineS_inc tx w9 hy4
                  have hle4 := lineS_le (b := (lineS tx w9).1) (v := (lineS tx w9).2) rfl hw2 htl
                  obtain ⟨v4, hv4⟩ : ∃ z, z = (lineS tx w9).2 := ⟨_, rfl⟩
                  rw [hy4] at hok4
                  rw [← hv4] at h hok4 hin4 hle4
                  obtain ⟨q1, q2, q3, q4⟩ := hok4 rfl
                  have h : Wd D B s (mw dA h0 ad (gM M v4.1 (nI v4.2.1) (nI v4.2.2.1) (nI v4.2.2.2) G) ++ (F ++ E9)) H locs := h
                  rw [hy4]
                  show W p l e R s m args below meth c H locs (7 + 0) (1200 + 0) Q (F0 m 448 ls [.int (bZ true)])
                  have hst4 : tailF tx (f9 + 1) w9 = if v4.2.2.1 < v4.2.2.2 then failLn v4 v4.2.2.1 else tailF tx f9 v4 := by rw [tailF, if_pos ⟨hw90, hw92⟩, ← hv4]
                  refine z_if_eq (tgt := 426) hx hb dX7_signs_448 (by decide) (fun q => by cases q) (fun _ => ?_)
                  refine lv_aload_n hx hb dX7_signs_451 rfl (lv_at hl 0 rfl) ?_
                  refine m_gi C h 38 (by decide) rfl rfl q1908 (v := nI v4.2.2.2) rfl dX7_signs_452 ?_
                  refine lv_aload_n hx hb dX7_signs_455 rfl (lv_at hl 0 rfl) ?_
                  refine m_gi C h 37 (by decide) rfl rfl q1907 (v := nI v4.2.2.1) rfl dX7_signs_456 ?_
                  refine n_icmp_le (tgt := 426) hx hb (by omega) (by omega) dX7_signs_459 (by decide) (fun c459 => ?_) (fun c459 => ?_)
                  · exact ihloopF f9 v4 E9 (by rw [hw0, hst4, if_neg (by omega)]) (fun _ => by omega) (by omega) (by omega) _ _ h _ (lv_sub hl [0, 1, 2, 3] rfl)
                  · refine lv_aload_n hx hb dX7_signs_462 rfl (lv_at hl 0 rfl) ?_
                    refine lv_aload_n hx hb dX7_signs_463 rfl (lv_at hl 0 rfl) ?_
                    refine m_gi C h 37 (by decide) rfl rfl q1907 (v := nI v4.2.2.1) rfl dX7_signs_464 ?_
                    refine call_V (As := [.int (nI v4.2.2.1)]) (rest := []) (n := 1) C h (c7_failLine l D dA B Z hZ h0 ad (gM M v4.1 (nI v4.2.1) (nI v4.2.2.1) (nI v4.2.2.2) G) (F ++ E9) v4.2.2.1) (lw_V q2120 q2122 qs46 q138 q2123) (by decide +kernel) (ci := 5) rfl rfl mw_mem0 (by decide) (by decide) rfl hl rfl (Nat.le_of_ble_eq_true rfl) dX7_signs_467 (by omega) (fun _ H locs _ h => ?_)
                    rw [gM_33] at h
                    have h : Wd D B s (mw dA h0 ad (gM M (failT v4.1 (-100000 - nI v4.2.2.1)) (nI v4.2.1) (nI v4.2.2.1) (nI v4.2.2.2) G) ++ (F ++ E9)) H locs := h
                    refine lv_goto (tgt := 426) hx hb dX7_signs_470 (by decide) ?_
                    exact ihloopF f9 (failLn v4 v4.2.2.1) E9 (by rw [hw0, hst4, if_pos (by omega), tailF_n (fun z => failT_ne (code_ne v4.2.2.1 (by omega)) z.1)]) (fun q => absurd q (failT_ne (code_ne v4.2.2.1 (by omega)))) (by show v4.2.1 ≤ _; omega) (by omega) _ _ h _ (lv_sub hl [0, 1, 2, 3] rfl)
          refine z_if_eq (tgt := 426) hx hb dX7_signs_382 (by decide) (fun c382 => ?_) (fun c382 => ?_)
          · have hb3 : b3 = false := c382
            have hvz := lineS_f hbv3 htl hb3
            refine W.widen (k := 7) (n := 1200) (by omega) (by omega) ?_
            have h : Wd D B s (mw dA h0 ad (gM M v3.1 (nI v3.2.1) (nI v3.2.2.1) (nI v3.2.2.2) G) ++ (F ++ [])) H locs := by rw [List.append_nil]; exact h
            exact loopF _ 0 v3 [] (by
              rcases hSS with e | ⟨-, e⟩
              · rw [e]; unfold endF; rw [if_neg (fun z => by rw [hb3] at z; cases z), tailF_n (fun z => hvz z.1)]
              · rw [e, tailF_n (fun z => hvz z.1)]) (fun q => absurd q hvz) hvn3 (Nat.lt_succ_self _) _ _ h _ (lv_sub hl [0, 1, 2, 3] rfl)
          · have hb3 : b3 = true := c382
            obtain ⟨q1, q2, q3, q4⟩ := hok3 hb3
            have hv30 := (lineS_t hbv3 hb3).1
            have hSe : signsS tx ll u = (endF tx ll (b3, v3), R0.2) := hSS.resolve_right (fun z => by rw [hb3] at z; cases z.1)
            obtain ⟨sa257, sv257, hr257, hk257⟩ := hzs.2.2.1 _ (List.mem_of_getElem? (l := strTab) (i := 17) rfl)
            obtain ⟨sa263, sv263, hr263, hk263⟩ := hzs.2.2.1 _ (List.mem_of_getElem? (l := strTab) (i := 18) rfl)
            refine lv_aload_n hx hb dX7_signs_385 rfl (lv_at hl 0 rfl) ?_
            refine o_new C h (RC := RJ12) (T := TJ12) (N := 4) (ci := 18) (fs := [.null, .int 0, .int (bZ false), .int 0]) rfl in_J12 tyJ12_ok q2136 q700 q155 dv_J12 (by omega) (by omega) dX7_signs_386 (fun o1 H h => ?_)
            have h : Wd D B s ([(o1, .inr (18, [.null, .int 0, .int (bZ false), .int 0]))] ++ (mw dA h0 ad (gM M v3.1 (nI v3.2.1) (nI v3.2.2.1) (nI v3.2.2.2) G) ++ F)) H locs := h.permL (perm_add (fun g f p0 p1 p2 => by (try simp only [p0, p1, p2]) <;> omega))
            refine lv_dup hx hb dX7_signs_389 rfl ?_
            refine call_I (As := []) (rest := [.ref o1, .ref h0]) (n := 0) C h (cJ_sbInit l D dA B Z hZ (mw dA h0 ad (gM M v3.1 (nI v3.2.1) (nI v3.2.2.1) (nI v3.2.2.2) G) ++ F) o1 hzs) (lw_meth q703) q155 q2137 q702 rfl (by decide +kernel) (by decide) (by decide) rfl hl rfl (Nat.le_of_ble_eq_true rfl) dX7_signs_390 (by omega) (fun v0c H locs _ h => ?_)
            have h : Wd D B s ([(o1, .inr (18, [.ref v0c, .int (nI 0), .int (bZ false), .int (nI (([] : List Nat).length))])), (v0c, bar dA 16 (fun _ => 0))] ++ (mw dA h0 ad (gM M v3.1 (nI v3.2.1) (nI v3.2.2.1) (nI v3.2.2.2) G) ++ F)) H locs := h.permL (perm_add (fun g f p0 p1 p2 => by (try simp only [p0, p1, p2]) <;> omega))
            have hnl9 : ([] : List Nat).length = 0 := rfl
            have hsb0c := SBis_0
            have hnn0c : (16 : Nat) ≤ 16 := Nat.le_refl _
            refine s_ldcw C h hr257 dX7_signs_393 ?_
            have hle1c : ([45, 45, 45, 45, 45, 69, 78, 68, 32]).length ≤ 20 := by decide
            refine call_VR (As := [.ref sa257]) (rest := [.ref h0]) (n := 1) C h (cJ_append l D dA B Z hZ (mw dA h0 ad (gM M v3.1 (nI v3.2.1) (nI v3.2.2.1) (nI v3.2.2.2) G) ++ F) o1 v0c 16 (fun _ => 0) false ([] : List Nat) sa257 sv257 ([45, 45, 45, 45, 45, 69, 78, 68, 32]) (nilup hk257 _) (by intro x hx; revert x; decide) (by omega) hzs hsb0c (by omega) (by (try simp only [List.length_append, List.length_nil]) <;> omega)) (lw_V q2139 q732 q733 q155 q734) (by decide +kernel) (o_recv C h (RC := RJ12) (T := TJ12) (N := 4) (List.mem_of_getElem? (i := 0) rfl) rfl) (by decide) (by decide) rfl hl rfl (Nat.le_of_ble_eq_true rfl) dX7_signs_396 (by omega) (fun u1c H locs hu1c h => ?_)
            obtain ⟨v1c, n1c, g1c, E1c⟩ := u1c
            obtain ⟨hsb1c, hnn1c⟩ := hu1c
            have h : Wd D B s ([(o1, .inr (18, [.ref v1c, .int (nI 0), .int (bZ false), .int (nI ((([] : List Nat) ++ [45, 45, 45, 45, 45, 69, 78, 68, 32]).length))])), (v1c, bar dA n1c g1c)] ++ ((mw dA h0 ad (gM M v3.1 (nI v3.2.1) (nI v3.2.2.1) (nI v3.2.2.2) G) ++ F) ++ E1c)) H locs := h.permL (perm_add (fun g f p0 p1 p2 => by (try simp only [p0, p1, p2]) <;> omega))
            have hsb1c : SBis g1c n1c (([] : List Nat) ++ [45, 45, 45, 45, 45, 69, 78, 68, 32]) := hsb1c
            have hnn1c : n1c ≤ 2 * 16 + 2 + ((([] : List Nat)).length + ([45, 45, 45, 45, 45, 69, 78, 68, 32]).length) := hnn1c
            have hll1c : (([] : List Nat) ++ [45, 45, 45, 45, 45, 69, 78, 68, 32]).length ≤ 20 := by simp only [List.length_append, List.length_nil] at *; omega
            have hnz1c : n1c ≤ 54 := by simp only [List.length_nil] at hnn1c; omega
            refine lv_aload_n hx hb dX7_signs_399 rfl (lv_at hl 1 rfl) ?_
            have hle2c : (ll).length ≤ 20 := by omega
            refine call_VR (As := [.ref la]) (rest := [.ref h0]) (n := 1) C h (cJ_append l D dA B Z hZ ((mw dA h0 ad (gM M v3.1 (nI v3.2.1) (nI v3.2.2.1) (nI v3.2.2.2) G) ++ F) ++ E1c) o1 v1c n1c g1c false (([] : List Nat) ++ [45, 45, 45, 45, 45, 69, 78, 68, 32]) la lv9 ll (hs.up (fun x hx => by simp only [List.mem_append, hx, true_or, or_true])) hlb (by omega) hzs hsb1c (by omega) (by (try simp only [List.length_append, List.length_nil]) <;> omega)) (lw_V q2139 q732 q733 q155 q734) (by decide +kernel) (o_recv C h (RC := RJ12) (T := TJ12) (N := 4) (List.mem_of_getElem? (i := 0) rfl) rfl) (by decide) (by decide) rfl hl rfl (Nat.le_of_ble_eq_true rfl) dX7_signs_400 (by omega) (fun u2c H locs hu2c h => ?_)
            obtain ⟨v2c, n2c, g2c, E2c⟩ := u2c
            obtain ⟨hsb2c, hnn2c⟩ := hu2c
            have h : Wd D B s ([(o1, .inr (18, [.ref v2c, .int (nI 0), .int (bZ false), .int (nI ((([] : List Nat) ++ [45, 45, 45, 45, 45, 69, 78, 68, 32] ++ ll).length))])), (v2c, bar dA n2c g2c)] ++ (((mw dA h0 ad (gM M v3.1 (nI v3.2.1) (nI v3.2.2.1) (nI v3.2.2.2) G) ++ F) ++ E1c) ++ E2c)) H locs := h.permL (perm_add (fun g f p0 p1 p2 => by (try simp only [p0, p1, p2]) <;> omega))
            have hsb2c : SBis g2c n2c (([] : List Nat) ++ [45, 45, 45, 45, 45, 69, 78, 68, 32] ++ ll) := hsb2c
            have hnn2c : n2c ≤ 2 * n1c + 2 + ((([] : List Nat) ++ [45, 45, 45, 45, 45, 69, 78, 68, 32]).length + (ll).length) := hnn2c
            have hll2c : (([] : List Nat) ++ [45, 45, 45, 45, 45, 69, 78, 68, 32] ++ ll).length ≤ 40 := by simp only [List.length_append, List.length_nil] at *; omega
            have hnz2c : n2c ≤ 150 := by omega
            refine s_ldcw C h hr263 dX7_signs_403 ?_
            have hle3c : ([45, 45, 45, 45, 45]).length ≤ 20 := by decide
            refine call_VR (As := [.ref sa263]) (rest := [.ref h0]) (n := 1) C h (cJ_append l D dA B Z hZ (((mw dA h0 ad (gM M v3.1 (nI v3.2.1) (nI v3.2.2.1) (nI v3.2.2.2) G) ++ F) ++ E1c) ++ E2c) o1 v2c n2c g2c false (([] : List Nat) ++ [45, 45, 45, 45, 45, 69, 78, 68, 32] ++ ll) sa263 sv263 ([45, 45, 45, 45, 45]) (nilup hk263 _) (by intro x hx; revert x; decide) (by omega) hzs hsb2c (by omega) (by (try simp only [List.length_append, List.length_nil]) <;> omega)) (lw_V q2139 q732 q733 q155 q734) (by decide +kernel) (o_recv C h (RC := RJ12) (T := TJ12) (N := 4) (List.mem_of_getElem? (i := 0) rfl) rfl) (by decide) (by decide) rfl hl rfl (Nat.le_of_ble_eq_true rfl) dX7_signs_406 (by omega) (fun u3c H locs hu3c h => ?_)
            obtain ⟨v3c, n3c, g3c, E3c⟩ := u3c
            obtain ⟨hsb3c, hnn3c⟩ := hu3c
            have h : Wd D B s ([(o1, .inr (18, [.ref v3c, .int (nI 0), .int (bZ false), .int (nI ((([] : List Nat) ++ [45, 45, 45, 45, 45, 69, 78, 68, 32] ++ ll ++ [45, 45, 45, 45, 45]).length))])), (v3c, bar dA n3c g3c)] ++ ((((mw dA h0 ad (gM M v3.1 (nI v3.2.1) (nI v3.2.2.1) (nI v3.2.2.2) G) ++ F) ++ E1c) ++ E2c) ++ E3c)) H locs := h.permL (perm_add (fun g f p0 p1 p2 => by (try simp only [p0, p1, p2]) <;> omega))
            have hsb3c : SBis g3c n3c (([] : List Nat) ++ [45, 45, 45, 45, 45, 69, 78, 68, 32] ++ ll ++ [45, 45, 45, 45, 45]) := hsb3c
            have hnn3c : n3c ≤ 2 * n2c + 2 + ((([] : List Nat) ++ [45, 45, 45, 45, 45, 69, 78, 68, 32] ++ ll).length + ([45, 45, 45, 45, 45]).length) := hnn3c
            have hll3c : (([] : List Nat) ++ [45, 45, 45, 45, 45, 69, 78, 68, 32] ++ ll ++ [45, 45, 45, 45, 45]).length ≤ 60 := by simp only [List.length_append, List.length_nil] at *; omega
            have hnz3c : n3c ≤ 370 := by omega
            refine call_VR (As := []) (rest := [.ref h0]) (n := 0) C h (cJ_toString l D dA B Z hZ ((((mw dA h0 ad (gM M v3.1 (nI v3.2.1) (nI v3.2.2.1) (nI v3.2.2.2) G) ++ F) ++ E1c) ++ E2c) ++ E3c) o1 v3c n3c g3c false (([] : List Nat) ++ [45, 45, 45, 45, 45, 69, 78, 68, 32] ++ ll ++ [45, 45, 45, 45, 45]) hzs hsb3c (by omega)) (lw_V q2147 q829 q830 q155 q831) (by decide +kernel) (o_recv C h (RC := RJ12) (T := TJ12) (N := 4) (List.mem_of_getElem? (i := 0) rfl) rfl) (by decide) (by decide) rfl hl rfl (Nat.le_of_ble_eq_true rfl) dX7_signs_409 (by omega) (fun usc H locs _ h => ?_)
            obtain ⟨src, sqc⟩ := usc
            have h : Wd D B s ([(src, .inr (17, [.ref sqc, .int (nI 0), .int 0, .int (bZ false)])), (sqc, bal dA (([] : List Nat) ++ [45, 45, 45, 45, 45, 69, 78, 68, 32] ++ ll ++ [45, 45, 45, 45, 45])), (o1, .inr (18, [.ref v3c, .int (nI 0), .int (bZ false), .int (nI ((([] : List Nat) ++ [45, 45, 45, 45, 45, 69, 78, 68, 32] ++ ll ++ [45, 45, 45, 45, 45]).length))])), (v3c, bar dA n3c g3c)] ++ ((((mw dA h0 ad (gM M v3.1 (nI v3.2.1) (nI v3.2.2.1) (nI v3.2.2.2) G) ++ F) ++ E1c) ++ E2c) ++ E3c)) H locs := h.permL (perm_add (fun g f p0 p1 p2 => by (try simp only [p0, p1, p2]) <;> omega))
            obtain ⟨Lc, hLc⟩ : ∃ z, z = ([] : List Nat) ++ [45, 45, 45, 45, 45, 69, 78, 68, 32] ++ ll ++ [45, 45, 45, 45, 45] := ⟨_, rfl⟩
            have h : Wd D B s (mw dA h0 ad (gM M v3.1 (nI v3.2.1) (nI v3.2.2.1) (nI v3.2.2.2) G) ++ (F ++ ([(src, .inr (17, [.ref sqc, .int (nI 0), .int 0, .int (bZ false)])), (sqc, bal dA (([] : List Nat) ++ [45, 45, 45, 45, 45, 69, 78, 68, 32] ++ ll ++ [45, 45, 45, 45, 45])), (o1, .inr (18, [.ref v3c, .int (nI 0), .int (bZ false), .int (nI ((([] : List Nat) ++ [45, 45, 45, 45, 45, 69, 78, 68, 32] ++ ll ++ [45, 45, 45, 45, 45]).length))])), (v3c, bar dA n3c g3c)] ++ (E1c ++ E2c ++ E3c)))) H locs := h.permL (perm_add (fun g f p0 p1 p2 => by (try simp only [p0, p1, p2]) <;> omega))
            rw [← hLc] at h
            have hLcl : Lc.length < 100 := by rw [hLc]; omega
            have hLcb : byt Lc := by rw [hLc]; exact byt_app (byt_app (byt_app (fun x hx => absurd hx List.not_mem_nil) (by intro x hx; revert x; decide)) (hlb)) (by intro x hx; revert x; decide)
            have hstc : StrV dA B Z (F ++ ([(src, .inr (17, [.ref sqc, .int (nI 0), .int 0, .int (bZ false)])), (sqc, bal dA Lc), (o1, .inr (18, [.ref v3c, .int (nI 0), .int (bZ false), .int (nI Lc.length)])), (v3c, bar dA n3c g3c)] ++ (E1c ++ E2c ++ E3c))) src sqc Lc := Or.inl ⟨.int 0, .int (bZ false), List.mem_append_right _ (List.mem_append_left _ List.mem_cons_self), List.mem_append_right _ (List.mem_append_left _ (List.mem_cons_of_mem _ List.mem_cons_self))⟩
            have hsl2 : Lc = [45, 45, 45, 45, 45, 69, 78, 68, 32] ++ ll ++ [45, 45, 45, 45, 45] := hLc
            refine call_V (As := [.ref src]) (rest := []) (n := 1) C h (c7_is l D dA B Z hZ h0 ad (gM M v3.1 (nI v3.2.1) (nI v3.2.2.1) (nI v3.2.2.2) G) (F ++ ([(src, .inr (17, [.ref sqc, .int (nI 0), .int 0, .int (bZ false)])), (sqc, bal dA Lc), (o1, .inr (18, [.ref v3c, .int (nI 0), .int (bZ false), .int (nI Lc.length)])), (v3c, bar dA n3c g3c)] ++ (E1c ++ E2c ++ E3c))) tx v3.2.2.1 v3.2.2.2 src sqc Lc hzs htx hT htl hby rfl rfl q1 q2 hstc hLcb (by omega)) (lw_V q2148 q2150 qs49 q138 q2151) (by decide +kernel) (ci := 5) rfl rfl mw_mem0 (by decide) (by decide) rfl hl rfl (Nat.le_of_ble_eq_true rfl) dX7_signs_412 (by omega) (fun _ H locs _ h => ?_)
            refine z_if_ne (tgt := 426) hx hb dX7_signs_415 (by decide) (fun c415 => ?_) (fun c415 => ?_)
            · refine W.widen (k := 7) (n := 1200) (by omega) (by omega) ?_
              exact loopF _ (tx.length + 2) v3 ([(src, .inr (17, [.ref sqc, .int (nI 0), .int 0, .int (bZ false)])), (sqc, bal dA Lc), (o1, .inr (18, [.ref v3c, .int (nI 0), .int (bZ false), .int (nI Lc.length)])), (v3c, bar dA n3c g3c)] ++ (E1c ++ E2c ++ E3c)) (by rw [hSe]; unfold endF; rw [if_pos hb3, if_pos ((of_decide_eq_true c415).trans hsl2)]) (fun _ => by omega) hvn3 (Nat.lt_succ_self _) _ _ h _ (lv_sub hl [0, 1, 2, 3] rfl)
            · refine lv_aload_n hx hb dX7_signs_418 rfl (lv_at hl 0 rfl) ?_
              refine lv_aload_n hx hb dX7_signs_419 rfl (lv_at hl 0 rfl) ?_
              refine m_gi C h 37 (by decide) rfl rfl q1907 (v := nI v3.2.2.1) rfl dX7_signs_420 ?_
              refine call_V (As := [.int (nI v3.2.2.1)]) (rest := []) (n := 1) C h (c7_failLine l D dA B Z hZ h0 ad (gM M v3.1 (nI v3.2.1) (nI v3.2.2.1) (nI v3.2.2.2) G) (F ++ ([(src, .inr (17, [.ref sqc, .int (nI 0), .int 0, .int (bZ false)])), (sqc, bal dA Lc), (o1, .inr (18, [.ref v3c, .int (nI 0), .int (bZ false), .int (nI Lc.length)])), (v3c, bar dA n3c g3c)] ++ (E1c ++ E2c ++ E3c))) v3.2.2.1) (lw_V q2120 q2122 qs46 q138 q2123) (by decide +kernel) (ci := 5) rfl rfl mw_mem0 (by decide) (by decide) rfl hl rfl (Nat.le_of_ble_eq_true rfl) dX7_signs_423 (by omega) (fun _ H locs _ h => ?_)
              rw [gM_33] at h
              have h : Wd D B s (mw dA h0 ad (gM M (failT v3.1 (-100000 - nI v3.2.2.1)) (nI v3.2.1) (nI v3.2.2.1) (nI v3.2.2.2) G) ++ (F ++ ([(src, .inr (17, [.ref sqc, .int (nI 0), .int 0, .int (bZ false)])), (sqc, bal dA Lc), (o1, .inr (18, [.ref v3c, .int (nI 0), .int (bZ false), .int (nI Lc.length)])), (v3c, bar dA n3c g3c)] ++ (E1c ++ E2c ++ E3c)))) H locs := h
              refine W.widen (k := 7) (n := 1200) (by omega) (by omega) ?_
              have h : Wd D B s (mw dA h0 ad (gM M (failLn v3 v3.2.2.1).1 (nI (failLn v3 v3.2.2.1).2.1) (nI (failLn v3 v3.2.2.1).2.2.1) (nI (failLn v3 v3.2.2.1).2.2.2) G) ++ (F ++ ([(src, .inr (17, [.ref sqc, .int (nI 0), .int 0, .int (bZ false)])), (sqc, bal dA Lc), (o1, .inr (18, [.ref v3c, .int (nI 0), .int (bZ false), .int (nI Lc.length)])), (v3c, bar dA n3c g3c)] ++ (E1c ++ E2c ++ E3c)))) H locs := h
              exact loopF _ 0 (failLn v3 v3.2.2.1) ([(src, .inr (17, [.ref sqc, .int (nI 0), .int 0, .int (bZ false)])), (sqc, bal dA Lc), (o1, .inr (18, [.ref v3c, .int (nI 0), .int (bZ false), .int (nI Lc.length)])), (v3c, bar dA n3c g3c)] ++ (E1c ++ E2c ++ E3c)) (by rw [hSe]; unfold endF; rw [if_pos hb3, if_neg (fun z => of_decide_eq_false c415 (z.trans hsl2.symm))]; rfl) (fun q => absurd q (failT_ne (code_ne v3.2.2.1 (by omega)))) hvn3 (Nat.lt_succ_self _) _ _ h _ (lv_sub hl [0, 1, 2, 3] rfl)
        refine lv_aload_n hx hb dX7_signs_353 rfl (lv_at hl 0 rfl) ?_
        refine m_gi C h 33 (by decide) rfl rfl q1903 (v := t6) rfl dX7_signs_354 ?_
        refine lv_if_ne (tgt := 378) hx hb dX7_signs_357 (by decide) (fun c357 => ?_) (fun c357 => ?_)
        · exact j378 t6 (by
            rcases hx1 c357 with ⟨z1, z2⟩ | ⟨z1, z2, z3⟩
            · rw [if_neg z1, z2]
            · rw [if_pos z1, z3, if_neg (by decide), z2]) _ _ h _ (lv_sub hl [0, 1, 2, 3] rfl)
        · have ht6 : t6 = 0 := c357
          obtain ⟨z1, z2, z3, z4⟩ := hx0 ht6
          obtain ⟨hg1, hg2, hg3, hg4⟩ := hG9 z1
          obtain ⟨q1, q2, q3, q4⟩ := hg4 rfl
          have hsl : sl G 0 n = R0.2 := by rw [← sl_gD R0.2, ← hg1]; exact sl_congr (fun j hj => by rw [Nat.zero_add]; exact hg2 j hj)
          have hc1 := crcS_lt hg3
          have hc2 := sum5_lt 4 z3
          rw [z4] at hl
          refine lv_iload hx hb dX7_signs_360 (lv_at hl 4 rfl) ?_
          refine lv_aload_n hx hb dX7_signs_362 rfl (lv_at hl 2 rfl) ?_
          refine lv_iload_n hx hb dX7_signs_363 rfl (lv_at hl 3 rfl) ?_
          refine call_S (As := [.ref (ad 6), .int (nI n)]) (rest := [.int (nI (sum5 tx R0.1.2.2.1 4))]) (n := 2) C h (c7_sumOf l D dA B Z hZ _ (ad 6) 4096 G n (mw_memG (k := 6) (by decide)) (by omega) (by decide) (fun j _ => hGb j)) (lw_S q2169 q2170 q138 q2171) (by decide +kernel) (by decide) (by decide) rfl hl rfl (Nat.le_of_ble_eq_true rfl) dX7_signs_364 (by omega) (fun _ H locs _ h => ?_)
          rw [hsl]
          refine n_icmp_eq (tgt := 378) hx hb (by omega) (by omega) dX7_signs_367 (by decide) (fun c367 => ?_) (fun c367 => ?_)
          · exact j378 t6 (by rw [if_pos z1, ht6, show sumOk tx R0.1.2.2.1 R0.1.2.2.2 R0.2 = true by unfold sumOk; rw [decide_eq_true z2, z3, decide_eq_true c367]; rfl, if_pos rfl]) _ _ h _ (lv_sub hl [0, 1, 2, 3] rfl)
          · refine lv_aload_n hx hb dX7_signs_370 rfl (lv_at hl 0 rfl) ?_
            refine lv_aload_n hx hb dX7_signs_371 rfl (lv_at hl 0 rfl) ?_
            refine m_gi C h 37 (by decide) rfl rfl q1907 (v := nI R0.1.2.2.1) rfl dX7_signs_372 ?_
            refine call_V (As := [.int (nI R0.1.2.2.1)]) (rest := []) (n := 1) C h (c7_failLine l D dA B Z hZ h0 ad (gM M t6 (nI R0.1.2.1) (nI R0.1.2.2.1) (nI R0.1.2.2.2) G) F R0.1.2.2.1) (lw_V q2120 q2122 qs46 q138 q2123) (by decide +kernel) (ci := 5) rfl rfl mw_mem0 (by decide) (by decide) rfl hl rfl (Nat.le_of_ble_eq_true rfl) dX7_signs_375 (by omega) (fun _ H locs _ h => ?_)
            rw [gM_33] at h
            have h : Wd D B s (mw dA h0 ad (gM M (failT t6 (-100000 - nI R0.1.2.2.1)) (nI R0.1.2.1) (nI R0.1.2.2.1) (nI R0.1.2.2.2) G) ++ F) H locs := h
            exact j378 (failT t6 (-100000 - nI R0.1.2.2.1)) (by rw [if_pos z1, ht6, failT_0, show sumOk tx R0.1.2.2.1 R0.1.2.2.2 R0.2 = false by unfold sumOk; rw [decide_eq_false c367, Bool.and_false, Bool.and_false], if_neg (by decide)]) _ _ h _ (lv_sub hl [0, 1, 2, 3] rfl)
      have loopE : ∀ (nnE : Nat) (k : Nat) (sm t6 : Int32), (t6 = 0 → (R0.1.1 = 0 ∧ R0.1.2.2.2 - R0.1.2.2.1 = 5 ∧ ok5 tx R0.1.2.2.1 (k - 1) = true ∧ sm = nI (sum5 tx R0.1.2.2.1 (k - 1)))) → (t6 ≠ 0 → (R0.1.1 ≠ 0 ∧ t6 = R0.1.1) ∨ (R0.1.1 = 0 ∧ t6 = (-100000 - nI R0.1.2.2.1) ∧ sumOk tx R0.1.2.2.1 R0.1.2.2.2 R0.2 = false)) → (1 ≤ k) → (k ≤ 5) → 6 - k < nnE → ∀ (H : Heap) (locs : List Loc), Wd D B s (mw dA h0 ad (gM M t6 (nI R0.1.2.1) (nI R0.1.2.2.1) (nI R0.1.2.2.2) G) ++ F) H locs → ∀ (ls : Array Slot), lv_has ls 10 [(0, .ref h0), (1, .ref la), (2, .ref (ad 6)), (3, .int (nI n)), (6, .int sm), (7, .int (nI k))] → W p l e R s m args below meth c H locs (0 + 0 + 0) (0 + 0 + 0) Q (F0 m 320 ls []) := by
        intro nnE
        induction nnE with
        | zero => intro k  sm t6  hk0 hk1 hk2 hk3 hme; exact absurd hme (Nat.not_lt_zero _)
        | succ nnE ihE =>
          intro k  sm t6  hk0 hk1 hk2 hk3 hme H locs h ls hl
          refine lv_iload hx hb dX7_signs_320 (lv_at hl 5 rfl) ?_
          refine lv_iconst (v := nI 5) hx hb dX7_signs_322 (by decide) ?_
          refine n_icmp_ge (tgt := 353) hx hb (by omega) (by omega) dX7_signs_323 (by decide) (fun c323 => ?_) (fun c323 => ?_)
          · exact j353 sm t6 (fun q => by
              obtain ⟨z1, z2, z3, z4⟩ := hk0 q
              rw [show k - 1 = 4 by omega] at z3 z4
              exact ⟨z1, z2, z3, z4⟩) hk1 _ _ h _ (lv_sub hl [0, 1, 2, 3, 4] rfl)
          · refine lv_aload_n hx hb dX7_signs_326 rfl (lv_at hl 0 rfl) ?_
            refine m_gi C h 33 (by decide) rfl rfl q1903 (v := t6) rfl dX7_signs_327 ?_
            refine lv_if_ne (tgt := 353) hx hb dX7_signs_330 (by decide) (fun c330 => ?_) (fun c330 => ?_)
            · exact j353 sm t6 (fun q => absurd q c330) hk1 _ _ h _ (lv_sub hl [0, 1, 2, 3, 4] rfl)
            · have ht6 : t6 = 0 := c330
              obtain ⟨z1, z2, z3, z4⟩ := hk0 ht6
              obtain ⟨hg1, hg2, hg3, hg4⟩ := hG9 z1
              obtain ⟨q1, q2, q3, q4⟩ := hg4 rfl
              refine lv_bipush (v := nI 64) hx hb dX7_signs_333 (by decide) ?_
              refine lv_iload hx hb dX7_signs_335 (lv_at hl 4 rfl) ?_
              refine lv_imul hx hb dX7_signs_337 ?_
              refine lv_aload_n hx hb dX7_signs_338 rfl (lv_at hl 0 rfl) ?_
              refine lv_iload hx hb dX7_signs_339 (lv_at hl 5 rfl) ?_
              have h : Wd D B s (mw dA h0 ad (lM (gM M t6 (nI R0.1.2.1) (nI R0.1.2.2.1) (nI R0.1.2.2.2) G) (t6, R0.1.2).1 (nI (t6, R0.1.2).2.1) (nI (t6, R0.1.2).2.2.1) (nI (t6, R0.1.2).2.2.2)) ++ F) H locs := by rw [lM_gM]; exact h
              refine call_V (As := [.int (nI k)]) (rest := [.int ((nI 64) * sm)]) (n := 1) C h (c7_sign l D dA B Z hZ h0 ad (gM M t6 (nI R0.1.2.1) (nI R0.1.2.2.1) (nI R0.1.2.2.2) G) F tx (t6, R0.1.2) k hsz htx hT htl hby (by show R0.1.2.2.1 + k < _; omega)) (lw_V q2162 q2164 qs52 q138 q2165) (by decide +kernel) (ci := 5) rfl rfl mw_mem0 (by decide) (by decide) rfl hl rfl (Nat.le_of_ble_eq_true rfl) dX7_signs_341 (by omega) (fun _ H locs _ h => ?_)
              rw [lM_gM] at h
              have h : Wd D B s (mw dA h0 ad (gM M (if valI (gD tx (R0.1.2.2.1 + k)) = -1 then failT t6 (-100000 - nI R0.1.2.2.1) else t6) (nI R0.1.2.1) (nI R0.1.2.2.1) (nI R0.1.2.2.2) G) ++ F) H locs := h
              show W p l e R s m args below meth c H locs (0 + 0 + 0 + 0) (0 + 0 + 0 + 0) Q (F0 m 344 ls [.int (valI (gD tx (R0.1.2.2.1 + k))), .int ((nI 64) * sm)])
              obtain ⟨t9, ht9⟩ : ∃ z, z = (if valI (gD tx (R0.1.2.2.1 + k)) = -1 then failT t6 (-100000 - nI R0.1.2.2.1) else t6) := ⟨_, rfl⟩
              rw [← ht9] at h
              obtain ⟨j9, hj9⟩ : ∃ z, k = z + 1 := ⟨k - 1, by omega⟩
              have hkn0 : t9 = 0 → (R0.1.1 = 0 ∧ R0.1.2.2.2 - R0.1.2.2.1 = 5 ∧ ok5 tx R0.1.2.2.1 (k + 1 - 1) = true ∧ nI 64 * sm + valI (gD tx (R0.1.2.2.1 + k)) = nI (sum5 tx R0.1.2.2.1 (k + 1 - 1))) := by
                intro q
                have hw : vOk (gD tx (R0.1.2.2.1 + k)) = true := by
                  cases hw : vOk (gD tx (R0.1.2.2.1 + k)) with
                  | true => rfl
                  | false => rw [ht9, if_pos (vOk_f hw), ht6, failT_0] at q; exact absurd q (code_ne _ (by omega))
                have e1 := valI_vN (vOk_t hw)
                rw [show k + 1 - 1 = k by omega]
                subst hj9
                rw [show j9 + 1 - 1 = j9 by omega] at z3 z4
                refine ⟨z1, z2, ?_, ?_⟩
                · rw [ok5, z3, hw]; rfl
                · rw [e1.1, z4, pk_mul, nI_add]; rfl
              have hkn1 : t9 ≠ 0 → (R0.1.1 ≠ 0 ∧ t9 = R0.1.1) ∨ (R0.1.1 = 0 ∧ t9 = (-100000 - nI R0.1.2.2.1) ∧ sumOk tx R0.1.2.2.1 R0.1.2.2.2 R0.2 = false) := by
                intro q
                cases hw : vOk (gD tx (R0.1.2.2.1 + k)) with
                | true => rw [ht9, if_neg (vOk_t hw)] at q; exact absurd ht6 q
                | false =>
                  refine Or.inr ⟨z1, by rw [ht9, if_pos (vOk_f hw), ht6, failT_0], ?_⟩
                  subst hj9
                  have e2 : ok5 tx R0.1.2.2.1 (j9 + 1) = false := by rw [ok5, hw, Bool.and_false]
                  have e3 := ok5_mono e2 (4 - (j9 + 1))
                  rw [show j9 + 1 + (4 - (j9 + 1)) = 4 by omega] at e3
                  unfold sumOk; rw [e3, Bool.false_and, Bool.and_false]
              show W p l e R s m args below meth c H locs (0 + 0 + 0 + 0) (0 + 0 + 0 + 0) Q (F0 m 344 ls [.int (valI (gD tx (R0.1.2.2.1 + k))), .int ((nI 64) * sm)])
              refine lv_iadd hx hb dX7_signs_344 ?_
              refine lv_istore (lv' := [(6, .int (((nI 64) * sm) + (valI (gD tx (R0.1.2.2.1 + k))))), (0, .ref h0), (1, .ref la), (2, .ref (ad 6)), (3, .int (nI n)), (7, .int (nI k))]) hx hb dX7_signs_345 hl (by decide) rfl (fun ls hl => ?_)
              refine lv_iinc (v := nI (k + 1)) (lv' := [(7, .int (nI (k + 1))), (6, .int (((nI 64) * sm) + (valI (gD tx (R0.1.2.2.1 + k))))), (0, .ref h0), (1, .ref la), (2, .ref (ad 6)), (3, .int (nI n))]) hx hb dX7_signs_347 hl (k := 5) rfl (nI_add k 1) (by decide) rfl (fun ls hl => ?_)
              refine lv_goto (tgt := 320) hx hb dX7_signs_350 (by decide) ?_
              exact ihE (k + 1) (nI 64 * sm + valI (gD tx (R0.1.2.2.1 + k))) t9 hkn0 hkn1 (by omega) (by omega) (by omega) _ _ h _ (lv_sub hl [2, 3, 4, 5, 1, 0] rfl)
      exact loopE _ 1 (nI 0) t5 (fun q => ⟨(hy0 q).1, (hy0 q).2, rfl, rfl⟩) hy1 (by omega) (by omega) (Nat.lt_succ_self _) _ _ h _ (lv_sub hl [1, 2, 3, 4, 5, 0] rfl)
    refine lv_iconst (v := nI 0) hx hb dX7_signs_286 (by decide) ?_
    refine lv_istore (lv' := [(6, .int (nI 0)), (0, .ref h0), (1, .ref la), (2, .ref (ad 6)), (3, .int (nI n))]) hx hb dX7_signs_287 hl (by decide) rfl (fun ls hl => ?_)
    refine lv_aload_n hx hb dX7_signs_289 rfl (lv_at hl 1 rfl) ?_
    refine m_gi C h 33 (by decide) rfl rfl q1903 (v := R0.1.1) rfl dX7_signs_290 ?_
    refine lv_if_ne (tgt := 317) hx hb dX7_signs_293 (by decide) (fun c293 => ?_) (fun c293 => ?_)
    · exact j317 R0.1.1 (fun q => absurd q c293) (fun _ => Or.inl ⟨c293, rfl⟩) _ _ h _ (lv_sub hl [1, 2, 3, 4, 0] rfl)
    · have hr00 : R0.1.1 = 0 := c293
      obtain ⟨hg1, hg2, hg3, hg4⟩ := hG9 hr00
      obtain ⟨q1, q2, q3, q4⟩ := hg4 rfl
      refine lv_aload_n hx hb dX7_signs_296 rfl (lv_at hl 1 rfl) ?_
      refine m_gi C h 38 (by decide) rfl rfl q1908 (v := nI R0.1.2.2.2) rfl dX7_signs_297 ?_
      refine lv_aload_n hx hb dX7_signs_300 rfl (lv_at hl 1 rfl) ?_
      refine m_gi C h 37 (by decide) rfl rfl q1907 (v := nI R0.1.2.2.1) rfl dX7_signs_301 ?_
      refine lv_isub hx hb dX7_signs_304 (n_top (y := nI (R0.1.2.2.2 - R0.1.2.2.1)) (pk_sub (by omega)) ?_)
      refine lv_iconst (v := nI 5) hx hb dX7_signs_305 (by decide) ?_
      refine n_icmp_eq (tgt := 317) hx hb (by omega) (by omega) dX7_signs_306 (by decide) (fun c306 => ?_) (fun c306 => ?_)
      · exact j317 R0.1.1 (fun _ => ⟨hr00, c306⟩) (fun q => absurd hr00 q) _ _ h _ (lv_sub hl [1, 2, 3, 4, 0] rfl)
      · refine lv_aload_n hx hb dX7_signs_309 rfl (lv_at hl 1 rfl) ?_
        refine lv_aload_n hx hb dX7_signs_310 rfl (lv_at hl 1 rfl) ?_
        refine m_gi C h 37 (by decide) rfl rfl q1907 (v := nI R0.1.2.2.1) rfl dX7_signs_311 ?_
        refine call_V (As := [.int (nI R0.1.2.2.1)]) (rest := []) (n := 1) C h (c7_failLine l D dA B Z hZ h0 ad (gM M R0.1.1 (nI R0.1.2.1) (nI R0.1.2.2.1) (nI R0.1.2.2.2) G) F R0.1.2.2.1) (lw_V q2120 q2122 qs46 q138 q2123) (by decide +kernel) (ci := 5) rfl rfl mw_mem0 (by decide) (by decide) rfl hl rfl (Nat.le_of_ble_eq_true rfl) dX7_signs_314 (by omega) (fun _ H locs _ h => ?_)
        rw [gM_33] at h
        have h : Wd D B s (mw dA h0 ad (gM M (failT R0.1.1 (-100000 - nI R0.1.2.2.1)) (nI R0.1.2.1) (nI R0.1.2.2.1) (nI R0.1.2.2.2) G) ++ F) H locs := h
        exact j317 (failT R0.1.1 (-100000 - nI R0.1.2.2.1)) (fun q => absurd q (failT_ne (hcn0.resolve_right (fun z => z hr00)))) (fun _ => Or.inr ⟨hr00, by rw [hr00, failT_0], by unfold sumOk; rw [decide_eq_false c306, Bool.false_and]⟩) _ _ h _ (lv_sub hl [1, 2, 3, 4, 0] rfl)
  have loop : ∀ (nn : Nat) (f n : Nat) (e9 b : Bool) (v : LU) (acc : List Nat) (G : Nat → Nat), (R0 = bodyF tx f e9 acc (b, v)) → (b = true → tx.length + 1 < v.2.1 + f) → (lnok tx b v) → (b = false → v.1 ≠ 0) → (v.1 = 0 → (n = acc.length ∧ (∀ j, j < n → G j = gD acc j) ∧ byt acc)) → (n ≤ tx.length) → (b = true → n ≤ v.2.2.1) → (v.2.1 ≤ 5000) → (b = true → v.1 = 0) → (∀ j, G j < 256) → f < nn → ∀ (H : Heap) (locs : List Loc), Wd D B s (mw dA h0 ad (gM M v.1 (nI v.2.1) (nI v.2.2.1) (nI v.2.2.2) G) ++ F) H locs → ∀ (ls : Array Slot), lv_has ls 10 [(0, .ref h0), (1, .ref la), (2, .ref (ad 6)), (3, .int (nI n)), (4, .int (bZ e9)), (5, .int (bZ b))] → W p l e R s m args below meth c H locs (0 + 0 + 0) (0 + 0 + 0) Q (F0 m 20 ls []) := by
    intro nn
    induction nn with
    | zero => intro f n  e9 b  v  acc  G  hI hF hok hvf hAc hn9a hnf hvn hbt hGb hme; exact absurd hme (Nat.not_lt_zero _)
    | succ nn ih =>
      intro f n  e9 b  v  acc  G  hI hF hok hvf hAc hn9a hnf hvn hbt hGb hme H locs h ls hl
      refine lv_iload hx hb dX7_signs_20 (lv_at hl 5 rfl) ?_
      refine z_if_eq (tgt := 286) hx hb dX7_signs_22 (by decide) (fun c22 => ?_) (fun c22 => ?_)
      · have hR1 : R0 = (v, acc) := by rw [hI, bodyF_e (fun q => by have q9 := q.1; rw [show b = false from c22] at q9; cases q9)]
        have h : Wd D B s (mw dA h0 ad (gM M R0.1.1 (nI R0.1.2.1) (nI R0.1.2.2.1) (nI R0.1.2.2.2) G) ++ F) H locs := by rw [hR1]; exact h
        have hA : R0.1.1 = 0 → (n = R0.2.length ∧ (∀ j, j < n → G j = gD R0.2 j) ∧ byt R0.2) := by rw [hR1]; exact fun q => hAc q
        exact j286 n G hn9a (fun q => ⟨(hA q).1, (hA q).2.1, (hA q).2.2, by rw [hR1]; exact absurd (show v.1 = 0 by rw [hR1] at q; exact q) (hvf c22)⟩) (by rw [hR1]; exact hvn) hGb _ _ h _ (lv_sub hl [0, 1, 2, 3] rfl)
      · obtain ⟨q1, q2, q3, q4⟩ := hok c22
        have hf1 := hF c22
        have hnf1 := hnf c22
        have hv0 := hbt c22
        refine lv_aload_n hx hb dX7_signs_25 rfl (lv_at hl 0 rfl) ?_
        refine m_gi C h 38 (by decide) rfl rfl q1908 (v := nI v.2.2.2) rfl dX7_signs_26 ?_
        refine lv_aload_n hx hb dX7_signs_29 rfl (lv_at hl 0 rfl) ?_
        refine m_gi C h 37 (by decide) rfl rfl q1907 (v := nI v.2.2.1) rfl dX7_signs_30 ?_
        refine n_icmp_le (tgt := 286) hx hb (by omega) (by omega) dX7_signs_33 (by decide) (fun c33 => ?_) (fun c33 => ?_)
        · have hR1 : R0 = (v, acc) := by rw [hI, bodyF_e (by intro q; have := q.2.1; simp only at this; omega)]
          have h : Wd D B s (mw dA h0 ad (gM M R0.1.1 (nI R0.1.2.1) (nI R0.1.2.2.1) (nI R0.1.2.2.2) G) ++ F) H locs := by rw [hR1]; exact h
          have hA : R0.1.1 = 0 → (n = R0.2.length ∧ (∀ j, j < n → G j = gD R0.2 j) ∧ byt R0.2) := by rw [hR1]; exact fun q => hAc q
          exact j286 n G hn9a (fun q => ⟨(hA q).1, (hA q).2.1, (hA q).2.2, by rw [hR1]; exact fun _ => hok c22⟩) (by rw [hR1]; exact hvn) hGb _ _ h _ (lv_sub hl [0, 1, 2, 3] rfl)
        · have hb1 := byt_gD hby v.2.2.1
          refine lv_aload_n hx hb dX7_signs_36 rfl (lv_at hl 0 rfl) ?_
          refine m_gr C h 34 (by decide) rfl rfl q1904 (v := some (ad 2)) htx dX7_signs_37 ?_
          refine lv_aload_n hx hb dX7_signs_40 rfl (lv_at hl 0 rfl) ?_
          refine m_gi C h 37 (by decide) rfl rfl q1907 (v := nI v.2.2.1) rfl dX7_signs_41 ?_
          refine n_iald C h (v := (mG (gM M v.1 (nI v.2.1) (nI v.2.2.1) (nI v.2.2.2) G) 2) v.2.2.1) (mw_memG (k := 2) (by decide)) (show v.2.2.1 < 4096 by omega) (by decide) rfl dX7_signs_44 ?_
          refine n_top (y := nI (gD tx v.2.2.1)) (congrArg nI (hT _ (by omega))) ?_
          refine lv_bipush (v := nI 61) hx hb dX7_signs_45 (by decide) ?_
          refine n_icmp_eq (tgt := 286) hx hb (by omega) (by omega) dX7_signs_47 (by decide) (fun c47 => ?_) (fun c47 => ?_)
          · have hR1 : R0 = (v, acc) := by rw [hI, bodyF_e (by intro q; exact absurd c47 q.2.2)]
            have h : Wd D B s (mw dA h0 ad (gM M R0.1.1 (nI R0.1.2.1) (nI R0.1.2.2.1) (nI R0.1.2.2.2) G) ++ F) H locs := by rw [hR1]; exact h
            have hA : R0.1.1 = 0 → (n = R0.2.length ∧ (∀ j, j < n → G j = gD R0.2 j) ∧ byt R0.2) := by rw [hR1]; exact fun q => hAc q
            exact j286 n G hn9a (fun q => ⟨(hA q).1, (hA q).2.1, (hA q).2.2, by rw [hR1]; exact fun _ => hok c22⟩) (by rw [hR1]; exact hvn) hGb _ _ h _ (lv_sub hl [0, 1, 2, 3] rfl)
          · obtain ⟨f, rfl⟩ : ∃ z, f = z + 1 := ⟨f - 1, by omega⟩
            obtain ⟨bad, hbad⟩ : ∃ z : Bool, z = (e9 || decide ((v.2.2.2 - v.2.2.1) % 4 ≠ 0)) := ⟨_, rfl⟩
            have hcn := code_ne v.2.2.1 (by omega)
            obtain ⟨m9, hm9⟩ : ∃ z, z = (v.2.2.2 - v.2.2.1) / 4 := ⟨_, rfl⟩
            have j77 : ∀ (t7 : Int32), (t7 = if bad = true then (-100000 - nI v.2.2.1) else 0) → ∀ (H : Heap) (locs : List Loc), Wd D B s (mw dA h0 ad (gM M t7 (nI v.2.1) (nI v.2.2.1) (nI v.2.2.2) G) ++ F) H locs → ∀ (ls : Array Slot), lv_has ls 10 [(0, .ref h0), (1, .ref la), (2, .ref (ad 6)), (3, .int (nI n)), (4, .int (bZ e9))] → W p l e R s m args below meth c H locs (0 + 0 + 0) (0 + 0 + 0) Q (F0 m 77 ls []) := by
              intro t7  ht7 H locs h ls hl
              refine lv_iconst (v := nI 0) hx hb dX7_signs_77 (by decide) ?_
              refine lv_istore (lv' := [(6, .int (nI 0)), (0, .ref h0), (1, .ref la), (2, .ref (ad 6)), (3, .int (nI n)), (4, .int (bZ e9))]) hx hb dX7_signs_78 hl (by decide) rfl (fun ls hl => ?_)
              have j277 : ∀ (n2 : Nat) (e2 : Bool) (t : Int32) (G2 : Nat → Nat) (ac2 : List Nat), (t = 0 → (bad = false ∧ foursF tx m9 v.2.2.1 false acc = some (e2, ac2) ∧ n2 = ac2.length ∧ (∀ j, j < n2 → G2 j = gD ac2 j) ∧ byt ac2)) → (t ≠ 0 → (t = (-100000 - nI v.2.2.1) ∧ (bad = true ∨ foursF tx m9 v.2.2.1 false acc = none))) → (n2 ≤ v.2.2.2) → (∀ j, G2 j < 256) → ∀ (H : Heap) (locs : List Loc), Wd D B s (mw dA h0 ad (gM M t (nI v.2.1) (nI v.2.2.1) (nI v.2.2.2) G2) ++ F) H locs → ∀ (ls : Array Slot), lv_has ls 10 [(0, .ref h0), (1, .ref la), (2, .ref (ad 6)), (3, .int (nI n2)), (4, .int (bZ e2))] → W p l e R s m args below meth c H locs (0 + 0 + 0) (0 + 0 + 0) Q (F0 m 277 ls []) := by
                intro n2  e2  t  G2  ac2  hz0 hz1 hz2 hG2b H locs h ls hl
                refine lv_aload_n hx hb dX7_signs_277 rfl (lv_at hl 0 rfl) ?_
                have h : Wd D B s (mw dA h0 ad (lM (gM M t (nI v.2.1) (nI v.2.2.1) (nI v.2.2.2) G2) (t, v.2).1 (nI (t, v.2).2.1) (nI (t, v.2).2.2.1) (nI (t, v.2).2.2.2)) ++ F) H locs := by rw [lM_gM]; exact h
                refine call_V (As := []) (rest := []) (n := 0) C h (c7_line l D dA B Z hZ h0 ad (gM M t (nI v.2.1) (nI v.2.2.1) (nI v.2.2.2) G2) F tx (t, v.2) hsz htx hT htl hby (by show v.2.1 ≤ _; omega)) (lw_V q2116 q2118 qs45 q138 q2119) (by decide +kernel) (ci := 5) rfl rfl mw_mem0 (by decide) (by decide) rfl hl rfl (Nat.le_of_ble_eq_true rfl) dX7_signs_278 (by omega) (fun _ H locs _ h => ?_)
                rw [lM_gM] at h
                have hok2 := lineS_ok tx (t, v.2) htl (by show v.2.1 ≤ _; omega)
                obtain ⟨b2, v2, hbv2⟩ : ∃ b2 v2, lineS tx (t, v.2) = (b2, v2) := ⟨_, _, rfl⟩
                have h : Wd D B s (mw dA h0 ad (gM M (lineS tx (t, v.2)).2.1 (nI (lineS tx (t, v.2)).2.2.1) (nI (lineS tx (t, v.2)).2.2.2.1) (nI (lineS tx (t, v.2)).2.2.2.2) G2) ++ F) H locs := h
                show W p l e R s m args below meth c H locs (0 + 0 + 0 + 0) (0 + 0 + 0 + 0) Q (F0 m 281 ls [.int (bZ ((lineS tx (t, v.2)).1))])
                rw [hbv2] at hok2 h ⊢
                have hok2 : lnok tx b2 v2 := hok2
                have h : Wd D B s (mw dA h0 ad (gM M v2.1 (nI v2.2.1) (nI v2.2.2.1) (nI v2.2.2.2) G2) ++ F) H locs := h
                show W p l e R s m args below meth c H locs (0 + 0 + 0 + 0) (0 + 0 + 0 + 0) Q (F0 m 281 ls [.int (bZ b2)])
                have hinc := lineS_inc tx (t, v.2)
                rw [hbv2] at hinc
                have hinc : b2 = true → v.2.1 < v2.2.1 := hinc
                have hb2t : b2 = true → v2.2.2.1 = v.2.1 := fun q => (lineS_t hbv2 q).2.2.1
                obtain ⟨ac3, hac3⟩ : ∃ z, z = if t = 0 then ac2 else acc := ⟨_, rfl⟩
                refine lv_istore (lv' := [(5, .int (bZ b2)), (0, .ref h0), (1, .ref la), (2, .ref (ad 6)), (3, .int (nI n2)), (4, .int (bZ e2))]) hx hb dX7_signs_281 hl (by decide) rfl (fun ls hl => ?_)
                refine lv_goto (tgt := 20) hx hb dX7_signs_283 (by decide) ?_
                exact ih f n2 e2 b2 v2 ac3 G2 (by
                  rw [hI]
                  have hv1 : v = (0, v.2) := by rw [← hv0]
                  by_cases z : t = 0
                  · obtain ⟨y1, y2, -⟩ := hz0 z
                    rw [hbad, Bool.or_eq_false_iff] at y1
                    rw [hm9] at y2
                    rw [bodyF_s c22 (by omega) c47 y1.1 (by have := of_decide_eq_false y1.2; omega) y2, hac3, if_pos z]
                    show bodyF tx f e2 ac2 (lineS tx v) = _
                    rw [hv1, ← z, hbv2]
                  · obtain ⟨y1, y2⟩ := hz1 z
                    rw [lineS_n (u := (t, v.2)) z] at hbv2
                    cases hbv2
                    have e5 : failLn v v.2.2.1 = (t, v.2) := by unfold failLn; rw [hv0, failT_0, y1]
                    rw [bodyF_e (q := (false, (t, v.2))) (fun q => Bool.false_ne_true q.1), hac3, if_neg z, bodyF_x c22 (by omega) c47 ?_, e5]
                    rcases y2 with y2 | y2
                    · rw [hbad, Bool.or_eq_true] at y2
                      refine Or.inl ?_
                      rcases y2 with y2 | y2
                      · exact Or.inl y2
                      · exact Or.inr (of_decide_eq_true y2)
                    · rw [hm9] at y2; exact Or.inr y2) (fun q => by have := hinc q; omega) hok2 (fun q => lineS_f hbv2 htl q) (fun q => by
                  by_cases z : t = 0
                  · rw [hac3, if_pos z]; exact ⟨(hz0 z).2.2.1, (hz0 z).2.2.2.1, (hz0 z).2.2.2.2⟩
                  · rw [lineS_n (u := (t, v.2)) z] at hbv2; cases hbv2; exact absurd q z) (by omega) (fun q => by rw [hb2t q]; omega) (lineS_le hbv2 (by show v.2.1 ≤ _; omega) htl) (fun q => (lineS_t hbv2 q).1) hG2b (by omega) _ _ h _ (lv_sub hl [1, 2, 3, 4, 5, 0] rfl)
              have loopB : ∀ (nnB : Nat) (k n2 : Nat) (e2 : Bool) (t : Int32) (G2 : Nat → Nat) (ac2 : List Nat), (t = 0 → (bad = false ∧ foursF tx m9 v.2.2.1 false acc = foursF tx (m9 - k) (v.2.2.1 + 4 * k) e2 ac2 ∧ n2 = ac2.length ∧ (∀ j, j < n2 → G2 j = gD ac2 j) ∧ byt ac2)) → (t ≠ 0 → (t = (-100000 - nI v.2.2.1) ∧ (bad = true ∨ foursF tx m9 v.2.2.1 false acc = none))) → (n2 ≤ v.2.2.1 + 4 * k) → (n2 ≤ v.2.2.2) → (k ≤ 2000) → (∀ j, G2 j < 256) → 5000 - k < nnB → ∀ (H : Heap) (locs : List Loc), Wd D B s (mw dA h0 ad (gM M t (nI v.2.1) (nI v.2.2.1) (nI v.2.2.2) G2) ++ F) H locs → ∀ (ls : Array Slot), lv_has ls 10 [(0, .ref h0), (1, .ref la), (2, .ref (ad 6)), (3, .int (nI n2)), (4, .int (bZ e2)), (6, .int (nI (4 * k)))] → W p l e R s m args below meth c H locs (0 + 0 + 0) (0 + 0 + 0) Q (F0 m 80 ls []) := by
                intro nnB
                induction nnB with
                | zero => intro k n2  e2  t  G2  ac2  hb0 hb1 hb2 hb3 hb4 hG2b hme; exact absurd hme (Nat.not_lt_zero _)
                | succ nnB ihB =>
                  intro k n2  e2  t  G2  ac2  hb0 hb1 hb2 hb3 hb4 hG2b hme H locs h ls hl
                  refine lv_iload hx hb dX7_signs_80 (lv_at hl 5 rfl) ?_
                  refine lv_aload_n hx hb dX7_signs_82 rfl (lv_at hl 0 rfl) ?_
                  refine m_gi C h 38 (by decide) rfl rfl q1908 (v := nI v.2.2.2) rfl dX7_signs_83 ?_
                  refine lv_aload_n hx hb dX7_signs_86 rfl (lv_at hl 0 rfl) ?_
                  refine m_gi C h 37 (by decide) rfl rfl q1907 (v := nI v.2.2.1) rfl dX7_signs_87 ?_
                  refine lv_isub hx hb dX7_signs_90 (n_top (y := nI (v.2.2.2 - v.2.2.1)) (pk_sub (by omega)) ?_)
                  refine n_icmp_ge (tgt := 277) hx hb (by omega) (by omega) dX7_signs_91 (by decide) (fun c91 => ?_) (fun c91 => ?_)
                  · exact j277 n2 e2 t G2 ac2 (fun q => ⟨(hb0 q).1, by rw [(hb0 q).2.1, show m9 - k = 0 by omega]; rfl, (hb0 q).2.2⟩) hb1 (by omega) hG2b _ _ h _ (lv_sub hl [0, 1, 2, 3, 4] rfl)
                  · refine lv_aload_n hx hb dX7_signs_94 rfl (lv_at hl 0 rfl) ?_
                    refine m_gi C h 33 (by decide) rfl rfl q1903 (v := t) rfl dX7_signs_95 ?_
                    refine lv_if_ne (tgt := 277) hx hb dX7_signs_98 (by decide) (fun c98 => ?_) (fun c98 => ?_)
                    · exact j277 n2 e2 t G2 ac2 (fun q => absurd q c98) hb1 (by omega) hG2b _ _ h _ (lv_sub hl [0, 1, 2, 3, 4] rfl)
                    · have ht0 : t = 0 := c98
                      subst ht0
                      obtain ⟨hd1, hd2, hd3, hd4, hd5⟩ := hb0 rfl
                      have hdv : (v.2.2.2 - v.2.2.1) % 4 = 0 := by
                        rw [hbad] at hd1
                        have h9 := (Bool.or_eq_false_iff.mp hd1).2
                        have := of_decide_eq_false h9
                        omega
                      obtain ⟨p9, hp9⟩ : ∃ z, z = v.2.2.1 + 4 * k := ⟨_, rfl⟩
                      have hp8 : p9 + 4 ≤ v.2.2.2 := by omega
                      have hby3 := byt_gD hby (p9 + 3)
                      have hby2 := byt_gD hby (p9 + 2)
                      have hml := manyF_le tx p9
                      obtain ⟨mm, hmm⟩ : ∃ z, z = manyF tx p9 := ⟨_, rfl⟩
                      rw [← hmm] at hml
                      have j148 : ∀ (H : Heap) (locs : List Loc), Wd D B s (mw dA h0 ad (gM M 0 (nI v.2.1) (nI v.2.2.1) (nI v.2.2.2) G2) ++ F) H locs → ∀ (ls : Array Slot), lv_has ls 10 [(0, .ref h0), (1, .ref la), (2, .ref (ad 6)), (3, .int (nI n2)), (4, .int (bZ e2)), (6, .int (nI (4 * k)))] → W p l e R s m args below meth c H locs (0 + 0 + 0) (0 + 0 + 0) Q (F0 m 148 ls [.int (nI mm)]) := by
                        intro   H locs h ls hl
                        refine lv_istore (lv' := [(7, .int (nI mm)), (0, .ref h0), (1, .ref la), (2, .ref (ad 6)), (3, .int (nI n2)), (4, .int (bZ e2)), (6, .int (nI (4 * k)))]) hx hb dX7_signs_148 hl (by decide) rfl (fun ls hl => ?_)
                        refine lv_iconst (v := nI 0) hx hb dX7_signs_150 (by decide) ?_
                        refine lv_istore (lv' := [(8, .int (nI 0)), (7, .int (nI mm)), (0, .ref h0), (1, .ref la), (2, .ref (ad 6)), (3, .int (nI n2)), (4, .int (bZ e2)), (6, .int (nI (4 * k)))]) hx hb dX7_signs_151 hl (by decide) rfl (fun ls hl => ?_)
                        refine lv_iconst (v := nI 0) hx hb dX7_signs_153 (by decide) ?_
                        refine lv_istore (lv' := [(9, .int (nI 0)), (8, .int (nI 0)), (7, .int (nI mm)), (0, .ref h0), (1, .ref la), (2, .ref (ad 6)), (3, .int (nI n2)), (4, .int (bZ e2)), (6, .int (nI (4 * k)))]) hx hb dX7_signs_154 hl (by decide) rfl (fun ls hl => ?_)
                        have j192 : ∀ (vv : Int32) (t : Int32), (t = if okF tx p9 (mm + 1) = true then 0 else (-100000 - nI v.2.2.1)) → (okF tx p9 (mm + 1) = true → vv = nI (sumF tx p9 (mm + 1))) → ∀ (H : Heap) (locs : List Loc), Wd D B s (mw dA h0 ad (gM M t (nI v.2.1) (nI v.2.2.1) (nI v.2.2.2) G2) ++ F) H locs → ∀ (ls : Array Slot), lv_has ls 10 [(0, .ref h0), (1, .ref la), (2, .ref (ad 6)), (3, .int (nI n2)), (4, .int (bZ e2)), (6, .int (nI (4 * k))), (7, .int (nI mm)), (8, .int vv)] → W p l e R s m args below meth c H locs (0 + 0 + 0) (0 + 0 + 0) Q (F0 m 192 ls []) := by
                          intro vv  t  hr0 hr1 H locs h ls hl
                          obtain ⟨gok, hgok⟩ : ∃ z : Bool, z = (!e2 && (fourF tx p9).isSome) := ⟨_, rfl⟩
                          have h24 : shl (nI 1) (nI (24 - 8 * mm)) = nI (2 ^ (24 - 8 * mm)) := by
                            have : mm = 1 ∨ mm = 2 ∨ mm = 3 := by omega
                            rcases this with q | q | q <;> rw [q] <;> decide
                          have h25 : 0 < 2 ^ (24 - 8 * mm) ∧ 2 ^ (24 - 8 * mm) ≤ 65536 := by
                            have : mm = 1 ∨ mm = 2 ∨ mm = 3 := by omega
                            rcases this with q | q | q <;> rw [q] <;> decide
                          have hne : nI (2 ^ (24 - 8 * mm)) ≠ 0 := nI_ne0 h25.1 (by omega)
                          have hE : okF tx p9 (mm + 1) = true → sumF tx p9 (mm + 1) < 2147483648 := fun q => Nat.lt_trans (sumF_lt (mm + 1) (by omega) q).1 (by decide)
                          have j221 : ∀ (t4 : Int32), (t4 = if gok = true then 0 else (-100000 - nI v.2.2.1)) → ∀ (H : Heap) (locs : List Loc), Wd D B s (mw dA h0 ad (gM M t4 (nI v.2.1) (nI v.2.2.1) (nI v.2.2.2) G2) ++ F) H locs → ∀ (ls : Array Slot), lv_has ls 10 [(0, .ref h0), (1, .ref la), (2, .ref (ad 6)), (3, .int (nI n2)), (4, .int (bZ e2)), (6, .int (nI (4 * k))), (7, .int (nI mm)), (8, .int vv)] → W p l e R s m args below meth c H locs (0 + 0 + 0) (0 + 0 + 0) Q (F0 m 221 ls []) := by
                            intro t4  ht4 H locs h ls hl
                            have je : ∀ (tje : Bool), (tje = decide (mm < 3)) → ∀ (H : Heap) (locs : List Loc), Wd D B s (mw dA h0 ad (gM M t4 (nI v.2.1) (nI v.2.2.1) (nI v.2.2.2) G2) ++ F) H locs → ∀ (ls : Array Slot), lv_has ls 10 [(0, .ref h0), (1, .ref la), (2, .ref (ad 6)), (3, .int (nI n2)), (4, .int (bZ e2)), (6, .int (nI (4 * k))), (7, .int (nI mm)), (8, .int vv)] → W p l e R s m args below meth c H locs (0 + 0 + 0) (0 + 0 + 0) Q (F0 m 232 ls [.int (bZ tje)]) := by
                              intro tje  hje H locs h ls hl
                              refine lv_istore (lv' := [(4, .int (bZ tje)), (0, .ref h0), (1, .ref la), (2, .ref (ad 6)), (3, .int (nI n2)), (6, .int (nI (4 * k))), (7, .int (nI mm)), (8, .int vv)]) hx hb dX7_signs_232 hl (by decide) rfl (fun ls hl => ?_)
                              refine lv_iconst (v := nI 0) hx hb dX7_signs_234 (by decide) ?_
                              refine lv_istore (lv' := [(9, .int (nI 0)), (4, .int (bZ tje)), (0, .ref h0), (1, .ref la), (2, .ref (ad 6)), (3, .int (nI n2)), (6, .int (nI (4 * k))), (7, .int (nI mm)), (8, .int vv)]) hx hb dX7_signs_235 hl (by decide) rfl (fun ls hl => ?_)
                              have hBx : ∀ i : Nat, ∃ x, x < 256 ∧ shr vv (nI (16 - 8 * i)) &&& nI 255 = nI x := fun i => and255_ex _
                              obtain ⟨bx, hbx⟩ : ∃ bx : Nat → Nat, ∀ i, bx i < 256 ∧ shr vv (nI (16 - 8 * i)) &&& nI 255 = nI (bx i) := ⟨fun i => Classical.choose (hBx i), fun i => Classical.choose_spec (hBx i)⟩
                              have h : Wd D B s (mw dA h0 ad (gM M t4 (nI v.2.1) (nI v.2.2.1) (nI v.2.2.2) (appG G2 n2 (sl bx 0 0))) ++ F) H locs := by rw [sl_0, appG_nil]; exact h
                              have loopD : ∀ (nnD : Nat) (i : Nat), (i ≤ mm) → mm - i < nnD → ∀ (H : Heap) (locs : List Loc), Wd D B s (mw dA h0 ad (gM M t4 (nI v.2.1) (nI v.2.2.1) (nI v.2.2.2) (appG G2 n2 (sl bx 0 i))) ++ F) H locs → ∀ (ls : Array Slot), lv_has ls 10 [(0, .ref h0), (1, .ref la), (2, .ref (ad 6)), (3, .int (nI (n2 + i))), (4, .int (bZ tje)), (6, .int (nI (4 * k))), (7, .int (nI mm)), (8, .int vv), (9, .int (nI i))] → W p l e R s m args below meth c H locs (0 + 0 + 0) (0 + 0 + 0) Q (F0 m 237 ls []) := by
                                intro nnD
                                induction nnD with
                                | zero => intro i  hd0 hme; exact absurd hme (Nat.not_lt_zero _)
                                | succ nnD ihD =>
                                  intro i  hd0 hme H locs h ls hl
                                  refine lv_iload hx hb dX7_signs_237 (lv_at hl 8 rfl) ?_
                                  refine lv_iload hx hb dX7_signs_239 (lv_at hl 6 rfl) ?_
                                  refine n_icmp_ge (tgt := 271) hx hb (by omega) (by omega) dX7_signs_241 (by decide) (fun c241 => ?_) (fun c241 => ?_)
                                  · have him : i = mm := by omega
                                    subst him
                                    have hm8 : m9 - k = (m9 - (k + 1)) + 1 := by omega
                                    have hgf : gok = true → e2 = false ∧ fourF tx p9 = some (sl (byF (sumF tx p9 (i + 1))) 0 i) ∧ okF tx p9 (i + 1) = true := by
                                      intro q
                                      rw [hgok, Bool.and_eq_true] at q
                                      have q2 := q.2
                                      have q1 : e2 = false := by simpa using q.1
                                      refine ⟨q1, ?_, ?_⟩
                                      · unfold fourF at q2 ⊢
                                        rw [← hmm] at q2 ⊢
                                        split at q2
                                        · next z => rw [if_pos z]
                                        · cases q2
                                      · unfold fourF at q2
                                        rw [← hmm] at q2
                                        split at q2
                                        · next z => exact z.1
                                        · cases q2
                                    have hgn : gok = false → e2 = true ∨ fourF tx p9 = none := by
                                      intro q
                                      rw [hgok, Bool.and_eq_false_iff] at q
                                      rcases q with q | q
                                      · exact Or.inl (by simpa using q)
                                      · exact Or.inr (by simpa using q)
                                    refine lv_iinc (v := nI ((4 * k) + 4)) (lv' := [(6, .int (nI ((4 * k) + 4))), (0, .ref h0), (1, .ref la), (2, .ref (ad 6)), (3, .int (nI (n2 + i))), (4, .int (bZ tje)), (7, .int (nI i)), (8, .int vv), (9, .int (nI i))]) hx hb dX7_signs_271 hl (k := 5) rfl (nI_add (4 * k) 4) (by decide) rfl (fun ls hl => ?_)
                                    refine lv_goto (tgt := 80) hx hb dX7_signs_274 (by decide) ?_
                                    exact ihB (k + 1) (n2 + i) tje t4 (appG G2 n2 (sl bx 0 i)) (ac2 ++ sl (byF (sumF tx p9 (i + 1))) 0 i) (fun q => by
                                      have hg1 : gok = true := by
                                        cases hgk : gok with
                                        | true => rfl
                                        | false => rw [hgk, if_neg (by decide)] at ht4; exact absurd (ht4.symm.trans q) hcn
                                      obtain ⟨z1, z2, z3⟩ := hgf hg1
                                      have hbl : (sl (byF (sumF tx p9 (i + 1))) 0 i).length = i := sl_len _ _ _
                                      have hbe : sl bx 0 i = sl (byF (sumF tx p9 (i + 1))) 0 i := sl_congr (fun j hj => by rw [Nat.zero_add]; exact bF_ok (hr1 z3) (hE z3) (by omega) (hbx j).1 (hbx j).2)
                                      refine ⟨hd1, ?_, by rw [List.length_append, hbl, hd3], ?_, ?_⟩
                                      · rw [hd2, hm8, z1, ← hp9, foursF_s z2, hbl, show v.2.2.1 + 4 * (k + 1) = p9 + 4 by omega, hje]
                                      · intro j hj
                                        rw [hbe]
                                        by_cases y : j < n2
                                        · rw [appG_lt y, gD_appL (by omega), hd4 j y]
                                        · rw [appG_mid (by omega) (by rw [hbl]; omega), gD_appR (by omega), hd3]
                                      · exact byt_app hd5 (sl_byt (fun j => Nat.mod_lt _ (by decide)))) (fun q => by
                                      have hg1 : gok = false := by
                                        cases hgk : gok with
                                        | false => rfl
                                        | true => rw [hgk, if_pos rfl] at ht4; exact absurd ht4 q
                                      rw [hg1, if_neg (by decide)] at ht4
                                      exact ⟨ht4, Or.inr (by rw [hd2, hm8, ← hp9, foursF_n (hgn hg1)])⟩) (by omega) (by omega) (by omega) (appG_byte hG2b (sl_byt (fun j => (hbx j).1))) (by omega) _ _ h _ (lv_sub hl [1, 2, 3, 4, 5, 0] rfl)
                                  · refine lv_aload_n hx hb dX7_signs_244 rfl (lv_at hl 2 rfl) ?_
                                    refine lv_iload_n hx hb dX7_signs_245 rfl (lv_at hl 3 rfl) ?_
                                    refine lv_iload hx hb dX7_signs_246 (lv_at hl 7 rfl) ?_
                                    refine lv_bipush (v := nI 16) hx hb dX7_signs_248 (by decide) ?_
                                    refine lv_bipush (v := nI 8) hx hb dX7_signs_250 (by decide) ?_
                                    refine lv_iload hx hb dX7_signs_252 (lv_at hl 8 rfl) ?_
                                    refine lv_imul hx hb dX7_signs_254 (n_top (y := nI (8 * i)) (pk_mul 8 i) ?_)
                                    refine lv_isub hx hb dX7_signs_255 (n_top (y := nI (16 - (8 * i))) (pk_sub (by omega)) ?_)
                                    refine n_ishr hx hb dX7_signs_256 ?_
                                    refine lv_sipush (v := nI 255) hx hb dX7_signs_257 (by decide) ?_
                                    refine lv_iand hx hb dX7_signs_260 ?_
                                    refine n_top (y := nI (bx i)) ((hbx i).2) ?_
                                    refine m_iast C h 6 (v := bx i) (by decide) (n := 4096) rfl (by omega) dX7_signs_261 (fun H locs h => ?_)
                                    rw [gM_6] at h
                                    have h : Wd D B s (mw dA h0 ad (gM M t4 (nI v.2.1) (nI v.2.2.1) (nI v.2.2.2) (upN (appG G2 n2 (sl bx 0 i)) (n2 + i) (bx i))) ++ F) H locs := h
                                    rw [appG_snoc _ _ _ _ (by rw [sl_len]), ← show sl bx 0 (i + 1) = sl bx 0 i ++ [bx i] by rw [sl_succ, Nat.zero_add]] at h
                                    have h : Wd D B s (mw dA h0 ad (gM M t4 (nI v.2.1) (nI v.2.2.1) (nI v.2.2.2) (appG G2 n2 (sl bx 0 (i + 1)))) ++ F) H locs := h
                                    refine lv_iinc (v := nI (n2 + i + 1)) (lv' := [(3, .int (nI (n2 + i + 1))), (0, .ref h0), (1, .ref la), (2, .ref (ad 6)), (4, .int (bZ tje)), (6, .int (nI (4 * k))), (7, .int (nI mm)), (8, .int vv), (9, .int (nI i))]) hx hb dX7_signs_262 hl (k := 3) rfl (nI_add (n2 + i) 1) (by decide) rfl (fun ls hl => ?_)
                                    refine lv_iinc (v := nI (i + 1)) (lv' := [(9, .int (nI (i + 1))), (3, .int (nI (n2 + i + 1))), (0, .ref h0), (1, .ref la), (2, .ref (ad 6)), (4, .int (bZ tje)), (6, .int (nI (4 * k))), (7, .int (nI mm)), (8, .int vv)]) hx hb dX7_signs_265 hl (k := 8) rfl (nI_add i 1) (by decide) rfl (fun ls hl => ?_)
                                    refine lv_goto (tgt := 237) hx hb dX7_signs_268 (by decide) ?_
                                    exact ihD (i + 1) (by omega) (by omega) _ _ h _ (lv_sub hl [2, 3, 4, 1, 5, 6, 7, 8, 0] rfl)
                              exact loopD _ 0 (by omega) (Nat.lt_succ_self _) _ _ h _ (lv_sub hl [2, 3, 4, 5, 1, 6, 7, 8, 0] rfl)
                            refine lv_iload hx hb dX7_signs_221 (lv_at hl 6 rfl) ?_
                            refine lv_iconst (v := nI 3) hx hb dX7_signs_223 (by decide) ?_
                            refine n_icmp_ge (tgt := 231) hx hb (by omega) (by omega) dX7_signs_224 (by decide) (fun c224 => ?_) (fun c224 => ?_)
                            · refine lv_iconst (v := nI 0) hx hb dX7_signs_231 (by decide) ?_
                              refine n_top (y := bZ false) rfl ?_
                              exact je false ((decide_eq_false (by omega)).symm) _ _ h _ (lv_sub hl [0, 1, 2, 3, 4, 5, 6, 7] rfl)
                            · refine lv_iconst (v := nI 1) hx hb dX7_signs_227 (by decide) ?_
                              refine lv_goto (tgt := 232) hx hb dX7_signs_228 (by decide) ?_
                              refine n_top (y := bZ true) rfl ?_
                              exact je true ((decide_eq_true (by omega)).symm) _ _ h _ (lv_sub hl [0, 1, 2, 3, 4, 5, 6, 7] rfl)
                          refine lv_iload hx hb dX7_signs_192 (lv_at hl 4 rfl) ?_
                          refine z_if_ne (tgt := 213) hx hb dX7_signs_194 (by decide) (fun c194 => ?_) (fun c194 => ?_)
                          · refine lv_aload_n hx hb dX7_signs_213 rfl (lv_at hl 0 rfl) ?_
                            refine lv_aload_n hx hb dX7_signs_214 rfl (lv_at hl 0 rfl) ?_
                            refine m_gi C h 37 (by decide) rfl rfl q1907 (v := nI v.2.2.1) rfl dX7_signs_215 ?_
                            refine call_V (As := [.int (nI v.2.2.1)]) (rest := []) (n := 1) C h (c7_failLine l D dA B Z hZ h0 ad (gM M t (nI v.2.1) (nI v.2.2.1) (nI v.2.2.2) G2) F v.2.2.1) (lw_V q2120 q2122 qs46 q138 q2123) (by decide +kernel) (ci := 5) rfl rfl mw_mem0 (by decide) (by decide) rfl hl rfl (Nat.le_of_ble_eq_true rfl) dX7_signs_218 (by omega) (fun _ H locs _ h => ?_)
                            rw [gM_33] at h
                            have h : Wd D B s (mw dA h0 ad (gM M (failT t (-100000 - nI v.2.2.1)) (nI v.2.1) (nI v.2.2.1) (nI v.2.2.2) G2) ++ F) H locs := h
                            exact j221 (failT t (-100000 - nI v.2.2.1)) (by
                              have hg : gok = false := by rw [hgok, show e2 = true from c194]; rfl
                              rw [hg, if_neg (by decide), hr0]
                              split
                              · rw [failT_0]
                              · rw [failT_n hcn]) _ _ h _ (lv_sub hl [0, 1, 2, 3, 4, 5, 6, 7] rfl)
                          · refine lv_iload hx hb dX7_signs_197 (lv_at hl 7 rfl) ?_
                            refine lv_iconst (v := nI 1) hx hb dX7_signs_199 (by decide) ?_
                            refine lv_bipush (v := nI 24) hx hb dX7_signs_200 (by decide) ?_
                            refine lv_bipush (v := nI 8) hx hb dX7_signs_202 (by decide) ?_
                            refine lv_iload hx hb dX7_signs_204 (lv_at hl 6 rfl) ?_
                            refine lv_imul hx hb dX7_signs_206 (n_top (y := nI (8 * mm)) (pk_mul 8 mm) ?_)
                            refine lv_isub hx hb dX7_signs_207 (n_top (y := nI (24 - (8 * mm))) (pk_sub (by omega)) ?_)
                            refine n_ishl hx hb dX7_signs_208 ?_
                            refine n_top (y := nI (2 ^ (24 - 8 * mm))) h24 ?_
                            refine lv_irem hx hb dX7_signs_209 hne ?_
                            refine lv_if_eq (tgt := 221) hx hb dX7_signs_210 (by decide) (fun c210 => ?_) (fun c210 => ?_)
                            · exact j221 t (by
                                cases hq : okF tx p9 (mm + 1) with
                                | false =>
                                  have hg : gok = false := by
                                    rw [hgok]; unfold fourF; rw [← hmm, if_neg (fun z => by rw [hq] at z; cases z.1)]; exact Bool.and_false _
                                  rw [hr0, hq, hg]
                                | true =>
                                  have e9 : nI (sumF tx p9 (mm + 1) % 2 ^ (24 - 8 * mm)) = 0 := by rw [← pk_rem (hE hq) h25.1 (by omega), ← hr1 hq]; exact c210
                                  have e8 := (nI_eq (by have := Nat.mod_lt (sumF tx p9 (mm + 1)) h25.1; omega) (by decide : (0 : Nat) < 2 ^ 31)).mp e9
                                  have hg : gok = true := by
                                    rw [hgok, show e2 = false from c194]; unfold fourF; rw [← hmm, if_pos ⟨hq, e8⟩]; rfl
                                  rw [hr0, hq, hg]) _ _ h _ (lv_sub hl [0, 1, 2, 3, 4, 5, 6, 7] rfl)
                            · refine lv_aload_n hx hb dX7_signs_213 rfl (lv_at hl 0 rfl) ?_
                              refine lv_aload_n hx hb dX7_signs_214 rfl (lv_at hl 0 rfl) ?_
                              refine m_gi C h 37 (by decide) rfl rfl q1907 (v := nI v.2.2.1) rfl dX7_signs_215 ?_
                              refine call_V (As := [.int (nI v.2.2.1)]) (rest := []) (n := 1) C h (c7_failLine l D dA B Z hZ h0 ad (gM M t (nI v.2.1) (nI v.2.2.1) (nI v.2.2.2) G2) F v.2.2.1) (lw_V q2120 q2122 qs46 q138 q2123) (by decide +kernel) (ci := 5) rfl rfl mw_mem0 (by decide) (by decide) rfl hl rfl (Nat.le_of_ble_eq_true rfl) dX7_signs_218 (by omega) (fun _ H locs _ h => ?_)
                              rw [gM_33] at h
                              have h : Wd D B s (mw dA h0 ad (gM M (failT t (-100000 - nI v.2.2.1)) (nI v.2.1) (nI v.2.2.1) (nI v.2.2.2) G2) ++ F) H locs := h
                              exact j221 (failT t (-100000 - nI v.2.2.1)) (by
                                cases hq : okF tx p9 (mm + 1) with
                                | false =>
                                  have hg : gok = false := by
                                    rw [hgok]; unfold fourF; rw [← hmm, if_neg (fun z => by rw [hq] at z; cases z.1)]; exact Bool.and_false _
                                  rw [hr0, hq, hg, if_neg (by decide), failT_n hcn]
                                | true =>
                                  have e8 : sumF tx p9 (mm + 1) % 2 ^ (24 - 8 * mm) ≠ 0 := by
                                    intro z
                                    have e9 := pk_rem (hE hq) h25.1 (by omega : 2 ^ (24 - 8 * mm) < 2 ^ 31)
                                    rw [z, ← hr1 hq] at e9
                                    exact c210 e9
                                  have hg : gok = false := by
                                    rw [hgok]; unfold fourF; rw [← hmm, if_neg (fun z => e8 z.2)]; exact Bool.and_false _
                                  rw [hr0, hq, if_pos rfl, failT_0, hg, if_neg (by decide)]) _ _ h _ (lv_sub hl [0, 1, 2, 3, 4, 5, 6, 7] rfl)
                        have loopC : ∀ (nnC : Nat) (i : Nat) (vv t : Int32), (t = if okF tx p9 i = true then 0 else (-100000 - nI v.2.2.1)) → (okF tx p9 i = true → vv = nI (sumF tx p9 i)) → (i ≤ mm + 1) → mm + 1 - i < nnC → ∀ (H : Heap) (locs : List Loc), Wd D B s (mw dA h0 ad (gM M t (nI v.2.1) (nI v.2.2.1) (nI v.2.2.2) G2) ++ F) H locs → ∀ (ls : Array Slot), lv_has ls 10 [(0, .ref h0), (1, .ref la), (2, .ref (ad 6)), (3, .int (nI n2)), (4, .int (bZ e2)), (6, .int (nI (4 * k))), (7, .int (nI mm)), (8, .int vv), (9, .int (nI i))] → W p l e R s m args below meth c H locs (0 + 0 + 0) (0 + 0 + 0) Q (F0 m 156 ls []) := by
                          intro nnC
                          induction nnC with
                          | zero => intro i  vv t  hs0 hs1 hs2 hme; exact absurd hme (Nat.not_lt_zero _)
                          | succ nnC ihC =>
                            intro i  vv t  hs0 hs1 hs2 hme H locs h ls hl
                            refine lv_iload hx hb dX7_signs_156 (lv_at hl 8 rfl) ?_
                            refine lv_iload hx hb dX7_signs_158 (lv_at hl 6 rfl) ?_
                            refine n_icmp_gt (tgt := 192) hx hb (by omega) (by omega) dX7_signs_160 (by decide) (fun c160 => ?_) (fun c160 => ?_)
                            · exact j192 vv t (by rw [← show i = mm + 1 by omega]; exact hs0) (by rw [← show i = mm + 1 by omega]; exact hs1) _ _ h _ (lv_sub hl [0, 1, 2, 3, 4, 5, 6, 7] rfl)
                            · refine lv_iload hx hb dX7_signs_163 (lv_at hl 7 rfl) ?_
                              refine lv_aload_n hx hb dX7_signs_165 rfl (lv_at hl 0 rfl) ?_
                              refine lv_iload hx hb dX7_signs_166 (lv_at hl 5 rfl) ?_
                              refine lv_iload hx hb dX7_signs_168 (lv_at hl 8 rfl) ?_
                              refine lv_iadd hx hb dX7_signs_170 (n_top (y := nI ((4 * k) + i)) (nI_add (4 * k) i) ?_)
                              have h : Wd D B s (mw dA h0 ad (lM (gM M t (nI v.2.1) (nI v.2.2.1) (nI v.2.2.2) G2) (t, v.2).1 (nI (t, v.2).2.1) (nI (t, v.2).2.2.1) (nI (t, v.2).2.2.2)) ++ F) H locs := by rw [lM_gM]; exact h
                              refine call_V (As := [.int (nI ((4 * k) + i))]) (rest := [.int vv]) (n := 1) C h (c7_sign l D dA B Z hZ h0 ad (gM M t (nI v.2.1) (nI v.2.2.1) (nI v.2.2.2) G2) F tx (t, v.2) (4 * k + i) hsz htx hT htl hby (by show v.2.2.1 + (4 * k + i) < _; omega)) (lw_V q2162 q2164 qs52 q138 q2165) (by decide +kernel) (ci := 5) rfl rfl mw_mem0 (by decide) (by decide) rfl hl rfl (Nat.le_of_ble_eq_true rfl) dX7_signs_171 (by omega) (fun _ H locs _ h => ?_)
                              rw [lM_gM] at h
                              have ee : v.2.2.1 + (4 * k + i) = p9 + i := by omega
                              have h : Wd D B s (mw dA h0 ad (gM M (if valI (gD tx (v.2.2.1 + (4 * k + i))) = -1 then failT t (-100000 - nI v.2.2.1) else t) (nI v.2.1) (nI v.2.2.1) (nI v.2.2.2) G2) ++ F) H locs := h
                              show W p l e R s m args below meth c H locs (0 + 0 + 0 + 0) (0 + 0 + 0 + 0) Q (F0 m 174 ls [.int (valI (gD tx (v.2.2.1 + (4 * k + i)))), .int vv])
                              rw [ee] at h ⊢
                              obtain ⟨t2, ht2⟩ : ∃ z, z = (if valI (gD tx (p9 + i)) = -1 then failT t (-100000 - nI v.2.2.1) else t) := ⟨_, rfl⟩
                              rw [← ht2] at h
                              have hsn0 : t2 = if okF tx p9 (i + 1) = true then 0 else (-100000 - nI v.2.2.1) := by
                                rw [ht2, okF, hs0]
                                cases hq : okF tx p9 i with
                                | false =>
                                  rw [Bool.false_and, if_neg (show ¬ (false = true) from Bool.false_ne_true), failT_n hcn]
                                  split <;> rfl
                                | true =>
                                  rw [Bool.true_and, if_pos rfl, failT_0]
                                  cases hw : vOk (gD tx (p9 + i)) with
                                  | true => rw [if_neg (vOk_t hw), if_pos rfl]
                                  | false => rw [if_pos (vOk_f hw), if_neg (by decide)]
                              have hsn1 : okF tx p9 (i + 1) = true → vv + shl (valI (gD tx (p9 + i))) (nI (18 - 6 * i)) = nI (sumF tx p9 (i + 1)) := by
                                intro q
                                rw [okF, Bool.and_eq_true] at q
                                have e1 := valI_vN (vOk_t q.2)
                                rw [e1.1, hs1 q.1, n_shlN (by omega) (k9 (vN (gD tx (p9 + i))) (18 - 6 * i) e1.2 (by omega)), nI_add]
                                rfl
                              show W p l e R s m args below meth c H locs (0 + 0 + 0 + 0) (0 + 0 + 0 + 0) Q (F0 m 174 ls [.int (valI (gD tx (p9 + i))), .int vv])
                              refine lv_bipush (v := nI 18) hx hb dX7_signs_174 (by decide) ?_
                              refine lv_bipush (v := nI 6) hx hb dX7_signs_176 (by decide) ?_
                              refine lv_iload hx hb dX7_signs_178 (lv_at hl 8 rfl) ?_
                              refine lv_imul hx hb dX7_signs_180 (n_top (y := nI (6 * i)) (pk_mul 6 i) ?_)
                              refine lv_isub hx hb dX7_signs_181 (n_top (y := nI (18 - (6 * i))) (pk_sub (by omega)) ?_)
                              refine n_ishl hx hb dX7_signs_182 ?_
                              refine lv_iadd hx hb dX7_signs_183 ?_
                              refine lv_istore (lv' := [(8, .int (vv + (shl (valI (gD tx (p9 + i))) (nI (18 - (6 * i)))))), (0, .ref h0), (1, .ref la), (2, .ref (ad 6)), (3, .int (nI n2)), (4, .int (bZ e2)), (6, .int (nI (4 * k))), (7, .int (nI mm)), (9, .int (nI i))]) hx hb dX7_signs_184 hl (by decide) rfl (fun ls hl => ?_)
                              refine lv_iinc (v := nI (i + 1)) (lv' := [(9, .int (nI (i + 1))), (8, .int (vv + (shl (valI (gD tx (p9 + i))) (nI (18 - (6 * i)))))), (0, .ref h0), (1, .ref la), (2, .ref (ad 6)), (3, .int (nI n2)), (4, .int (bZ e2)), (6, .int (nI (4 * k))), (7, .int (nI mm))]) hx hb dX7_signs_186 hl (k := 8) rfl (nI_add i 1) (by decide) rfl (fun ls hl => ?_)
                              refine lv_goto (tgt := 156) hx hb dX7_signs_189 (by decide) ?_
                              exact ihC (i + 1) (vv + (shl (valI (gD tx (p9 + i))) (nI (18 - (6 * i))))) t2 hsn0 hsn1 (by omega) (by omega) _ _ h _ (lv_sub hl [2, 3, 4, 5, 6, 7, 8, 1, 0] rfl)
                        exact loopC _ 0 (nI 0) 0 rfl (fun _ => rfl) (by omega) (Nat.lt_succ_self _) _ _ h _ (lv_sub hl [3, 4, 5, 6, 7, 8, 2, 1, 0] rfl)
                      refine lv_aload_n hx hb dX7_signs_101 rfl (lv_at hl 0 rfl) ?_
                      refine m_gr C h 34 (by decide) rfl rfl q1904 (v := some (ad 2)) htx dX7_signs_102 ?_
                      refine lv_aload_n hx hb dX7_signs_105 rfl (lv_at hl 0 rfl) ?_
                      refine m_gi C h 37 (by decide) rfl rfl q1907 (v := nI v.2.2.1) rfl dX7_signs_106 ?_
                      refine lv_iload hx hb dX7_signs_109 (lv_at hl 5 rfl) ?_
                      refine lv_iadd hx hb dX7_signs_111 (n_top (y := nI (v.2.2.1 + (4 * k))) (nI_add v.2.2.1 (4 * k)) ?_)
                      refine lv_iconst (v := nI 3) hx hb dX7_signs_112 (by decide) ?_
                      refine lv_iadd hx hb dX7_signs_113 (n_top (y := nI ((v.2.2.1 + (4 * k)) + 3)) (nI_add (v.2.2.1 + (4 * k)) 3) ?_)
                      refine n_iald C h (v := (mG (gM M 0 (nI v.2.1) (nI v.2.2.1) (nI v.2.2.2) G2) 2) ((v.2.2.1 + (4 * k)) + 3)) (mw_memG (k := 2) (by decide)) (show (v.2.2.1 + (4 * k)) + 3 < 4096 by omega) (by decide) rfl dX7_signs_114 ?_
                      refine n_top (y := nI (gD tx (p9 + 3))) (by rw [hp9]; exact congrArg nI (hT _ (by omega))) ?_
                      refine lv_bipush (v := nI 61) hx hb dX7_signs_115 (by decide) ?_
                      refine n_icmp_eq (tgt := 124) hx hb (by omega) (by omega) dX7_signs_117 (by decide) (fun c117 => ?_) (fun c117 => ?_)
                      · refine lv_aload_n hx hb dX7_signs_124 rfl (lv_at hl 0 rfl) ?_
                        refine m_gr C h 34 (by decide) rfl rfl q1904 (v := some (ad 2)) htx dX7_signs_125 ?_
                        refine lv_aload_n hx hb dX7_signs_128 rfl (lv_at hl 0 rfl) ?_
                        refine m_gi C h 37 (by decide) rfl rfl q1907 (v := nI v.2.2.1) rfl dX7_signs_129 ?_
                        refine lv_iload hx hb dX7_signs_132 (lv_at hl 5 rfl) ?_
                        refine lv_iadd hx hb dX7_signs_134 (n_top (y := nI (v.2.2.1 + (4 * k))) (nI_add v.2.2.1 (4 * k)) ?_)
                        refine lv_iconst (v := nI 2) hx hb dX7_signs_135 (by decide) ?_
                        refine lv_iadd hx hb dX7_signs_136 (n_top (y := nI ((v.2.2.1 + (4 * k)) + 2)) (nI_add (v.2.2.1 + (4 * k)) 2) ?_)
                        refine n_iald C h (v := (mG (gM M 0 (nI v.2.1) (nI v.2.2.1) (nI v.2.2.2) G2) 2) ((v.2.2.1 + (4 * k)) + 2)) (mw_memG (k := 2) (by decide)) (show (v.2.2.1 + (4 * k)) + 2 < 4096 by omega) (by decide) rfl dX7_signs_137 ?_
                        refine n_top (y := nI (gD tx (p9 + 2))) (by rw [hp9]; exact congrArg nI (hT _ (by omega))) ?_
                        refine lv_bipush (v := nI 61) hx hb dX7_signs_138 (by decide) ?_
                        refine n_icmp_eq (tgt := 147) hx hb (by omega) (by omega) dX7_signs_140 (by decide) (fun c140 => ?_) (fun c140 => ?_)
                        · refine lv_iconst (v := nI 1) hx hb dX7_signs_147 (by decide) ?_
                          refine n_top (y := nI mm) (by rw [hmm]; unfold manyF; first | (rw [if_pos (by omega)]; done) | (rw [if_neg (by omega), if_pos (by omega)]; done) | (rw [if_neg (by omega), if_neg (by omega)]; done)) ?_
                          exact j148   _ _ h _ (lv_sub hl [0, 1, 2, 3, 4, 5] rfl)
                        · refine lv_iconst (v := nI 2) hx hb dX7_signs_143 (by decide) ?_
                          refine lv_goto (tgt := 148) hx hb dX7_signs_144 (by decide) ?_
                          refine n_top (y := nI mm) (by rw [hmm]; unfold manyF; first | (rw [if_pos (by omega)]; done) | (rw [if_neg (by omega), if_pos (by omega)]; done) | (rw [if_neg (by omega), if_neg (by omega)]; done)) ?_
                          exact j148   _ _ h _ (lv_sub hl [0, 1, 2, 3, 4, 5] rfl)
                      · refine lv_iconst (v := nI 3) hx hb dX7_signs_120 (by decide) ?_
                        refine lv_goto (tgt := 148) hx hb dX7_signs_121 (by decide) ?_
                        refine n_top (y := nI mm) (by rw [hmm]; unfold manyF; first | (rw [if_pos (by omega)]; done) | (rw [if_neg (by omega), if_pos (by omega)]; done) | (rw [if_neg (by omega), if_neg (by omega)]; done)) ?_
                        exact j148   _ _ h _ (lv_sub hl [0, 1, 2, 3, 4, 5] rfl)
              exact loopB _ 0 n e9 t7 G acc (fun q => by
                have hbd : bad = false := by
                  cases bad with
                  | false => rfl
                  | true => exact absurd (q.symm.trans ht7) (fun z => hcn z.symm)
                have he9 : e9 = false := by
                  rw [hbd] at hbad
                  cases e9 with
                  | false => rfl
                  | true => cases hbad
                exact ⟨hbd, by rw [he9]; rfl, hAc hv0⟩) (fun q => by
                have hbd : bad = true := by
                  cases bad with
                  | true => rfl
                  | false => exact absurd ht7 q
                rw [hbd, if_pos rfl] at ht7
                exact ⟨ht7, Or.inl hbd⟩) (by omega) (by omega) (by omega) hGb (Nat.lt_succ_self _) _ _ h _ (lv_sub hl [1, 2, 3, 4, 5, 0] rfl)
            refine lv_iload hx hb dX7_signs_50 (lv_at hl 4 rfl) ?_
            refine z_if_ne (tgt := 69) hx hb dX7_signs_52 (by decide) (fun c52 => ?_) (fun c52 => ?_)
            · refine lv_aload_n hx hb dX7_signs_69 rfl (lv_at hl 0 rfl) ?_
              refine lv_aload_n hx hb dX7_signs_70 rfl (lv_at hl 0 rfl) ?_
              refine m_gi C h 37 (by decide) rfl rfl q1907 (v := nI v.2.2.1) rfl dX7_signs_71 ?_
              refine call_V (As := [.int (nI v.2.2.1)]) (rest := []) (n := 1) C h (c7_failLine l D dA B Z hZ h0 ad (gM M v.1 (nI v.2.1) (nI v.2.2.1) (nI v.2.2.2) G) F v.2.2.1) (lw_V q2120 q2122 qs46 q138 q2123) (by decide +kernel) (ci := 5) rfl rfl mw_mem0 (by decide) (by decide) rfl hl rfl (Nat.le_of_ble_eq_true rfl) dX7_signs_74 (by omega) (fun _ H locs _ h => ?_)
              rw [gM_33] at h
              have h : Wd D B s (mw dA h0 ad (gM M (failT v.1 (-100000 - nI v.2.2.1)) (nI v.2.1) (nI v.2.2.1) (nI v.2.2.2) G) ++ F) H locs := h
              exact j77 (failT v.1 (-100000 - nI v.2.2.1)) (by first | (rw [hbad, show e9 = true from c52, Bool.true_or, if_pos rfl, hv0, failT_0]) | (rw [hbad, decide_eq_true (by omega), Bool.or_true, if_pos rfl, hv0, failT_0])) _ _ h _ (lv_sub hl [0, 1, 2, 3, 4] rfl)
            · refine lv_aload_n hx hb dX7_signs_55 rfl (lv_at hl 0 rfl) ?_
              refine m_gi C h 38 (by decide) rfl rfl q1908 (v := nI v.2.2.2) rfl dX7_signs_56 ?_
              refine lv_aload_n hx hb dX7_signs_59 rfl (lv_at hl 0 rfl) ?_
              refine m_gi C h 37 (by decide) rfl rfl q1907 (v := nI v.2.2.1) rfl dX7_signs_60 ?_
              refine lv_isub hx hb dX7_signs_63 (n_top (y := nI (v.2.2.2 - v.2.2.1)) (pk_sub (by omega)) ?_)
              refine lv_iconst (v := nI 4) hx hb dX7_signs_64 (by decide) ?_
              refine lv_irem hx hb dX7_signs_65 (by decide) (n_top (y := nI ((v.2.2.2 - v.2.2.1) % 4)) (pk_rem (by omega) (by omega) (by omega)) ?_)
              refine n_if_eq (tgt := 77) hx hb (by omega) dX7_signs_66 (by decide) (fun c66 => ?_) (fun c66 => ?_)
              · exact j77 v.1 (by rw [hbad, show e9 = false from c52, decide_eq_false (by omega), if_neg (by decide), hv0]) _ _ h _ (lv_sub hl [0, 1, 2, 3, 4] rfl)
              · refine lv_aload_n hx hb dX7_signs_69 rfl (lv_at hl 0 rfl) ?_
                refine lv_aload_n hx hb dX7_signs_70 rfl (lv_at hl 0 rfl) ?_
                refine m_gi C h 37 (by decide) rfl rfl q1907 (v := nI v.2.2.1) rfl dX7_signs_71 ?_
                refine call_V (As := [.int (nI v.2.2.1)]) (rest := []) (n := 1) C h (c7_failLine l D dA B Z hZ h0 ad (gM M v.1 (nI v.2.1) (nI v.2.2.1) (nI v.2.2.2) G) F v.2.2.1) (lw_V q2120 q2122 qs46 q138 q2123) (by decide +kernel) (ci := 5) rfl rfl mw_mem0 (by decide) (by decide) rfl hl rfl (Nat.le_of_ble_eq_true rfl) dX7_signs_74 (by omega) (fun _ H locs _ h => ?_)
                rw [gM_33] at h
                have h : Wd D B s (mw dA h0 ad (gM M (failT v.1 (-100000 - nI v.2.2.1)) (nI v.2.1) (nI v.2.2.1) (nI v.2.2.2) G) ++ F) H locs := h
                exact j77 (failT v.1 (-100000 - nI v.2.2.1)) (by first | (rw [hbad, show e9 = true from c52, Bool.true_or, if_pos rfl, hv0, failT_0]) | (rw [hbad, decide_eq_true (by omega), Bool.or_true, if_pos rfl, hv0, failT_0])) _ _ h _ (lv_sub hl [0, 1, 2, 3, 4] rfl)
  have hl : lv_has ls 10 [(5, .int (bZ b0)), (4, .int (bZ false)), (3, .int (nI 0)), (2, .ref (ad 6)), (0, .ref h0), (1, .ref la)] := hl
  exact loop _ (tx.length + 2) 0 false b0 v0 [] (mG M 6) hR0 (fun _ => by omega) hok0 hlf (fun _ => ⟨rfl, fun j hj => absurd hj (Nat.not_lt_zero _), fun x hx => absurd hx List.not_mem_nil⟩) (by omega) (fun _ => Nat.zero_le _) (lineS_le hbv0 hn1 htl) (fun q => (lineS_t hbv0 q).1) hG6 (Nat.lt_succ_self _) _ _ h _ (lv_sub hl [4, 5, 3, 2, 1, 0] rfl)
