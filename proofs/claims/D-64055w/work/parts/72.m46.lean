set_option maxRecDepth 100000

/-- what looking at packets may change -/
def Km (M M' : MS) : Prop := (∀ k, k ∉ kI → k ∉ [33, 41, 42, 43, 45, 47] → mI M' k = mI M k) ∧ (∀ k, k ∉ kR → k ∉ [44, 71] → mR M' k = mR M k) ∧ (∀ k, k ∉ kG → k ≠ 46 → mG M' k = mG M k) ∧ mA M' = mA M
theorem Kp.km {M M' : MS} (h : Kp M M') : Km M M' := ⟨fun k a _ => h.1 k a, fun k a _ => h.2.2.1 k a, fun k a _ => h.2.2.2.1 k a, h.2.2.2.2⟩
theorem Km.rfl' (M : MS) : Km M M := (Kp.rfl' M).km
theorem Km.trans {M M' M'' : MS} (h1 : Km M M') (h2 : Km M' M'') : Km M M'' := ⟨fun k a b => (h2.1 k a b).trans (h1.1 k a b), fun k a b => (h2.2.1 k a b).trans (h1.2.1 k a b), fun k a b => (h2.2.2.1 k a b).trans (h1.2.2.1 k a b), h2.2.2.2.trans h1.2.2.2⟩
theorem Km.sI (M : MS) {k : Nat} (v : Int32) (hk : k ∈ [33, 41, 42, 43, 45, 47]) : Km M (sI M k v) := ⟨fun j _ b => upN_n (fun e => b (by rw [e]; exact hk)), fun _ _ _ => rfl, fun _ _ _ => rfl, rfl⟩
theorem Km.sR (M : MS) {k : Nat} (v : Option Nat) (hk : k ∈ [44, 71]) : Km M (sR M k v) := ⟨fun _ _ _ => rfl, fun j _ b => upN_n (fun e => b (by rw [e]; exact hk)), fun _ _ _ => rfl, rfl⟩
theorem kM_km (M : MS) (x33 x41 x42 x43 x45 x47 : Int32) (x44 : Option Nat) (x46 : Nat → Nat) : Km M (kM M x33 x41 x42 x43 x45 x47 x44 x46) := by
  refine ⟨fun j _ b => ?_, fun j _ b => ?_, fun j _ b => ?_, rfl⟩
  · simp only [List.mem_cons, List.not_mem_nil, or_false, not_or] at b
    show upN (upN (upN (upN (upN (upN M.1 33 x33) 41 x41) 42 x42) 43 x43) 45 x45) 47 x47 j = M.1 j
    rw [upN_n (by omega), upN_n (by omega), upN_n (by omega), upN_n (by omega), upN_n (by omega), upN_n (by omega)]
  · simp only [List.mem_cons, List.not_mem_nil, or_false, not_or] at b
    exact upN_n (by omega)
  · exact upN_n b
/-- the row that packets are read from -/
def RowAt (ad : Nat → Nat) (M : MS) (rk : Nat) (rw : List Nat) : Prop := (rk = 2 ∨ rk = 6) ∧ mR M 39 = some (ad rk) ∧ mI M 40 = nI rw.length ∧ (∀ j, j < rw.length → mG M rk j = gD rw j) ∧ rw.length ≤ 4096 ∧ byt rw
theorem RowAt.km {ad : Nat → Nat} {M M' : MS} {rk : Nat} {rw : List Nat} (h : RowAt ad M rk rw) (hk : Km M M') : RowAt ad M' rk rw := by
  obtain ⟨h1, h2, h3, h4, h5, h6⟩ := h
  refine ⟨h1, (hk.2.1 39 (by decide) (by decide)).trans h2, (hk.1 40 (by decide) (by decide)).trans h3, fun j hj => ?_, h5, h6⟩
  rw [← h4 j hj]
  rcases h1 with q | q <;> subst q
  · rw [hk.2.2.1 2 (by decide) (by decide)]
  · rw [hk.2.2.1 6 (by decide) (by decide)]
theorem RowAt.g7 {ad : Nat → Nat} {M : MS} {rk : Nat} {rw : List Nat} (h : RowAt ad M rk rw) (v : Nat → Nat) : RowAt ad (sG M 7 v) rk rw := by
  obtain ⟨h1, h2, h3, h4, h5, h6⟩ := h
  refine ⟨h1, h2, h3, fun j hj => ?_, h5, h6⟩
  rw [← h4 j hj]
  rcases h1 with q | q <;> subst q <;> rfl
theorem RowAt.mem {dA : Nat → ClassId} {h0 : Nat} {ad : Nat → Nat} {M : MS} {rk : Nat} {rw : List Nat} (h : RowAt ad M rk rw) (F : va_W) (x33 x41 x42 x43 x45 x47 : Int32) (x44 : Option Nat) (x46 : Nat → Nat) : (ad rk, iar dA 4096 (mG M rk)) ∈ mw dA h0 ad (kM M x33 x41 x42 x43 x45 x47 x44 x46) ++ F := by
  rcases h.1 with q | q <;> subst q
  · exact mw_memG (k := 2) (by decide)
  · exact mw_memG (k := 6) (by decide)
def ownOk (k : Nat) (b : List Nat) : Bool := decide (k = 2) && (decide (b.length ≠ 0) && (oursL b && (sealOk b && decide (sType b ≤ 1))))
/-- a seal of a document at a place of a row: told, its body, where it ends -/
def ownS (rw : List Nat) (nx : Nat) : Int32 × List Nat × Nat := match pktS rw nx with
  | none => (-1 - nI nx, [], 0)
  | some q => if ownOk q.1 q.2.1 = true then (0, q.2.1, q.2.2) else (-1 - nI nx, [], 0)
theorem ownS_n {rw : List Nat} {nx : Nat} (h : pktS rw nx = none) : ownS rw nx = (-1 - nI nx, [], 0) := by unfold ownS; rw [h]
theorem ownS_f {rw : List Nat} {nx : Nat} {q : Nat × List Nat × Nat} (h : pktS rw nx = some q) (h2 : ownOk q.1 q.2.1 = false) : ownS rw nx = (-1 - nI nx, [], 0) := by unfold ownS; rw [h]; exact if_neg (by rw [h2]; decide)
theorem ownS_t {rw : List Nat} {nx : Nat} {q : Nat × List Nat × Nat} (h : pktS rw nx = some q) (h2 : ownOk q.1 q.2.1 = true) : ownS rw nx = (0, q.2.1, q.2.2) := by unfold ownS; rw [h]; exact if_pos h2
def endS (rw : List Nat) (nx : Nat) : Int32 := if nx < rw.length then -1 - nI nx else 0
theorem pktT_m {rw : List Nat} {nx : Nat} (h : pktS rw nx = none) : pktT rw nx = -1 - nI nx := by unfold pktT; rw [h]
theorem pktT_s {rw : List Nat} {nx : Nat} {q : Nat × List Nat × Nat} (h : pktS rw nx = some q) : pktT rw nx = 0 := by unfold pktT; rw [h]
theorem pktT_ne {rw : List Nat} {nx : Nat} (h : ¬ pktT rw nx = 0) : pktS rw nx = none := by
  cases z : pktS rw nx with
  | none => rfl
  | some q => exact absurd (pktT_s z) h
theorem pktZ_le {rw : List Nat} {nx : Nat} : pktZ rw nx ≤ rw.length := by
  unfold pktZ; split
  · exact Nat.zero_le _
  · next q hq => exact (pktS_len hq).1
theorem sType_lt {b : List Nat} (hb : byt b) : sType b < 256 := by
  unfold sType sU2 oneS
  split
  · exact Nat.lt_of_lt_of_le (Nat.succ_pos 0) (by decide)
  · exact byt_gD hb _
theorem SealIs.hM {dA : Nat → ClassId} {F : va_W} {M : MS} {b : List Nat} (h : SealIs dA F M b) (u : HU) : SealIs dA F (hM M u) b := h
theorem SealIs.app {dA : Nat → ClassId} {F E : va_W} {M : MS} {b : List Nat} (h : SealIs dA F M b) : SealIs dA (F ++ E) M b := by
  obtain ⟨g1, g2, g3, g4, ⟨q8, g5, g6⟩, g7, g8, g9, g10, g11⟩ := h
  exact ⟨g1, g2, g3, g4, ⟨q8, g5, List.mem_append_left _ g6⟩, g7, g8, g9, g10.up, g11⟩
def nameOf (b : List Nat) (pr : List Nat) : Bool := match (sNote b).2.2.2.2.1 with
  | some p => decide (pr = p)
  | none => decide (sl (gD pr) 12 8 = (sNote b).2.2.2.1.getD [])

set_option maxHeartbeats 400000 in
set_option maxRecDepth 100000 in
theorem c7_isNamed (l : Launch) (D : va_G) (dA : Nat → ClassId) (B : Nat) (Z : State → Prop) (hZ : Stab B Z) (h0 : Nat) (ad : Nat → Nat) (M : MS) (F : va_W) (a : Nat) (lb b : List Nat) (hzR : ∀ U : State, Z U → ∃ t, va_Z "SignetRingModel" "ROUNDS" "[I" (.ref t) (bA B) U U.heap ∧ va_T .int t 64 (fun j => .int (K2 j)) (bA B) U U.heap) (hI : MI M) (hS9 : SealIs dA F M b) (hsb : byt b) (hsl9 : b.length ≤ 5000) (haF : (a, ial dA lb) ∈ F) (hlb : byt lb) (hll : lb.length ≤ 5000) (hnn : ¬ ((sNote b).2.2.2.2.1 = none ∧ (sNote b).2.2.2.1 = none)) :
    Ct (S := MS × va_W) l D dA B Z yX7_isNamed cX7_isNamed 3 (some .boolean) 7 2 28 [.ref h0, .ref a] (mw dA h0 ad M ++ F) (fun u => MI u.1 ∧ Kp M u.1 ∧ SealIs dA (F ++ u.2) u.1 b) (fun _ => some (.int (bZ (nameOf b (sha1 (keyMsg lb)))))) (fun u => mw dA h0 ad u.1 ++ (F ++ u.2)) := by
  refine Ct.mk2 (by decide) (Nat.le_of_ble_eq_true rfl) hZ ?_
  intro p e R s m args below meth c ls Q C hr hlocks hin hQ hl h
  have C0 := C
  obtain ⟨hx, hb, hml, hown, hts, -⟩ := C0
  have hl : lv_has ls 3 [(0, .ref h0), (1, .ref a)] := hl
  have hnb := sNote_nb hsb
  refine lv_aload_n hx hb dX7_isNamed_0 rfl (lv_at hl 0 rfl) ?_
  refine lv_aload_n hx hb dX7_isNamed_1 rfl (lv_at hl 1 rfl) ?_
  refine call_V (As := [.ref a]) (rest := []) (n := 1) C h (c7_printOf l D dA B Z hZ h0 ad M F a lb hzR hI.1 haF hlb (by omega)) (lw_V q2240 q2242 qs65 q138 q2243) (by decide +kernel) (ci := 5) rfl rfl mw_mem0 (by decide) (by decide) rfl hl rfl (Nat.le_of_ble_eq_true rfl) dX7_isNamed_2 (by omega) (fun up H locs hup h => ?_)
  obtain ⟨q7, uh⟩ := up
  obtain ⟨hp1, hp2⟩ := hup
  obtain ⟨pr, hpr⟩ : ∃ z, z = (sha1 (keyMsg lb)) := ⟨_, rfl⟩
  have hprl : pr.length = 20 := by rw [hpr]; exact sha1_len _
  have hprb : byt pr := by rw [hpr]; exact sha1_byt _
  obtain ⟨M2, hM2⟩ : ∃ z, z = hM M uh := ⟨_, rfl⟩
  have h : Wd D B s (mw dA h0 ad (hM M uh) ++ (F ++ [(q7, ial dA (sha1 (keyMsg lb)))])) H locs := h
  rw [← hM2, ← hpr] at h
  have hK2 : Kp M M2 := by rw [hM2]; exact hM_kp _ uh
  have hI2 : MI M2 := by rw [hM2]; exact hM_kp2 _ uh hI hp1
  have hS2 : SealIs dA (F ++ [(q7, ial dA pr)]) M2 b := by rw [hM2]; exact (hS9.hM uh).app
  have hq7 : (q7, ial dA pr) ∈ F ++ [(q7, ial dA pr)] := List.mem_append_right _ List.mem_cons_self
  obtain ⟨hrn, hrp, -⟩ := hS2.2.2.2.2.2.2.2.2.1
  dsimp only at hrn hrp
  show W p l e R s m args below meth c H locs (0 + 1) (0 + 20) Q (F0 m 5 ls [.ref q7])
  have hq9 := hq7
  refine lv_astore_n (lv' := [(2, .ref q7), (0, .ref h0), (1, .ref a)]) hx hb dX7_isNamed_5 rfl hl (by decide) rfl (fun ls hl => ?_)
  refine lv_aload_n hx hb dX7_isNamed_6 rfl (lv_at hl 1 rfl) ?_
  refine m_gr C h 65 (by decide) rfl rfl q1935 (v := mR M2 65) rfl dX7_isNamed_7 ?_
  refine q_ifnull (tgt := 24) hx hb dX7_isNamed_10 (by decide) (fun c10 => ?_) (fun a10 c10 => ?_)
  · have hpn : (sNote b).2.2.2.2.1 = none := by
      cases z : (sNote b).2.2.2.2.1 with
      | none => rfl
      | some p9 => rw [z] at hrp; obtain ⟨a8, h8, -⟩ := hrp; rw [h8] at c10; cases c10
    obtain ⟨nm, hnm⟩ : ∃ z, (sNote b).2.2.2.1 = some z := by
      cases z : (sNote b).2.2.2.1 with
      | none => exact absurd ⟨hpn, z⟩ hnn
      | some p9 => exact ⟨p9, rfl⟩
    rw [hnm] at hrn
    obtain ⟨qn, hqn, hqnF⟩ := hrn
    have hnml := (hnb.2.2.2.1 nm hnm).2
    have hnmb := (hnb.2.2.2.1 nm hnm).1
    have hU : nameOf b (sha1 (keyMsg lb)) = decide (sl (gD pr) 12 8 = nm) := by unfold nameOf; rw [hpn, hnm, ← hpr]; rfl
    refine lv_aload_n hx hb dX7_isNamed_24 rfl (lv_at hl 0 rfl) ?_
    refine lv_bipush (v := nI 12) hx hb dX7_isNamed_25 (by decide) ?_
    refine lv_bipush (v := nI 8) hx hb dX7_isNamed_27 (by decide) ?_
    refine call_S (As := [.ref q7, .int (nI 12), .int (nI 8)]) (rest := []) (n := 3) C h (c7_part l D dA B Z hZ _ q7 pr.length (gD pr) 12 8 (List.mem_append_right _ hq7) (by omega) (by omega)) (lw_S q2208 q2209 q138 q2210) (by decide +kernel) (by decide) (by decide) rfl hl rfl (Nat.le_of_ble_eq_true rfl) dX7_isNamed_29 (by omega) (fun qz H locs _ h => ?_)
    have h : Wd D B s (mw dA h0 ad M2 ++ ((F ++ [(q7, ial dA pr)]) ++ [(qz, ial dA (sl (gD pr) 12 8))])) H locs := by rw [← List.append_assoc]; exact h
    refine lv_aload_n hx hb dX7_isNamed_32 rfl (lv_at hl 1 rfl) ?_
    refine m_gr C h 64 (by decide) rfl rfl q1934 (v := some qn) hqn dX7_isNamed_33 ?_
    refine call_S (As := [.ref qz, .ref qn]) (rest := []) (n := 2) C h (c7_areSame l D dA B Z hZ _ qz qn (sl (gD pr) 12 8).length nm.length (gD (sl (gD pr) 12 8)) (gD nm) (List.mem_append_right _ (List.mem_append_right _ List.mem_cons_self)) (List.mem_append_right _ (List.mem_append_left _ hqnF)) (by rw [sl_len]; decide) (by omega) (fun j _ => Nat.lt_trans (byt_gD (sl_byt (fun j => byt_gD hprb j)) j) (by decide)) (fun j _ => Nat.lt_trans (byt_gD hnmb j) (by decide))) (lw_S q2310 q2311 q138 q2312) (by decide +kernel) (by decide) (by decide) rfl hl rfl (Nat.le_of_ble_eq_true rfl) dX7_isNamed_36 (by omega) (fun _ H locs _ h => ?_)
    rw [sl_gD, sl_gD]
    subst hQ
    have h : Wd D B s (mw dA h0 ad M2 ++ (F ++ ([(q7, ial dA pr)] ++ [(qz, ial dA (sl (gD pr) 12 8))]))) H locs := by rw [← List.append_assoc F]; exact h
    have hS3 : SealIs dA (F ++ ([(q7, ial dA pr)] ++ [(qz, ial dA (sl (gD pr) 12 8))])) M2 b := by rw [← List.append_assoc F]; exact hS2.app
    exact ret_z C hr hlocks h (M2, ([(q7, ial dA pr)] ++ [(qz, ial dA (sl (gD pr) 12 8))])) (⟨hI2, hK2, hS3⟩) (by rw [hU]) rfl (by omega) (by omega) dX7_isNamed_39
  · obtain ⟨pn, hpn⟩ : ∃ z, (sNote b).2.2.2.2.1 = some z := by
      cases z : (sNote b).2.2.2.2.1 with
      | none => rw [z] at hrp; rw [show mR M2 65 = none from hrp] at c10; cases c10
      | some p9 => exact ⟨p9, rfl⟩
    rw [hpn] at hrp
    obtain ⟨qp, hqp, hqpF⟩ := hrp
    have hpnl := (hnb.2.2.2.2.1 pn hpn).2
    have hpnb := (hnb.2.2.2.2.1 pn hpn).1
    have hU : nameOf b (sha1 (keyMsg lb)) = decide (pr = pn) := by unfold nameOf; rw [hpn, ← hpr]
    refine lv_aload_n hx hb dX7_isNamed_13 rfl (lv_at hl 0 rfl) ?_
    refine lv_aload_n hx hb dX7_isNamed_14 rfl (lv_at hl 1 rfl) ?_
    refine m_gr C h 65 (by decide) rfl rfl q1935 (v := some qp) hqp dX7_isNamed_15 ?_
    refine call_S (As := [.ref q7, .ref qp]) (rest := []) (n := 2) C h (c7_areSame l D dA B Z hZ _ q7 qp pr.length pn.length (gD pr) (gD pn) (List.mem_append_right _ hq7) (List.mem_append_right _ hqpF) (by omega) (by omega) (fun j _ => Nat.lt_trans (byt_gD hprb j) (by decide)) (fun j _ => Nat.lt_trans (byt_gD hpnb j) (by decide))) (lw_S q2310 q2311 q138 q2312) (by decide +kernel) (by decide) (by decide) rfl hl rfl (Nat.le_of_ble_eq_true rfl) dX7_isNamed_18 (by omega) (fun _ H locs _ h => ?_)
    rw [sl_gD, sl_gD]
    refine lv_goto (tgt := 39) hx hb dX7_isNamed_21 (by decide) ?_
    subst hQ
    exact ret_z C hr hlocks h (M2, [(q7, ial dA pr)]) (⟨hI2, hK2, hS2⟩) (by rw [hU]) rfl (by omega) (by omega) dX7_isNamed_39
set_option maxHeartbeats 1000000 in
set_option maxRecDepth 100000 in
theorem c7_ownSeal (l : Launch) (D : va_G) (dA : Nat → ClassId) (B : Nat) (Z : State → Prop) (hZ : Stab B Z) (h0 : Nat) (ad : Nat → Nat) (M : MS) (F : va_W) (rw : List Nat) (rk nx : Nat) (hI : MI M) (hRw : RowAt ad M rk rw) (h33 : mI M 33 = 0) (h41 : mI M 41 = nI nx) (hnx : nx ≤ rw.length) :
    Ct (S := MS × va_W) l D dA B Z yX7_ownSeal cX7_ownSeal 1 (some .boolean) 6 (rw.length + 2) (6 * rw.length) [.ref h0] (mw dA h0 ad M ++ F) (fun u => MI u.1 ∧ Km M u.1 ∧ mI u.1 33 = (ownS rw nx).1 ∧ ((ownS rw nx).1 = 0 → mI u.1 41 = nI (ownS rw nx).2.2 ∧ (ownS rw nx).2.2 ≤ rw.length ∧ mI u.1 42 = nI nx ∧ (∃ a, mR u.1 71 = some a ∧ (a, ial dA (ownS rw nx).2.1) ∈ F ++ u.2) ∧ SealIs dA (F ++ u.2) u.1 (ownS rw nx).2.1)) (fun _ => some (.int (bZ (decide ((ownS rw nx).1 = 0))))) (fun u => mw dA h0 ad u.1 ++ (F ++ u.2)) := by
  refine Ct.mk2 (by decide) (Nat.le_of_ble_eq_true rfl) hZ ?_
  intro p e R s m args below meth c ls Q C hr hlocks hin hQ hl h
  have C0 := C
  obtain ⟨hx, hb, hml, hown, hts, -⟩ := C0
  have hl : lv_has ls 1 [(0, .ref h0)] := hl
  have hrl := hRw.2.2.2.2.1
  have hzl := pktZ_le (rw := rw) (nx := nx)
  have hI0 := hI
  have hfx : ¬ (-1 - nI nx : Int32) = 0 := m1_ne (by omega)
  refine lv_aload_n hx hb dX7_ownSeal_0 rfl (lv_at hl 0 rfl) ?_
  obtain ⟨M1, hM1⟩ : ∃ z, z = M := ⟨_, rfl⟩
  rw [← hM1] at h hI hRw h33 h41
  have hI1 := hI
  have hRw1 := hRw
  have h331 := h33
  have h411 := h41
  have h : Wd D B s (mw dA h0 ad (kM M1 0 (nI nx) (mI M1 42) (mI M1 43) (mI M1 45) (mI M1 47) (mR M1 44) (mG M1 46)) ++ F) s.heap [] := by
    have e9 := kM_id M1
    rw [h331, h411] at e9
    rw [e9]; exact h
  refine call_V (As := []) (rest := []) (n := 0) C h (c7_packet l D dA B Z hZ h0 ad M1 F rw (ad rk) (mG M1 rk) nx (mI M1 42) (mI M1 43) (mI M1 45) (mI M1 47) (mR M1 44) (mG M1 46) hRw1.2.2.1 hRw1.2.1 (hRw1.mem F) hRw1.2.2.2.1 hRw1.2.2.2.2.1 hRw1.2.2.2.2.2 (by omega)) (lw_V q2185 q2187 qs55 q138 q2188) (by decide +kernel) (ci := 5) rfl rfl mw_mem0 (by decide) (by decide) rfl hl rfl (Nat.le_of_ble_eq_true rfl) dX7_ownSeal_1 (by omega) (fun up2 H locs hp2 h => ?_)
  obtain ⟨y2, kd2, bs2, co2, bo2, G2, E2⟩ := up2
  obtain ⟨M2, hM2⟩ : ∃ z, z = kM M1 (pktT rw nx) (nI y2) (nI nx) (nI kd2) (nI bs2) (nI co2) bo2 G2 := ⟨_, rfl⟩
  have h : Wd D B s (mw dA h0 ad (kM M1 (pktT rw nx) (nI y2) (nI nx) (nI kd2) (nI bs2) (nI co2) bo2 G2) ++ (F ++ E2)) H locs := h
  rw [← hM2] at h
  have hI2 : MI M2 := by rw [hM2]; exact hI1
  have hKm2 : Km M1 M2 := by rw [hM2]; exact kM_km _ _ _ _ _ _ _ _ _
  have h332 : mI M2 33 = pktT rw nx := by rw [hM2]; rfl
  have h412 : mI M2 41 = nI y2 := by rw [hM2]; rfl
  have h422 : mI M2 42 = nI nx := by rw [hM2]; rfl
  have h432 : mI M2 43 = nI kd2 := by rw [hM2]; rfl
  have h452 : mI M2 45 = nI bs2 := by rw [hM2]; rfl
  have h442 : mR M2 44 = bo2 := by rw [hM2]; rfl
  have h462 : mG M2 46 = G2 := by rw [hM2]; rfl
  have hRw2 : RowAt ad M2 rk rw := hRw1.km hKm2
  refine z_if_ne (tgt := 9) hx hb dX7_ownSeal_4 (by decide) (fun c4 => ?_) (fun c4 => ?_)
  · obtain ⟨q, hq⟩ := pktT_0 (by omega) (of_decide_eq_true c4)
    unfold pktOk at hp2
    rw [hq] at hp2
    obtain ⟨eq1, eq2, eq3, eq4, eq5⟩ := hp2
    dsimp only at eq1 eq2 eq3 eq4 eq5
    have tq := pktT_s hq
    have lq := pktS_len hq
    have aq := pktS_adv hRw2.2.2.2.2.2 hq
    refine lv_aload_n hx hb dX7_ownSeal_9 rfl (lv_at hl 0 rfl) ?_
    refine m_gi C h 43 (by decide) rfl rfl q1913 (v := nI q.1) (h432.trans (congrArg nI eq2)) dX7_ownSeal_10 ?_
    refine lv_iconst (v := nI 2) hx hb dX7_ownSeal_13 (by decide) ?_
    refine n_icmp_ne (tgt := 54) hx hb (by omega) (by omega) dX7_ownSeal_14 (by decide) (fun c14 => ?_) (fun c14 => ?_)
    · refine lv_aload_n hx hb dX7_ownSeal_54 rfl (lv_at hl 0 rfl) ?_
      have hO9 : ownOk q.1 q.2.1 = false := by
        unfold ownOk
        first | (rw [decide_eq_false c14]; rfl) | (rw [decide_eq_false (p := q.2.1.length ≠ 0) (by omega), Bool.and_comm]; rfl) | (rw [c32, Bool.false_and, Bool.and_false, Bool.and_false]) | (rw [c43, Bool.false_and, Bool.and_false, Bool.and_false, Bool.and_false]) | (rw [decide_eq_false (p := sType q.2.1 ≤ 1) (by omega), Bool.and_false, Bool.and_false, Bool.and_false, Bool.and_false])
      have hU := ownS_f hq hO9
      have h33b : mI M2 33 = 0 := h332.trans tq
      refine call_V (As := []) (rest := []) (n := 0) C h (c7_failPacket l D dA B Z hZ h0 ad M2 (F ++ E2) nx h422) (lw_V q2193 q2195 qs57 q138 q2196) (by decide +kernel) (ci := 5) rfl rfl mw_mem0 (by decide) (by decide) rfl hl rfl (Nat.le_of_ble_eq_true rfl) dX7_ownSeal_55 (by omega) (fun _ H locs _ h => ?_)
      have h : Wd D B s (mw dA h0 ad (sI M2 33 (failT (mI M2 33) (-1 - nI nx))) ++ (F ++ E2)) H locs := h
      subst hQ
      exact ret_z C hr hlocks h ((sI M2 33 (failT (mI M2 33) (-1 - nI nx))), E2) (⟨hI2, (Km.trans (by rw [← hM1]; exact hKm2) (Km.sI _ _ (by decide))), by rw [hU, h33b]; rfl, fun z => by rw [hU] at z; exact absurd z hfx⟩) (by rw [hU, decide_eq_false hfx]) rfl (by omega) (by omega) dX7_ownSeal_58
    · obtain ⟨a9, ha9, hE9⟩ : ∃ a, bo2 = some a ∧ E2 = [(a, ial dA q.2.1)] := by
        rcases eq5 with ⟨z, -, -⟩ | ⟨-, a, z1, z2⟩
        · rw [c14] at z; cases z
        · exact ⟨a, z1, z2⟩
      have hbo : mR M2 44 = some a9 := h442.trans ha9
      have haF : (a9, ial dA q.2.1) ∈ F ++ E2 := List.mem_append_right _ (by rw [hE9]; exact List.mem_cons_self)
      have hqb : byt q.2.1 := aq.2.2.1
      refine lv_aload_n hx hb dX7_ownSeal_17 rfl (lv_at hl 0 rfl) ?_
      refine m_gr C h 44 (by decide) rfl rfl q1914 (v := some a9) hbo dX7_ownSeal_18 ?_
      refine n_alen C h (List.mem_append_right _ haF) dX7_ownSeal_21 ?_
      refine n_if_eq (tgt := 54) hx hb (by omega) dX7_ownSeal_22 (by decide) (fun c22 => ?_) (fun c22 => ?_)
      · refine lv_aload_n hx hb dX7_ownSeal_54 rfl (lv_at hl 0 rfl) ?_
        have hO9 : ownOk q.1 q.2.1 = false := by
          unfold ownOk
          first | (rw [decide_eq_false c14]; rfl) | (rw [decide_eq_false (p := q.2.1.length ≠ 0) (by omega), Bool.and_comm]; rfl) | (rw [c32, Bool.false_and, Bool.and_false, Bool.and_false]) | (rw [c43, Bool.false_and, Bool.and_false, Bool.and_false, Bool.and_false]) | (rw [decide_eq_false (p := sType q.2.1 ≤ 1) (by omega), Bool.and_false, Bool.and_false, Bool.and_false, Bool.and_false])
        have hU := ownS_f hq hO9
        have h33b : mI M2 33 = 0 := h332.trans tq
        refine call_V (As := []) (rest := []) (n := 0) C h (c7_failPacket l D dA B Z hZ h0 ad M2 (F ++ E2) nx h422) (lw_V q2193 q2195 qs57 q138 q2196) (by decide +kernel) (ci := 5) rfl rfl mw_mem0 (by decide) (by decide) rfl hl rfl (Nat.le_of_ble_eq_true rfl) dX7_ownSeal_55 (by omega) (fun _ H locs _ h => ?_)
        have h : Wd D B s (mw dA h0 ad (sI M2 33 (failT (mI M2 33) (-1 - nI nx))) ++ (F ++ E2)) H locs := h
        subst hQ
        exact ret_z C hr hlocks h ((sI M2 33 (failT (mI M2 33) (-1 - nI nx))), E2) (⟨hI2, (Km.trans (by rw [← hM1]; exact hKm2) (Km.sI _ _ (by decide))), by rw [hU, h33b]; rfl, fun z => by rw [hU] at z; exact absurd z hfx⟩) (by rw [hU, decide_eq_false hfx]) rfl (by omega) (by omega) dX7_ownSeal_58
      · refine lv_aload_n hx hb dX7_ownSeal_25 rfl (lv_at hl 0 rfl) ?_
        refine m_gr C h 44 (by decide) rfl rfl q1914 (v := some a9) hbo dX7_ownSeal_26 ?_
        refine call_S (As := [.ref a9]) (rest := []) (n := 1) C h (c7_isOurs l D dA B Z hZ _ a9 q.2.1 (List.mem_append_right _ haF) (by omega) (by omega) hqb) (lw_S q2341 q2342 q138 q2343) (by decide +kernel) (by decide) (by decide) rfl hl rfl (Nat.le_of_ble_eq_true rfl) dX7_ownSeal_29 (by omega) (fun _ H locs _ h => ?_)
        refine z_if_eq (tgt := 54) hx hb dX7_ownSeal_32 (by decide) (fun c32 => ?_) (fun c32 => ?_)
        · refine lv_aload_n hx hb dX7_ownSeal_54 rfl (lv_at hl 0 rfl) ?_
          have hO9 : ownOk q.1 q.2.1 = false := by
            unfold ownOk
            first | (rw [decide_eq_false c14]; rfl) | (rw [decide_eq_false (p := q.2.1.length ≠ 0) (by omega), Bool.and_comm]; rfl) | (rw [c32, Bool.false_and, Bool.and_false, Bool.and_false]) | (rw [c43, Bool.false_and, Bool.and_false, Bool.and_false, Bool.and_false]) | (rw [decide_eq_false (p := sType q.2.1 ≤ 1) (by omega), Bool.and_false, Bool.and_false, Bool.and_false, Bool.and_false])
          have hU := ownS_f hq hO9
          have h33b : mI M2 33 = 0 := h332.trans tq
          refine call_V (As := []) (rest := []) (n := 0) C h (c7_failPacket l D dA B Z hZ h0 ad M2 (F ++ E2) nx h422) (lw_V q2193 q2195 qs57 q138 q2196) (by decide +kernel) (ci := 5) rfl rfl mw_mem0 (by decide) (by decide) rfl hl rfl (Nat.le_of_ble_eq_true rfl) dX7_ownSeal_55 (by omega) (fun _ H locs _ h => ?_)
          have h : Wd D B s (mw dA h0 ad (sI M2 33 (failT (mI M2 33) (-1 - nI nx))) ++ (F ++ E2)) H locs := h
          subst hQ
          exact ret_z C hr hlocks h ((sI M2 33 (failT (mI M2 33) (-1 - nI nx))), E2) (⟨hI2, (Km.trans (by rw [← hM1]; exact hKm2) (Km.sI _ _ (by decide))), by rw [hU, h33b]; rfl, fun z => by rw [hU] at z; exact absurd z hfx⟩) (by rw [hU, decide_eq_false hfx]) rfl (by omega) (by omega) dX7_ownSeal_58
        · refine lv_aload_n hx hb dX7_ownSeal_35 rfl (lv_at hl 0 rfl) ?_
          refine lv_aload_n hx hb dX7_ownSeal_36 rfl (lv_at hl 0 rfl) ?_
          refine m_gr C h 44 (by decide) rfl rfl q1914 (v := some a9) hbo dX7_ownSeal_37 ?_
          refine call_V (As := [.ref a9]) (rest := []) (n := 1) C h (c7_readSeal l D dA B Z hZ h0 ad M2 (F ++ E2) a9 q.2.1 hI2 haF hqb (by omega)) (lw_V q2344 q2346 qs83 q138 q2347) (by decide +kernel) (ci := 5) rfl rfl mw_mem0 (by decide) (by decide) rfl hl rfl (Nat.le_of_ble_eq_true rfl) dX7_ownSeal_40 (by
            have hzz : pktZ rw nx = q.2.1.length := by unfold pktZ; rw [hq]
            omega) (fun us H locs hus h => ?_)
          obtain ⟨M3, E3⟩ := us
          obtain ⟨hI3, hK3, hS3⟩ := hus
          dsimp only at hI3 hK3 hS3
          have h : Wd D B s (mw dA h0 ad M3 ++ (F ++ E2 ++ E3)) H locs := h
          have hKm3 : Km M M3 := by rw [← hM1]; exact hKm2.trans hK3.km
          have h333 : mI M3 33 = 0 := (hK3.1 33 (by decide)).trans (h332.trans tq)
          have h423 : mI M3 42 = nI nx := (hK3.1 42 (by decide)).trans h422
          have hbo3 : mR M3 44 = some a9 := (hK3.2.2.1 44 (by decide)).trans hbo
          have h413 : mI M3 41 = nI y2 := (hK3.1 41 (by decide)).trans h412
          refine z_if_eq (tgt := 54) hx hb dX7_ownSeal_43 (by decide) (fun c43 => ?_) (fun c43 => ?_)
          · refine lv_aload_n hx hb dX7_ownSeal_54 rfl (lv_at hl 0 rfl) ?_
            have hO9 : ownOk q.1 q.2.1 = false := by
              unfold ownOk
              first | (rw [decide_eq_false c14]; rfl) | (rw [decide_eq_false (p := q.2.1.length ≠ 0) (by omega), Bool.and_comm]; rfl) | (rw [c32, Bool.false_and, Bool.and_false, Bool.and_false]) | (rw [c43, Bool.false_and, Bool.and_false, Bool.and_false, Bool.and_false]) | (rw [decide_eq_false (p := sType q.2.1 ≤ 1) (by omega), Bool.and_false, Bool.and_false, Bool.and_false, Bool.and_false])
            have hU := ownS_f hq hO9
            have h33b : mI M3 33 = 0 := h333
            refine call_V (As := []) (rest := []) (n := 0) C h (c7_failPacket l D dA B Z hZ h0 ad M3 (F ++ E2 ++ E3) nx h423) (lw_V q2193 q2195 qs57 q138 q2196) (by decide +kernel) (ci := 5) rfl rfl mw_mem0 (by decide) (by decide) rfl hl rfl (Nat.le_of_ble_eq_true rfl) dX7_ownSeal_55 (by omega) (fun _ H locs _ h => ?_)
            have h : Wd D B s (mw dA h0 ad (sI M3 33 (failT (mI M3 33) (-1 - nI nx))) ++ (F ++ E2 ++ E3)) H locs := h
            subst hQ
            have h : Wd D B s (mw dA h0 ad (sI M3 33 (failT (mI M3 33) (-1 - nI nx))) ++ (F ++ (E2 ++ E3))) H locs := by rw [← List.append_assoc F]; exact h
            exact ret_z C hr hlocks h ((sI M3 33 (failT (mI M3 33) (-1 - nI nx))), (E2 ++ E3)) (⟨hI3, (Km.trans hKm3 (Km.sI _ _ (by decide))), by rw [hU, h33b]; rfl, fun z => by rw [hU] at z; exact absurd z hfx⟩) (by rw [hU, decide_eq_false hfx]) rfl (by omega) (by omega) dX7_ownSeal_58
          · have hS3 := hS3 c43
            have hty := sType_lt hqb (b := q.2.1)
            refine lv_aload_n hx hb dX7_ownSeal_46 rfl (lv_at hl 0 rfl) ?_
            refine m_gi C h 56 (by decide) rfl rfl q1926 (v := nI (sType q.2.1)) hS3.1 dX7_ownSeal_47 ?_
            refine lv_iconst (v := nI 1) hx hb dX7_ownSeal_50 (by decide) ?_
            refine n_icmp_le (tgt := 59) hx hb (by omega) (by omega) dX7_ownSeal_51 (by decide) (fun c51 => ?_) (fun c51 => ?_)
            · refine lv_aload_n hx hb dX7_ownSeal_59 rfl (lv_at hl 0 rfl) ?_
              refine lv_aload_n hx hb dX7_ownSeal_60 rfl (lv_at hl 0 rfl) ?_
              refine m_gr C h 44 (by decide) rfl rfl q1914 (v := some a9) hbo3 dX7_ownSeal_61 ?_
              refine m_pr C h 71 (v := some a9) (by decide) rfl rfl rfl q1941 rfl rfl dX7_ownSeal_64 (fun H locs h => ?_)
              refine lv_iconst (v := nI 1) hx hb dX7_ownSeal_67 (by decide) ?_
              subst hQ
              have hO9 : ownOk q.1 q.2.1 = true := by
                unfold ownOk
                rw [decide_eq_true c14, decide_eq_true (p := q.2.1.length ≠ 0) (by omega), c32, c43, decide_eq_true (p := sType q.2.1 ≤ 1) (by omega)]; rfl
              have hU := ownS_t hq hO9
              have h : Wd D B s (mw dA h0 ad (sR M3 71 (some a9)) ++ (F ++ (E2 ++ E3))) H locs := by rw [← List.append_assoc F]; exact h
              refine n_top (y := bZ true) rfl ?_
              exact ret_z C hr hlocks h (sR M3 71 (some a9), E2 ++ E3) (⟨hI3, hKm3.trans (Km.sR _ _ (by decide)), by rw [hU]; exact h333, fun _ => by
                  rw [hU]
                  exact ⟨by rw [← eq1]; exact h413, lq.2, h423, ⟨a9, rfl, by rw [← List.append_assoc]; exact List.mem_append_left _ haF⟩, by rw [← List.append_assoc]; exact hS3⟩⟩) (by rw [hU]; rfl) rfl (by omega) (by omega) dX7_ownSeal_68
            · refine lv_aload_n hx hb dX7_ownSeal_54 rfl (lv_at hl 0 rfl) ?_
              have hO9 : ownOk q.1 q.2.1 = false := by
                unfold ownOk
                first | (rw [decide_eq_false c14]; rfl) | (rw [decide_eq_false (p := q.2.1.length ≠ 0) (by omega), Bool.and_comm]; rfl) | (rw [c32, Bool.false_and, Bool.and_false, Bool.and_false]) | (rw [c43, Bool.false_and, Bool.and_false, Bool.and_false, Bool.and_false]) | (rw [decide_eq_false (p := sType q.2.1 ≤ 1) (by omega), Bool.and_false, Bool.and_false, Bool.and_false, Bool.and_false])
              have hU := ownS_f hq hO9
              have h33b : mI M3 33 = 0 := h333
              refine call_V (As := []) (rest := []) (n := 0) C h (c7_failPacket l D dA B Z hZ h0 ad M3 (F ++ E2 ++ E3) nx h423) (lw_V q2193 q2195 qs57 q138 q2196) (by decide +kernel) (ci := 5) rfl rfl mw_mem0 (by decide) (by decide) rfl hl rfl (Nat.le_of_ble_eq_true rfl) dX7_ownSeal_55 (by omega) (fun _ H locs _ h => ?_)
              have h : Wd D B s (mw dA h0 ad (sI M3 33 (failT (mI M3 33) (-1 - nI nx))) ++ (F ++ E2 ++ E3)) H locs := h
              subst hQ
              have h : Wd D B s (mw dA h0 ad (sI M3 33 (failT (mI M3 33) (-1 - nI nx))) ++ (F ++ (E2 ++ E3))) H locs := by rw [← List.append_assoc F]; exact h
              exact ret_z C hr hlocks h ((sI M3 33 (failT (mI M3 33) (-1 - nI nx))), (E2 ++ E3)) (⟨hI3, (Km.trans hKm3 (Km.sI _ _ (by decide))), by rw [hU, h33b]; rfl, fun z => by rw [hU] at z; exact absurd z hfx⟩) (by rw [hU, decide_eq_false hfx]) rfl (by omega) (by omega) dX7_ownSeal_58
  · have hpn := pktT_ne (of_decide_eq_false c4)
    refine lv_iconst (v := nI 0) hx hb dX7_ownSeal_7 (by decide) ?_
    subst hQ
    have hU := ownS_n hpn
    refine n_top (y := bZ false) rfl ?_
    exact ret_z C hr hlocks h (M2, E2) (⟨hI2, by rw [← hM1]; exact hKm2, by rw [hU]; exact h332.trans (pktT_m hpn), fun z => by rw [hU] at z; exact absurd z hfx⟩) (by rw [hU, decide_eq_false hfx]) rfl (by omega) (by omega) dX7_ownSeal_8
set_option maxHeartbeats 400000 in
set_option maxRecDepth 100000 in
theorem c7_mustEnd (l : Launch) (D : va_G) (dA : Nat → ClassId) (B : Nat) (Z : State → Prop) (hZ : Stab B Z) (h0 : Nat) (ad : Nat → Nat) (M : MS) (F : va_W) (rw : List Nat) (rk nx : Nat) (t : Int32) (hI : MI M) (hRw : RowAt ad M rk rw) (h33 : mI M 33 = t) (h41 : mI M 41 = nI nx) (hnx : nx ≤ rw.length) :
    Ct (S := MS × va_W) l D dA B Z yX7_mustEnd cX7_mustEnd 2 none 6 1 rw.length [.ref h0] (mw dA h0 ad M ++ F) (fun u => MI u.1 ∧ Km M u.1 ∧ mR u.1 71 = mR M 71 ∧ mI u.1 33 = if t = 0 then endS rw nx else t) (fun _ => none) (fun u => mw dA h0 ad u.1 ++ (F ++ u.2)) := by
  refine Ct.mk2 (by decide) (Nat.le_of_ble_eq_true rfl) hZ ?_
  intro p e R s m args below meth c ls Q C hr hlocks hin hQ hl h
  have C0 := C
  obtain ⟨hx, hb, hml, hown, hts, -⟩ := C0
  have hl : lv_has ls 2 [(0, .ref h0)] := hl
  have hrl := hRw.2.2.2.2.1
  have hzl := pktZ_le (rw := rw) (nx := nx)
  have hfx : ¬ (-1 - nI nx : Int32) = 0 := m1_ne (by omega)
  refine lv_aload_n hx hb dX7_mustEnd_0 rfl (lv_at hl 0 rfl) ?_
  refine m_gi C h 33 (by decide) rfl rfl q1903 (v := t) h33 dX7_mustEnd_1 ?_
  refine lv_if_ne (tgt := 30) hx hb dX7_mustEnd_4 (by decide) (fun c4 => ?_) (fun c4 => ?_)
  · subst hQ
    have h : Wd D B s (mw dA h0 ad M ++ (F ++ [])) s.heap [] := by rw [List.append_nil]; exact h
    exact ret_v C hr hlocks h (M, []) (⟨hI, Km.rfl' M, rfl, by
        by_cases z : t = 0
        · rw [if_pos z, h33, z]
          unfold endS
          first | exact absurd z c4 | (rw [if_neg (by omega)])
        · rw [if_neg z]; exact h33⟩) rfl rfl (by omega) (by omega) dX7_mustEnd_30
  · refine lv_aload_n hx hb dX7_mustEnd_7 rfl (lv_at hl 0 rfl) ?_
    refine m_gi C h 41 (by decide) rfl rfl q1911 (v := nI nx) h41 dX7_mustEnd_8 ?_
    refine lv_aload_n hx hb dX7_mustEnd_11 rfl (lv_at hl 0 rfl) ?_
    refine m_gi C h 40 (by decide) rfl rfl q1910 (v := nI rw.length) hRw.2.2.1 dX7_mustEnd_12 ?_
    refine n_icmp_ge (tgt := 30) hx hb (by omega) (by omega) dX7_mustEnd_15 (by decide) (fun c15 => ?_) (fun c15 => ?_)
    · subst hQ
      have h : Wd D B s (mw dA h0 ad M ++ (F ++ [])) s.heap [] := by rw [List.append_nil]; exact h
      exact ret_v C hr hlocks h (M, []) (⟨hI, Km.rfl' M, rfl, by
          by_cases z : t = 0
          · rw [if_pos z, h33, z]
            unfold endS
            first | exact absurd z c4 | (rw [if_neg (by omega)])
          · rw [if_neg z]; exact h33⟩) rfl rfl (by omega) (by omega) dX7_mustEnd_30
    · refine lv_aload_n hx hb dX7_mustEnd_18 rfl (lv_at hl 0 rfl) ?_
      have ht0 : t = 0 := c4
      subst ht0
      have hend : endS rw nx = -1 - nI nx := by unfold endS; rw [if_pos (by omega)]
      obtain ⟨M1, hM1⟩ : ∃ z, z = M := ⟨_, rfl⟩
      rw [← hM1] at h hI hRw h33 h41
      have hI1 := hI
      have hRw1 := hRw
      have h331 := h33
      have h411 := h41
      have h : Wd D B s (mw dA h0 ad (kM M1 0 (nI nx) (mI M1 42) (mI M1 43) (mI M1 45) (mI M1 47) (mR M1 44) (mG M1 46)) ++ F) s.heap [] := by
        have e9 := kM_id M1
        rw [h331, h411] at e9
        rw [e9]; exact h
      refine call_V (As := []) (rest := []) (n := 0) C h (c7_packet l D dA B Z hZ h0 ad M1 F rw (ad rk) (mG M1 rk) nx (mI M1 42) (mI M1 43) (mI M1 45) (mI M1 47) (mR M1 44) (mG M1 46) hRw1.2.2.1 hRw1.2.1 (hRw1.mem F) hRw1.2.2.2.1 hRw1.2.2.2.2.1 hRw1.2.2.2.2.2 (by omega)) (lw_V q2185 q2187 qs55 q138 q2188) (by decide +kernel) (ci := 5) rfl rfl mw_mem0 (by decide) (by decide) rfl hl rfl (Nat.le_of_ble_eq_true rfl) dX7_mustEnd_19 (by omega) (fun up2 H locs hp2 h => ?_)
      obtain ⟨y2, kd2, bs2, co2, bo2, G2, E2⟩ := up2
      obtain ⟨M2, hM2⟩ : ∃ z, z = kM M1 (pktT rw nx) (nI y2) (nI nx) (nI kd2) (nI bs2) (nI co2) bo2 G2 := ⟨_, rfl⟩
      have h : Wd D B s (mw dA h0 ad (kM M1 (pktT rw nx) (nI y2) (nI nx) (nI kd2) (nI bs2) (nI co2) bo2 G2) ++ (F ++ E2)) H locs := h
      rw [← hM2] at h
      have hI2 : MI M2 := by rw [hM2]; exact hI1
      have hKm2 : Km M1 M2 := by rw [hM2]; exact kM_km _ _ _ _ _ _ _ _ _
      have h332 : mI M2 33 = pktT rw nx := by rw [hM2]; rfl
      have h412 : mI M2 41 = nI y2 := by rw [hM2]; rfl
      have h422 : mI M2 42 = nI nx := by rw [hM2]; rfl
      have h432 : mI M2 43 = nI kd2 := by rw [hM2]; rfl
      have h452 : mI M2 45 = nI bs2 := by rw [hM2]; rfl
      have h442 : mR M2 44 = bo2 := by rw [hM2]; rfl
      have h462 : mG M2 46 = G2 := by rw [hM2]; rfl
      have hRw2 : RowAt ad M2 rk rw := hRw1.km hKm2
      refine z_if_eq (tgt := 30) hx hb dX7_mustEnd_22 (by decide) (fun c22 => ?_) (fun c22 => ?_)
      · subst hQ
        have h71 : mR M2 71 = mR M 71 := by rw [hM2, hM1]; rfl
        exact ret_v C hr hlocks h (M2, E2) (⟨hI2, by rw [← hM1]; exact hKm2, h71, by rw [if_pos rfl, hend]; exact h332.trans (pktT_m (pktT_ne (of_decide_eq_false c22)))⟩) rfl rfl (by omega) (by omega) dX7_mustEnd_30
      · refine lv_aload_n hx hb dX7_mustEnd_25 rfl (lv_at hl 0 rfl) ?_
        refine call_V (As := []) (rest := []) (n := 0) C h (c7_failPacket l D dA B Z hZ h0 ad M2 (F ++ E2) nx h422) (lw_V q2193 q2195 qs57 q138 q2196) (by decide +kernel) (ci := 5) rfl rfl mw_mem0 (by decide) (by decide) rfl hl rfl (Nat.le_of_ble_eq_true rfl) dX7_mustEnd_26 (by omega) (fun _ H locs _ h => ?_)
        have h : Wd D B s (mw dA h0 ad (sI M2 33 (failT (mI M2 33) (-1 - nI nx))) ++ (F ++ E2)) H locs := h
        refine lv_istore_n (lv' := [(1, .int (bZ false)), (0, .ref h0)]) hx hb dX7_mustEnd_29 rfl hl (by decide) rfl (fun ls hl => ?_)
        subst hQ
        have h71 : mR M2 71 = mR M 71 := by rw [hM2, hM1]; rfl
        exact ret_v C hr hlocks h ((sI M2 33 (failT (mI M2 33) (-1 - nI nx))), E2) (⟨hI2, Km.trans (by rw [← hM1]; exact hKm2) (Km.sI _ _ (by decide)), h71, by
            rw [if_pos rfl, hend]
            show failT (mI M2 33) (-1 - nI nx) = _
            rw [h332, of_decide_eq_true c22]; rfl⟩) rfl rfl (by omega) (by omega) dX7_mustEnd_30
