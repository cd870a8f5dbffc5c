set_option maxRecDepth 100000

/-- what looking may change -/
abbrev qI : List Nat := [33, 35, 36, 37, 38, 40, 41, 42, 43, 45, 47, 73]
def LQ (M M' : MS) : Prop := (mG M' 6 = mG M 6 ∨ ∀ j, mG M' 6 j < 256) ∧ ((mI M' 37 = mI M 37 ∧ mI M' 38 = mI M 38) ∨ ∃ a b : Nat, mI M' 37 = nI a ∧ mI M' 38 = nI b)
theorem LQ.trans {M M' M'' : MS} (h1 : LQ M M') (h2 : LQ M' M'') : LQ M M'' := by
  obtain ⟨a1, b1⟩ := h1
  obtain ⟨a2, b2⟩ := h2
  constructor
  · rcases a2 with e | g
    · rw [e]; exact a1
    · exact Or.inr g
  · rcases b2 with ⟨e1, e2⟩ | g
    · rw [e1, e2]; exact b1
    · exact Or.inr g
def Kl (M M' : MS) : Prop := (∀ k, k ∉ kI → k ∉ qI → mI M' k = mI M k) ∧ (∀ k, k ∉ kR → k ∉ [34, 39, 44, 71, 72] → mR M' k = mR M k) ∧ (∀ k, k ∉ kG → k ∉ [6, 7, 46] → mG M' k = mG M k) ∧ mA M' = mA M ∧ LQ M M'
theorem Km.kl {M M' : MS} (h : Km M M') : Kl M M' := ⟨fun k a b => h.1 k a (fun c => b (by simp only [List.mem_cons, List.not_mem_nil, or_false] at c ⊢; omega)), fun k a b => h.2.1 k a (fun c => b (by simp only [List.mem_cons, List.not_mem_nil, or_false] at c ⊢; omega)), fun k a b => h.2.2.1 k a (fun e => b (by rw [e]; decide)), h.2.2.2, Or.inl (h.2.2.1 6 (by decide) (by decide)), Or.inl ⟨h.1 37 (by decide) (by decide), h.1 38 (by decide) (by decide)⟩⟩
theorem Kl.rfl' (M : MS) : Kl M M := (Km.rfl' M).kl
theorem Kl.trans {M M' M'' : MS} (h1 : Kl M M') (h2 : Kl M' M'') : Kl M M'' := ⟨fun k a b => (h2.1 k a b).trans (h1.1 k a b), fun k a b => (h2.2.1 k a b).trans (h1.2.1 k a b), fun k a b => (h2.2.2.1 k a b).trans (h1.2.2.1 k a b), h2.2.2.2.1.trans h1.2.2.2.1, h1.2.2.2.2.trans h2.2.2.2.2⟩
theorem Kl.sI {M M' : MS} (h : Kl M M') {k : Nat} {v : Int32} (hk : k ∈ [33, 35, 36, 40, 41, 42, 43, 45, 47, 73]) : Kl M (sI M' k v) := h.trans ⟨fun j _ b => upN_n (fun e => b (by rw [e]; simp only [List.mem_cons, List.not_mem_nil, or_false] at hk ⊢; omega)), fun _ _ _ => rfl, fun _ _ _ => rfl, rfl, Or.inl rfl, Or.inl (by simp only [List.mem_cons, List.not_mem_nil, or_false] at hk; exact ⟨upN_n (by omega), upN_n (by omega)⟩)⟩
theorem Kl.sR {M M' : MS} (h : Kl M M') {k : Nat} {v : Option Nat} (hk : k ∈ [34, 39, 44, 71, 72]) : Kl M (sR M' k v) := h.trans ⟨fun _ _ _ => rfl, fun j _ b => upN_n (fun e => b (by rw [e]; exact hk)), fun _ _ _ => rfl, rfl, Or.inl rfl, Or.inl ⟨rfl, rfl⟩⟩
theorem Kl.sG {M M' : MS} (h : Kl M M') {k : Nat} {v : Nat → Nat} (hk : k ∈ [7, 46]) : Kl M (sG M' k v) := h.trans ⟨fun _ _ _ => rfl, fun _ _ _ => rfl, fun j _ b => upN_n (fun e => b (by rw [e]; simp only [List.mem_cons, List.not_mem_nil, or_false] at hk ⊢; omega)), rfl, Or.inl (by simp only [List.mem_cons, List.not_mem_nil, or_false] at hk; exact upN_n (by omega)), Or.inl ⟨rfl, rfl⟩⟩
theorem lM_kl (M : MS) (a : Int32) (b c d : Nat) : Kl M (lM M a (nI b) (nI c) (nI d)) := by
  refine ⟨fun j _ h => ?_, fun _ _ _ => rfl, fun _ _ _ => rfl, rfl, Or.inl rfl, Or.inr ⟨c, d, rfl, rfl⟩⟩
  simp only [List.mem_cons, List.not_mem_nil, or_false, not_or] at h
  show upN (upN (upN (upN M.1 33 a) 36 (nI b)) 37 (nI c)) 38 (nI d) j = M.1 j
  rw [upN_n (by omega), upN_n (by omega), upN_n (by omega), upN_n (by omega)]
theorem gM_kl (M : MS) (a : Int32) (b c d : Nat) (g : Nat → Nat) (hg : ∀ j, g j < 256) : Kl M (gM M a (nI b) (nI c) (nI d) g) := by
  refine ⟨fun j _ h => ?_, fun _ _ _ => rfl, fun j _ h => ?_, rfl, Or.inr hg, Or.inr ⟨c, d, rfl, rfl⟩⟩
  · simp only [List.mem_cons, List.not_mem_nil, or_false, not_or] at h
    show upN (upN (upN (upN M.1 33 a) 36 (nI b)) 37 (nI c)) 38 (nI d) j = M.1 j
    rw [upN_n (by omega), upN_n (by omega), upN_n (by omega), upN_n (by omega)]
  · simp only [List.mem_cons, List.not_mem_nil, or_false, not_or] at h
    exact upN_n (by omega)
theorem Kl.mi {M M' : MS} (hM : MI M) (h1 : mG M' 21 = mG M 21) (h2 : mG M' 70 = mG M 70) : MI M' := by unfold MI; rw [h1, h2]; exact hM
/-- what is looked at: a seal, a text -/
def CaseIs (dA : Nat → ClassId) (F : va_W) (ad : Nat → Nat) (M : MS) (n : Nat) (b tx : List Nat) : Prop :=
  (∃ a, mR M 71 = some a ∧ (a, ial dA b) ∈ F) ∧ (∃ ck, (ck = 4 ∨ ck = 7) ∧ mR M 72 = some (ad ck) ∧ ∀ j, j < tx.length → mG M ck j = gD tx j) ∧ mI M 73 = nI tx.length ∧ (sealOk b = true ∧ byt b ∧ b.length ≤ n ∧ n ≤ 4096) ∧ byt tx ∧ tx.length ≤ 4096
theorem CaseIs.km {dA : Nat → ClassId} {F F' : va_W} {ad : Nat → Nat} {M M' : MS} {n : Nat} {b tx : List Nat} (h : CaseIs dA F ad M n b tx) (hs : ∀ z ∈ F, z ∈ F') (h1 : mR M' 71 = mR M 71) (h2 : mR M' 72 = mR M 72) (h3 : mI M' 73 = mI M 73) (h4 : mG M' 4 = mG M 4) (h5 : mG M' 7 = mG M 7) : CaseIs dA F' ad M' n b tx := by
  obtain ⟨⟨a, g1, g2⟩, ⟨ck, g3, g4, g5⟩, g6, g7, g8⟩ := h
  refine ⟨⟨a, h1.trans g1, hs _ g2⟩, ⟨ck, g3, h2.trans g4, fun j hj => ?_⟩, h3.trans g6, g7, g8⟩
  rw [← g5 j hj]
  rcases g3 with q | q <;> subst q
  · rw [h4]
  · rw [h5]
theorem CaseIs.mono {dA : Nat → ClassId} {F : va_W} {ad : Nat → Nat} {M : MS} {n n' : Nat} {b tx : List Nat} (h : CaseIs dA F ad M n b tx) (h1 : n ≤ n') (h2 : n' ≤ 4096) : CaseIs dA F ad M n' b tx := ⟨h.1, h.2.1, h.2.2.1, ⟨h.2.2.2.1.1, h.2.2.2.1.2.1, Nat.le_trans h.2.2.2.1.2.2.1 h1, h2⟩, h.2.2.2.2⟩
def frOk (f : List Nat) : Bool := decide (f.length = 13) && (decide (gD f 0 = 3) && (decide (gD f 3 = 1) && decide (gD f 12 = 1)))
def namN (k : Nat) (b : List Nat) : Nat := if k = 11 ∧ 1 < b.length then gD b 1 else 0
def letOk (k : Nat) (b : List Nat) : Bool := decide (k = 11) && (decide (6 + namN k b ≤ b.length) && (decide (gD b 0 = 98) || (decide (gD b 0 = 116) || decide (gD b 0 = 117))))
def letT (k : Nat) (b : List Nat) : List Nat := sl (gD b) (6 + namN k b) (b.length - 6 - namN k b)
/-- a document's seal in a row of packets: told, the seal's body, the text -/
def rpO (rw tx : List Nat) (o : Int32 × List Nat × Nat) : Int32 × List Nat × List Nat := if o.1 = 0 then (endS rw o.2.2, o.2.1, tx) else (o.1, [], [])
def rpF (rw f tx : List Nat) (nx : Nat) (o : Int32 × List Nat × Nat) : Int32 × List Nat × List Nat := if o.1 = 0 then (if gD f 1 = sType o.2.1 ∧ gD f 2 = sHash o.2.1 then (endS rw o.2.2, o.2.1, tx) else (-1 - nI nx, [], [])) else (o.1, [], [])
def rpL (rw f : List Nat) (nx : Nat) : Int32 × List Nat × List Nat := match pktS rw nx with
  | none => (-1 - nI nx, [], [])
  | some r => if letOk r.1 r.2.1 = true then rpF rw f (letT r.1 r.2.1) r.2.2 (ownS rw r.2.2) else (-1 - nI nx, [], [])
def rpS (rw dc : List Nat) : Int32 × List Nat × List Nat := match pktS rw 0 with
  | none => (-1 - nI 0, [], [])
  | some q => if q.1 = 4 then (if frOk q.2.1 = true then rpL rw q.2.1 q.2.2 else (-1 - nI 0, [], [])) else rpO rw dc (ownS rw 0)
theorem sl_gd {G : Nat → Nat} {l : List Nat} (h : sl G 0 l.length = l) {j : Nat} (hj : j < l.length) : G j = gD l j := by
  have e := sl_getD (g := G) (a := 0) (n := l.length) hj
  rw [h, Nat.zero_add] at e
  exact e.symm
theorem ite_lt {p : Prop} [Decidable p] {a b n : Nat} (h1 : a < n) (h2 : b < n) : (if p then a else b) < n := by split <;> assumption
theorem sHash_lt {b : List Nat} (hb : byt b) : sHash b < 256 := by
  unfold sHash sU4 oneS
  split
  · exact Nat.lt_of_lt_of_le (Nat.succ_pos 0) (by decide)
  · exact byt_gD hb _
theorem ownS_ok {rw : List Nat} {nx : Nat} (hb : byt rw) (hl : nx ≤ 5000) (h : (ownS rw nx).1 = 0) : sealOk (ownS rw nx).2.1 = true ∧ byt (ownS rw nx).2.1 ∧ (ownS rw nx).2.1.length ≤ rw.length ∧ sType (ownS rw nx).2.1 ≤ 1 ∧ (ownS rw nx).2.2 ≤ rw.length := by
  cases z : pktS rw nx with
  | none => rw [ownS_n z] at h; exact absurd h (m1_ne (by omega))
  | some q =>
    cases y : ownOk q.1 q.2.1 with
    | false => rw [ownS_f z y] at h; exact absurd h (m1_ne (by omega))
    | true =>
      rw [ownS_t z y]
      have a := pktS_adv hb z
      have l := pktS_len z
      unfold ownOk at y
      simp only [Bool.and_eq_true, decide_eq_true_eq] at y
      exact ⟨y.2.2.2.1, a.2.2.1, l.1, y.2.2.2.2, l.2⟩

set_option maxHeartbeats 400000 in
set_option maxRecDepth 100000 in
theorem c7_packetF (l : Launch) (D : va_G) (dA : Nat → ClassId) (B : Nat) (Z : State → Prop) (hZ : Stab B Z) (h0 : Nat) (ad : Nat → Nat) (M : MS) (F : va_W) (h33 : ¬ mI M 33 = 0) :
    Ct (S := Unit) l D dA B Z yX7_packet cX7_packet 3 (some .boolean) 5 0 0 [.ref h0] (mw dA h0 ad M ++ F) (fun _ => True) (fun _ => some (.int (bZ false))) (fun _ => mw dA h0 ad M ++ F) := by
  refine Ct.mk2 (by decide) (Nat.le_of_ble_eq_true rfl) hZ ?_
  intro p e R s m args below meth c ls Q C hr hlocks hin hQ hl h
  have C0 := C
  obtain ⟨hx, hb, hml, hown, hts, -⟩ := C0
  have hl : lv_has ls 3 [(0, .ref h0)] := hl
  refine lv_aload_n hx hb dX7_packet_0 rfl (lv_at hl 0 rfl) ?_
  refine m_gi C h 33 (by decide) rfl rfl q1903 (v := mI M 33) rfl dX7_packet_1 ?_
  refine lv_if_eq (tgt := 9) hx hb dX7_packet_4 (by decide) (fun c4 => by exfalso; exact h33 c4) (fun c4 => ?_)
  refine lv_iconst (v := nI 0) hx hb dX7_packet_7 (by decide) ?_
  subst hQ
  refine n_top (y := bZ false) rfl ?_
  exact ret_z C hr hlocks h () trivial rfl rfl (by omega) (by omega) dX7_packet_8
set_option maxHeartbeats 2000000 in
set_option maxRecDepth 100000 in
theorem c7_readPackets (l : Launch) (D : va_G) (dA : Nat → ClassId) (B : Nat) (Z : State → Prop) (hZ : Stab B Z) (h0 : Nat) (ad : Nat → Nat) (M : MS) (F : va_W) (rw dc : List Nat) (rk : Nat) (hI : MI M) (hrk : rk = 2 ∨ rk = 6) (hrg : ∀ j, j < rw.length → mG M rk j = gD rw j) (hrl : rw.length ≤ 4096) (hrb : byt rw) (h33 : mI M 33 = 0) (h3 : mI M 3 = nI dc.length) (hdc : ∀ j, j < dc.length → mG M 4 j = gD dc j) (hdb : byt dc) (hdl : dc.length ≤ 4096) :
    Ct (S := MS × va_W) l D dA B Z yX7_readPackets cX7_readPackets 8 none 7 (rw.length + 5) (9 * rw.length) [.ref h0, .ref (ad rk), .int (nI rw.length)] (mw dA h0 ad M ++ F) (fun u => MI u.1 ∧ Kl M u.1 ∧ mI u.1 33 = (rpS rw dc).1 ∧ ((rpS rw dc).1 = 0 → CaseIs dA (F ++ u.2) ad u.1 rw.length (rpS rw dc).2.1 (rpS rw dc).2.2)) (fun _ => none) (fun u => mw dA h0 ad u.1 ++ (F ++ u.2)) := by
  refine Ct.mk2 (by decide) (Nat.le_of_ble_eq_true rfl) hZ ?_
  intro p e R s m args below meth c ls Q C hr hlocks hin hQ hl h
  have C0 := C
  obtain ⟨hx, hb, hml, hown, hts, -⟩ := C0
  have hl : lv_has ls 8 [(0, .ref h0), (1, .ref (ad rk)), (2, .int (nI rw.length))] := hl
  have hz0 : ¬ (-1 - nI 0 : Int32) = 0 := m1_ne (by decide)
  have hzl0 := pktZ_le (rw := rw) (nx := 0)
  refine lv_aload_n hx hb dX7_readPackets_0 rfl (lv_at hl 0 rfl) ?_
  refine lv_aload_n hx hb dX7_readPackets_1 rfl (lv_at hl 1 rfl) ?_
  refine lv_iload_n hx hb dX7_readPackets_2 rfl (lv_at hl 2 rfl) ?_
  refine call_V (As := [.ref (ad rk), .int (nI rw.length)]) (rest := []) (n := 2) C h (c7_open l D dA B Z hZ h0 ad M F (ad rk) rw.length) (lw_V q2177 q2179 qs53 q138 q2180) (by decide +kernel) (ci := 5) rfl rfl mw_mem0 (by decide) (by decide) rfl hl rfl (Nat.le_of_ble_eq_true rfl) dX7_readPackets_3 (by omega) (fun _ H locs _ h => ?_)
  have h : Wd D B s (mw dA h0 ad (sI (sI (sI (sR M 39 (some (ad rk))) 40 (nI rw.length)) 41 (nI 0)) 42 (nI 0)) ++ F) H locs := h
  refine lv_aload_n hx hb dX7_readPackets_6 rfl (lv_at hl 0 rfl) ?_
  refine lv_aload_n hx hb dX7_readPackets_7 rfl (lv_at hl 0 rfl) ?_
  refine m_gc C h 4 (by decide) rfl rfl q1874 dX7_readPackets_8 ?_
  refine m_pr C h 72 (v := some (ad 4)) (by decide) rfl rfl rfl q1942 rfl rfl dX7_readPackets_11 (fun H locs h => ?_)
  refine lv_aload_n hx hb dX7_readPackets_14 rfl (lv_at hl 0 rfl) ?_
  refine lv_aload_n hx hb dX7_readPackets_15 rfl (lv_at hl 0 rfl) ?_
  refine m_gi C h 3 (by decide) rfl rfl q1873 (v := nI dc.length) h3 dX7_readPackets_16 ?_
  refine m_pi C h 73 (v := nI dc.length) (by decide) rfl rfl rfl q1943 rfl rfl dX7_readPackets_19 (fun H locs h => ?_)
  refine lv_null hx hb dX7_readPackets_22 ?_
  refine lv_astore_nN (lv' := [(3, .null), (0, .ref h0), (1, .ref (ad rk)), (2, .int (nI rw.length))]) hx hb dX7_readPackets_23 rfl hl (by decide) rfl (fun ls hl => ?_)
  refine lv_aload_n hx hb dX7_readPackets_24 rfl (lv_at hl 1 rfl) ?_
  obtain ⟨M1, hM1⟩ : ∃ z, z = sI (sR (sI (sI (sI (sR M 39 (some (ad rk))) 40 (nI rw.length)) 41 (nI 0)) 42 (nI 0)) 72 (some (ad 4))) 73 (nI dc.length) := ⟨_, rfl⟩
  have h : Wd D B s (mw dA h0 ad (sI (sR (sI (sI (sI (sR M 39 (some (ad rk))) 40 (nI rw.length)) 41 (nI 0)) 42 (nI 0)) 72 (some (ad 4))) 73 (nI dc.length)) ++ F) H locs := h
  rw [← hM1] at h
  have hKl1 : Kl M M1 := by rw [hM1]; exact ((((((Kl.rfl' M).sR (by decide)).sI (by decide)).sI (by decide)).sI (by decide)).sR (by decide)).sI (by decide)
  have hI1 : MI M1 := by rw [hM1]; exact hI
  have h331 : mI M1 33 = 0 := by rw [hM1]; exact h33
  have h411 : mI M1 41 = nI 0 := by rw [hM1]; rfl
  have h721 : mR M1 72 = some (ad 4) := by rw [hM1]; rfl
  have h731 : mI M1 73 = nI dc.length := by rw [hM1]; rfl
  have hRw1 : RowAt ad M1 rk rw := by rw [hM1]; exact ⟨hrk, rfl, rfl, hrg, hrl, hrb⟩
  have h141 : ∀ j, j < dc.length → mG M1 4 j = gD dc j := by rw [hM1]; exact hdc
  have h : Wd D B s (mw dA h0 ad (kM M1 0 (nI 0) (mI M1 42) (mI M1 43) (mI M1 45) (mI M1 47) (mR M1 44) (mG M1 46)) ++ F) H locs := by
    have e9 := kM_id M1
    rw [h331, h411] at e9
    rw [e9]; exact h
  refine call_V (As := []) (rest := []) (n := 0) C h (c7_packet l D dA B Z hZ h0 ad M1 F rw (ad rk) (mG M1 rk) 0 (mI M1 42) (mI M1 43) (mI M1 45) (mI M1 47) (mR M1 44) (mG M1 46) hRw1.2.2.1 hRw1.2.1 (hRw1.mem F) hRw1.2.2.2.1 hRw1.2.2.2.2.1 hRw1.2.2.2.2.2 (by omega)) (lw_V q2185 q2187 qs55 q138 q2188) (by decide +kernel) (ci := 5) rfl rfl mw_mem0 (by decide) (by decide) rfl hl rfl (Nat.le_of_ble_eq_true rfl) dX7_readPackets_25 (by omega) (fun up2 H locs hp2 h => ?_)
  obtain ⟨y2, kd2, bs2, co2, bo2, G2, E2⟩ := up2
  obtain ⟨M2, hM2⟩ : ∃ z, z = kM M1 (pktT rw 0) (nI y2) (nI 0) (nI kd2) (nI bs2) (nI co2) bo2 G2 := ⟨_, rfl⟩
  have h : Wd D B s (mw dA h0 ad (kM M1 (pktT rw 0) (nI y2) (nI 0) (nI kd2) (nI bs2) (nI co2) bo2 G2) ++ (F ++ E2)) H locs := h
  rw [← hM2] at h
  have hI2 : MI M2 := by rw [hM2]; exact hI1
  have hKm2 : Km M1 M2 := by rw [hM2]; exact kM_km _ _ _ _ _ _ _ _ _
  have h332 : mI M2 33 = pktT rw 0 := by rw [hM2]; rfl
  have h412 : mI M2 41 = nI y2 := by rw [hM2]; rfl
  have h422 : mI M2 42 = nI 0 := by rw [hM2]; rfl
  have h432 : mI M2 43 = nI kd2 := by rw [hM2]; rfl
  have h452 : mI M2 45 = nI bs2 := by rw [hM2]; rfl
  have h442 : mR M2 44 = bo2 := by rw [hM2]; rfl
  have h462 : mG M2 46 = G2 := by rw [hM2]; rfl
  have hRw2 : RowAt ad M2 rk rw := hRw1.km hKm2
  refine z_if_ne (tgt := 32) hx hb dX7_readPackets_28 (by decide) (fun c28 => ?_) (fun c28 => ?_)
  · obtain ⟨q, hq⟩ := pktT_0 (by omega) (of_decide_eq_true c28)
    unfold pktOk at hp2
    rw [hq] at hp2
    obtain ⟨eq1, eq2, eq3, eq4, eq5⟩ := hp2
    dsimp only at eq1 eq2 eq3 eq4 eq5
    have tq := pktT_s hq
    have lq := pktS_len hq
    have aq := pktS_adv hRw2.2.2.2.2.2 hq
    have h332z : mI M2 33 = 0 := h332.trans tq
    have h412z : mI M2 41 = nI q.2.2 := h412.trans (congrArg nI eq1)
    have hzz0 : pktZ rw 0 = q.2.1.length := by unfold pktZ; rw [hq]
    refine lv_aload_n hx hb dX7_readPackets_32 rfl (lv_at hl 1 rfl) ?_
    refine m_gi C h 43 (by decide) rfl rfl q1913 (v := nI q.1) (h432.trans (congrArg nI eq2)) dX7_readPackets_33 ?_
    refine lv_iconst (v := nI 4) hx hb dX7_readPackets_36 (by decide) ?_
    refine n_icmp_ne (tgt := 265) hx hb (by omega) (by omega) dX7_readPackets_37 (by decide) (fun c37 => ?_) (fun c37 => ?_)
    · have hU0 : rpS rw dc = rpO rw dc (ownS rw 0) := by unfold rpS; rw [hq]; exact if_neg c37
      refine lv_aload_n hx hb dX7_readPackets_265 rfl (lv_at hl 1 rfl) ?_
      refine lv_aload_n hx hb dX7_readPackets_266 rfl (lv_at hl 2 rfl) ?_
      refine lv_iload_n hx hb dX7_readPackets_267 rfl (lv_at hl 3 rfl) ?_
      refine call_V (As := [.ref (ad rk), .int (nI rw.length)]) (rest := []) (n := 2) C h (c7_open l D dA B Z hZ h0 ad M2 (F ++ E2) (ad rk) rw.length) (lw_V q2177 q2179 qs53 q138 q2180) (by decide +kernel) (ci := 5) rfl rfl mw_mem0 (by decide) (by decide) rfl hl rfl (Nat.le_of_ble_eq_true rfl) dX7_readPackets_268 (by omega) (fun _ H locs _ h => ?_)
      obtain ⟨M5, hM5⟩ : ∃ z, z = (sI (sI (sI (sR M2 39 (some (ad rk))) 40 (nI rw.length)) 41 (nI 0)) 42 (nI 0)) := ⟨_, rfl⟩
      have h : Wd D B s (mw dA h0 ad (sI (sI (sI (sR M2 39 (some (ad rk))) 40 (nI rw.length)) 41 (nI 0)) 42 (nI 0)) ++ (F ++ E2)) H locs := h
      rw [← hM5] at h
      have hKl25 : Kl M2 M5 := by rw [hM5]; exact ((((Kl.rfl' M2).sR (by decide)).sI (by decide)).sI (by decide)).sI (by decide)
      have hKl5 : Kl M M5 := hKl1.trans (hKm2.kl.trans hKl25)
      have hI5 : MI M5 := by rw [hM5]; exact hI2
      have h335 : mI M5 33 = 0 := by rw [hM5]; exact h332z
      have h415 : mI M5 41 = nI 0 := by rw [hM5]; rfl
      have hRw5 : RowAt ad M5 rk rw := by rw [hM5]; exact ⟨hrk, rfl, rfl, hRw2.2.2.2.1, hrl, hrb⟩
      have h725 : mR M5 72 = some (ad 4) := by rw [hM5]; show mR M2 72 = _; rw [hM2]; exact h721
      have h735 : mI M5 73 = nI dc.length := by rw [hM5]; show mI M2 73 = _; rw [hM2]; exact h731
      have h45 : ∀ j, j < dc.length → mG M5 4 j = gD dc j := by rw [hM5]; show ∀ j, j < dc.length → mG M2 4 j = gD dc j; rw [hM2]; exact h141
      refine lv_aload_n hx hb dX7_readPackets_271 rfl (lv_at hl 1 rfl) ?_
      obtain ⟨o, ho⟩ : ∃ z, z = ownS rw 0 := ⟨_, rfl⟩
      have hok := fun q9 => ownS_ok (rw := rw) (nx := 0) hrb (by omega) q9
      rw [← ho] at hok
      have hU3 : rpS rw dc = rpO rw dc o := by rw [hU0, ho]
      refine call_V (As := []) (rest := []) (n := 0) C h (c7_ownSeal l D dA B Z hZ h0 ad M5 (F ++ E2) rw rk 0 hI5 hRw5 h335 h415 (by omega)) (lw_V q2385 q2387 qs90 q138 q2388) (by decide +kernel) (ci := 5) rfl rfl mw_mem0 (by decide) (by decide) rfl hl rfl (Nat.le_of_ble_eq_true rfl) dX7_readPackets_272 (by omega) (fun u6 H locs hu6 h => ?_)
      obtain ⟨M6, E6⟩ := u6
      rw [← ho] at hu6
      obtain ⟨hI6, hKm6, h336, hu6⟩ := hu6
      dsimp only at hI6 hKm6 h336 hu6
      have hKl6 : Kl M M6 := hKl5.trans hKm6.kl
      have h : Wd D B s (mw dA h0 ad M6 ++ ((F ++ E2) ++ E6)) H locs := h
      have hRw6 : RowAt ad M6 rk rw := hRw5.km hKm6
      rw [← ho]
      refine z_if_ne (tgt := 279) hx hb dX7_readPackets_275 (by decide) (fun c275 => ?_) (fun c275 => ?_)
      · have ho0 : o.1 = 0 := of_decide_eq_true c275
        obtain ⟨h416, hon, h426, hcs, hS6⟩ := hu6 ho0
        have hok := hok ho0
        have h336z : mI M6 33 = 0 := h336.trans ho0
        have hoty := sType_lt hok.2.1
        have hohs := sHash_lt hok.2.1
        refine lv_aload_nN hx hb dX7_readPackets_279 rfl (lv_at hl 0 rfl) ?_
        refine lv_ifnullN (tgt := 309) hx hb dX7_readPackets_280 (by decide) ?_
        refine lv_aload_n hx hb dX7_readPackets_309 rfl (lv_at hl 1 rfl) ?_
        have hU : rpS rw dc = (endS rw o.2.2, o.2.1, dc) := by rw [hU3]; unfold rpO; rw [if_pos ho0]
        refine call_V (As := []) (rest := []) (n := 0) C h (c7_mustEnd l D dA B Z hZ h0 ad M6 ((F ++ E2) ++ E6) rw rk o.2.2 0 hI6 hRw6 h336z h416 hon) (lw_V q2389 q2391 qs91 q138 q2392) (by decide +kernel) (ci := 5) rfl rfl mw_mem0 (by decide) (by decide) rfl hl rfl (Nat.le_of_ble_eq_true rfl) dX7_readPackets_310 (by omega) (fun u7 H locs hu7 h => ?_)
        obtain ⟨M7, E7⟩ := u7
        obtain ⟨hI7, hKm7, h717, h337⟩ := hu7
        dsimp only at hI7 hKm7 h717 h337
        have h : Wd D B s (mw dA h0 ad M7 ++ (((F ++ E2) ++ E6) ++ E7)) H locs := h
        subst hQ
        rw [if_pos rfl] at h337
        have km72 : mR M7 72 = mR M5 72 := (hKm7.2.1 72 (by decide) (by decide)).trans (hKm6.2.1 72 (by decide) (by decide))
        have km73 : mI M7 73 = mI M5 73 := (hKm7.1 73 (by decide) (by decide)).trans (hKm6.1 73 (by decide) (by decide))
        have kmg : mG M7 4 = mG M5 4 := (hKm7.2.2.1 4 (by decide) (by decide)).trans (hKm6.2.2.1 4 (by decide) (by decide))
        have hcase : CaseIs dA ((F ++ E2) ++ E6 ++ E7) ad M7 rw.length o.2.1 dc := by
          obtain ⟨a, z1, z2⟩ := hcs
          exact ⟨⟨a, h717.trans z1, List.mem_append_left _ z2⟩, ⟨4, by decide, km72.trans h725, by rw [kmg]; exact h45⟩, km73.trans h735, ⟨hok.1, hok.2.1, hok.2.2.1, hrl⟩, hdb, hdl⟩
        have h : Wd D B s (mw dA h0 ad M7 ++ (F ++ (E2 ++ (E6 ++ (E7))))) H locs := by (try simp only [List.append_assoc] at h ⊢); exact h
        exact ret_v C hr hlocks h (M7, E2 ++ (E6 ++ (E7))) (⟨hI7, hKl6.trans hKm7.kl, by rw [hU]; exact h337, fun _ => by
            rw [hU]
            simp only [List.append_assoc] at hcase ⊢; exact hcase⟩) rfl rfl (by omega) (by omega) dX7_readPackets_313
      · have ho0 : ¬ o.1 = 0 := of_decide_eq_false c275
        have hU : rpS rw dc = (o.1, [], []) := by rw [hU3]; unfold rpO; rw [if_neg ho0]
        subst hQ
        have h : Wd D B s (mw dA h0 ad M6 ++ (F ++ (E2 ++ (E6)))) H locs := by (try simp only [List.append_assoc] at h ⊢); exact h
        exact ret_v C hr hlocks h (M6, E2 ++ (E6)) (⟨hI6, hKl6, by rw [hU]; exact h336, fun z => by rw [hU] at z; exact absurd z ho0⟩) rfl rfl (by omega) (by omega) dX7_readPackets_278
    · obtain ⟨a2, ha2, hE2⟩ : ∃ a, bo2 = some a ∧ E2 = [(a, ial dA q.2.1)] := by
        rcases eq5 with ⟨z, -, -⟩ | ⟨-, a, z1, z2⟩
        · rw [c37] at z; cases z
        · exact ⟨a, z1, z2⟩
      have hbo2 : mR M2 44 = some a2 := h442.trans ha2
      have haF2 : (a2, ial dA q.2.1) ∈ F ++ E2 := List.mem_append_right _ (by rw [hE2]; exact List.mem_cons_self)
      have hqb : byt q.2.1 := aq.2.2.1
      have hU0 : rpS rw dc = if frOk q.2.1 = true then rpL rw q.2.1 q.2.2 else (-1 - nI 0, [], []) := by unfold rpS; rw [hq]; exact if_pos c37
      have hb0 := byt_gD hqb 0
      have hb3 := byt_gD hqb 3
      have hb12 := byt_gD hqb 12
      refine lv_aload_n hx hb dX7_readPackets_40 rfl (lv_at hl 1 rfl) ?_
      refine m_gr C h 44 (by decide) rfl rfl q1914 (v := some a2) hbo2 dX7_readPackets_41 ?_
      refine lv_astore_n (lv' := [(3, .ref a2), (0, .ref h0), (1, .ref (ad rk)), (2, .int (nI rw.length))]) hx hb dX7_readPackets_44 rfl hl (by decide) rfl (fun ls hl => ?_)
      have jg : ∀ (H : Heap) (locs : List Loc), Wd D B s (mw dA h0 ad M2 ++ (F ++ E2)) H locs → ∀ (ls : Array Slot), lv_has ls 8 [(3, .ref a2), (0, .ref h0), (1, .ref (ad rk)), (2, .int (nI rw.length))] → W p l e R s m args below meth c H locs (0 + 0 + 1) (0 + 0 + (pktZ rw 0)) Q (F0 m 79 ls [.int (bZ (frOk q.2.1))]) := by
        intro   H locs h ls hl
        refine lv_istore (lv' := [(4, .int (bZ (frOk q.2.1))), (3, .ref a2), (0, .ref h0), (1, .ref (ad rk)), (2, .int (nI rw.length))]) hx hb dX7_readPackets_79 hl (by decide) rfl (fun ls hl => ?_)
        refine lv_iload hx hb dX7_readPackets_81 (lv_at hl 0 rfl) ?_
        refine z_if_ne (tgt := 92) hx hb dX7_readPackets_83 (by decide) (fun c83 => ?_) (fun c83 => ?_)
        · have hU1 : rpS rw dc = rpL rw q.2.1 q.2.2 := by rw [hU0]; exact if_pos c83
          have hzq : ¬ (-1 - nI q.2.2 : Int32) = 0 := m1_ne (by omega)
          refine lv_aload_n hx hb dX7_readPackets_92 rfl (lv_at hl 2 rfl) ?_
          have hzl2 := pktZ_le (rw := rw) (nx := q.2.2)
          have h332 := h332z
          have h412 := h412z
          have h : Wd D B s (mw dA h0 ad (kM M2 0 (nI q.2.2) (mI M2 42) (mI M2 43) (mI M2 45) (mI M2 47) (mR M2 44) (mG M2 46)) ++ (F ++ E2)) H locs := by
            have e9 := kM_id M2
            rw [h332, h412] at e9
            rw [e9]; exact h
          refine call_V (As := []) (rest := []) (n := 0) C h (c7_packet l D dA B Z hZ h0 ad M2 (F ++ E2) rw (ad rk) (mG M2 rk) q.2.2 (mI M2 42) (mI M2 43) (mI M2 45) (mI M2 47) (mR M2 44) (mG M2 46) hRw2.2.2.1 hRw2.2.1 (hRw2.mem (F ++ E2)) hRw2.2.2.2.1 hRw2.2.2.2.2.1 hRw2.2.2.2.2.2 (by omega)) (lw_V q2185 q2187 qs55 q138 q2188) (by decide +kernel) (ci := 5) rfl rfl mw_mem0 (by decide) (by decide) rfl hl rfl (Nat.le_of_ble_eq_true rfl) dX7_readPackets_93 (by omega) (fun up3 H locs hp3 h => ?_)
          obtain ⟨y3, kd3, bs3, co3, bo3, G3, E3⟩ := up3
          obtain ⟨M3, hM3⟩ : ∃ z, z = kM M2 (pktT rw q.2.2) (nI y3) (nI q.2.2) (nI kd3) (nI bs3) (nI co3) bo3 G3 := ⟨_, rfl⟩
          have h : Wd D B s (mw dA h0 ad (kM M2 (pktT rw q.2.2) (nI y3) (nI q.2.2) (nI kd3) (nI bs3) (nI co3) bo3 G3) ++ ((F ++ E2) ++ E3)) H locs := h
          rw [← hM3] at h
          have hI3 : MI M3 := by rw [hM3]; exact hI2
          have hKm3 : Km M2 M3 := by rw [hM3]; exact kM_km _ _ _ _ _ _ _ _ _
          have h333 : mI M3 33 = pktT rw q.2.2 := by rw [hM3]; rfl
          have h413 : mI M3 41 = nI y3 := by rw [hM3]; rfl
          have h423 : mI M3 42 = nI q.2.2 := by rw [hM3]; rfl
          have h433 : mI M3 43 = nI kd3 := by rw [hM3]; rfl
          have h453 : mI M3 45 = nI bs3 := by rw [hM3]; rfl
          have h443 : mR M3 44 = bo3 := by rw [hM3]; rfl
          have h463 : mG M3 46 = G3 := by rw [hM3]; rfl
          have hRw3 : RowAt ad M3 rk rw := hRw2.km hKm3
          refine z_if_ne (tgt := 100) hx hb dX7_readPackets_96 (by decide) (fun c96 => ?_) (fun c96 => ?_)
          · obtain ⟨pq, hpq⟩ := pktT_0 (by omega) (of_decide_eq_true c96)
            unfold pktOk at hp3
            rw [hpq] at hp3
            obtain ⟨epq1, epq2, epq3, epq4, epq5⟩ := hp3
            dsimp only at epq1 epq2 epq3 epq4 epq5
            have tpq := pktT_s hpq
            have lpq := pktS_len hpq
            have apq := pktS_adv hRw3.2.2.2.2.2 hpq
            have h333z : mI M3 33 = 0 := h333.trans tpq
            have h413z : mI M3 41 = nI pq.2.2 := h413.trans (congrArg nI epq1)
            have hrbb : byt pq.2.1 := apq.2.2.1
            have hb0 := byt_gD hrbb 0
            have hb1 := byt_gD hrbb 1
            have hL0 : rpL rw q.2.1 q.2.2 = if letOk pq.1 pq.2.1 = true then rpF rw q.2.1 (letT pq.1 pq.2.1) pq.2.2 (ownS rw pq.2.2) else (-1 - nI q.2.2, [], []) := by unfold rpL; rw [hpq]
            have hnm : namN pq.1 pq.2.1 < 256 := by unfold namN; exact ite_lt hb1 (by decide)
            have hzz2 : pktZ rw q.2.2 = pq.2.1.length := by unfold pktZ; rw [hpq]
            have jn : ∀ (H : Heap) (locs : List Loc), Wd D B s (mw dA h0 ad M3 ++ ((F ++ E2) ++ E3)) H locs → ∀ (ls : Array Slot), lv_has ls 8 [(4, .int (bZ (frOk q.2.1))), (3, .ref a2), (0, .ref h0), (1, .ref (ad rk)), (2, .int (nI rw.length))] → W p l e R s m args below meth c H locs (0 + 0 + 1 + 1) (0 + 0 + (pktZ rw 0) + (pktZ rw q.2.2)) Q (F0 m 127 ls [.int (nI (namN pq.1 pq.2.1))]) := by
              intro   H locs h ls hl
              refine lv_istore (lv' := [(5, .int (nI (namN pq.1 pq.2.1))), (4, .int (bZ (frOk q.2.1))), (3, .ref a2), (0, .ref h0), (1, .ref (ad rk)), (2, .int (nI rw.length))]) hx hb dX7_readPackets_127 hl (by decide) rfl (fun ls hl => ?_)
              have jl : ∀ (H : Heap) (locs : List Loc), Wd D B s (mw dA h0 ad M3 ++ ((F ++ E2) ++ E3)) H locs → ∀ (ls : Array Slot), lv_has ls 8 [(5, .int (nI (namN pq.1 pq.2.1))), (4, .int (bZ (frOk q.2.1))), (3, .ref a2), (0, .ref h0), (1, .ref (ad rk)), (2, .int (nI rw.length))] → W p l e R s m args below meth c H locs (0 + 0 + 1 + 1) (0 + 0 + (pktZ rw 0) + (pktZ rw q.2.2)) Q (F0 m 188 ls [.int (bZ (letOk pq.1 pq.2.1))]) := by
                intro   H locs h ls hl
                refine lv_istore (lv' := [(6, .int (bZ (letOk pq.1 pq.2.1))), (5, .int (nI (namN pq.1 pq.2.1))), (4, .int (bZ (frOk q.2.1))), (3, .ref a2), (0, .ref h0), (1, .ref (ad rk)), (2, .int (nI rw.length))]) hx hb dX7_readPackets_188 hl (by decide) rfl (fun ls hl => ?_)
                refine lv_iload hx hb dX7_readPackets_190 (lv_at hl 0 rfl) ?_
                refine z_if_ne (tgt := 202) hx hb dX7_readPackets_192 (by decide) (fun c192 => ?_) (fun c192 => ?_)
                · have hU2 : rpS rw dc = rpF rw q.2.1 (letT pq.1 pq.2.1) pq.2.2 (ownS rw pq.2.2) := by rw [hU1, hL0]; exact if_pos c192
                  have hlk := c192
                  unfold letOk at hlk
                  simp only [Bool.and_eq_true, decide_eq_true_eq] at hlk
                  have hl6 := hlk.2.1
                  have hE46 : bo3 = some (ad 46) := by
                    rcases epq5 with ⟨-, z, -⟩ | ⟨z, -⟩
                    · exact z
                    · exact absurd hlk.1 z
                  have hbo3 : mR M3 44 = some (ad 46) := h443.trans hE46
                  refine lv_aload_n hx hb dX7_readPackets_202 rfl (lv_at hl 4 rfl) ?_
                  refine lv_aload_n hx hb dX7_readPackets_203 rfl (lv_at hl 4 rfl) ?_
                  refine m_gc C h 7 (by decide) rfl rfl q1877 dX7_readPackets_204 ?_
                  refine m_pr C h 72 (v := some (ad 7)) (by decide) rfl rfl rfl q1942 rfl rfl dX7_readPackets_207 (fun H locs h => ?_)
                  refine lv_aload_n hx hb dX7_readPackets_210 rfl (lv_at hl 4 rfl) ?_
                  refine lv_aload_n hx hb dX7_readPackets_211 rfl (lv_at hl 4 rfl) ?_
                  refine m_gi C h 45 (by decide) rfl rfl q1915 (v := nI pq.2.1.length) (h453.trans (congrArg nI epq3)) dX7_readPackets_212 ?_
                  refine lv_bipush (v := nI 6) hx hb dX7_readPackets_215 (by decide) ?_
                  refine lv_isub hx hb dX7_readPackets_217 (n_top (y := nI (pq.2.1.length - 6)) (pk_sub (by omega)) ?_)
                  refine lv_iload hx hb dX7_readPackets_218 (lv_at hl 1 rfl) ?_
                  refine lv_isub hx hb dX7_readPackets_220 (n_top (y := nI ((pq.2.1.length - 6) - namN pq.1 pq.2.1)) (pk_sub (by omega)) ?_)
                  refine m_pi C h 73 (v := nI ((pq.2.1.length - 6) - namN pq.1 pq.2.1)) (by decide) rfl rfl rfl q1943 rfl rfl dX7_readPackets_221 (fun H locs h => ?_)
                  refine lv_iconst (v := nI 0) hx hb dX7_readPackets_224 (by decide) ?_
                  refine lv_istore (lv' := [(7, .int (nI 0)), (6, .int (bZ (letOk pq.1 pq.2.1))), (5, .int (nI (namN pq.1 pq.2.1))), (4, .int (bZ (frOk q.2.1))), (3, .ref a2), (0, .ref h0), (1, .ref (ad rk)), (2, .int (nI rw.length))]) hx hb dX7_readPackets_225 hl (by decide) rfl (fun ls hl => ?_)
                  obtain ⟨M4, hM4⟩ : ∃ z, z = sI (sR M3 72 (some (ad 7))) 73 (nI ((pq.2.1.length - 6) - namN pq.1 pq.2.1)) := ⟨_, rfl⟩
                  have h : Wd D B s (mw dA h0 ad (sI (sR M3 72 (some (ad 7))) 73 (nI ((pq.2.1.length - 6) - namN pq.1 pq.2.1))) ++ ((F ++ E2) ++ E3)) H locs := h
                  rw [← hM4] at h
                  have h734 : mI M4 73 = nI (pq.2.1.length - 6 - namN pq.1 pq.2.1) := by rw [hM4]; rfl
                  have hbo4 : mR M4 44 = some (ad 46) := by rw [hM4]; exact hbo3
                  have h464 : mG M4 46 = G3 := by rw [hM4]; exact h463
                  have h724 : mR M4 72 = some (ad 7) := by rw [hM4]; rfl
                  have hKm4 : Kl M3 M4 := by rw [hM4]; exact ((Kl.rfl' M3).sR (by decide)).sI (by decide)
                  have hRw4 : RowAt ad M4 rk rw := by rw [hM4]; exact hRw3
                  have h334 : mI M4 33 = 0 := by rw [hM4]; exact h333z
                  have h414 : mI M4 41 = nI pq.2.2 := by rw [hM4]; exact h413z
                  have hI4 : MI M4 := by rw [hM4]; exact hI3
                  have h : Wd D B s (mw dA h0 ad (sG M4 7 (appG (mG M4 7) 0 (sl (gD pq.2.1) (6 + namN pq.1 pq.2.1) 0))) ++ (F ++ E2 ++ E3)) H locs := by rw [sl_0, appG_nil, sG_id]; exact h
                  have loop : ∀ (nn : Nat) (i : Nat), (i ≤ pq.2.1.length - 6 - namN pq.1 pq.2.1) → pq.2.1.length - 6 - namN pq.1 pq.2.1 - i < nn → ∀ (H : Heap) (locs : List Loc), Wd D B s (mw dA h0 ad (sG M4 7 (appG (mG M4 7) 0 (sl (gD pq.2.1) (6 + namN pq.1 pq.2.1) i))) ++ (F ++ E2 ++ E3)) H locs → ∀ (ls : Array Slot), lv_has ls 8 [(7, .int (nI i)), (0, .ref h0), (1, .ref (ad rk)), (2, .int (nI rw.length)), (3, .ref a2), (5, .int (nI (namN pq.1 pq.2.1)))] → W p l e R s m args below meth c H locs (0 + 0 + 1 + 1) (0 + 0 + (pktZ rw 0) + (pktZ rw q.2.2)) Q (F0 m 227 ls []) := by
                    intro nn
                    induction nn with
                    | zero => intro i  hi0 hme; exact absurd hme (Nat.not_lt_zero _)
                    | succ nn ih =>
                      intro i  hi0 hme H locs h ls hl
                      refine lv_iload hx hb dX7_readPackets_227 (lv_at hl 0 rfl) ?_
                      refine lv_aload_n hx hb dX7_readPackets_229 rfl (lv_at hl 1 rfl) ?_
                      refine m_gi C h 73 (by decide) rfl rfl q1943 (v := nI (pq.2.1.length - 6 - namN pq.1 pq.2.1)) h734 dX7_readPackets_230 ?_
                      refine n_icmp_ge (tgt := 262) hx hb (by omega) (by omega) dX7_readPackets_233 (by decide) (fun c233 => ?_) (fun c233 => ?_)
                      · have hie : i = pq.2.1.length - 6 - namN pq.1 pq.2.1 := by omega
                        rw [hie] at h
                        obtain ⟨M5, hM5⟩ : ∃ z, z = (sG M4 7 (appG (mG M4 7) 0 (sl (gD pq.2.1) (6 + namN pq.1 pq.2.1) (pq.2.1.length - 6 - namN pq.1 pq.2.1)))) := ⟨_, rfl⟩
                        have h : Wd D B s (mw dA h0 ad (sG M4 7 (appG (mG M4 7) 0 (sl (gD pq.2.1) (6 + namN pq.1 pq.2.1) (pq.2.1.length - 6 - namN pq.1 pq.2.1)))) ++ (F ++ E2 ++ E3)) H locs := h
                        rw [← hM5] at h
                        have hKm5 : Kl M3 M5 := by rw [hM5]; exact hKm4.sG (by decide)
                        have hI5 : MI M5 := by rw [hM5]; exact hI4
                        have h335 : mI M5 33 = 0 := by rw [hM5]; exact h334
                        have h415 : mI M5 41 = nI pq.2.2 := by rw [hM5]; exact h414
                        have hRw5 : RowAt ad M5 rk rw := by rw [hM5]; exact hRw4.g7 _
                        have h75 : ∀ j, j < (letT pq.1 pq.2.1).length → mG M5 7 j = gD (letT pq.1 pq.2.1) j := by rw [hM5]; exact app_get0
                        have h725 : mR M5 72 = some (ad 7) := by rw [hM5]; exact h724
                        have h735 : mI M5 73 = nI (letT pq.1 pq.2.1).length := by rw [hM5]; unfold letT; rw [sl_len]; exact h734
                        have hltl : (letT pq.1 pq.2.1).length ≤ 4096 := by unfold letT; rw [sl_len]; omega
                        have hltb : byt (letT pq.1 pq.2.1) := sl_byt (fun j => byt_gD hrbb j)
                        have hKl5 : Kl M M5 := hKl1.trans ((hKm2.trans hKm3).kl.trans hKm5)
                        refine lv_goto (tgt := 271) hx hb dX7_readPackets_262 (by decide) ?_
                        refine lv_aload_n hx hb dX7_readPackets_271 rfl (lv_at hl 1 rfl) ?_
                        obtain ⟨o, ho⟩ : ∃ z, z = ownS rw pq.2.2 := ⟨_, rfl⟩
                        have hok := fun q9 => ownS_ok (rw := rw) (nx := pq.2.2) hrb (by omega) q9
                        rw [← ho] at hok
                        have hU3 : rpS rw dc = rpF rw q.2.1 (letT pq.1 pq.2.1) pq.2.2 o := by rw [hU2, ho]
                        refine call_V (As := []) (rest := []) (n := 0) C h (c7_ownSeal l D dA B Z hZ h0 ad M5 (F ++ E2 ++ E3) rw rk pq.2.2 hI5 hRw5 h335 h415 (by omega)) (lw_V q2385 q2387 qs90 q138 q2388) (by decide +kernel) (ci := 5) rfl rfl mw_mem0 (by decide) (by decide) rfl hl rfl (Nat.le_of_ble_eq_true rfl) dX7_readPackets_272 (by omega) (fun u6 H locs hu6 h => ?_)
                        obtain ⟨M6, E6⟩ := u6
                        rw [← ho] at hu6
                        obtain ⟨hI6, hKm6, h336, hu6⟩ := hu6
                        dsimp only at hI6 hKm6 h336 hu6
                        have hKl6 : Kl M M6 := hKl5.trans hKm6.kl
                        have h : Wd D B s (mw dA h0 ad M6 ++ ((F ++ E2 ++ E3) ++ E6)) H locs := h
                        have hRw6 : RowAt ad M6 rk rw := hRw5.km hKm6
                        rw [← ho]
                        refine z_if_ne (tgt := 279) hx hb dX7_readPackets_275 (by decide) (fun c275 => ?_) (fun c275 => ?_)
                        · have ho0 : o.1 = 0 := of_decide_eq_true c275
                          obtain ⟨h416, hon, h426, hcs, hS6⟩ := hu6 ho0
                          have hok := hok ho0
                          have h336z : mI M6 33 = 0 := h336.trans ho0
                          have hoty := sType_lt hok.2.1
                          have hohs := sHash_lt hok.2.1
                          have hfb1 := byt_gD hqb 1
                          have hfb2 := byt_gD hqb 2
                          have hfo := c83
                          unfold frOk at hfo
                          simp only [Bool.and_eq_true, decide_eq_true_eq] at hfo
                          have hfl := hfo.1
                          refine lv_aload_n hx hb dX7_readPackets_279 rfl (lv_at hl 4 rfl) ?_
                          refine lv_ifnull hx hb dX7_readPackets_280 ?_
                          refine lv_aload_n hx hb dX7_readPackets_283 rfl (lv_at hl 4 rfl) ?_
                          refine lv_iconst (v := nI 1) hx hb dX7_readPackets_284 (by decide) ?_
                          refine n_iald C h (v := (gD q.2.1) 1) (List.mem_append_right _ (List.mem_append_left _ (List.mem_append_left _ haF2))) (show 1 < q.2.1.length by omega) (by omega) rfl dX7_readPackets_285 ?_
                          refine lv_aload_n hx hb dX7_readPackets_286 rfl (lv_at hl 1 rfl) ?_
                          refine m_gi C h 56 (by decide) rfl rfl q1926 (v := nI (sType o.2.1)) hS6.1 dX7_readPackets_287 ?_
                          refine n_icmp_ne (tgt := 303) hx hb (by omega) (by omega) dX7_readPackets_290 (by decide) (fun c290 => ?_) (fun c290 => ?_)
                          · refine lv_aload_n hx hb dX7_readPackets_303 rfl (lv_at hl 1 rfl) ?_
                            refine call_V (As := []) (rest := []) (n := 0) C h (c7_failPacket l D dA B Z hZ h0 ad M6 (F ++ E2 ++ E3 ++ E6) pq.2.2 h426) (lw_V q2193 q2195 qs57 q138 q2196) (by decide +kernel) (ci := 5) rfl rfl mw_mem0 (by decide) (by decide) rfl hl rfl (Nat.le_of_ble_eq_true rfl) dX7_readPackets_304 (by omega) (fun _ H locs _ h => ?_)
                            have h : Wd D B s (mw dA h0 ad (sI M6 33 (failT (mI M6 33) (-1 - nI pq.2.2))) ++ (F ++ E2 ++ E3 ++ E6)) H locs := h
                            refine lv_istore (lv' := [(4, .int (bZ false)), (7, .int (nI i)), (0, .ref h0), (1, .ref (ad rk)), (2, .int (nI rw.length)), (3, .ref a2), (5, .int (nI (namN pq.1 pq.2.1)))]) hx hb dX7_readPackets_307 hl (by decide) rfl (fun ls hl => ?_)
                            refine lv_aload_n hx hb dX7_readPackets_309 rfl (lv_at hl 2 rfl) ?_
                            have h33f : mI (sI M6 33 (failT (mI M6 33) (-1 - nI pq.2.2))) 33 = -1 - nI pq.2.2 := by show failT (mI M6 33) (-1 - nI pq.2.2) = _; rw [h336z]; rfl
                            have hzr : ¬ (-1 - nI pq.2.2 : Int32) = 0 := m1_ne (by omega)
                            have hU : rpS rw dc = (-1 - nI pq.2.2, [], []) := by rw [hU3]; unfold rpF; rw [if_pos ho0, if_neg (by first | exact fun z => c290 z.1 | exact fun z => c300 z.2)]
                            refine call_V (As := []) (rest := []) (n := 0) C h (c7_mustEnd l D dA B Z hZ h0 ad (sI M6 33 (failT (mI M6 33) (-1 - nI pq.2.2))) ((F ++ E2 ++ E3) ++ E6) rw rk o.2.2 (-1 - nI pq.2.2) hI6 (hRw6.km (Km.sI _ _ (by decide))) h33f h416 hon) (lw_V q2389 q2391 qs91 q138 q2392) (by decide +kernel) (ci := 5) rfl rfl mw_mem0 (by decide) (by decide) rfl hl rfl (Nat.le_of_ble_eq_true rfl) dX7_readPackets_310 (by omega) (fun u7 H locs hu7 h => ?_)
                            obtain ⟨M7, E7⟩ := u7
                            obtain ⟨hI7, hKm7, h717, h337⟩ := hu7
                            dsimp only at hI7 hKm7 h717 h337
                            have h : Wd D B s (mw dA h0 ad M7 ++ (((F ++ E2 ++ E3) ++ E6) ++ E7)) H locs := h
                            subst hQ
                            rw [if_neg hzr] at h337
                            have h : Wd D B s (mw dA h0 ad M7 ++ (F ++ (E2 ++ (E3 ++ (E6 ++ (E7)))))) H locs := by (try simp only [List.append_assoc] at h ⊢); exact h
                            exact ret_v C hr hlocks h (M7, E2 ++ (E3 ++ (E6 ++ (E7)))) (⟨hI7, (hKl6.sI (by decide)).trans hKm7.kl, by rw [hU]; exact h337, fun z => by rw [hU] at z; exact absurd z hzr⟩) rfl rfl (by omega) (by omega) dX7_readPackets_313
                          · refine lv_aload_n hx hb dX7_readPackets_293 rfl (lv_at hl 4 rfl) ?_
                            refine lv_iconst (v := nI 2) hx hb dX7_readPackets_294 (by decide) ?_
                            refine n_iald C h (v := (gD q.2.1) 2) (List.mem_append_right _ (List.mem_append_left _ (List.mem_append_left _ haF2))) (show 2 < q.2.1.length by omega) (by omega) rfl dX7_readPackets_295 ?_
                            refine lv_aload_n hx hb dX7_readPackets_296 rfl (lv_at hl 1 rfl) ?_
                            refine m_gi C h 57 (by decide) rfl rfl q1927 (v := nI (sHash o.2.1)) hS6.2.1 dX7_readPackets_297 ?_
                            refine n_icmp_eq (tgt := 309) hx hb (by omega) (by omega) dX7_readPackets_300 (by decide) (fun c300 => ?_) (fun c300 => ?_)
                            · refine lv_aload_n hx hb dX7_readPackets_309 rfl (lv_at hl 1 rfl) ?_
                              have hU : rpS rw dc = (endS rw o.2.2, o.2.1, (letT pq.1 pq.2.1)) := by rw [hU3]; unfold rpF; rw [if_pos ho0, if_pos ⟨c290, c300⟩]
                              refine call_V (As := []) (rest := []) (n := 0) C h (c7_mustEnd l D dA B Z hZ h0 ad M6 ((F ++ E2 ++ E3) ++ E6) rw rk o.2.2 0 hI6 hRw6 h336z h416 hon) (lw_V q2389 q2391 qs91 q138 q2392) (by decide +kernel) (ci := 5) rfl rfl mw_mem0 (by decide) (by decide) rfl hl rfl (Nat.le_of_ble_eq_true rfl) dX7_readPackets_310 (by omega) (fun u7 H locs hu7 h => ?_)
                              obtain ⟨M7, E7⟩ := u7
                              obtain ⟨hI7, hKm7, h717, h337⟩ := hu7
                              dsimp only at hI7 hKm7 h717 h337
                              have h : Wd D B s (mw dA h0 ad M7 ++ (((F ++ E2 ++ E3) ++ E6) ++ E7)) H locs := h
                              subst hQ
                              rw [if_pos rfl] at h337
                              have km72 : mR M7 72 = mR M5 72 := (hKm7.2.1 72 (by decide) (by decide)).trans (hKm6.2.1 72 (by decide) (by decide))
                              have km73 : mI M7 73 = mI M5 73 := (hKm7.1 73 (by decide) (by decide)).trans (hKm6.1 73 (by decide) (by decide))
                              have kmg : mG M7 7 = mG M5 7 := (hKm7.2.2.1 7 (by decide) (by decide)).trans (hKm6.2.2.1 7 (by decide) (by decide))
                              have hcase : CaseIs dA ((F ++ E2 ++ E3) ++ E6 ++ E7) ad M7 rw.length o.2.1 (letT pq.1 pq.2.1) := by
                                obtain ⟨a, z1, z2⟩ := hcs
                                exact ⟨⟨a, h717.trans z1, List.mem_append_left _ z2⟩, ⟨7, by decide, km72.trans h725, by rw [kmg]; exact h75⟩, km73.trans h735, ⟨hok.1, hok.2.1, hok.2.2.1, hrl⟩, hltb, hltl⟩
                              have h : Wd D B s (mw dA h0 ad M7 ++ (F ++ (E2 ++ (E3 ++ (E6 ++ (E7)))))) H locs := by (try simp only [List.append_assoc] at h ⊢); exact h
                              exact ret_v C hr hlocks h (M7, E2 ++ (E3 ++ (E6 ++ (E7)))) (⟨hI7, hKl6.trans hKm7.kl, by rw [hU]; exact h337, fun _ => by
                                  rw [hU]
                                  simp only [List.append_assoc] at hcase ⊢; exact hcase⟩) rfl rfl (by omega) (by omega) dX7_readPackets_313
                            · refine lv_aload_n hx hb dX7_readPackets_303 rfl (lv_at hl 1 rfl) ?_
                              refine call_V (As := []) (rest := []) (n := 0) C h (c7_failPacket l D dA B Z hZ h0 ad M6 (F ++ E2 ++ E3 ++ E6) pq.2.2 h426) (lw_V q2193 q2195 qs57 q138 q2196) (by decide +kernel) (ci := 5) rfl rfl mw_mem0 (by decide) (by decide) rfl hl rfl (Nat.le_of_ble_eq_true rfl) dX7_readPackets_304 (by omega) (fun _ H locs _ h => ?_)
                              have h : Wd D B s (mw dA h0 ad (sI M6 33 (failT (mI M6 33) (-1 - nI pq.2.2))) ++ (F ++ E2 ++ E3 ++ E6)) H locs := h
                              refine lv_istore (lv' := [(4, .int (bZ false)), (7, .int (nI i)), (0, .ref h0), (1, .ref (ad rk)), (2, .int (nI rw.length)), (3, .ref a2), (5, .int (nI (namN pq.1 pq.2.1)))]) hx hb dX7_readPackets_307 hl (by decide) rfl (fun ls hl => ?_)
                              refine lv_aload_n hx hb dX7_readPackets_309 rfl (lv_at hl 2 rfl) ?_
                              have h33f : mI (sI M6 33 (failT (mI M6 33) (-1 - nI pq.2.2))) 33 = -1 - nI pq.2.2 := by show failT (mI M6 33) (-1 - nI pq.2.2) = _; rw [h336z]; rfl
                              have hzr : ¬ (-1 - nI pq.2.2 : Int32) = 0 := m1_ne (by omega)
                              have hU : rpS rw dc = (-1 - nI pq.2.2, [], []) := by rw [hU3]; unfold rpF; rw [if_pos ho0, if_neg (by first | exact fun z => c290 z.1 | exact fun z => c300 z.2)]
                              refine call_V (As := []) (rest := []) (n := 0) C h (c7_mustEnd l D dA B Z hZ h0 ad (sI M6 33 (failT (mI M6 33) (-1 - nI pq.2.2))) ((F ++ E2 ++ E3) ++ E6) rw rk o.2.2 (-1 - nI pq.2.2) hI6 (hRw6.km (Km.sI _ _ (by decide))) h33f h416 hon) (lw_V q2389 q2391 qs91 q138 q2392) (by decide +kernel) (ci := 5) rfl rfl mw_mem0 (by decide) (by decide) rfl hl rfl (Nat.le_of_ble_eq_true rfl) dX7_readPackets_310 (by omega) (fun u7 H locs hu7 h => ?_)
                              obtain ⟨M7, E7⟩ := u7
                              obtain ⟨hI7, hKm7, h717, h337⟩ := hu7
                              dsimp only at hI7 hKm7 h717 h337
                              have h : Wd D B s (mw dA h0 ad M7 ++ (((F ++ E2 ++ E3) ++ E6) ++ E7)) H locs := h
                              subst hQ
                              rw [if_neg hzr] at h337
                              have h : Wd D B s (mw dA h0 ad M7 ++ (F ++ (E2 ++ (E3 ++ (E6 ++ (E7)))))) H locs := by (try simp only [List.append_assoc] at h ⊢); exact h
                              exact ret_v C hr hlocks h (M7, E2 ++ (E3 ++ (E6 ++ (E7)))) (⟨hI7, (hKl6.sI (by decide)).trans hKm7.kl, by rw [hU]; exact h337, fun z => by rw [hU] at z; exact absurd z hzr⟩) rfl rfl (by omega) (by omega) dX7_readPackets_313
                        · have ho0 : ¬ o.1 = 0 := of_decide_eq_false c275
                          have hU : rpS rw dc = (o.1, [], []) := by rw [hU3]; unfold rpF; rw [if_neg ho0]
                          subst hQ
                          have h : Wd D B s (mw dA h0 ad M6 ++ (F ++ (E2 ++ (E3 ++ (E6))))) H locs := by (try simp only [List.append_assoc] at h ⊢); exact h
                          exact ret_v C hr hlocks h (M6, E2 ++ (E3 ++ (E6))) (⟨hI6, hKl6, by rw [hU]; exact h336, fun z => by rw [hU] at z; exact absurd z ho0⟩) rfl rfl (by omega) (by omega) dX7_readPackets_278
                      · refine lv_aload_n hx hb dX7_readPackets_236 rfl (lv_at hl 1 rfl) ?_
                        refine m_gc C h 7 (by decide) rfl rfl q1877 dX7_readPackets_237 ?_
                        refine lv_iload hx hb dX7_readPackets_240 (lv_at hl 0 rfl) ?_
                        refine lv_aload_n hx hb dX7_readPackets_242 rfl (lv_at hl 1 rfl) ?_
                        refine m_gr C h 44 (by decide) rfl rfl q1914 (v := some (ad 46)) hbo4 dX7_readPackets_243 ?_
                        refine lv_bipush (v := nI 6) hx hb dX7_readPackets_246 (by decide) ?_
                        refine lv_iload hx hb dX7_readPackets_248 (lv_at hl 5 rfl) ?_
                        refine lv_iadd hx hb dX7_readPackets_250 (n_top (y := nI (6 + namN pq.1 pq.2.1)) (nI_add 6 (namN pq.1 pq.2.1)) ?_)
                        refine lv_iload hx hb dX7_readPackets_251 (lv_at hl 0 rfl) ?_
                        refine lv_iadd hx hb dX7_readPackets_253 (n_top (y := nI (6 + namN pq.1 pq.2.1 + i)) (nI_add (6 + namN pq.1 pq.2.1) i) ?_)
                        refine n_iald C h (v := G3 (6 + namN pq.1 pq.2.1 + i)) (mw_memG (k := 46) (by decide)) (show 6 + namN pq.1 pq.2.1 + i < 5000 by omega) (by decide) (congrFun h464 _) dX7_readPackets_254 ?_
                        refine n_top (y := nI (gD pq.2.1 (6 + namN pq.1 pq.2.1 + i))) (congrArg nI (sl_gd epq4 (by omega))) ?_
                        refine m_iast C h 7 (v := gD pq.2.1 (6 + namN pq.1 pq.2.1 + i)) (by decide) (n := 4096) rfl (by omega) dX7_readPackets_255 (fun H locs h => ?_)
                        have h : Wd D B s (mw dA h0 ad (sG M4 7 (appG (mG M4 7) 0 (sl (gD pq.2.1) (6 + namN pq.1 pq.2.1) (i + 1)))) ++ (F ++ E2 ++ E3)) H locs := by
                          have e9 := appG_snoc (mG M4 7) 0 (sl (gD pq.2.1) (6 + namN pq.1 pq.2.1) i) ((gD pq.2.1) (6 + namN pq.1 pq.2.1 + i)) (k := i) (by rw [sl_len, Nat.zero_add])
                          rw [sl_succ, ← e9, ← sG_sG]; exact h
                        refine lv_iinc (v := nI (i + 1)) (lv' := [(7, .int (nI (i + 1))), (0, .ref h0), (1, .ref (ad rk)), (2, .int (nI rw.length)), (3, .ref a2), (5, .int (nI (namN pq.1 pq.2.1)))]) hx hb dX7_readPackets_256 hl (k := 0) rfl (nI_add i 1) (by decide) rfl (fun ls hl => ?_)
                        refine lv_goto (tgt := 227) hx hb dX7_readPackets_259 (by decide) ?_
                        exact ih (i + 1) (by omega) (by omega) _ _ h _ (lv_sub hl [0, 1, 2, 3, 4, 5] rfl)
                  exact loop _ 0 (by omega) (Nat.lt_succ_self _) _ _ h _ (lv_sub hl [0, 5, 6, 7, 4, 2] rfl)
                · have hU : rpS rw dc = (-1 - nI q.2.2, [], []) := by rw [hU1, hL0]; exact if_neg (by rw [c192]; decide)
                  refine lv_aload_n hx hb dX7_readPackets_195 rfl (lv_at hl 4 rfl) ?_
                  refine call_V (As := []) (rest := []) (n := 0) C h (c7_failPacket l D dA B Z hZ h0 ad M3 (F ++ E2 ++ E3) q.2.2 h423) (lw_V q2193 q2195 qs57 q138 q2196) (by decide +kernel) (ci := 5) rfl rfl mw_mem0 (by decide) (by decide) rfl hl rfl (Nat.le_of_ble_eq_true rfl) dX7_readPackets_196 (by omega) (fun _ H locs _ h => ?_)
                  have h : Wd D B s (mw dA h0 ad (sI M3 33 (failT (mI M3 33) (-1 - nI q.2.2))) ++ (F ++ E2 ++ E3)) H locs := h
                  refine lv_istore (lv' := [(7, .int (bZ false)), (6, .int (bZ (letOk pq.1 pq.2.1))), (5, .int (nI (namN pq.1 pq.2.1))), (4, .int (bZ (frOk q.2.1))), (3, .ref a2), (0, .ref h0), (1, .ref (ad rk)), (2, .int (nI rw.length))]) hx hb dX7_readPackets_199 hl (by decide) rfl (fun ls hl => ?_)
                  subst hQ
                  have h : Wd D B s (mw dA h0 ad (sI M3 33 (failT (mI M3 33) (-1 - nI q.2.2))) ++ (F ++ (E2 ++ (E3)))) H locs := by (try simp only [List.append_assoc] at h ⊢); exact h
                  exact ret_v C hr hlocks h ((sI M3 33 (failT (mI M3 33) (-1 - nI q.2.2))), E2 ++ (E3)) (⟨hI3, (hKl1.trans (hKm2.trans hKm3).kl).sI (by decide), by rw [hU]; show failT (mI M3 33) (-1 - nI q.2.2) = _; rw [h333z]; rfl, fun z => by rw [hU] at z; exact absurd z hzq⟩) rfl rfl (by omega) (by omega) dX7_readPackets_201
              refine lv_aload_n hx hb dX7_readPackets_129 rfl (lv_at hl 3 rfl) ?_
              refine m_gi C h 43 (by decide) rfl rfl q1913 (v := nI pq.1) (h433.trans (congrArg nI epq2)) dX7_readPackets_130 ?_
              refine lv_bipush (v := nI 11) hx hb dX7_readPackets_133 (by decide) ?_
              refine n_icmp_ne (tgt := 187) hx hb (by omega) (by omega) dX7_readPackets_135 (by decide) (fun c135 => ?_) (fun c135 => ?_)
              · refine lv_iconst (v := nI 0) hx hb dX7_readPackets_187 (by decide) ?_
                refine n_top (y := bZ (letOk pq.1 pq.2.1)) (by unfold letOk; first | (rw [decide_eq_false c135]; rfl) | (rw [decide_eq_false (p := 6 + namN pq.1 pq.2.1 ≤ pq.2.1.length) (by omega), Bool.false_and, Bool.and_false]; rfl) | (rw [decide_eq_false c158, decide_eq_false c169, decide_eq_false c180, Bool.or_false, Bool.or_false, Bool.and_false, Bool.and_false]; rfl)) ?_
                exact jl   _ _ h _ (lv_sub hl [0, 1, 2, 3, 4, 5] rfl)
              · have hE46 : bo3 = some (ad 46) := by
                  rcases epq5 with ⟨-, z, -⟩ | ⟨z, -⟩
                  · exact z
                  · exact absurd c135 z
                have hbo3 : mR M3 44 = some (ad 46) := h443.trans hE46
                refine lv_aload_n hx hb dX7_readPackets_138 rfl (lv_at hl 3 rfl) ?_
                refine m_gi C h 45 (by decide) rfl rfl q1915 (v := nI pq.2.1.length) (h453.trans (congrArg nI epq3)) dX7_readPackets_139 ?_
                refine lv_bipush (v := nI 6) hx hb dX7_readPackets_142 (by decide) ?_
                refine lv_iload hx hb dX7_readPackets_144 (lv_at hl 0 rfl) ?_
                refine lv_iadd hx hb dX7_readPackets_146 (n_top (y := nI (6 + namN pq.1 pq.2.1)) (nI_add 6 (namN pq.1 pq.2.1)) ?_)
                refine n_icmp_lt (tgt := 187) hx hb (by omega) (by omega) dX7_readPackets_147 (by decide) (fun c147 => ?_) (fun c147 => ?_)
                · refine lv_iconst (v := nI 0) hx hb dX7_readPackets_187 (by decide) ?_
                  refine n_top (y := bZ (letOk pq.1 pq.2.1)) (by unfold letOk; first | (rw [decide_eq_false c135]; rfl) | (rw [decide_eq_false (p := 6 + namN pq.1 pq.2.1 ≤ pq.2.1.length) (by omega), Bool.false_and, Bool.and_false]; rfl) | (rw [decide_eq_false c158, decide_eq_false c169, decide_eq_false c180, Bool.or_false, Bool.or_false, Bool.and_false, Bool.and_false]; rfl)) ?_
                  exact jl   _ _ h _ (lv_sub hl [0, 1, 2, 3, 4, 5] rfl)
                · refine lv_aload_n hx hb dX7_readPackets_150 rfl (lv_at hl 3 rfl) ?_
                  refine m_gr C h 44 (by decide) rfl rfl q1914 (v := some (ad 46)) hbo3 dX7_readPackets_151 ?_
                  refine lv_iconst (v := nI 0) hx hb dX7_readPackets_154 (by decide) ?_
                  refine n_iald C h (v := G3 0) (mw_memG (k := 46) (by decide)) (show 0 < 5000 by omega) (by decide) (congrFun h463 _) dX7_readPackets_155 ?_
                  refine n_top (y := nI (gD pq.2.1 0)) (congrArg nI (sl_gd epq4 (by omega))) ?_
                  refine lv_bipush (v := nI 98) hx hb dX7_readPackets_156 (by decide) ?_
                  refine n_icmp_eq (tgt := 183) hx hb (by omega) (by omega) dX7_readPackets_158 (by decide) (fun c158 => ?_) (fun c158 => ?_)
                  · refine lv_iconst (v := nI 1) hx hb dX7_readPackets_183 (by decide) ?_
                    refine lv_goto (tgt := 188) hx hb dX7_readPackets_184 (by decide) ?_
                    refine n_top (y := bZ (letOk pq.1 pq.2.1)) (by unfold letOk; rw [decide_eq_true c135, decide_eq_true c147]; first | (rw [decide_eq_true c158]; rfl) | (rw [decide_eq_true c169, Bool.true_or, Bool.or_true]; rfl) | (rw [decide_eq_true c180, Bool.or_true, Bool.or_true]; rfl)) ?_
                    exact jl   _ _ h _ (lv_sub hl [0, 1, 2, 3, 4, 5] rfl)
                  · refine lv_aload_n hx hb dX7_readPackets_161 rfl (lv_at hl 3 rfl) ?_
                    refine m_gr C h 44 (by decide) rfl rfl q1914 (v := some (ad 46)) hbo3 dX7_readPackets_162 ?_
                    refine lv_iconst (v := nI 0) hx hb dX7_readPackets_165 (by decide) ?_
                    refine n_iald C h (v := G3 0) (mw_memG (k := 46) (by decide)) (show 0 < 5000 by omega) (by decide) (congrFun h463 _) dX7_readPackets_166 ?_
                    refine n_top (y := nI (gD pq.2.1 0)) (congrArg nI (sl_gd epq4 (by omega))) ?_
                    refine lv_bipush (v := nI 116) hx hb dX7_readPackets_167 (by decide) ?_
                    refine n_icmp_eq (tgt := 183) hx hb (by omega) (by omega) dX7_readPackets_169 (by decide) (fun c169 => ?_) (fun c169 => ?_)
                    · refine lv_iconst (v := nI 1) hx hb dX7_readPackets_183 (by decide) ?_
                      refine lv_goto (tgt := 188) hx hb dX7_readPackets_184 (by decide) ?_
                      refine n_top (y := bZ (letOk pq.1 pq.2.1)) (by unfold letOk; rw [decide_eq_true c135, decide_eq_true c147]; first | (rw [decide_eq_true c158]; rfl) | (rw [decide_eq_true c169, Bool.true_or, Bool.or_true]; rfl) | (rw [decide_eq_true c180, Bool.or_true, Bool.or_true]; rfl)) ?_
                      exact jl   _ _ h _ (lv_sub hl [0, 1, 2, 3, 4, 5] rfl)
                    · refine lv_aload_n hx hb dX7_readPackets_172 rfl (lv_at hl 3 rfl) ?_
                      refine m_gr C h 44 (by decide) rfl rfl q1914 (v := some (ad 46)) hbo3 dX7_readPackets_173 ?_
                      refine lv_iconst (v := nI 0) hx hb dX7_readPackets_176 (by decide) ?_
                      refine n_iald C h (v := G3 0) (mw_memG (k := 46) (by decide)) (show 0 < 5000 by omega) (by decide) (congrFun h463 _) dX7_readPackets_177 ?_
                      refine n_top (y := nI (gD pq.2.1 0)) (congrArg nI (sl_gd epq4 (by omega))) ?_
                      refine lv_bipush (v := nI 117) hx hb dX7_readPackets_178 (by decide) ?_
                      refine n_icmp_ne (tgt := 187) hx hb (by omega) (by omega) dX7_readPackets_180 (by decide) (fun c180 => ?_) (fun c180 => ?_)
                      · refine lv_iconst (v := nI 0) hx hb dX7_readPackets_187 (by decide) ?_
                        refine n_top (y := bZ (letOk pq.1 pq.2.1)) (by unfold letOk; first | (rw [decide_eq_false c135]; rfl) | (rw [decide_eq_false (p := 6 + namN pq.1 pq.2.1 ≤ pq.2.1.length) (by omega), Bool.false_and, Bool.and_false]; rfl) | (rw [decide_eq_false c158, decide_eq_false c169, decide_eq_false c180, Bool.or_false, Bool.or_false, Bool.and_false, Bool.and_false]; rfl)) ?_
                        exact jl   _ _ h _ (lv_sub hl [0, 1, 2, 3, 4, 5] rfl)
                      · refine lv_iconst (v := nI 1) hx hb dX7_readPackets_183 (by decide) ?_
                        refine lv_goto (tgt := 188) hx hb dX7_readPackets_184 (by decide) ?_
                        refine n_top (y := bZ (letOk pq.1 pq.2.1)) (by unfold letOk; rw [decide_eq_true c135, decide_eq_true c147]; first | (rw [decide_eq_true c158]; rfl) | (rw [decide_eq_true c169, Bool.true_or, Bool.or_true]; rfl) | (rw [decide_eq_true c180, Bool.or_true, Bool.or_true]; rfl)) ?_
                        exact jl   _ _ h _ (lv_sub hl [0, 1, 2, 3, 4, 5] rfl)
            refine lv_aload_n hx hb dX7_readPackets_100 rfl (lv_at hl 2 rfl) ?_
            refine m_gi C h 43 (by decide) rfl rfl q1913 (v := nI pq.1) (h433.trans (congrArg nI epq2)) dX7_readPackets_101 ?_
            refine lv_bipush (v := nI 11) hx hb dX7_readPackets_104 (by decide) ?_
            refine n_icmp_ne (tgt := 126) hx hb (by omega) (by omega) dX7_readPackets_106 (by decide) (fun c106 => ?_) (fun c106 => ?_)
            · refine lv_iconst (v := nI 0) hx hb dX7_readPackets_126 (by decide) ?_
              refine n_top (y := nI (namN pq.1 pq.2.1)) (congrArg nI (by unfold namN; rw [if_neg (by first | exact fun z => c106 z.1 | exact fun z => absurd z.2 (by omega))])) ?_
              exact jn   _ _ h _ (lv_sub hl [0, 1, 2, 3, 4] rfl)
            · have hE46 : bo3 = some (ad 46) := by
                rcases epq5 with ⟨-, z, -⟩ | ⟨z, -⟩
                · exact z
                · exact absurd c106 z
              have hbo3 : mR M3 44 = some (ad 46) := h443.trans hE46
              refine lv_aload_n hx hb dX7_readPackets_109 rfl (lv_at hl 2 rfl) ?_
              refine m_gi C h 45 (by decide) rfl rfl q1915 (v := nI pq.2.1.length) (h453.trans (congrArg nI epq3)) dX7_readPackets_110 ?_
              refine lv_iconst (v := nI 1) hx hb dX7_readPackets_113 (by decide) ?_
              refine n_icmp_le (tgt := 126) hx hb (by omega) (by omega) dX7_readPackets_114 (by decide) (fun c114 => ?_) (fun c114 => ?_)
              · refine lv_iconst (v := nI 0) hx hb dX7_readPackets_126 (by decide) ?_
                refine n_top (y := nI (namN pq.1 pq.2.1)) (congrArg nI (by unfold namN; rw [if_neg (by first | exact fun z => c106 z.1 | exact fun z => absurd z.2 (by omega))])) ?_
                exact jn   _ _ h _ (lv_sub hl [0, 1, 2, 3, 4] rfl)
              · refine lv_aload_n hx hb dX7_readPackets_117 rfl (lv_at hl 2 rfl) ?_
                refine m_gr C h 44 (by decide) rfl rfl q1914 (v := some (ad 46)) hbo3 dX7_readPackets_118 ?_
                refine lv_iconst (v := nI 1) hx hb dX7_readPackets_121 (by decide) ?_
                refine n_iald C h (v := G3 1) (mw_memG (k := 46) (by decide)) (show 1 < 5000 by omega) (by decide) (congrFun h463 _) dX7_readPackets_122 ?_
                refine n_top (y := nI (gD pq.2.1 1)) (congrArg nI (sl_gd epq4 (by omega))) ?_
                refine lv_goto (tgt := 127) hx hb dX7_readPackets_123 (by decide) ?_
                refine n_top (y := nI (namN pq.1 pq.2.1)) (congrArg nI (by unfold namN; rw [if_pos ⟨c106, by omega⟩])) ?_
                exact jn   _ _ h _ (lv_sub hl [0, 1, 2, 3, 4] rfl)
          · have hpn := pktT_ne (of_decide_eq_false c96)
            have hU : rpS rw dc = (-1 - nI q.2.2, [], []) := by rw [hU1]; unfold rpL; rw [hpn]
            subst hQ
            have h : Wd D B s (mw dA h0 ad M3 ++ (F ++ (E2 ++ (E3)))) H locs := by (try simp only [List.append_assoc] at h ⊢); exact h
            exact ret_v C hr hlocks h (M3, E2 ++ (E3)) (⟨hI3, hKl1.trans (hKm2.trans hKm3).kl, by rw [hU]; exact h333.trans (pktT_m hpn), fun z => by rw [hU] at z; exact absurd z hzq⟩) rfl rfl (by omega) (by omega) dX7_readPackets_99
        · have hU : rpS rw dc = (-1 - nI 0, [], []) := by rw [hU0]; exact if_neg (by rw [c83]; decide)
          refine lv_aload_n hx hb dX7_readPackets_86 rfl (lv_at hl 2 rfl) ?_
          refine call_V (As := []) (rest := []) (n := 0) C h (c7_failPacket l D dA B Z hZ h0 ad M2 (F ++ E2) 0 h422) (lw_V q2193 q2195 qs57 q138 q2196) (by decide +kernel) (ci := 5) rfl rfl mw_mem0 (by decide) (by decide) rfl hl rfl (Nat.le_of_ble_eq_true rfl) dX7_readPackets_87 (by omega) (fun _ H locs _ h => ?_)
          have h : Wd D B s (mw dA h0 ad (sI M2 33 (failT (mI M2 33) (-1 - nI 0))) ++ (F ++ E2)) H locs := h
          refine lv_istore (lv' := [(5, .int (bZ false)), (4, .int (bZ (frOk q.2.1))), (3, .ref a2), (0, .ref h0), (1, .ref (ad rk)), (2, .int (nI rw.length))]) hx hb dX7_readPackets_90 hl (by decide) rfl (fun ls hl => ?_)
          refine lv_aload_n hx hb dX7_readPackets_92 rfl (lv_at hl 3 rfl) ?_
          refine call_V (As := []) (rest := []) (n := 0) C h (c7_packetF l D dA B Z hZ h0 ad (sI M2 33 (failT (mI M2 33) (-1 - nI 0))) (F ++ E2) (by show ¬ failT (mI M2 33) (-1 - nI 0) = 0; rw [h332z]; exact hz0)) (lw_V q2185 q2187 qs55 q138 q2188) (by decide +kernel) (ci := 5) rfl rfl mw_mem0 (by decide) (by decide) rfl hl rfl (Nat.le_of_ble_eq_true rfl) dX7_readPackets_93 (by omega) (fun _ H locs _ h => ?_)
          refine z_if_ne (tgt := 100) hx hb dX7_readPackets_96 (by decide) (fun q => by cases q) (fun _ => ?_)
          subst hQ
          have h : Wd D B s (mw dA h0 ad (sI M2 33 (failT (mI M2 33) (-1 - nI 0))) ++ (F ++ (E2))) H locs := by (try simp only [List.append_assoc] at h ⊢); exact h
          exact ret_v C hr hlocks h ((sI M2 33 (failT (mI M2 33) (-1 - nI 0))), E2) (⟨hI2, (hKl1.trans hKm2.kl).sI (by decide), by rw [hU]; show failT (mI M2 33) (-1 - nI 0) = _; rw [h332z]; rfl, fun z => by rw [hU] at z; exact absurd z hz0⟩) rfl rfl (by omega) (by omega) dX7_readPackets_99
      refine lv_aload_n hx hb dX7_readPackets_45 rfl (lv_at hl 0 rfl) ?_
      refine n_alen C h (List.mem_append_right _ haF2) dX7_readPackets_46 ?_
      refine lv_bipush (v := nI 13) hx hb dX7_readPackets_47 (by decide) ?_
      refine n_icmp_ne (tgt := 78) hx hb (by omega) (by omega) dX7_readPackets_49 (by decide) (fun c49 => ?_) (fun c49 => ?_)
      · refine lv_iconst (v := nI 0) hx hb dX7_readPackets_78 (by decide) ?_
        refine n_top (y := bZ (frOk q.2.1)) (by unfold frOk; first | (rw [decide_eq_false c49]; rfl) | (rw [decide_eq_false c56, Bool.false_and, Bool.and_false]; rfl) | (rw [decide_eq_false c63, Bool.false_and, Bool.and_false, Bool.and_false]; rfl) | (rw [decide_eq_false c71, Bool.and_false, Bool.and_false, Bool.and_false]; rfl)) ?_
        exact jg   _ _ h _ (lv_sub hl [0, 1, 2, 3] rfl)
      · refine lv_aload_n hx hb dX7_readPackets_52 rfl (lv_at hl 0 rfl) ?_
        refine lv_iconst (v := nI 0) hx hb dX7_readPackets_53 (by decide) ?_
        refine n_iald C h (v := (gD q.2.1) 0) (List.mem_append_right _ haF2) (show 0 < q.2.1.length by omega) (by omega) rfl dX7_readPackets_54 ?_
        refine lv_iconst (v := nI 3) hx hb dX7_readPackets_55 (by decide) ?_
        refine n_icmp_ne (tgt := 78) hx hb (by omega) (by omega) dX7_readPackets_56 (by decide) (fun c56 => ?_) (fun c56 => ?_)
        · refine lv_iconst (v := nI 0) hx hb dX7_readPackets_78 (by decide) ?_
          refine n_top (y := bZ (frOk q.2.1)) (by unfold frOk; first | (rw [decide_eq_false c49]; rfl) | (rw [decide_eq_false c56, Bool.false_and, Bool.and_false]; rfl) | (rw [decide_eq_false c63, Bool.false_and, Bool.and_false, Bool.and_false]; rfl) | (rw [decide_eq_false c71, Bool.and_false, Bool.and_false, Bool.and_false]; rfl)) ?_
          exact jg   _ _ h _ (lv_sub hl [0, 1, 2, 3] rfl)
        · refine lv_aload_n hx hb dX7_readPackets_59 rfl (lv_at hl 0 rfl) ?_
          refine lv_iconst (v := nI 3) hx hb dX7_readPackets_60 (by decide) ?_
          refine n_iald C h (v := (gD q.2.1) 3) (List.mem_append_right _ haF2) (show 3 < q.2.1.length by omega) (by omega) rfl dX7_readPackets_61 ?_
          refine lv_iconst (v := nI 1) hx hb dX7_readPackets_62 (by decide) ?_
          refine n_icmp_ne (tgt := 78) hx hb (by omega) (by omega) dX7_readPackets_63 (by decide) (fun c63 => ?_) (fun c63 => ?_)
          · refine lv_iconst (v := nI 0) hx hb dX7_readPackets_78 (by decide) ?_
            refine n_top (y := bZ (frOk q.2.1)) (by unfold frOk; first | (rw [decide_eq_false c49]; rfl) | (rw [decide_eq_false c56, Bool.false_and, Bool.and_false]; rfl) | (rw [decide_eq_false c63, Bool.false_and, Bool.and_false, Bool.and_false]; rfl) | (rw [decide_eq_false c71, Bool.and_false, Bool.and_false, Bool.and_false]; rfl)) ?_
            exact jg   _ _ h _ (lv_sub hl [0, 1, 2, 3] rfl)
          · refine lv_aload_n hx hb dX7_readPackets_66 rfl (lv_at hl 0 rfl) ?_
            refine lv_bipush (v := nI 12) hx hb dX7_readPackets_67 (by decide) ?_
            refine n_iald C h (v := (gD q.2.1) 12) (List.mem_append_right _ haF2) (show 12 < q.2.1.length by omega) (by omega) rfl dX7_readPackets_69 ?_
            refine lv_iconst (v := nI 1) hx hb dX7_readPackets_70 (by decide) ?_
            refine n_icmp_ne (tgt := 78) hx hb (by omega) (by omega) dX7_readPackets_71 (by decide) (fun c71 => ?_) (fun c71 => ?_)
            · refine lv_iconst (v := nI 0) hx hb dX7_readPackets_78 (by decide) ?_
              refine n_top (y := bZ (frOk q.2.1)) (by unfold frOk; first | (rw [decide_eq_false c49]; rfl) | (rw [decide_eq_false c56, Bool.false_and, Bool.and_false]; rfl) | (rw [decide_eq_false c63, Bool.false_and, Bool.and_false, Bool.and_false]; rfl) | (rw [decide_eq_false c71, Bool.and_false, Bool.and_false, Bool.and_false]; rfl)) ?_
              exact jg   _ _ h _ (lv_sub hl [0, 1, 2, 3] rfl)
            · refine lv_iconst (v := nI 1) hx hb dX7_readPackets_74 (by decide) ?_
              refine lv_goto (tgt := 79) hx hb dX7_readPackets_75 (by decide) ?_
              refine n_top (y := bZ (frOk q.2.1)) (by unfold frOk; rw [decide_eq_true c49, decide_eq_true c56, decide_eq_true c63, decide_eq_true c71]; rfl) ?_
              exact jg   _ _ h _ (lv_sub hl [0, 1, 2, 3] rfl)
  · have hpn := pktT_ne (of_decide_eq_false c28)
    have hU : rpS rw dc = (-1 - nI 0, [], []) := by unfold rpS; rw [hpn]
    subst hQ
    have h : Wd D B s (mw dA h0 ad M2 ++ (F ++ (E2))) H locs := by (try simp only [List.append_assoc] at h ⊢); exact h
    exact ret_v C hr hlocks h (M2, E2) (⟨hI2, hKl1.trans hKm2.kl, by rw [hU]; exact h332.trans (pktT_m hpn), fun z => by rw [hU] at z; exact absurd z hz0⟩) rfl rfl (by omega) (by omega) dX7_readPackets_31
