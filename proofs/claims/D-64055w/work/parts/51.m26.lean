set_option maxRecDepth 100000
set_option maxHeartbeats 400000 in
set_option maxRecDepth 100000 in
theorem c7_taken (l : Launch) (D : va_G) (dA : Nat → ClassId) (B : Nat) (Z : State → Prop) (hZ : Stab B Z) (h0 : Nat) (ad : Nat → Nat) (M : MS) (F : va_W) (n : Nat) (h1 : mI M 1 = nI n) :
    Ct (S := Unit) l D dA B Z yX7_taken cX7_taken 1 (some ((.array .int))) 1 0 0 [.ref h0] (mw dA h0 ad M ++ F) (fun _ => True) (fun _ => some (.ref (ad 2))) (fun _ => mw dA h0 ad (sI (sI M 5 (nI n)) 1 (nI 0)) ++ F) := by
  refine Ct.mk2 (by decide) (Nat.le_of_ble_eq_true rfl) hZ ?_
  intro p e R s m args below meth c ls Q C hr hlocks hin hQ hl h
  have C0 := C
  obtain ⟨hx, hb, hml, hown, hts, -⟩ := C0
  have hl : lv_has ls 1 [(0, .ref h0)] := hl
  refine lv_aload_n hx hb dX7_taken_0 rfl (lv_at hl 0 rfl) ?_
  refine lv_aload_n hx hb dX7_taken_1 rfl (lv_at hl 0 rfl) ?_
  refine m_gi C h 1 (by decide) rfl rfl q1871 (v := nI n) h1 dX7_taken_2 ?_
  refine m_pi C h 5 (v := nI n) (by decide) rfl rfl rfl q1875 rfl rfl dX7_taken_5 (fun H locs h => ?_)
  refine lv_aload_n hx hb dX7_taken_8 rfl (lv_at hl 0 rfl) ?_
  refine lv_iconst (v := nI 0) hx hb dX7_taken_9 (by decide) ?_
  refine m_pi C h 1 (v := nI 0) (by decide) rfl rfl rfl q1871 rfl rfl dX7_taken_10 (fun H locs h => ?_)
  refine lv_aload_n hx hb dX7_taken_13 rfl (lv_at hl 0 rfl) ?_
  refine m_gc C h 2 (by decide) rfl rfl q1872 dX7_taken_14 ?_
  subst hQ
  exact ret_a C hr (Or.inr ⟨_, rfl⟩) hlocks h () trivial (Or.inr ⟨_, rfl⟩) rfl rfl (by omega) (by omega) dX7_taken_17

theorem MSt.kn {dA : Nat → ClassId} {F F' : va_W} {ad : Nat → Nat} {M M' : MS} {tp dc ou : List Nat} {L : List PK} (h : MSt dA F ad M tp dc ou L) (hk : Kn M M') (hs : ∀ x ∈ F, x ∈ F') (h1 : mI M' 1 = nI 0) (hI : MI M') (h6 : ∀ j, mG M' 6 j < 256) (h37 : ∃ a b : Nat, mI M' 37 = nI a ∧ mI M' 38 = nI b) : MSt dA F' ad M' [] dc ou L := by
  obtain ⟨-, b1, c1, d1, e1, -⟩ := h
  refine ⟨⟨h1, fun j hj => absurd hj (Nat.not_lt_zero _), fun x hx => absurd hx List.not_mem_nil, Nat.zero_le _⟩, ⟨(hk.1 3 (by decide) (by decide)).trans b1.1, fun j hj => by rw [hk.2.2.1 4 (by decide) (by decide)]; exact b1.2.1 j hj, b1.2.2⟩, ⟨(hk.1 10 (by decide) (by decide)).trans c1.1, fun j hj => by rw [hk.2.2.1 11 (by decide) (by decide)]; exact c1.2.1 j hj, c1.2.2⟩, ⟨d1.1.up hs (hk.2.2.1 13 (by decide) (by decide)) (hk.2.2.2 14 (by decide) (by decide)) (hk.2.2.2 15 (by decide) (by decide)), (hk.1 12 (by decide) (by decide)).trans d1.2.1, d1.2.2⟩, ?_, hI, h6, h37⟩
  exact ⟨(hk.2.1 13 (by decide) (by decide)).trans e1.1, (hk.2.1 14 (by decide) (by decide)).trans e1.2.1, (hk.2.1 15 (by decide) (by decide)).trans e1.2.2.1, (hk.2.1 17 (by decide) (by decide)).trans e1.2.2.2.1, (hk.2.1 18 (by decide) (by decide)).trans e1.2.2.2.2.1, (hk.2.1 19 (by decide) (by decide)).trans e1.2.2.2.2.2⟩
/-- the end of a join: the new ring stands in the place of the old one -/
def endM (ad : Nat → Nat) (M : MS) (v : Int32) : MS := sR (sR (sR (sI (sR (sR (sR M 13 (some (ad 17))) 14 (some (ad 18))) 15 (some (ad 19))) 12 v) 17 (some (ad 13))) 18 (some (ad 14))) 19 (some (ad 15))
theorem MSt.sw {dA : Nat → ClassId} {F F' : va_W} {ad : Nat → Nat} {M M' : MS} {tp dc ou : List Nat} {L L' : List PK} (h : MSt dA F ad M tp dc ou L) (hk : Kn M M') (h1 : mI M' 1 = nI 0) (hI : MI M') (h6 : ∀ j, mG M' 6 j < 256) (h37 : ∃ a b : Nat, mI M' 37 = nI a ∧ mI M' 38 = nI b) (hR : RingAt dA F' M' 17 18 19 L') (hP : PKs L') : MSt dA F' (adS ad) (swM (endM ad M' (nI L'.length))) [] dc ou L' := by
  obtain ⟨-, b1, c1, d1, e1, -⟩ := h
  refine ⟨⟨h1, fun j hj => absurd hj (Nat.not_lt_zero _), fun x hx => absurd hx List.not_mem_nil, Nat.zero_le _⟩, ⟨(hk.1 3 (by decide) (by decide)).trans b1.1, fun j hj => ?_, b1.2.2⟩, ⟨(hk.1 10 (by decide) (by decide)).trans c1.1, fun j hj => ?_, c1.2.2⟩, ⟨fun j p hj => hR j p hj, rfl, hP⟩, ⟨rfl, rfl, rfl, rfl, rfl, rfl⟩, hI, h6, h37⟩
  · show mG M' 4 j = _
    rw [hk.2.2.1 4 (by decide) (by decide)]; exact b1.2.1 j hj
  · show mG M' 11 j = _
    rw [hk.2.2.1 11 (by decide) (by decide)]; exact c1.2.1 j hj

set_option maxHeartbeats 1000000 in
set_option maxRecDepth 100000 in
theorem c7_join (l : Launch) (D : va_G) (dA : Nat → ClassId) (B : Nat) (Z : State → Prop) (hZ : Stab B Z) (h0 : Nat) (ad : Nat → Nat) (M : MS) (F : va_W) (tp dc ou : List Nat) (L : List PK) (Pk : RK → Prop) (hzs : ZS dA B Z) (hzR : ∀ U : State, Z U → ∃ t, va_Z "SignetRingModel" "ROUNDS" "[I" (.ref t) (bA B) U U.heap ∧ va_T .int t 64 (fun j => .int (K2 j)) (bA B) U U.heap) (hS : MSt dA F ad M tp dc ou L) (hLl : L.length ≤ 2600) (hw0 : wK L ≤ 8) (hPs : ∀ x kd bd y, Pk x → pkS x kd bd = some y → Pk y) (hPc : ∀ x, Pk x → cntF x.1 6 x.1.length 0 ≤ 16 ∧ ∀ k, x.2.1 = some k → cntF x.1 14 (sk (notK 6) x.1 (k + 1) - (k + 1)) (k + 1) ≤ 8) (hP0 : Pk (L, none, none, 0)) :
    Ct (S := (Nat → Nat) × MS × va_W) l D dA B Z yX7_join cX7_join 7 (some .int) 11 (2 * tp.length + 60) (16 * tp.length + 5000) [.ref h0] (mw dA h0 ad M ++ F) (fun u => MSt dA (F ++ u.2.2) u.1 u.2.1 [] dc ou (joinS tp L).2 ∧ mI u.2.1 0 = 0) (fun _ => some (.int (joinS tp L).1)) (fun u => mw dA h0 u.1 u.2.1 ++ (F ++ u.2.2)) := by
  refine Ct.mk2 (by decide) (Nat.le_of_ble_eq_true rfl) hZ ?_
  intro p e R s m args below meth c ls Q C hr hlocks hin hQ hl h
  have C0 := C
  obtain ⟨hx, hb, hml, hown, hts, -⟩ := C0
  have hl : lv_has ls 7 [(0, .ref h0)] := hl
  have hS0 := hS
  obtain ⟨⟨t1, t2, t3, t4⟩, -, -, ⟨r1, r2, r3⟩, ⟨f13, f14, f15, f17, f18, f19⟩, hI, h6, fr0, to0, h37, h38⟩ := hS
  refine lv_aload_n hx hb dX7_join_0 rfl (lv_at hl 0 rfl) ?_
  refine lv_iconst (v := nI 0) hx hb dX7_join_1 (by decide) ?_
  refine m_pi C h 0 (v := nI 0) (by decide) rfl rfl rfl q1870 rfl rfl dX7_join_2 (fun H locs h => ?_)
  refine lv_aload_n hx hb dX7_join_5 rfl (lv_at hl 0 rfl) ?_
  refine lv_iconst (v := nI 0) hx hb dX7_join_6 (by decide) ?_
  refine m_pi C h 33 (v := nI 0) (by decide) rfl rfl rfl q1903 rfl rfl dX7_join_7 (fun H locs h => ?_)
  refine lv_aload_n hx hb dX7_join_10 rfl (lv_at hl 0 rfl) ?_
  refine lv_aload_n hx hb dX7_join_11 rfl (lv_at hl 0 rfl) ?_
  refine m_gi C h 12 (by decide) rfl rfl q1882 (v := nI L.length) r2 dX7_join_12 ?_
  refine m_pi C h 16 (v := nI L.length) (by decide) rfl rfl rfl q1886 rfl rfl dX7_join_15 (fun H locs h => ?_)
  refine lv_iconst (v := nI 0) hx hb dX7_join_18 (by decide) ?_
  refine lv_istore_n (lv' := [(1, .int (nI 0)), (0, .ref h0)]) hx hb dX7_join_19 rfl hl (by decide) rfl (fun ls hl => ?_)
  have h : Wd D B s (mw dA h0 ad (vM (sI (sI M 0 (nI 0)) 33 (nI 0)) (nI L.length) (mixF 0 (mG M 13) (mG M 17)) (mixF 0 (mA M 14) (mA M 18)) (mixF 0 (mA M 15) (mA M 19))) ++ F) H locs := by
    rw [mixF_0, mixF_0, mixF_0]
    have e9 : vM (sI (sI M 0 (nI 0)) 33 (nI 0)) (nI L.length) (mG M 17) (mA M 18) (mA M 19) = sI (sI (sI M 0 (nI 0)) 33 (nI 0)) 16 (nI L.length) := MS.ext rfl rfl rfl (upN_same _ _ _ rfl) rfl (by
      show upN (upN M.2.2.2.2.2 18 (M.2.2.2.2.2 18)) 19 (M.2.2.2.2.2 19) = M.2.2.2.2.2
      rw [upN_same M.2.2.2.2.2 18 _ rfl, upN_same M.2.2.2.2.2 19 _ rfl])
    rw [e9]; exact h
  have loop : ∀ (nn : Nat) (k : Nat), (k ≤ L.length) → L.length - k < nn → ∀ (H : Heap) (locs : List Loc), Wd D B s (mw dA h0 ad (vM (sI (sI M 0 (nI 0)) 33 (nI 0)) (nI L.length) (mixF k (mG M 13) (mG M 17)) (mixF k (mA M 14) (mA M 18)) (mixF k (mA M 15) (mA M 19))) ++ F) H locs → ∀ (ls : Array Slot), lv_has ls 7 [(0, .ref h0), (1, .int (nI k))] → W p l e R s m args below meth c H locs 0 0 Q (F0 m 20 ls []) := by
    intro nn
    induction nn with
    | zero => intro k  hi0 hme; exact absurd hme (Nat.not_lt_zero _)
    | succ nn ih =>
      intro k  hi0 hme H locs h ls hl
      refine lv_iload_n hx hb dX7_join_20 rfl (lv_at hl 1 rfl) ?_
      refine lv_aload_n hx hb dX7_join_21 rfl (lv_at hl 0 rfl) ?_
      refine m_gi C h 12 (by decide) rfl rfl q1882 (v := nI L.length) r2 dX7_join_22 ?_
      refine n_icmp_ge (tgt := 70) hx hb (by omega) (by omega) dX7_join_25 (by decide) (fun c25 => ?_) (fun c25 => ?_)
      · have hkl : k = L.length := by omega
        subst hkl
        obtain ⟨M1, hM1⟩ : ∃ z, z = vM (sI (sI M 0 (nI 0)) 33 (nI 0)) (nI L.length) (mixF L.length (mG M 13) (mG M 17)) (mixF L.length (mA M 14) (mA M 18)) (mixF L.length (mA M 15) (mA M 19)) := ⟨_, rfl⟩
        rw [← hM1] at h
        have hK1 : Kn M M1 := by rw [hM1]; exact (((Kn.rfl' M).sI (by decide)).sI (by decide)).trans (vM_kn _ _ _ _ _)
        have hN1 : NewR dA F ad M1 L := by rw [hM1]; exact ⟨r1.mix rfl rfl rfl, rfl, f17, f18, f19⟩
        have hI1 : MI M1 := by rw [hM1]; exact hI
        have h61 : ∀ j, mG M1 6 j < 256 := by rw [hM1]; exact h6
        have t11 : mI M1 1 = nI tp.length := by rw [hM1]; exact t1
        have h331 : mI M1 33 = 0 := by rw [hM1]; rfl
        have h01 : mI M1 0 = 0 := by rw [hM1]; rfl
        have h371 : mI M1 37 = nI fr0 := by rw [hM1]; exact h37
        have h381 : mI M1 38 = nI to0 := by rw [hM1]; exact h38
        have t21 : ∀ j, j < tp.length → mG M1 2 j = gD tp j := by rw [hM1]; exact t2
        have hl : lv_has ls 7 [(0, .ref h0)] := lv_sub hl [0] rfl
        refine lv_aload_n hx hb dX7_join_70 rfl (lv_at hl 0 rfl) ?_
        refine call_V (As := []) (rest := []) (n := 0) C h (c7_taken l D dA B Z hZ h0 ad M1 F tp.length t11) (lw_V q2108 q2110 qs43 q138 q2111) (by decide +kernel) (ci := 5) rfl rfl mw_mem0 (by decide) (by decide) rfl hl rfl (Nat.le_of_ble_eq_true rfl) dX7_join_71 (by omega) (fun _ H locs _ h => ?_)
        obtain ⟨M2, hM2⟩ : ∃ z, z = sI (sI M1 5 (nI tp.length)) 1 (nI 0) := ⟨_, rfl⟩
        rw [← hM2] at h
        have hK2 : Kn M M2 := by rw [hM2]; exact hK1.trans (((Kn.rfl' _).sI (by decide)).sI (by decide))
        have hN2 : NewR dA F ad M2 L := by rw [hM2]; exact hN1
        have hI2 : MI M2 := by rw [hM2]; exact hI1
        have h62 : ∀ j, mG M2 6 j < 256 := by rw [hM2]; exact h61
        have h332 : mI M2 33 = 0 := by rw [hM2]; exact h331
        have h02 : mI M2 0 = 0 := by rw [hM2]; exact h01
        have h372 : mI M2 37 = nI fr0 := by rw [hM2]; exact h371
        have h382 : mI M2 38 = nI to0 := by rw [hM2]; exact h381
        have t22 : ∀ j, j < tp.length → mG M2 2 j = gD tp j := by rw [hM2]; exact t21
        have h12 : mI M2 1 = nI 0 := by rw [hM2]; rfl
        have h52 : mI M2 5 = nI tp.length := by rw [hM2]; rfl
        refine lv_astore_n (lv' := [(1, .ref (ad 2)), (0, .ref h0)]) hx hb dX7_join_74 rfl hl (by decide) rfl (fun ls hl => ?_)
        refine lv_aload_n hx hb dX7_join_75 rfl (lv_at hl 1 rfl) ?_
        refine m_gi C h 5 (by decide) rfl rfl q1875 (v := nI tp.length) h52 dX7_join_76 ?_
        refine lv_istore_n (lv' := [(2, .int (nI tp.length)), (1, .ref (ad 2)), (0, .ref h0)]) hx hb dX7_join_79 rfl hl (by decide) rfl (fun ls hl => ?_)
        have j120 : ∀ (rk n9 : Nat) (t : Int32) (M5 : MS) (E : va_W), (rk = 2 ∨ rk = 6) → (Kn M M5) → (NewR dA (F ++ E) ad M5 L) → (MI M5) → (∀ j, mG M5 6 j < 256) → (∃ a b : Nat, mI M5 37 = nI a ∧ mI M5 38 = nI b) → (mI M5 1 = nI 0) → (mI M5 0 = 0) → (mI M5 33 = t) → ((rowS tp).1 = t) → (t = 0 → (n9 = (rowS tp).2.length ∧ (∀ j, j < n9 → mG M5 rk j = gD (rowS tp).2 j) ∧ byt (rowS tp).2 ∧ n9 ≤ tp.length)) → ∀ (H : Heap) (locs : List Loc), Wd D B s (mw dA h0 ad M5 ++ (F ++ E)) H locs → ∀ (ls : Array Slot), lv_has ls 7 [(0, .ref h0), (1, .ref (ad rk)), (2, .int (nI n9))] → W p l e R s m args below meth c H locs 28 4800 Q (F0 m 120 ls []) := by
          intro rk n9  t  M5  E  hrk hK5 hN5 hI5 h65 h375 h15 h05 h335 hrow hok H locs h ls hl
          refine lv_iconst (v := nI 0) hx hb dX7_join_120 (by decide) ?_
          refine lv_istore_n (lv' := [(3, .int (nI 0)), (0, .ref h0), (1, .ref (ad rk)), (2, .int (nI n9))]) hx hb dX7_join_121 rfl hl (by decide) rfl (fun ls hl => ?_)
          refine lv_aload_n hx hb dX7_join_122 rfl (lv_at hl 1 rfl) ?_
          refine m_gi C h 33 (by decide) rfl rfl q1903 (v := t) h335 dX7_join_123 ?_
          refine lv_if_ne (tgt := 140) hx hb dX7_join_126 (by decide) (fun c126 => ?_) (fun c126 => ?_)
          · refine lv_aload_n hx hb dX7_join_140 rfl (lv_at hl 1 rfl) ?_
            refine m_gi C h 33 (by decide) rfl rfl q1903 (v := t) h335 dX7_join_141 ?_
            refine lv_if_eq (tgt := 152) hx hb dX7_join_144 (by decide) (fun c144 => by exfalso; exact c126 c144) (fun c144 => ?_)
            refine lv_aload_n hx hb dX7_join_147 rfl (lv_at hl 1 rfl) ?_
            refine m_gi C h 33 (by decide) rfl rfl q1903 (v := t) h335 dX7_join_148 ?_
            subst hQ
            have hjs : joinS tp L = (t, L) := by unfold joinS; rw [if_neg (by rw [hrow]; exact c126), hrow]
            exact ret_i C hr hlocks h (ad, M5, E) (by rw [hjs]; exact ⟨hS0.kn hK5 (fun z hz => List.mem_append_left _ hz) h15 hI5 h65 h375, h05⟩) (by rw [hjs]) rfl (by omega) (by omega) dX7_join_151
          · refine lv_aload_n hx hb dX7_join_129 rfl (lv_at hl 1 rfl) ?_
            refine lv_aload_n hx hb dX7_join_130 rfl (lv_at hl 2 rfl) ?_
            refine lv_iload_n hx hb dX7_join_131 rfl (lv_at hl 3 rfl) ?_
            refine call_V (As := [.ref (ad rk), .int (nI n9)]) (rest := []) (n := 2) C h (c7_open l D dA B Z hZ h0 ad M5 (F ++ E) (ad rk) n9) (lw_V q2177 q2179 qs53 q138 q2180) (by decide +kernel) (ci := 5) rfl rfl mw_mem0 (by decide) (by decide) rfl hl rfl (Nat.le_of_ble_eq_true rfl) dX7_join_132 (by omega) (fun _ H locs _ h => ?_)
            have ht0 : t = 0 := c126
            obtain ⟨o1, o2, o3, o4⟩ := hok ht0
            subst o1
            obtain ⟨M6, hM6⟩ : ∃ z, z = (sI (sI (sI (sR M5 39 (some (ad rk))) 40 (nI (rowS tp).2.length)) 41 (nI 0)) 42 (nI 0)) := ⟨_, rfl⟩
            rw [← hM6] at h
            have hK6 : Kn M M6 := by rw [hM6]; exact hK5.trans (((((Kn.rfl' _).sR (by decide)).sI (by decide)).sI (by decide)).sI (by decide))
            have hN6 : NewR dA (F ++ E) ad M6 L := hN5.kj (fun z hz => hz) (by rw [hM6]; rfl) (by rw [hM6]; rfl) (by rw [hM6]; rfl) (by rw [hM6]; rfl) (by rw [hM6]; rfl) (by rw [hM6]; rfl) (by rw [hM6]; rfl)
            have hI6 : MI M6 := by rw [hM6]; exact hI5
            have h66 : mG M6 = mG M5 := by rw [hM6]; rfl
            refine lv_aload_n hx hb dX7_join_135 rfl (lv_at hl 1 rfl) ?_
            refine call_V (As := []) (rest := []) (n := 0) C h (c7_readKeys l D dA B Z hZ h0 ad M6 (F ++ E) (rowS tp).2 rk L Pk hzs hzR hI6 hN6 r3 hLl hw0 hrk (by rw [hM6]; rfl) (by rw [hM6]; rfl) (fun j hj => by rw [h66]; exact o2 j hj) (by omega) o3 (by rw [hM6]; rfl) (by rw [hM6]; show mI M5 33 = 0; rw [h335]; exact ht0) hPs hPc hP0) (lw_V q2181 q2183 qs54 q138 q2184) (by decide +kernel) (ci := 5) rfl rfl mw_mem0 (by decide) (by decide) rfl hl rfl (Nat.le_of_ble_eq_true rfl) dX7_join_136 (by omega) (fun uk H locs huk h => ?_)
            obtain ⟨M7, mn, E7⟩ := uk
            obtain ⟨hI7, hJ7, h337, hok7, hmn⟩ := huk
            have hI7 : MI M7 := hI7
            have hJ7 : Kj M6 M7 := hJ7
            have h337 : mI M7 33 = (keysR (rowS tp).2 L).1 := h337
            have hmn : mn ≤ 5000 := hmn
            have hK7 : Kn M M7 := hK6.trans hJ7.kn
            have h : Wd D B s (mw dA h0 ad M7 ++ (F ++ (E ++ E7))) H locs := by rw [← List.append_assoc F E E7]; exact h
            have h17 : mI M7 1 = nI 0 := (hJ7.1 1 (by decide) (by decide)).trans (by rw [hM6]; exact h15)
            have h07 : mI M7 0 = 0 := (hJ7.1 0 (by decide) (by decide)).trans (by rw [hM6]; exact h05)
            have h677 : ∀ j, mG M7 6 j < 256 := by rw [hJ7.2.2.2.1 6 (by decide) (by decide) (by decide), h66]; exact h65
            have h377 : ∃ a b : Nat, mI M7 37 = nI a ∧ mI M7 38 = nI b := by
              obtain ⟨a, b, z1, z2⟩ := h375
              exact ⟨a, b, (hJ7.1 37 (by decide) (by decide)).trans (by rw [hM6]; exact z1), (hJ7.1 38 (by decide) (by decide)).trans (by rw [hM6]; exact z2)⟩
            show W p l e R s m args below meth c H locs (28 + 0 + (2 * (rowS tp).2.length + 10)) (4800 + 0 + (16 * (rowS tp).2.length)) Q (F0 m 139 ls [.int (nI mn)])
            have hjs : joinS tp L = if (keysR (rowS tp).2 L).1 = 0 then (nI (keysR (rowS tp).2 L).2.2.2.2, (keysR (rowS tp).2 L).2.1) else ((keysR (rowS tp).2 L).1, L) := by unfold joinS; rw [if_pos (by rw [hrow]; exact ht0)]
            refine lv_istore_n (lv' := [(3, .int (nI mn)), (0, .ref h0), (1, .ref (ad rk)), (2, .int (nI ((rowS tp).2.length)))]) hx hb dX7_join_139 rfl hl (by decide) rfl (fun ls hl => ?_)
            refine lv_aload_n hx hb dX7_join_140 rfl (lv_at hl 1 rfl) ?_
            refine m_gi C h 33 (by decide) rfl rfl q1903 (v := (keysR (rowS tp).2 L).1) h337 dX7_join_141 ?_
            refine lv_if_eq (tgt := 152) hx hb dX7_join_144 (by decide) (fun c144 => ?_) (fun c144 => ?_)
            · obtain ⟨p1, p2, p3⟩ := hok7 c144
              have p1 : mn = (keysR (rowS tp).2 L).2.2.2.2 := p1
              obtain ⟨L7, hL7⟩ : ∃ z, z = (keysR (rowS tp).2 L).2.1 := ⟨_, rfl⟩
              rw [← List.append_assoc F E E7] at h
              rw [List.append_assoc F E E7] at h
              have p3 : NewR dA (F ++ (E ++ E7)) ad M7 L7 := by rw [hL7, ← List.append_assoc F E E7]; exact p3
              have p4 : PKs L7 := by rw [hL7]; exact p2.1
              obtain ⟨g13, g14, g15⟩ : mR M7 13 = some (ad 13) ∧ mR M7 14 = some (ad 14) ∧ mR M7 15 = some (ad 15) := ⟨(hK7.2.1 13 (by decide) (by decide)).trans f13, (hK7.2.1 14 (by decide) (by decide)).trans f14, (hK7.2.1 15 (by decide) (by decide)).trans f15⟩
              refine lv_aload_n hx hb dX7_join_152 rfl (lv_at hl 1 rfl) ?_
              refine m_gr C h 13 (by decide) rfl rfl q1883 (v := some (ad 13)) g13 dX7_join_153 ?_
              refine lv_astore (lv' := [(4, .ref (ad 13)), (3, .int (nI mn)), (0, .ref h0), (1, .ref (ad rk)), (2, .int (nI ((rowS tp).2.length)))]) hx hb dX7_join_156 hl (by decide) rfl (fun ls hl => ?_)
              refine lv_aload_n hx hb dX7_join_158 rfl (lv_at hl 2 rfl) ?_
              refine m_gr C h 14 (by decide) rfl rfl q1884 (v := some (ad 14)) g14 dX7_join_159 ?_
              refine lv_astore (lv' := [(5, .ref (ad 14)), (4, .ref (ad 13)), (3, .int (nI mn)), (0, .ref h0), (1, .ref (ad rk)), (2, .int (nI ((rowS tp).2.length)))]) hx hb dX7_join_162 hl (by decide) rfl (fun ls hl => ?_)
              refine lv_aload_n hx hb dX7_join_164 rfl (lv_at hl 3 rfl) ?_
              refine m_gr C h 15 (by decide) rfl rfl q1885 (v := some (ad 15)) g15 dX7_join_165 ?_
              refine lv_astore (lv' := [(6, .ref (ad 15)), (5, .ref (ad 14)), (4, .ref (ad 13)), (3, .int (nI mn)), (0, .ref h0), (1, .ref (ad rk)), (2, .int (nI ((rowS tp).2.length)))]) hx hb dX7_join_168 hl (by decide) rfl (fun ls hl => ?_)
              refine lv_aload_n hx hb dX7_join_170 rfl (lv_at hl 4 rfl) ?_
              refine lv_aload_n hx hb dX7_join_171 rfl (lv_at hl 4 rfl) ?_
              refine m_gr C h 17 (by decide) rfl rfl q1887 (v := some (ad 17)) p3.2.2.1 dX7_join_172 ?_
              refine m_pr C h 13 (v := some (ad 17)) (by decide) rfl rfl rfl q1883 rfl rfl dX7_join_175 (fun H locs h => ?_)
              refine lv_aload_n hx hb dX7_join_178 rfl (lv_at hl 4 rfl) ?_
              refine lv_aload_n hx hb dX7_join_179 rfl (lv_at hl 4 rfl) ?_
              refine m_gr C h 18 (by decide) rfl rfl q1888 (v := some (ad 18)) p3.2.2.2.1 dX7_join_180 ?_
              refine m_pr C h 14 (v := some (ad 18)) (by decide) rfl rfl rfl q1884 rfl rfl dX7_join_183 (fun H locs h => ?_)
              refine lv_aload_n hx hb dX7_join_186 rfl (lv_at hl 4 rfl) ?_
              refine lv_aload_n hx hb dX7_join_187 rfl (lv_at hl 4 rfl) ?_
              refine m_gr C h 19 (by decide) rfl rfl q1889 (v := some (ad 19)) p3.2.2.2.2 dX7_join_188 ?_
              refine m_pr C h 15 (v := some (ad 19)) (by decide) rfl rfl rfl q1885 rfl rfl dX7_join_191 (fun H locs h => ?_)
              refine lv_aload_n hx hb dX7_join_194 rfl (lv_at hl 4 rfl) ?_
              refine lv_aload_n hx hb dX7_join_195 rfl (lv_at hl 4 rfl) ?_
              refine m_gi C h 16 (by decide) rfl rfl q1886 (v := nI L7.length) p3.2.1 dX7_join_196 ?_
              refine m_pi C h 12 (v := nI L7.length) (by decide) rfl rfl rfl q1882 rfl rfl dX7_join_199 (fun H locs h => ?_)
              refine lv_aload_n hx hb dX7_join_202 rfl (lv_at hl 4 rfl) ?_
              refine lv_aload hx hb dX7_join_203 (lv_at hl 2 rfl) ?_
              refine m_pr C h 17 (v := some (ad 13)) (by decide) rfl rfl rfl q1887 rfl rfl dX7_join_205 (fun H locs h => ?_)
              refine lv_aload_n hx hb dX7_join_208 rfl (lv_at hl 4 rfl) ?_
              refine lv_aload hx hb dX7_join_209 (lv_at hl 1 rfl) ?_
              refine m_pr C h 18 (v := some (ad 14)) (by decide) rfl rfl rfl q1888 rfl rfl dX7_join_211 (fun H locs h => ?_)
              refine lv_aload_n hx hb dX7_join_214 rfl (lv_at hl 4 rfl) ?_
              refine lv_aload hx hb dX7_join_215 (lv_at hl 0 rfl) ?_
              refine m_pr C h 19 (v := some (ad 15)) (by decide) rfl rfl rfl q1889 rfl rfl dX7_join_217 (fun H locs h => ?_)
              refine lv_iload_n hx hb dX7_join_220 rfl (lv_at hl 3 rfl) ?_
              subst hQ
              rw [if_pos c144, ← hL7, ← p1] at hjs
              have hfin : mw dA h0 ad (endM ad M7 (nI L7.length)) ++ (F ++ (E ++ E7)) = mw dA h0 ad (endM ad M7 (nI L7.length)) ++ (F ++ (E ++ E7)) := rfl
              have h : Wd D B s (mw dA h0 ad (endM ad M7 (nI L7.length)) ++ (F ++ (E ++ E7))) H locs := h
              have h : Wd D B s (mw dA h0 (adS ad) (swM (endM ad M7 (nI L7.length))) ++ (F ++ (E ++ E7))) H locs := h.permL ((mw_sw dA h0 ad _).append_right _)
              exact ret_i C hr hlocks h (adS ad, swM (endM ad M7 (nI L7.length)), E ++ E7) (by rw [hjs]; exact ⟨hS0.sw hK7 h17 hI7 h677 h377 p3.1 p4, h07⟩) (by rw [hjs]) rfl (by omega) (by omega) dX7_join_221
            · refine lv_aload_n hx hb dX7_join_147 rfl (lv_at hl 1 rfl) ?_
              refine m_gi C h 33 (by decide) rfl rfl q1903 (v := (keysR (rowS tp).2 L).1) h337 dX7_join_148 ?_
              subst hQ
              rw [if_neg c144] at hjs
              exact ret_i C hr hlocks h (ad, M7, E ++ E7) (by rw [hjs]; exact ⟨hS0.kn hK7 (fun z hz => List.mem_append_left _ hz) h17 hI7 h677 h377, h07⟩) (by rw [hjs]) rfl (by omega) (by omega) dX7_join_151
        refine lv_iload_n hx hb dX7_join_80 rfl (lv_at hl 0 rfl) ?_
        refine n_if_le (tgt := 120) hx hb (by omega) dX7_join_81 (by decide) (fun c81 => ?_) (fun c81 => ?_)
        · have hrw : rowS tp = (0, tp) := if_pos (by omega)
          refine W.widen (k := 28) (n := 4800) (by omega) (by omega) ?_
          have h : Wd D B s (mw dA h0 ad M2 ++ (F ++ [])) H locs := by rw [List.append_nil]; exact h
          exact j120 2 tp.length 0 M2 [] (Or.inl rfl) hK2 (hN2.kj (fun z hz => List.mem_append_left _ hz) rfl rfl rfl rfl rfl rfl rfl) hI2 h62 (⟨fr0, to0, h372, h382⟩) h12 h02 h332 (by rw [hrw]) (fun _ => by rw [hrw]; exact ⟨rfl, t22, t3, Nat.le_refl _⟩) _ _ h _ (lv_sub hl [2, 1, 0] rfl)
        · have hb0 := byt_gD t3 0
          refine lv_aload_n hx hb dX7_join_84 rfl (lv_at hl 1 rfl) ?_
          refine lv_iconst (v := nI 0) hx hb dX7_join_85 (by decide) ?_
          refine n_iald C h (v := (mG M2 2) 0) (mw_memG (k := 2) (by decide)) (show 0 < 4096 by omega) (by decide) rfl dX7_join_86 ?_
          refine n_top (y := nI (gD tp 0)) (congrArg nI (t22 0 (by omega))) ?_
          refine lv_sipush (v := nI 128) hx hb dX7_join_87 (by decide) ?_
          refine n_icmp_ge (tgt := 120) hx hb (by omega) (by omega) dX7_join_90 (by decide) (fun c90 => ?_) (fun c90 => ?_)
          · have hrw : rowS tp = (0, tp) := if_pos (by omega)
            refine W.widen (k := 28) (n := 4800) (by omega) (by omega) ?_
            have h : Wd D B s (mw dA h0 ad M2 ++ (F ++ [])) H locs := by rw [List.append_nil]; exact h
            exact j120 2 tp.length 0 M2 [] (Or.inl rfl) hK2 (hN2.kj (fun z hz => List.mem_append_left _ hz) rfl rfl rfl rfl rfl rfl rfl) hI2 h62 (⟨fr0, to0, h372, h382⟩) h12 h02 h332 (by rw [hrw]) (fun _ => by rw [hrw]; exact ⟨rfl, t22, t3, Nat.le_refl _⟩) _ _ h _ (lv_sub hl [2, 1, 0] rfl)
          · refine lv_aload_n hx hb dX7_join_93 rfl (lv_at hl 2 rfl) ?_
            refine lv_aload_n hx hb dX7_join_94 rfl (lv_at hl 1 rfl) ?_
            refine lv_iload_n hx hb dX7_join_95 rfl (lv_at hl 0 rfl) ?_
            refine call_V (As := [.ref (ad 2), .int (nI tp.length)]) (rest := []) (n := 2) C h (c7_startLines l D dA B Z hZ h0 ad M2 F tp fr0 to0 t22 t4 t3 h332 h372 h382) (lw_V q2112 q2114 qs44 q138 q2115) (by decide +kernel) (ci := 5) rfl rfl mw_mem0 (by decide) (by decide) rfl hl rfl (Nat.le_of_ble_eq_true rfl) dX7_join_96 (by omega) (fun _ H locs _ h => ?_)
            have hl0 := lineS_0 (a := fr0) (b := to0) (l := tp) (by omega)
            have hly := lineS_y (l := tp) (u := (0, 0, 0, 0)) rfl (by show 0 < _; omega)
            have hlo := lineS_ok tp (0, 0, 0, 0) t4 (Nat.zero_le _)
            have hlt := lineS_t (l := tp) (u := (0, 0, 0, 0)) (v := (lineS tp (0, 0, 0, 0)).2) (b := (lineS tp (0, 0, 0, 0)).1) rfl hly
            have hle9 := lineS_le (l := tp) (u := (0, 0, 0, 0)) (v := (lineS tp (0, 0, 0, 0)).2) (b := (lineS tp (0, 0, 0, 0)).1) rfl (Nat.zero_le _) t4
            rw [hl0] at h
            have hrw : rowS tp = ((byLabS tp (lineS tp (0, 0, 0, 0)).2).1.1, (byLabS tp (lineS tp (0, 0, 0, 0)).2).2) := if_neg (by omega)
            obtain ⟨v9, hv9⟩ : ∃ z, z = (lineS tp (0, 0, 0, 0)).2 := ⟨_, rfl⟩
            rw [← hv9] at h hrw hlo hlt hle9
            obtain ⟨q1, q2, q3, q4⟩ := hlo hly
            have hv90 : v9.1 = 0 := hlt.1
            refine lv_aload_n hx hb dX7_join_99 rfl (lv_at hl 2 rfl) ?_
            refine m_gi C h 33 (by decide) rfl rfl q1903 (v := v9.1) rfl dX7_join_100 ?_
            refine lv_if_ne (tgt := 113) hx hb dX7_join_103 (by decide) (fun c103 => by exfalso; exact c103 hv90) (fun c103 => ?_)
            refine lv_aload_n hx hb dX7_join_106 rfl (lv_at hl 2 rfl) ?_
            refine call_V (As := []) (rest := []) (n := 0) C h (c7_signsByLabel l D dA B Z hZ h0 ad (sI (sR M2 34 (some (ad 2))) 35 (nI tp.length)) F tp v9 hzs rfl rfl t22 t4 t3 (by omega) h62 q1 q2 hv90) (lw_V q2132 q2134 qs48 q138 q2135) (by decide +kernel) (ci := 5) rfl rfl mw_mem0 (by decide) (by decide) rfl hl rfl (Nat.le_of_ble_eq_true rfl) dX7_join_107 (by omega) (fun zs H locs hzz h => ?_)
            obtain ⟨G9, n9, E9⟩ := zs
            obtain ⟨hz1, hz2⟩ := hzz
            obtain ⟨M3, hM3⟩ : ∃ z, z = (gM (sI (sR M2 34 (some (ad 2))) 35 (nI tp.length)) (byLabS tp v9).1.1 (nI (byLabS tp v9).1.2.1) (nI (byLabS tp v9).1.2.2.1) (nI (byLabS tp v9).1.2.2.2) G9) := ⟨_, rfl⟩
            have h : Wd D B s (mw dA h0 ad (gM (sI (sR M2 34 (some (ad 2))) 35 (nI tp.length)) (byLabS tp v9).1.1 (nI (byLabS tp v9).1.2.1) (nI (byLabS tp v9).1.2.2.1) (nI (byLabS tp v9).1.2.2.2) G9) ++ (F ++ E9)) H locs := h
            rw [← hM3] at h
            have hK3 : Kn M M3 := by rw [hM3]; exact (hK2.trans (((Kn.rfl' M2).sR (by decide)).sI (by decide))).trans (gM_kn _ _ _ _ _ _)
            have hN3 : NewR dA (F ++ E9) ad M3 L := hN2.kj (fun z hz => List.mem_append_left _ hz) (by rw [hM3]; rfl) (by rw [hM3]; rfl) (by rw [hM3]; rfl) (by rw [hM3]; rfl) (by rw [hM3]; rfl) (by rw [hM3]; rfl) (by rw [hM3]; rfl)
            have hI3 : MI M3 := by rw [hM3]; exact hI2
            have h63 : mG M3 6 = G9 := by rw [hM3]; rfl
            have h333 : mI M3 33 = (byLabS tp v9).1.1 := by rw [hM3]; rfl
            have h13 : mI M3 1 = nI 0 := by rw [hM3]; exact h12
            have h03 : mI M3 0 = 0 := by rw [hM3]; exact h02
            have h373 : mI M3 37 = nI (byLabS tp v9).1.2.2.1 ∧ mI M3 38 = nI (byLabS tp v9).1.2.2.2 := by rw [hM3]; exact ⟨rfl, rfl⟩
            show W p l e R s m args below meth c H locs (0 + 0 + 0 + 28) (0 + 0 + 0 + 4800) Q (F0 m 110 ls [.int (nI n9)])
            refine lv_goto (tgt := 114) hx hb dX7_join_110 (by decide) ?_
            refine lv_istore_n (lv' := [(2, .int (nI n9)), (1, .ref (ad 2)), (0, .ref h0)]) hx hb dX7_join_114 rfl hl (by decide) rfl (fun ls hl => ?_)
            refine lv_aload_n hx hb dX7_join_115 rfl (lv_at hl 2 rfl) ?_
            refine m_gc C h 6 (by decide) rfl rfl q1876 dX7_join_116 ?_
            refine lv_astore_n (lv' := [(1, .ref (ad 6)), (2, .int (nI n9)), (0, .ref h0)]) hx hb dX7_join_119 rfl hl (by decide) rfl (fun ls hl => ?_)
            refine W.widen (k := 28) (n := 4800) (by omega) (by omega) ?_
            exact j120 6 n9 (byLabS tp v9).1.1 M3 E9 (Or.inr rfl) hK3 hN3 hI3 (by rw [h63]; exact hz1) (⟨_, _, h373.1, h373.2⟩) h13 h03 h333 (by rw [hrw]) (fun q => by
              rw [hrw, h63]
              exact hz2 q) _ _ h _ (lv_sub hl [2, 0, 1] rfl)
      · obtain ⟨x9, hx9⟩ : ∃ z, L[k]? = some z := ⟨_, List.getElem?_eq_getElem (by omega)⟩
        obtain ⟨hx9k, ⟨qb, hqb, hqbF⟩, hx9s⟩ := r1 _ _ hx9
        have hx91 := (r3.at hx9).1
        refine lv_aload_n hx hb dX7_join_28 rfl (lv_at hl 0 rfl) ?_
        refine m_gr C h 17 (by decide) rfl rfl q1887 (v := some (ad 17)) f17 dX7_join_29 ?_
        refine lv_iload_n hx hb dX7_join_32 rfl (lv_at hl 1 rfl) ?_
        refine lv_aload_n hx hb dX7_join_33 rfl (lv_at hl 0 rfl) ?_
        refine m_gr C h 13 (by decide) rfl rfl q1883 (v := some (ad 13)) f13 dX7_join_34 ?_
        refine lv_iload_n hx hb dX7_join_37 rfl (lv_at hl 1 rfl) ?_
        refine n_iald C h (v := (mG (vM (sI (sI M 0 (nI 0)) 33 (nI 0)) (nI L.length) (mixF k (mG M 13) (mG M 17)) (mixF k (mA M 14) (mA M 18)) (mixF k (mA M 15) (mA M 19))) 13) k) (mw_memG (k := 13) (by decide)) (show k < 4700 by omega) (by decide) rfl dX7_join_38 ?_
        refine n_top (y := nI (mG M 13 k)) rfl ?_
        refine m_iast C h 17 (v := mG M 13 k) (by decide) (n := 4700) rfl (by omega) dX7_join_39 (fun H locs h => ?_)
        rw [vM_17] at h
        have h : Wd D B s (mw dA h0 ad (vM (sI (sI M 0 (nI 0)) 33 (nI 0)) (nI L.length) (upN (mixF k (mG M 13) (mG M 17)) k (mG M 13 k)) (mixF k (mA M 14) (mA M 18)) (mixF k (mA M 15) (mA M 19))) ++ F) H locs := h
        rw [mixF_s k (mG M 13) (mG M 17)] at h
        have h : Wd D B s (mw dA h0 ad (vM (sI (sI M 0 (nI 0)) 33 (nI 0)) (nI L.length) (mixF (k + 1) (mG M 13) (mG M 17)) (mixF k (mA M 14) (mA M 18)) (mixF k (mA M 15) (mA M 19))) ++ F) H locs := h
        refine lv_aload_n hx hb dX7_join_40 rfl (lv_at hl 0 rfl) ?_
        refine m_gr C h 18 (by decide) rfl rfl q1888 (v := some (ad 18)) f18 dX7_join_41 ?_
        refine lv_iload_n hx hb dX7_join_44 rfl (lv_at hl 1 rfl) ?_
        refine lv_aload_n hx hb dX7_join_45 rfl (lv_at hl 0 rfl) ?_
        refine m_gr C h 14 (by decide) rfl rfl q1884 (v := some (ad 14)) f14 dX7_join_46 ?_
        refine lv_iload_n hx hb dX7_join_49 rfl (lv_at hl 1 rfl) ?_
        refine n_aald C h (v := (mA (vM (sI (sI M 0 (nI 0)) 33 (nI 0)) (nI L.length) (mixF (k + 1) (mG M 13) (mG M 17)) (mixF k (mA M 14) (mA M 18)) (mixF k (mA M 15) (mA M 19))) 14) k) (mw_memA (k := 14) (by decide)) (show k < 4700 by omega) (by decide) rfl dX7_join_50 ?_
        refine n_topv (y := .ref qb) (by show va_rf (mA M 14 k) = _; rw [hqb]; rfl) ?_
        refine m_aast C h 18 (o := some qb) hzs (by decide) (n := 4700) rfl (by omega) (fun a e9 => by cases e9; exact ⟨_, _, List.mem_append_right _ hqbF⟩) dX7_join_51 (fun H locs h => ?_)
        rw [vM_18] at h
        have h : Wd D B s (mw dA h0 ad (vM (sI (sI M 0 (nI 0)) 33 (nI 0)) (nI L.length) (mixF (k + 1) (mG M 13) (mG M 17)) (upN (mixF k (mA M 14) (mA M 18)) k (mA M 14 k)) (mixF k (mA M 15) (mA M 19))) ++ F) H locs := by rw [hqb]; exact h
        rw [mixF_s k (mA M 14) (mA M 18)] at h
        have h : Wd D B s (mw dA h0 ad (vM (sI (sI M 0 (nI 0)) 33 (nI 0)) (nI L.length) (mixF (k + 1) (mG M 13) (mG M 17)) (mixF (k + 1) (mA M 14) (mA M 18)) (mixF k (mA M 15) (mA M 19))) ++ F) H locs := h
        refine lv_aload_n hx hb dX7_join_52 rfl (lv_at hl 0 rfl) ?_
        refine m_gr C h 19 (by decide) rfl rfl q1889 (v := some (ad 19)) f19 dX7_join_53 ?_
        refine lv_iload_n hx hb dX7_join_56 rfl (lv_at hl 1 rfl) ?_
        refine lv_aload_n hx hb dX7_join_57 rfl (lv_at hl 0 rfl) ?_
        refine m_gr C h 15 (by decide) rfl rfl q1885 (v := some (ad 15)) f15 dX7_join_58 ?_
        refine lv_iload_n hx hb dX7_join_61 rfl (lv_at hl 1 rfl) ?_
        refine n_aald C h (v := (mA (vM (sI (sI M 0 (nI 0)) 33 (nI 0)) (nI L.length) (mixF (k + 1) (mG M 13) (mG M 17)) (mixF (k + 1) (mA M 14) (mA M 18)) (mixF k (mA M 15) (mA M 19))) 15) k) (mw_memA (k := 15) (by decide)) (show k < 4700 by omega) (by decide) rfl dX7_join_62 ?_
        refine n_topv (y := va_rf (mA M 15 k)) rfl ?_
        refine m_aast C h 19 (o := mA M 15 k) hzs (by decide) (n := 4700) rfl (by omega) (hx9s.mem (fun z hz => List.mem_append_right _ hz)) dX7_join_63 (fun H locs h => ?_)
        rw [vM_19] at h
        have h : Wd D B s (mw dA h0 ad (vM (sI (sI M 0 (nI 0)) 33 (nI 0)) (nI L.length) (mixF (k + 1) (mG M 13) (mG M 17)) (mixF (k + 1) (mA M 14) (mA M 18)) (upN (mixF k (mA M 15) (mA M 19)) k (mA M 15 k))) ++ F) H locs := h
        rw [mixF_s k (mA M 15) (mA M 19)] at h
        have h : Wd D B s (mw dA h0 ad (vM (sI (sI M 0 (nI 0)) 33 (nI 0)) (nI L.length) (mixF (k + 1) (mG M 13) (mG M 17)) (mixF (k + 1) (mA M 14) (mA M 18)) (mixF (k + 1) (mA M 15) (mA M 19))) ++ F) H locs := h
        refine lv_iinc (v := nI (k + 1)) (lv' := [(1, .int (nI (k + 1))), (0, .ref h0)]) hx hb dX7_join_64 hl (k := 1) rfl (nI_add k 1) (by decide) rfl (fun ls hl => ?_)
        refine lv_goto (tgt := 20) hx hb dX7_join_67 (by decide) ?_
        exact ih (k + 1) (by omega) (by omega) _ _ h _ (lv_sub hl [1, 0] rfl)
  exact loop _ 0 (Nat.zero_le _) (Nat.lt_succ_self _) _ _ h _ (lv_sub hl [1, 0] rfl)
