set_option maxRecDepth 100000

theorem NewR.kj {dA : Nat → ClassId} {F F' : va_W} {ad : Nat → Nat} {M M' : MS} {L : List PK} (h : NewR dA F ad M L) (hs : ∀ x ∈ F, x ∈ F') (h1 : mG M' 17 = mG M 17) (h2 : mA M' 18 = mA M 18) (h3 : mA M' 19 = mA M 19) (h4 : mI M' 16 = mI M 16) (h5 : mR M' 17 = mR M 17) (h6 : mR M' 18 = mR M 18) (h7 : mR M' 19 = mR M 19) : NewR dA F' ad M' L :=
  ⟨h.1.up hs h1 h2 h3, h4.trans h.2.1, h5.trans h.2.2.1, h6.trans h.2.2.2.1, h7.trans h.2.2.2.2⟩
theorem pktT_0 {rw : List Nat} {nx : Nat} (hn : nx ≤ 100000) (h : pktT rw nx = 0) : ∃ q, pktS rw nx = some q := by
  unfold pktT at h
  split at h
  · exact absurd h (m1_ne (by omega))
  · next q hq => exact ⟨q, hq⟩
theorem pktT_n {rw : List Nat} {nx : Nat} (h : ¬ pktT rw nx = 0) : pktS rw nx = none ∧ pktT rw nx = -1 - nI nx := by
  unfold pktT at h ⊢
  split at h
  · next hq => exact ⟨hq, rfl⟩
  · exact absurd rfl h
theorem keysS_s {rw : List Nat} {f nx : Nat} {x : RK} {q : Nat × List Nat × Nat} (h1 : ¬ rw.length ≤ nx) (h2 : pktS rw nx = some q) : keysS rw (f + 1) x nx = nextK x nx (pkS x q.1 q.2.1) (fun y => keysS rw f y q.2.2) := by
  rw [keysS, if_neg h1, h2]; rfl


theorem kSec_ok {l : List Nat} (hb : byt l) : byt (kSec l) ∧ (kSec l).length ≤ l.length := by
  have l1 : (kU1 l).2.1 ≤ l.length := (oneS_le (Nat.zero_le _)).1
  have l2 : (kU2 l).2.1 ≤ l.length := (someS_ok hb 4 0 0 _ l1 (by decide)).2.1
  have l3 : (kU3 l).2.1 ≤ l.length := (oneS_le l2).1
  have n4 := numS_ok hb _ l3
  have n5 := (numS_ok hb (kU4 l).2 n4.1).1
  have n6 : (kS0 l).2.1 ≤ l.length := (oneS_le n5).1
  have n7 := numS_ok hb (kS0 l).2 n6
  exact ⟨n7.2.1, n7.2.2.1⟩

set_option maxHeartbeats 1000000 in
set_option maxRecDepth 100000 in
theorem c7_readKeys (l : Launch) (D : va_G) (dA : Nat → ClassId) (B : Nat) (Z : State → Prop) (hZ : Stab B Z) (h0 : Nat) (ad : Nat → Nat) (M : MS) (F : va_W) (rw : List Nat) (rk : Nat) (L0 : List PK) (Pk : RK → Prop) (hzs : ZS dA B Z) (hzR : ∀ U : State, Z U → ∃ t, va_Z "SignetRingModel" "ROUNDS" "[I" (.ref t) (bA B) U U.heap ∧ va_T .int t 64 (fun j => .int (K2 j)) (bA B) U U.heap) (hI : MI M) (hR : NewR dA F ad M L0) (hPK : PKs L0) (hLl : L0.length ≤ 2600) (hw0 : wK L0 ≤ 8) (hrk : rk = 2 ∨ rk = 6) (h39 : mR M 39 = some (ad rk)) (h40 : mI M 40 = nI rw.length) (hrg : ∀ j, j < rw.length → mG M rk j = gD rw j) (hrl : rw.length ≤ 4096) (hrb : byt rw) (h41 : mI M 41 = nI 0) (h33 : mI M 33 = 0) (hPs : ∀ x kd bd y, Pk x → pkS x kd bd = some y → Pk y) (hPc : ∀ x, Pk x → cntF x.1 6 x.1.length 0 ≤ 16 ∧ ∀ k, x.2.1 = some k → cntF x.1 14 (sk (notK 6) x.1 (k + 1) - (k + 1)) (k + 1) ≤ 8) (hP0 : Pk (L0, none, none, 0)) :
    Ct (S := MS × Nat × va_W) l D dA B Z yX7_readKeys cX7_readKeys 9 (some .int) 10 (2 * rw.length + 10) (16 * rw.length) [.ref h0] (mw dA h0 ad M ++ F) (fun u => MI u.1 ∧ Kj M u.1 ∧ mI u.1 33 = (keysR rw L0).1 ∧ ((keysR rw L0).1 = 0 → (u.2.1 = (keysR rw L0).2.2.2.2 ∧ RKok (keysR rw L0).2 ∧ NewR dA (F ++ u.2.2) ad u.1 (keysR rw L0).2.1)) ∧ u.2.1 ≤ 5000) (fun u => some (.int (nI u.2.1))) (fun u => mw dA h0 ad u.1 ++ (F ++ u.2.2)) := by
  refine Ct.mk2 (by decide) (Nat.le_of_ble_eq_true rfl) hZ ?_
  intro p e R s m args below meth c ls Q C hr hlocks hin hQ hl h
  have C0 := C
  obtain ⟨hx, hb, hml, hown, hts, -⟩ := C0
  have hl : lv_has ls 9 [(0, .ref h0)] := hl
  obtain ⟨R0, hR0⟩ : ∃ z, z = keysS rw (rw.length + 1) (L0, none, none, 0) 0 := ⟨_, rfl⟩
  have hRR : keysR rw L0 = if R0.1 = 0 ∧ R0.2.2.2.2 = 0 then (-1 - nI rw.length, R0.2) else R0 := by unfold keysR; rw [← hR0]
  refine lv_iconst (v := -1) hx hb dX7_readKeys_0 (by decide) ?_
  refine lv_istore_n (lv' := [(1, .int (-1)), (0, .ref h0)]) hx hb dX7_readKeys_1 rfl hl (by decide) rfl (fun ls hl => ?_)
  refine lv_iconst (v := -1) hx hb dX7_readKeys_2 (by decide) ?_
  refine lv_istore_n (lv' := [(2, .int (-1)), (1, .int (-1)), (0, .ref h0)]) hx hb dX7_readKeys_3 rfl hl (by decide) rfl (fun ls hl => ?_)
  refine lv_iconst (v := nI 0) hx hb dX7_readKeys_4 (by decide) ?_
  refine lv_istore_n (lv' := [(3, .int (nI 0)), (2, .int (-1)), (1, .int (-1)), (0, .ref h0)]) hx hb dX7_readKeys_5 rfl hl (by decide) rfl (fun ls hl => ?_)
  have h : Wd D B s (mw dA h0 ad M ++ (F ++ [])) s.heap [] := by rw [List.append_nil]; exact h
  have loop : ∀ (nn : Nat) (f cc cs nx mn : Nat) (t kv lw : Int32) (x : RK) (M1 : MS) (E : va_W), (MI M1) → (Kj M M1) → (mI M1 33 = t) → (mI M1 41 = nI nx) → (nx ≤ rw.length) → (mn ≤ nx) → (t = 0 → (R0 = keysS rw f x nx ∧ RKok x ∧ NewR dA (F ++ E) ad M1 x.1 ∧ 2 * x.1.length + (rw.length - nx) ≤ 2 * L0.length + rw.length ∧ 65 * wK x.1 ≤ 520 + nx ∧ kv = oI x.2.1 ∧ lw = oI x.2.2.1 ∧ mn = x.2.2.2 ∧ Pk x)) → (t ≠ 0 → R0.1 = t) → (t = 0 → rw.length - nx < f) → (cc ≤ 2 * rw.length + 10 ∧ (t = 0 → cc ≤ 2 * nx)) → (cs ≤ 16 * rw.length ∧ (t = 0 → cs ≤ 16 * nx)) → (t = 0 ∨ 0 < f) → f < nn → ∀ (H : Heap) (locs : List Loc), Wd D B s (mw dA h0 ad M1 ++ (F ++ E)) H locs → ∀ (ls : Array Slot), lv_has ls 9 [(0, .ref h0), (1, .int kv), (2, .int lw), (3, .int (nI mn))] → W p l e R s m args below meth c H locs cc cs Q (F0 m 6 ls []) := by
    intro nn
    induction nn with
    | zero => intro f cc cs nx mn  t kv lw  x  M1  E  hI1 hK1 ht33 h41 hnx hmn hz hnz hff hcc hcs hf0 hme; exact absurd hme (Nat.not_lt_zero _)
    | succ nn ih =>
      intro f cc cs nx mn  t kv lw  x  M1  E  hI1 hK1 ht33 h41 hnx hmn hz hnz hff hcc hcs hf0 hme H locs h ls hl
      have h401 : mI M1 40 = nI rw.length := (hK1.1 40 (by decide) (by decide)).trans h40
      refine lv_aload_n hx hb dX7_readKeys_6 rfl (lv_at hl 0 rfl) ?_
      refine m_gi C h 33 (by decide) rfl rfl q1903 (v := t) ht33 dX7_readKeys_7 ?_
      refine lv_if_ne (tgt := 271) hx hb dX7_readKeys_10 (by decide) (fun c10 => ?_) (fun c10 => ?_)
      · refine lv_aload_n hx hb dX7_readKeys_271 rfl (lv_at hl 0 rfl) ?_
        refine m_gi C h 33 (by decide) rfl rfl q1903 (v := t) ht33 dX7_readKeys_272 ?_
        refine lv_if_ne (tgt := 292) hx hb dX7_readKeys_275 (by decide) (fun c275 => ?_) (fun c275 => by exfalso; exact c10 c275)
        refine lv_iload_n hx hb dX7_readKeys_292 rfl (lv_at hl 3 rfl) ?_
        subst hQ
        have hfin : keysR rw L0 = R0 := by rw [hRR, if_neg (fun z => c10 ((hnz c10).symm.trans z.1))]
        exact ret_i C hr hlocks h (M1, mn, E) (by rw [hfin]; exact ⟨hI1, hK1, ht33.trans (hnz c10).symm, fun q => absurd ((hnz c10).symm.trans q) c10, by show mn ≤ 5000; omega⟩) rfl rfl (by omega) (by omega) dX7_readKeys_293
      · have ht0 : t = 0 := c10
        subst ht0
        obtain ⟨hx1, hx2, hx3, hx4, hx5, hx6, hx7, hx8, hxp⟩ := hz rfl
        have hf1 := hff rfl
        obtain ⟨hcc1, hcc2⟩ := hcc
        obtain ⟨hcs1, hcs2⟩ := hcs
        have hcc2 := hcc2 rfl
        have hcs2 := hcs2 rfl
        refine lv_aload_n hx hb dX7_readKeys_13 rfl (lv_at hl 0 rfl) ?_
        refine m_gi C h 41 (by decide) rfl rfl q1911 (v := nI nx) h41 dX7_readKeys_14 ?_
        refine lv_aload_n hx hb dX7_readKeys_17 rfl (lv_at hl 0 rfl) ?_
        refine m_gi C h 40 (by decide) rfl rfl q1910 (v := nI rw.length) h401 dX7_readKeys_18 ?_
        refine n_icmp_ge (tgt := 271) hx hb (by omega) (by omega) dX7_readKeys_21 (by decide) (fun c21 => ?_) (fun c21 => ?_)
        · refine lv_aload_n hx hb dX7_readKeys_271 rfl (lv_at hl 0 rfl) ?_
          refine m_gi C h 33 (by decide) rfl rfl q1903 (v := 0) ht33 dX7_readKeys_272 ?_
          refine lv_if_ne (tgt := 292) hx hb dX7_readKeys_275 (by decide) (fun c275 => by exfalso; exact c275 rfl) (fun c275 => ?_)
          have hRe : R0 = (0, x) := by
            rw [hx1]
            cases f with
            | zero => rfl
            | succ f => rw [keysS, if_pos (by omega)]
          refine lv_iload_n hx hb dX7_readKeys_278 rfl (lv_at hl 3 rfl) ?_
          refine n_if_ne (tgt := 292) hx hb (by omega) dX7_readKeys_279 (by decide) (fun c279 => ?_) (fun c279 => ?_)
          · refine lv_iload_n hx hb dX7_readKeys_292 rfl (lv_at hl 3 rfl) ?_
            subst hQ
            have hfin : keysR rw L0 = (0, x) := by rw [hRR, if_neg (fun z => by have z2 := z.2; rw [hRe] at z2; have z3 : x.2.2.2 = 0 := z2; omega), hRe]
            exact ret_i C hr hlocks h (M1, mn, E) (by rw [hfin]; exact ⟨hI1, hK1, ht33, fun _ => ⟨hx8, hx2, hx3⟩, by show mn ≤ 5000; omega⟩) rfl rfl (by omega) (by omega) dX7_readKeys_293
          · refine lv_aload_n hx hb dX7_readKeys_282 rfl (lv_at hl 0 rfl) ?_
            refine lv_iconst (v := -1) hx hb dX7_readKeys_283 (by decide) ?_
            refine lv_aload_n hx hb dX7_readKeys_284 rfl (lv_at hl 0 rfl) ?_
            refine m_gi C h 40 (by decide) rfl rfl q1910 (v := nI rw.length) h401 dX7_readKeys_285 ?_
            refine lv_isub hx hb dX7_readKeys_288 ?_
            refine call_V (As := [.int ((-1) - (nI rw.length))]) (rest := []) (n := 1) C h (c7_fail l D dA B Z hZ h0 ad M1 (F ++ E) (-1 - nI rw.length)) (lw_V q2125 q2127 qs47 q138 q2128) (by decide +kernel) (ci := 5) rfl rfl mw_mem0 (by decide) (by decide) rfl hl rfl (Nat.le_of_ble_eq_true rfl) dX7_readKeys_289 (by omega) (fun _ H locs _ h => ?_)
            rw [ht33, failT_0] at h
            refine lv_iload_n hx hb dX7_readKeys_292 rfl (lv_at hl 3 rfl) ?_
            subst hQ
            have hfin : keysR rw L0 = (-1 - nI rw.length, R0.2) := by rw [hRR, if_pos ⟨by rw [hRe], by rw [hRe]; show x.2.2.2 = 0; omega⟩]
            exact ret_i C hr hlocks h (sI M1 33 (-1 - nI rw.length), mn, E) (by rw [hfin]; exact ⟨hI1, hK1.trans (Kc.kj ((Kp.kc (Kp.rfl' _)).i33 _)), rfl, fun q => absurd q (m1_ne (by omega)), by show mn ≤ 5000; omega⟩) rfl rfl (by omega) (by omega) dX7_readKeys_293
        · have hnl : ¬ rw.length ≤ nx := by omega
          obtain ⟨f, rfl⟩ : ∃ z, f = z + 1 := ⟨f - 1, by omega⟩
          refine lv_aload_n hx hb dX7_readKeys_24 rfl (lv_at hl 0 rfl) ?_
          have h : Wd D B s (mw dA h0 ad (kM M1 0 (nI nx) (mI M1 42) (mI M1 43) (mI M1 45) (mI M1 47) (mR M1 44) (mG M1 46)) ++ (F ++ E)) H locs := by
            have e9 := kM_id M1
            rw [ht33, h41] at e9
            rw [e9]; exact h
          have hml9 : mlen rk = 4096 := by rcases hrk with q | q <;> rw [q] <;> rfl
          have hrow9 : ∀ (x33 x41 x42 x43 x45 x47 : Int32) (x44 : Option Nat) (x46 : Nat → Nat), (ad rk, iar dA 4096 (mG M1 rk)) ∈ mw dA h0 ad (kM M1 x33 x41 x42 x43 x45 x47 x44 x46) ++ (F ++ E) := by
            intro x33 x41 x42 x43 x45 x47 x44 x46
            rcases hrk with q | q <;> subst q
            · exact mw_memG (k := 2) (by decide)
            · exact mw_memG (k := 6) (by decide)
          have hg9 : ∀ j, j < rw.length → mG M1 rk j = gD rw j := by
            intro j hj
            rw [← hrg j hj]
            rcases hrk with q | q <;> subst q
            · rw [hK1.2.2.2.1 2 (by decide) (by decide) (by decide)]
            · rw [hK1.2.2.2.1 6 (by decide) (by decide) (by decide)]
          have h391 : mR M1 39 = some (ad rk) := (hK1.2.2.1 39 (by decide) (by decide)).trans h39
          refine call_V (As := []) (rest := []) (n := 0) C h (c7_packet l D dA B Z hZ h0 ad M1 (F ++ E) rw (ad rk) (mG M1 rk) nx (mI M1 42) (mI M1 43) (mI M1 45) (mI M1 47) (mR M1 44) (mG M1 46) h401 h391 hrow9 hg9 hrl hrb hnx) (lw_V q2185 q2187 qs55 q138 q2188) (by decide +kernel) (ci := 5) rfl rfl mw_mem0 (by decide) (by decide) rfl hl rfl (Nat.le_of_ble_eq_true rfl) dX7_readKeys_25 (by
            have hz9 : pktZ rw nx ≤ rw.length := by
              unfold pktZ; split
              · exact Nat.zero_le _
              · next q hq => exact (pktS_len hq).1
            have hz8 : pktZ rw nx + nx ≤ rw.length := by
              unfold pktZ; split
              · omega
              · next q hq => have := pktS_adv hrb hq; omega
            omega) (fun up9 H locs hp9 h => ?_)
          obtain ⟨y9, kd, bs9, co9, bo9, G9, E2⟩ := up9
          obtain ⟨M2, hM2⟩ : ∃ z, z = kM M1 (pktT rw nx) (nI y9) (nI nx) (nI kd) (nI bs9) (nI co9) bo9 G9 := ⟨_, rfl⟩
          have h : Wd D B s (mw dA h0 ad (kM M1 (pktT rw nx) (nI y9) (nI nx) (nI kd) (nI bs9) (nI co9) bo9 G9) ++ (F ++ E ++ E2)) H locs := h
          rw [← hM2, List.append_assoc F] at h
          have hI2 : MI M2 := by rw [hM2]; exact hI1
          have hK2 : Kj M M2 := by rw [hM2]; exact hK1.trans (kM_kj _ _ _ _ _ _ _ _ _)
          have h332 : mI M2 33 = pktT rw nx := by rw [hM2]; rfl
          have h412 : mI M2 41 = nI y9 := by rw [hM2]; rfl
          have h422 : mI M2 42 = nI nx := by rw [hM2]; rfl
          have h432 : mI M2 43 = nI kd := by rw [hM2]; rfl
          have h442 : mR M2 44 = bo9 := by rw [hM2]; rfl
          have hR2 : NewR dA (F ++ (E ++ E2)) ad M2 x.1 := hx3.kj (fun z hz => by rw [← List.append_assoc]; exact List.mem_append_left _ hz) (by rw [hM2]; rfl) (by rw [hM2]; rfl) (by rw [hM2]; rfl) (by rw [hM2]; rfl) (by rw [hM2]; rfl) (by rw [hM2]; rfl) (by rw [hM2]; rfl)
          have hfx : ¬ (-1 - nI nx : Int32) = 0 := m1_ne (by omega)
          refine z_if_eq (tgt := 271) hx hb dX7_readKeys_28 (by decide) (fun c28 => ?_) (fun c28 => ?_)
          · have hpn := pktT_n (of_decide_eq_false c28)
            have hp9 : y9 ≤ rw.length := by unfold pktOk at hp9; rw [hpn.1] at hp9; exact hp9
            have hzz : pktZ rw nx = 0 := by unfold pktZ; rw [hpn.1]
            have hbad : R0.1 = -1 - nI nx := by rw [hx1, keysS, if_neg hnl, hpn.1]; rfl
            rw [hpn.2] at h332
            refine lv_aload_n hx hb dX7_readKeys_271 rfl (lv_at hl 0 rfl) ?_
            refine m_gi C h 33 (by decide) rfl rfl q1903 (v := -1 - nI nx) h332 dX7_readKeys_272 ?_
            refine lv_if_ne (tgt := 292) hx hb dX7_readKeys_275 (by decide) (fun c275 => ?_) (fun c275 => by exfalso; exact hfx c275)
            refine lv_iload_n hx hb dX7_readKeys_292 rfl (lv_at hl 3 rfl) ?_
            subst hQ
            have hfin : keysR rw L0 = R0 := by rw [hRR, if_neg (fun z => hfx (hbad.symm.trans z.1))]
            exact ret_i C hr hlocks h (M2, mn, E ++ E2) (by rw [hfin]; exact ⟨hI2, hK2, h332.trans hbad.symm, fun q => absurd (hbad.symm.trans q) hfx, by show mn ≤ 5000; omega⟩) rfl rfl (by omega) (by omega) dX7_readKeys_293
          · have hpt0 := of_decide_eq_true c28
            obtain ⟨q9, hq9⟩ := pktT_0 (by omega) hpt0
            obtain ⟨kd1, bd, y1⟩ := q9
            unfold pktOk at hp9
            rw [hq9] at hp9
            obtain ⟨e1, e2, e3, e4, e5⟩ := hp9
            have e1 : y9 = y1 := e1
            have e2 : kd = kd1 := e2
            subst e1 e2
            have had := pktS_adv hrb hq9
            obtain ⟨ad1, ad2, ad3, ad4⟩ := had
            have ad1 : y9 ≤ rw.length := ad1
            have ad2 : nx + 2 + bd.length ≤ y9 := ad2
            have ad3 : byt bd := ad3
            have ad4 : kd < 64 := ad4
            have hzz : pktZ rw nx = bd.length := by unfold pktZ; rw [hq9]
            rw [hpt0] at h332
            have e5 : (kd = 11 ∧ bo9 = some (ad 46) ∧ E2 = []) ∨ (kd ≠ 11 ∧ ∃ a, bo9 = some a ∧ E2 = [(a, ial dA bd)]) := e5
            have hst : R0 = nextK x nx (pkS x kd bd) (fun y => keysS rw f y y9) := by rw [hx1, keysS_s hnl hq9]
            have jp : ∀ (tjp : Bool), (tjp = decide (kd = 10 ∨ kd = 12 ∨ kd = 17 ∨ 40 ≤ kd)) → ∀ (H : Heap) (locs : List Loc), Wd D B s (mw dA h0 ad M2 ++ (F ++ (E ++ E2))) H locs → ∀ (ls : Array Slot), lv_has ls 9 [(0, .ref h0), (1, .int kv), (2, .int lw), (3, .int (nI mn))] → W p l e R s m args below meth c H locs (cc + 1) (cs + (pktZ rw nx)) Q (F0 m 72 ls [.int (bZ tjp)]) := by
              intro tjp  hjp H locs h ls hl
              refine lv_istore (lv' := [(4, .int (bZ tjp)), (0, .ref h0), (1, .int kv), (2, .int lw), (3, .int (nI mn))]) hx hb dX7_readKeys_72 hl (by decide) rfl (fun ls hl => ?_)
              have hjp9 : tjp = decide (kd = 10 ∨ kd = 12 ∨ kd = 17 ∨ 40 ≤ kd) := hjp
              refine lv_iload hx hb dX7_readKeys_74 (lv_at hl 0 rfl) ?_
              refine z_if_ne (tgt := 268) hx hb dX7_readKeys_76 (by decide) (fun c76 => ?_) (fun c76 => ?_)
              · have hps : kd = 10 ∨ kd = 12 ∨ kd = 17 ∨ 40 ≤ kd := of_decide_eq_true (hjp9.symm.trans c76)
                have hpk : pkS x kd bd = some x := if_pos hps
                rw [hpk] at hst
                refine lv_goto (tgt := 6) hx hb dX7_readKeys_268 (by decide) ?_
                exact ih f _ _ y9 mn 0 kv lw x M2 (E ++ E2) hI2 hK2 h332 h412 (by omega) (by omega) (fun _ => ⟨hst, hx2, hR2, by omega, by omega, hx6, hx7, hx8, hxp⟩) (fun q => absurd rfl q) (fun _ => by omega) (by omega) (by omega) (Or.inl rfl) (by omega) _ _ h _ (lv_sub hl [1, 2, 3, 4] rfl)
              · have hps : ¬ (kd = 10 ∨ kd = 12 ∨ kd = 17 ∨ 40 ≤ kd) := of_decide_eq_false (hjp9.symm.trans c76)
                have hpk0 : pkS x kd bd = if kd = 5 ∨ kd = 6 then (if keyOk bd (decide (kd = 5)) = true then keyK x (comeS x.1 0 x.1.length 6 16 (bd.take (kSize bd)) (secO bd (decide (kd = 5)))) else none) else pkK x kd bd x.2.1 := if_neg hps
                obtain ⟨hx2a, hx2b, hx2c⟩ := hx2
                refine lv_aload_n hx hb dX7_readKeys_79 rfl (lv_at hl 1 rfl) ?_
                refine m_gi C h 43 (by decide) rfl rfl q1913 (v := nI kd) h432 dX7_readKeys_80 ?_
                refine call_S (As := [.int (nI kd)]) (rest := []) (n := 1) C h (c7_isKeyKind l D dA B Z hZ _ kd (by omega)) (lw_S q2211 q2212 q138 q2213) (by decide +kernel) (by decide) (by decide) rfl hl rfl (Nat.le_of_ble_eq_true rfl) dX7_readKeys_83 (by omega) (fun _ H locs _ h => ?_)
                refine lv_istore (lv' := [(5, .int (bZ (decide (kd = 5 ∨ kd = 6)))), (4, .int (bZ tjp)), (0, .ref h0), (1, .int kv), (2, .int lw), (3, .int (nI mn))]) hx hb dX7_readKeys_86 hl (by decide) rfl (fun ls hl => ?_)
                refine lv_aload_n hx hb dX7_readKeys_88 rfl (lv_at hl 2 rfl) ?_
                refine m_gi C h 43 (by decide) rfl rfl q1913 (v := nI kd) h432 dX7_readKeys_89 ?_
                refine call_S (As := [.int (nI kd)]) (rest := []) (n := 1) C h (c7_isPartKind l D dA B Z hZ _ kd (by omega)) (lw_S q2214 q2215 q138 q2216) (by decide +kernel) (by decide) (by decide) rfl hl rfl (Nat.le_of_ble_eq_true rfl) dX7_readKeys_92 (by omega) (fun _ H locs _ h => ?_)
                refine lv_istore (lv' := [(6, .int (bZ (decide (kd = 7 ∨ kd = 14)))), (5, .int (bZ (decide (kd = 5 ∨ kd = 6)))), (4, .int (bZ tjp)), (0, .ref h0), (1, .int kv), (2, .int lw), (3, .int (nI mn))]) hx hb dX7_readKeys_95 hl (by decide) rfl (fun ls hl => ?_)
                by_cases hO : kd = 5 ∨ kd = 6
                · have hpk1 : pkS x kd bd = (if keyOk bd (decide (kd = 5)) = true then keyK x (comeS x.1 0 x.1.length 6 16 (bd.take (kSize bd)) (secO bd (decide (kd = 5)))) else none) := by rw [hpk0, if_pos hO]
                  have hba9 : ∃ ba, bo9 = some ba ∧ (ba, ial dA bd) ∈ F ++ (E ++ E2) := by
                    rcases e5 with q | ⟨-, a, q1, q2⟩
                    · exfalso; omega
                    · exact ⟨a, q1, List.mem_append_right _ (List.mem_append_right _ (by rw [q2]; exact List.mem_cons_self))⟩
                  obtain ⟨ba, hba1, hba2⟩ := hba9
                  rw [hba1] at h442
                  refine lv_iload hx hb dX7_readKeys_97 (lv_at hl 1 rfl) ?_
                  refine z_if_ne (tgt := 129) hx hb dX7_readKeys_99 (by decide) (fun c99 => ?_) (fun c99 => by exfalso; exact absurd hO (of_decide_eq_false c99))
                  refine lv_iconst (v := nI 1) hx hb dX7_readKeys_129 (by decide) ?_
                  refine lv_goto (tgt := 134) hx hb dX7_readKeys_130 (by decide) ?_
                  refine lv_istore (lv' := [(7, .int (nI 1)), (6, .int (bZ (decide (kd = 7 ∨ kd = 14)))), (5, .int (bZ (decide (kd = 5 ∨ kd = 6)))), (4, .int (bZ tjp)), (0, .ref h0), (1, .int kv), (2, .int lw), (3, .int (nI mn))]) hx hb dX7_readKeys_134 hl (by decide) rfl (fun ls hl => ?_)
                  refine lv_iload hx hb dX7_readKeys_136 (lv_at hl 0 rfl) ?_
                  refine n_if_eq (tgt := 184) hx hb (by omega) dX7_readKeys_138 (by decide) (fun c138 => by exfalso; omega) (fun c138 => ?_)
                  refine lv_iload hx hb dX7_readKeys_141 (lv_at hl 2 rfl) ?_
                  refine z_if_ne (tgt := 151) hx hb dX7_readKeys_143 (by decide) (fun c143 => ?_) (fun c143 => by exfalso; exact absurd hO (of_decide_eq_false c143))
                  refine lv_aload_n hx hb dX7_readKeys_151 rfl (lv_at hl 4 rfl) ?_
                  refine lv_aload_n hx hb dX7_readKeys_152 rfl (lv_at hl 4 rfl) ?_
                  refine m_gr C h 44 (by decide) rfl rfl q1914 (v := some ba) h442 dX7_readKeys_153 ?_
                  have j178 : ∀ (H : Heap) (locs : List Loc), Wd D B s (mw dA h0 ad M2 ++ (F ++ (E ++ E2))) H locs → ∀ (ls : Array Slot), lv_has ls 9 [(7, .int (nI 1)), (6, .int (bZ (decide (kd = 7 ∨ kd = 14)))), (5, .int (bZ (decide (kd = 5 ∨ kd = 6)))), (4, .int (bZ tjp)), (0, .ref h0), (1, .int kv), (2, .int lw), (3, .int (nI mn))] → W p l e R s m args below meth c H locs (cc + 1 + 0 + 0) (cs + (pktZ rw nx) + 0 + 0) Q (F0 m 178 ls [.int (bZ (decide (kd = 5))), .ref ba, .ref h0]) := by
                    intro   H locs h ls hl
                    refine call_V (As := [.ref ba, .int (bZ (decide (kd = 5)))]) (rest := []) (n := 2) C h (c7_readKey l D dA B Z hZ h0 ad M2 (F ++ (E ++ E2)) ba bd (decide (kd = 5)) hba2 ad3 (by omega)) (lw_V q2217 q2219 qs60 q138 q2220) (by decide +kernel) (ci := 5) rfl rfl mw_mem0 (by decide) (by decide) rfl hl rfl (Nat.le_of_ble_eq_true rfl) dX7_readKeys_178 (by omega) (fun uk H locs huk h => ?_)
                    obtain ⟨x48, x54, x55, x49, r50, r51, r52, E3⟩ := uk
                    obtain ⟨M3, hM3⟩ : ∃ z, z = yM M2 x48 x54 x55 x49 r50 r51 r52 (some ba) := ⟨_, rfl⟩
                    have h : Wd D B s (mw dA h0 ad (yM M2 x48 x54 x55 x49 r50 r51 r52 (some ba)) ++ (F ++ (E ++ E2) ++ E3)) H locs := h
                    have hF3 : F ++ (E ++ E2) ++ E3 = F ++ (E ++ (E2 ++ E3)) := by rw [List.append_assoc, List.append_assoc]
                    rw [← hM3, hF3] at h
                    have hKp3 : Kp M2 M3 := by rw [hM3]; exact yM_kp _ _ _ _ _ _ _ _ _
                    have hI3 : MI M3 := by rw [hM3]; exact hI2
                    have hK3 : Kj M M3 := hK2.trans hKp3.kc.kj
                    have hR3 : NewR dA (F ++ (E ++ (E2 ++ E3))) ad M3 x.1 := hR2.kp hKp3 (fun z hz => by rw [← hF3]; exact List.mem_append_left _ hz)
                    have hba3 : (ba, ial dA bd) ∈ F ++ (E ++ (E2 ++ E3)) := by rw [← hF3]; exact List.mem_append_left _ hba2
                    have h333 : mI M3 33 = mI M2 33 := hKp3.1 33 (by decide)
                    have h413 : mI M3 41 = mI M2 41 := hKp3.1 41 (by decide)
                    have h423 : mI M3 42 = mI M2 42 := hKp3.1 42 (by decide)
                    have h433 : mI M3 43 = mI M2 43 := hKp3.1 43 (by decide)
                    rw [h332] at h333
                    rw [h412] at h413
                    rw [h422] at h423
                    rw [h432] at h433
                    have h443 : mR M3 44 = some ba := (hKp3.2.2.1 44 (by decide)).trans h442
                    show W p l e R s m args below meth c H locs (cc + 1 + 0 + 0 + 6) (cs + (pktZ rw nx) + 0 + 0 + (6 * bd.length)) Q (F0 m 181 ls [.int (bZ (keyOk bd (decide (kd = 5))))])
                    refine z_if_ne (tgt := 193) hx hb dX7_readKeys_181 (by decide) (fun c181 => ?_) (fun c181 => ?_)
                    · have hkt : keyOk bd (decide (kd = 5)) = true := c181
                      rw [if_pos hkt] at hpk1
                      have hbl9 := keyOk_len hkt ad3 (by omega)
                      obtain ⟨g1, g2, g3, g4, g5⟩ := huk hkt
                      have h483 : mI M3 48 = nI (kSize bd) := by rw [hM3]; exact g1
                      have h523 : refIs dA (F ++ (E ++ (E2 ++ E3))) (mR M3 52) (secO bd (decide (kd = 5))) := by
                        have e9 : mR M3 52 = r52 := by rw [hM3]; rfl
                        rw [e9]
                        unfold secO
                        by_cases q : decide (kd = 5) = true
                        · rw [if_pos q] at g5 ⊢
                          obtain ⟨a9, z1, z2⟩ := g5
                          exact ⟨a9, z1, by rw [← hF3]; exact List.mem_append_right _ z2⟩
                        · rw [if_neg q] at g5 ⊢
                          exact g5
                      have hsec : ∀ z, secO bd (decide (kd = 5)) = some z → byt z ∧ z.length ≤ 4096 := by
                        intro z hz
                        unfold secO at hz
                        split at hz
                        · cases hz
                          have := kSec_ok ad3
                          exact ⟨this.1, by omega⟩
                        · cases hz
                      have how9 : byt (bd.take (kSize bd)) ∧ (bd.take (kSize bd)).length ≤ 4096 := ⟨fun z hz => ad3 z (List.mem_of_mem_take hz), by rw [List.length_take]; omega⟩
                      have hks9 := kSize_le ad3
                      refine lv_iload hx hb dX7_readKeys_193 (lv_at hl 2 rfl) ?_
                      refine z_if_eq (tgt := 220) hx hb dX7_readKeys_195 (by decide) (fun c195 => by exfalso; exact absurd hO (of_decide_eq_false c195)) (fun c195 => ?_)
                      refine lv_aload_n hx hb dX7_readKeys_198 rfl (lv_at hl 4 rfl) ?_
                      refine lv_iconst (v := nI 0) hx hb dX7_readKeys_199 (by decide) ?_
                      refine lv_aload_n hx hb dX7_readKeys_200 rfl (lv_at hl 4 rfl) ?_
                      refine m_gi C h 16 (by decide) rfl rfl q1886 (v := nI x.1.length) hR3.2.1 dX7_readKeys_201 ?_
                      refine lv_bipush (v := nI 6) hx hb dX7_readKeys_204 (by decide) ?_
                      refine lv_bipush (v := nI 16) hx hb dX7_readKeys_206 (by decide) ?_
                      have hcnt : cntF x.1 6 (x.1.length - 0) 0 ≤ 16 := (hPc x hxp).1
                      have hcok := comeS_ok (L := x.1) (a := 0) (b := x.1.length) (k := 6) (most := 16) (own := bd.take (kSize bd)) (sec := secO bd (decide (kd = 5))) hx2a (by omega) (by omega) (by decide) (keyOk_take hkt ad3) how9.1 how9.2 hsec
                      have hcw := comeS_w x.1 0 x.1.length 6 16 (bd.take (kSize bd)) (secO bd (decide (kd = 5)))
                      refine call_V (As := [.int (nI 0), .int (nI x.1.length), .int (nI 6), .int (nI 16)]) (rest := []) (n := 4) C h (c7_comes l D dA B Z hZ h0 ad M3 (F ++ (E ++ (E2 ++ E3))) x.1 0 x.1.length 6 16 ba nx bd (secO bd (decide (kd = 5))) hzs hzR hI3 hR3 hx2a (by omega) (by omega) (by omega) (by decide) (by decide) h443 hba3 ad3 (by omega) h423 h483 h523 h333) (lw_V q2236 q2238 qs64 q138 q2239) (by decide +kernel) (ci := 5) rfl rfl mw_mem0 (by decide) (by decide) rfl hl rfl (Nat.le_of_ble_eq_true rfl) dX7_readKeys_208 (by omega) (fun uc H locs huc h => ?_)
                      obtain ⟨M4, E4⟩ := uc
                      obtain ⟨hI4, hC4, hR4, h334⟩ := huc
                      have hI4 : MI M4 := hI4
                      have hC4 : Kc M3 M4 := hC4
                      have hK4 : Kj M M4 := hK3.trans hC4.kj
                      have h414 : mI M4 41 = nI y9 := (hC4.1 41 (by decide) (by decide) (by decide)).trans h413
                      have hF4 : F ++ (E ++ (E2 ++ E3)) ++ E4 = F ++ (E ++ (E2 ++ E3) ++ E4) := by rw [List.append_assoc]
                      obtain ⟨cr, hcr⟩ : ∃ z, z = (comeS x.1 0 x.1.length 6 16 (bd.take (kSize bd)) (secO bd (decide (kd = 5)))) := ⟨_, rfl⟩
                      rw [← hcr] at hR4 h334 hcok hcw hpk1 ⊢
                      obtain ⟨ro, L4⟩ := cr
                      have h : Wd D B s (mw dA h0 ad M4 ++ (F ++ (E ++ (E2 ++ E3) ++ E4))) H locs := by rw [← hF4]; exact h
                      rw [hF4] at hR4
                      obtain ⟨k1, k2, k3, k4⟩ := hcok
                      have k2 : x.1.length ≤ L4.length := k2
                      have k3 : L4.length ≤ x.1.length + 1 := k3
                      have hcw : wK L4 ≤ wK x.1 + 1 := hcw
                      have h334 : mI M4 33 = toldK nx ro := h334
                      show W p l e R s m args below meth c H locs (cc + 1 + 0 + 0 + 6 + (2 + cntF x.1 6 (x.1.length - 0) 0)) (cs + (pktZ rw nx) + 0 + 0 + (6 * bd.length) + (kSize bd + 20 + 20 * cntF x.1 6 (x.1.length - 0) 0)) Q (F0 m 211 ls [.int (oI ro)])
                      refine lv_istore_n (lv' := [(1, .int (oI ro)), (7, .int (nI 1)), (6, .int (bZ (decide (kd = 7 ∨ kd = 14)))), (5, .int (bZ (decide (kd = 5 ∨ kd = 6)))), (4, .int (bZ tjp)), (0, .ref h0), (2, .int lw), (3, .int (nI mn))]) hx hb dX7_readKeys_211 rfl hl (by decide) rfl (fun ls hl => ?_)
                      refine lv_iload_n hx hb dX7_readKeys_212 rfl (lv_at hl 0 rfl) ?_
                      refine lv_istore_n (lv' := [(2, .int (oI ro)), (1, .int (oI ro)), (7, .int (nI 1)), (6, .int (bZ (decide (kd = 7 ∨ kd = 14)))), (5, .int (bZ (decide (kd = 5 ∨ kd = 6)))), (4, .int (bZ tjp)), (0, .ref h0), (3, .int (nI mn))]) hx hb dX7_readKeys_213 rfl hl (by decide) rfl (fun ls hl => ?_)
                      refine lv_iinc (v := nI (mn + 1)) (lv' := [(3, .int (nI (mn + 1))), (2, .int (oI ro)), (1, .int (oI ro)), (7, .int (nI 1)), (6, .int (bZ (decide (kd = 7 ∨ kd = 14)))), (5, .int (bZ (decide (kd = 5 ∨ kd = 6)))), (4, .int (bZ tjp)), (0, .ref h0)]) hx hb dX7_readKeys_214 hl (k := 7) rfl (nI_add mn 1) (by decide) rfl (fun ls hl => ?_)
                      refine lv_goto (tgt := 268) hx hb dX7_readKeys_217 (by decide) ?_
                      cases hro : ro with
                      | none =>
                        rw [hro] at h334 hpk1 hl
                        have hbad : R0.1 = -1 - nI nx := by rw [hst, hpk1]; rfl
                        refine lv_goto (tgt := 6) hx hb dX7_readKeys_268 (by decide) ?_
                        exact ih f _ _ y9 (mn + 1) (-1 - nI nx) (oI none) (oI none) x M4 (E ++ (E2 ++ E3) ++ E4) hI4 hK4 h334 h414 (by omega) (by omega) (fun q => absurd q hfx) (fun _ => hbad) (fun q => absurd q hfx) (⟨by omega, fun q => absurd q hfx⟩) (⟨by omega, fun q => absurd q hfx⟩) (Or.inr (by omega)) (by omega) _ _ h _ (lv_sub hl [7, 2, 1, 0] rfl)
                      | some j4 =>
                        rw [hro] at h334 hpk1 hl
                        have hj4 : j4 < L4.length := k4 j4 hro
                        have hpk3 : pkS x kd bd = some (L4, some j4, some j4, x.2.2.2 + 1) := hpk1
                        rw [hpk3] at hst
                        have hst : R0 = keysS rw f (L4, some j4, some j4, x.2.2.2 + 1) y9 := hst
                        refine lv_goto (tgt := 6) hx hb dX7_readKeys_268 (by decide) ?_
                        exact ih f _ _ y9 (mn + 1) 0 (oI (some j4)) (oI (some j4)) (L4, some j4, some j4, x.2.2.2 + 1) M4 (E ++ (E2 ++ E3) ++ E4) hI4 hK4 h334 h414 (by omega) (by omega) (fun _ => ⟨hst, ⟨k1, fun k hk => by cases hk; exact ⟨hj4, j4, rfl⟩, fun j hj => by cases hj; exact hj4⟩, hR4, by show 2 * L4.length + _ ≤ _; omega, by show 65 * wK L4 ≤ _; omega, rfl, rfl, by show mn + 1 = x.2.2.2 + 1; rw [hx8], hPs _ _ _ _ hxp hpk3⟩) (fun q => absurd rfl q) (fun _ => by omega) (by omega) (by omega) (Or.inl rfl) (by omega) _ _ h _ (lv_sub hl [7, 2, 1, 0] rfl)
                    · have hkf : keyOk bd (decide (kd = 5)) = false := c181
                      have hpk2 : pkS x kd bd = none := by rw [hpk1, if_neg (by rw [hkf]; decide)]
                      refine lv_aload_n hx hb dX7_readKeys_184 rfl (lv_at hl 4 rfl) ?_
                      refine call_V (As := []) (rest := []) (n := 0) C h (c7_failPacket l D dA B Z hZ h0 ad M3 (F ++ (E ++ (E2 ++ E3))) nx h423) (lw_V q2193 q2195 qs57 q138 q2196) (by decide +kernel) (ci := 5) rfl rfl mw_mem0 (by decide) (by decide) rfl hl rfl (Nat.le_of_ble_eq_true rfl) dX7_readKeys_185 (by omega) (fun _ H locs _ h => ?_)
                      rw [h333, failT_0] at h
                      have hbad : R0.1 = -1 - nI nx := by rw [hst, hpk2]; rfl
                      refine lv_istore (lv' := [(8, .int (bZ false)), (7, .int (nI 1)), (6, .int (bZ (decide (kd = 7 ∨ kd = 14)))), (5, .int (bZ (decide (kd = 5 ∨ kd = 6)))), (4, .int (bZ tjp)), (0, .ref h0), (1, .int kv), (2, .int lw), (3, .int (nI mn))]) hx hb dX7_readKeys_188 hl (by decide) rfl (fun ls hl => ?_)
                      refine lv_goto (tgt := 268) hx hb dX7_readKeys_190 (by decide) ?_
                      refine lv_goto (tgt := 6) hx hb dX7_readKeys_268 (by decide) ?_
                      exact ih f _ _ y9 mn (-1 - nI nx) kv lw x (sI M3 33 (-1 - nI nx)) (E ++ (E2 ++ E3)) hI3 (hK3.trans (Kc.kj ((Kp.kc (Kp.rfl' _)).i33 _))) rfl h413 (by omega) (by omega) (fun q => absurd q hfx) (fun _ => hbad) (fun q => absurd q hfx) (⟨by omega, fun q => absurd q hfx⟩) (⟨by omega, fun q => absurd q hfx⟩) (Or.inr (by omega)) (by omega) _ _ h _ (lv_sub hl [5, 6, 7, 8] rfl)
                  refine lv_aload_n hx hb dX7_readKeys_156 rfl (lv_at hl 4 rfl) ?_
                  refine m_gi C h 43 (by decide) rfl rfl q1913 (v := nI kd) h432 dX7_readKeys_157 ?_
                  refine lv_iconst (v := nI 5) hx hb dX7_readKeys_160 (by decide) ?_
                  refine n_icmp_eq (tgt := 173) hx hb (by omega) (by omega) dX7_readKeys_161 (by decide) (fun c161 => ?_) (fun c161 => ?_)
                  · refine lv_iconst (v := nI 1) hx hb dX7_readKeys_173 (by decide) ?_
                    refine lv_goto (tgt := 178) hx hb dX7_readKeys_174 (by decide) ?_
                    refine n_top (y := bZ (decide (kd = 5))) (by first | (rw [decide_eq_true (by omega)]; rfl) | (rw [decide_eq_false (by omega)]; rfl)) ?_
                    exact j178   _ _ h _ (lv_sub hl [0, 1, 2, 3, 4, 5, 6, 7] rfl)
                  · refine lv_aload_n hx hb dX7_readKeys_164 rfl (lv_at hl 4 rfl) ?_
                    refine m_gi C h 43 (by decide) rfl rfl q1913 (v := nI kd) h432 dX7_readKeys_165 ?_
                    refine lv_bipush (v := nI 7) hx hb dX7_readKeys_168 (by decide) ?_
                    refine n_icmp_ne (tgt := 177) hx hb (by omega) (by omega) dX7_readKeys_170 (by decide) (fun c170 => ?_) (fun c170 => by exfalso; omega)
                    refine lv_iconst (v := nI 0) hx hb dX7_readKeys_177 (by decide) ?_
                    refine n_top (y := bZ (decide (kd = 5))) (by first | (rw [decide_eq_true (by omega)]; rfl) | (rw [decide_eq_false (by omega)]; rfl)) ?_
                    exact j178   _ _ h _ (lv_sub hl [0, 1, 2, 3, 4, 5, 6, 7] rfl)
                · by_cases hKn : x.2.1 = none
                  · have hpk1 : pkS x kd bd = none := by rw [hpk0, if_neg hO, hKn]; rfl
                    refine lv_iload hx hb dX7_readKeys_97 (lv_at hl 1 rfl) ?_
                    refine z_if_ne (tgt := 129) hx hb dX7_readKeys_99 (by decide) (fun c99 => by exfalso; exact hO (of_decide_eq_true c99)) (fun c99 => ?_)
                    refine lv_iload_n hx hb dX7_readKeys_102 rfl (lv_at hl 4 rfl) ?_
                    refine lv_iconst (v := -1) hx hb dX7_readKeys_103 (by decide) ?_
                    refine lv_icmp_eq (tgt := 133) hx hb dX7_readKeys_104 (by decide) (fun c104 => ?_) (fun c104 => by exfalso; exact c104 (hx6.trans (by rw [hKn]; rfl)))
                    refine lv_iconst (v := nI 0) hx hb dX7_readKeys_133 (by decide) ?_
                    refine lv_istore (lv' := [(7, .int (nI 0)), (6, .int (bZ (decide (kd = 7 ∨ kd = 14)))), (5, .int (bZ (decide (kd = 5 ∨ kd = 6)))), (4, .int (bZ tjp)), (0, .ref h0), (1, .int kv), (2, .int lw), (3, .int (nI mn))]) hx hb dX7_readKeys_134 hl (by decide) rfl (fun ls hl => ?_)
                    refine lv_iload hx hb dX7_readKeys_136 (lv_at hl 0 rfl) ?_
                    refine n_if_eq (tgt := 184) hx hb (by omega) dX7_readKeys_138 (by decide) (fun c138 => ?_) (fun c138 => by exfalso; omega)
                    have hpk2 : pkS x kd bd = none := hpk1
                    refine lv_aload_n hx hb dX7_readKeys_184 rfl (lv_at hl 4 rfl) ?_
                    refine call_V (As := []) (rest := []) (n := 0) C h (c7_failPacket l D dA B Z hZ h0 ad M2 (F ++ (E ++ E2)) nx h422) (lw_V q2193 q2195 qs57 q138 q2196) (by decide +kernel) (ci := 5) rfl rfl mw_mem0 (by decide) (by decide) rfl hl rfl (Nat.le_of_ble_eq_true rfl) dX7_readKeys_185 (by omega) (fun _ H locs _ h => ?_)
                    rw [h332, failT_0] at h
                    have hbad : R0.1 = -1 - nI nx := by rw [hst, hpk2]; rfl
                    refine lv_istore (lv' := [(8, .int (bZ false)), (7, .int (nI 0)), (6, .int (bZ (decide (kd = 7 ∨ kd = 14)))), (5, .int (bZ (decide (kd = 5 ∨ kd = 6)))), (4, .int (bZ tjp)), (0, .ref h0), (1, .int kv), (2, .int lw), (3, .int (nI mn))]) hx hb dX7_readKeys_188 hl (by decide) rfl (fun ls hl => ?_)
                    refine lv_goto (tgt := 268) hx hb dX7_readKeys_190 (by decide) ?_
                    refine lv_goto (tgt := 6) hx hb dX7_readKeys_268 (by decide) ?_
                    exact ih f _ _ y9 mn (-1 - nI nx) kv lw x (sI M2 33 (-1 - nI nx)) (E ++ E2) hI2 (hK2.trans (Kc.kj ((Kp.kc (Kp.rfl' _)).i33 _))) rfl h412 (by omega) (by omega) (fun q => absurd q hfx) (fun _ => hbad) (fun q => absurd q hfx) (⟨by omega, fun q => absurd q hfx⟩) (⟨by omega, fun q => absurd q hfx⟩) (Or.inr (by omega)) (by omega) _ _ h _ (lv_sub hl [5, 6, 7, 8] rfl)
                  · obtain ⟨k9, hk9⟩ : ∃ z, x.2.1 = some z := by
                      cases q : x.2.1 with
                      | none => exact absurd q hKn
                      | some z => exact ⟨z, rfl⟩
                    have hk9x := hx2b k9 hk9
                    obtain ⟨hk9l, j9, hj9⟩ := hk9x
                    have hj9l := hx2c j9 hj9
                    have hkv : kv = nI k9 := by rw [hx6, hk9]; rfl
                    have hlw : lw = nI j9 := by rw [hx7, hj9]; rfl
                    rw [hkv, hlw] at hl
                    by_cases hP : kd = 7 ∨ kd = 14
                    · have hpk1 : pkS x kd bd = (if keyOk bd (decide (kd = 7)) = true then laK x (comeS x.1 (k9 + 1) (sk (notK 6) x.1 (k9 + 1)) 14 8 (bd.take (kSize bd)) (secO bd (decide (kd = 7)))) else none) := by rw [hpk0, if_neg hO, hk9]; exact if_pos hP
                      have hba9 : ∃ ba, bo9 = some ba ∧ (ba, ial dA bd) ∈ F ++ (E ++ E2) := by
                        rcases e5 with q | ⟨-, a, q1, q2⟩
                        · exfalso; omega
                        · exact ⟨a, q1, List.mem_append_right _ (List.mem_append_right _ (by rw [q2]; exact List.mem_cons_self))⟩
                      obtain ⟨ba, hba1, hba2⟩ := hba9
                      rw [hba1] at h442
                      refine lv_iload hx hb dX7_readKeys_97 (lv_at hl 1 rfl) ?_
                      refine z_if_ne (tgt := 129) hx hb dX7_readKeys_99 (by decide) (fun c99 => by exfalso; exact hO (of_decide_eq_true c99)) (fun c99 => ?_)
                      refine lv_iload_n hx hb dX7_readKeys_102 rfl (lv_at hl 4 rfl) ?_
                      refine lv_iconst (v := -1) hx hb dX7_readKeys_103 (by decide) ?_
                      refine lv_icmp_eq (tgt := 133) hx hb dX7_readKeys_104 (by decide) (fun c104 => by exfalso; cases (oI_ne (o := some k9) (fun i hi => by cases hi; omega)).mp c104) (fun c104 => ?_)
                      refine lv_iload hx hb dX7_readKeys_107 (lv_at hl 0 rfl) ?_
                      refine z_if_ne (tgt := 129) hx hb dX7_readKeys_109 (by decide) (fun c109 => ?_) (fun c109 => by exfalso; exact absurd hP (of_decide_eq_false c109))
                      refine lv_iconst (v := nI 1) hx hb dX7_readKeys_129 (by decide) ?_
                      refine lv_goto (tgt := 134) hx hb dX7_readKeys_130 (by decide) ?_
                      refine lv_istore (lv' := [(7, .int (nI 1)), (6, .int (bZ (decide (kd = 7 ∨ kd = 14)))), (5, .int (bZ (decide (kd = 5 ∨ kd = 6)))), (4, .int (bZ tjp)), (0, .ref h0), (1, .int (nI k9)), (2, .int (nI j9)), (3, .int (nI mn))]) hx hb dX7_readKeys_134 hl (by decide) rfl (fun ls hl => ?_)
                      refine lv_iload hx hb dX7_readKeys_136 (lv_at hl 0 rfl) ?_
                      refine n_if_eq (tgt := 184) hx hb (by omega) dX7_readKeys_138 (by decide) (fun c138 => by exfalso; omega) (fun c138 => ?_)
                      refine lv_iload hx hb dX7_readKeys_141 (lv_at hl 2 rfl) ?_
                      refine z_if_ne (tgt := 151) hx hb dX7_readKeys_143 (by decide) (fun c143 => by exfalso; exact hO (of_decide_eq_true c143)) (fun c143 => ?_)
                      refine lv_iload hx hb dX7_readKeys_146 (lv_at hl 1 rfl) ?_
                      refine z_if_eq (tgt := 193) hx hb dX7_readKeys_148 (by decide) (fun c148 => by exfalso; exact absurd hP (of_decide_eq_false c148)) (fun c148 => ?_)
                      refine lv_aload_n hx hb dX7_readKeys_151 rfl (lv_at hl 4 rfl) ?_
                      refine lv_aload_n hx hb dX7_readKeys_152 rfl (lv_at hl 4 rfl) ?_
                      refine m_gr C h 44 (by decide) rfl rfl q1914 (v := some ba) h442 dX7_readKeys_153 ?_
                      have j178 : ∀ (H : Heap) (locs : List Loc), Wd D B s (mw dA h0 ad M2 ++ (F ++ (E ++ E2))) H locs → ∀ (ls : Array Slot), lv_has ls 9 [(7, .int (nI 1)), (6, .int (bZ (decide (kd = 7 ∨ kd = 14)))), (5, .int (bZ (decide (kd = 5 ∨ kd = 6)))), (4, .int (bZ tjp)), (0, .ref h0), (1, .int (nI k9)), (2, .int (nI j9)), (3, .int (nI mn))] → W p l e R s m args below meth c H locs (cc + 1 + 0 + 0) (cs + (pktZ rw nx) + 0 + 0) Q (F0 m 178 ls [.int (bZ (decide (kd = 7))), .ref ba, .ref h0]) := by
                        intro   H locs h ls hl
                        refine call_V (As := [.ref ba, .int (bZ (decide (kd = 7)))]) (rest := []) (n := 2) C h (c7_readKey l D dA B Z hZ h0 ad M2 (F ++ (E ++ E2)) ba bd (decide (kd = 7)) hba2 ad3 (by omega)) (lw_V q2217 q2219 qs60 q138 q2220) (by decide +kernel) (ci := 5) rfl rfl mw_mem0 (by decide) (by decide) rfl hl rfl (Nat.le_of_ble_eq_true rfl) dX7_readKeys_178 (by omega) (fun uk H locs huk h => ?_)
                        obtain ⟨x48, x54, x55, x49, r50, r51, r52, E3⟩ := uk
                        obtain ⟨M3, hM3⟩ : ∃ z, z = yM M2 x48 x54 x55 x49 r50 r51 r52 (some ba) := ⟨_, rfl⟩
                        have h : Wd D B s (mw dA h0 ad (yM M2 x48 x54 x55 x49 r50 r51 r52 (some ba)) ++ (F ++ (E ++ E2) ++ E3)) H locs := h
                        have hF3 : F ++ (E ++ E2) ++ E3 = F ++ (E ++ (E2 ++ E3)) := by rw [List.append_assoc, List.append_assoc]
                        rw [← hM3, hF3] at h
                        have hKp3 : Kp M2 M3 := by rw [hM3]; exact yM_kp _ _ _ _ _ _ _ _ _
                        have hI3 : MI M3 := by rw [hM3]; exact hI2
                        have hK3 : Kj M M3 := hK2.trans hKp3.kc.kj
                        have hR3 : NewR dA (F ++ (E ++ (E2 ++ E3))) ad M3 x.1 := hR2.kp hKp3 (fun z hz => by rw [← hF3]; exact List.mem_append_left _ hz)
                        have hba3 : (ba, ial dA bd) ∈ F ++ (E ++ (E2 ++ E3)) := by rw [← hF3]; exact List.mem_append_left _ hba2
                        have h333 : mI M3 33 = mI M2 33 := hKp3.1 33 (by decide)
                        have h413 : mI M3 41 = mI M2 41 := hKp3.1 41 (by decide)
                        have h423 : mI M3 42 = mI M2 42 := hKp3.1 42 (by decide)
                        have h433 : mI M3 43 = mI M2 43 := hKp3.1 43 (by decide)
                        rw [h332] at h333
                        rw [h412] at h413
                        rw [h422] at h423
                        rw [h432] at h433
                        have h443 : mR M3 44 = some ba := (hKp3.2.2.1 44 (by decide)).trans h442
                        show W p l e R s m args below meth c H locs (cc + 1 + 0 + 0 + 6) (cs + (pktZ rw nx) + 0 + 0 + (6 * bd.length)) Q (F0 m 181 ls [.int (bZ (keyOk bd (decide (kd = 7))))])
                        refine z_if_ne (tgt := 193) hx hb dX7_readKeys_181 (by decide) (fun c181 => ?_) (fun c181 => ?_)
                        · have hkt : keyOk bd (decide (kd = 7)) = true := c181
                          rw [if_pos hkt] at hpk1
                          have hbl9 := keyOk_len hkt ad3 (by omega)
                          obtain ⟨g1, g2, g3, g4, g5⟩ := huk hkt
                          have h483 : mI M3 48 = nI (kSize bd) := by rw [hM3]; exact g1
                          have h523 : refIs dA (F ++ (E ++ (E2 ++ E3))) (mR M3 52) (secO bd (decide (kd = 7))) := by
                            have e9 : mR M3 52 = r52 := by rw [hM3]; rfl
                            rw [e9]
                            unfold secO
                            by_cases q : decide (kd = 7) = true
                            · rw [if_pos q] at g5 ⊢
                              obtain ⟨a9, z1, z2⟩ := g5
                              exact ⟨a9, z1, by rw [← hF3]; exact List.mem_append_right _ z2⟩
                            · rw [if_neg q] at g5 ⊢
                              exact g5
                          have hsec : ∀ z, secO bd (decide (kd = 7)) = some z → byt z ∧ z.length ≤ 4096 := by
                            intro z hz
                            unfold secO at hz
                            split at hz
                            · cases hz
                              have := kSec_ok ad3
                              exact ⟨this.1, by omega⟩
                            · cases hz
                          have how9 : byt (bd.take (kSize bd)) ∧ (bd.take (kSize bd)).length ≤ 4096 := ⟨fun z hz => ad3 z (List.mem_of_mem_take hz), by rw [List.length_take]; omega⟩
                          have hks9 := kSize_le ad3
                          refine lv_iload hx hb dX7_readKeys_193 (lv_at hl 2 rfl) ?_
                          refine z_if_eq (tgt := 220) hx hb dX7_readKeys_195 (by decide) (fun c195 => ?_) (fun c195 => by exfalso; exact hO (of_decide_eq_true c195))
                          refine lv_iload hx hb dX7_readKeys_220 (lv_at hl 1 rfl) ?_
                          refine z_if_eq (tgt := 245) hx hb dX7_readKeys_222 (by decide) (fun c222 => by exfalso; exact absurd hP (of_decide_eq_false c222)) (fun c222 => ?_)
                          refine lv_aload_n hx hb dX7_readKeys_225 rfl (lv_at hl 4 rfl) ?_
                          refine lv_iload_n hx hb dX7_readKeys_226 rfl (lv_at hl 5 rfl) ?_
                          refine lv_iconst (v := nI 1) hx hb dX7_readKeys_227 (by decide) ?_
                          refine lv_iadd hx hb dX7_readKeys_228 (n_top (y := nI (k9 + 1)) (nI_add k9 1) ?_)
                          refine lv_aload_n hx hb dX7_readKeys_229 rfl (lv_at hl 4 rfl) ?_
                          refine lv_iload_n hx hb dX7_readKeys_230 rfl (lv_at hl 5 rfl) ?_
                          refine call_V (As := [.int (nI k9)]) (rest := [.int (nI (k9 + 1)), .ref h0]) (n := 1) C h (c7_endOf l D dA B Z hZ h0 ad M3 (F ++ (E ++ (E2 ++ E3))) x.1 k9 hR3 hx2a (by omega) hk9l) (lw_V q2321 q2323 qs78 q138 q2324) (by decide +kernel) (ci := 5) rfl rfl mw_mem0 (by decide) (by decide) rfl hl rfl (Nat.le_of_ble_eq_true rfl) dX7_readKeys_231 (by omega) (fun _ H locs _ h => ?_)
                          have hsl9 := sk_le (P := notK 6) (L := x.1) (q := k9 + 1) (by omega)
                          refine lv_bipush (v := nI 14) hx hb dX7_readKeys_234 (by decide) ?_
                          refine lv_bipush (v := nI 8) hx hb dX7_readKeys_236 (by decide) ?_
                          have hcnt : cntF x.1 14 ((sk (notK 6) x.1 (k9 + 1)) - (k9 + 1)) (k9 + 1) ≤ 8 := (hPc x hxp).2 k9 hk9
                          have hcok := comeS_ok (L := x.1) (a := (k9 + 1)) (b := (sk (notK 6) x.1 (k9 + 1))) (k := 14) (most := 8) (own := bd.take (kSize bd)) (sec := secO bd (decide (kd = 7))) hx2a (by omega) (by omega) (by decide) (keyOk_take hkt ad3) how9.1 how9.2 hsec
                          have hcw := comeS_w x.1 (k9 + 1) (sk (notK 6) x.1 (k9 + 1)) 14 8 (bd.take (kSize bd)) (secO bd (decide (kd = 7)))
                          refine call_V (As := [.int (nI (k9 + 1)), .int (nI (sk (notK 6) x.1 (k9 + 1))), .int (nI 14), .int (nI 8)]) (rest := []) (n := 4) C h (c7_comes l D dA B Z hZ h0 ad M3 (F ++ (E ++ (E2 ++ E3))) x.1 (k9 + 1) (sk (notK 6) x.1 (k9 + 1)) 14 8 ba nx bd (secO bd (decide (kd = 7))) hzs hzR hI3 hR3 hx2a (by omega) (by omega) (by omega) (by decide) (by decide) h443 hba3 ad3 (by omega) h423 h483 h523 h333) (lw_V q2236 q2238 qs64 q138 q2239) (by decide +kernel) (ci := 5) rfl rfl mw_mem0 (by decide) (by decide) rfl hl rfl (Nat.le_of_ble_eq_true rfl) dX7_readKeys_238 (by omega) (fun uc H locs huc h => ?_)
                          obtain ⟨M4, E4⟩ := uc
                          obtain ⟨hI4, hC4, hR4, h334⟩ := huc
                          have hI4 : MI M4 := hI4
                          have hC4 : Kc M3 M4 := hC4
                          have hK4 : Kj M M4 := hK3.trans hC4.kj
                          have h414 : mI M4 41 = nI y9 := (hC4.1 41 (by decide) (by decide) (by decide)).trans h413
                          have hF4 : F ++ (E ++ (E2 ++ E3)) ++ E4 = F ++ (E ++ (E2 ++ E3) ++ E4) := by rw [List.append_assoc]
                          obtain ⟨cr, hcr⟩ : ∃ z, z = (comeS x.1 (k9 + 1) (sk (notK 6) x.1 (k9 + 1)) 14 8 (bd.take (kSize bd)) (secO bd (decide (kd = 7)))) := ⟨_, rfl⟩
                          rw [← hcr] at hR4 h334 hcok hcw hpk1 ⊢
                          obtain ⟨ro, L4⟩ := cr
                          have h : Wd D B s (mw dA h0 ad M4 ++ (F ++ (E ++ (E2 ++ E3) ++ E4))) H locs := by rw [← hF4]; exact h
                          rw [hF4] at hR4
                          obtain ⟨k1, k2, k3, k4⟩ := hcok
                          have k2 : x.1.length ≤ L4.length := k2
                          have k3 : L4.length ≤ x.1.length + 1 := k3
                          have hcw : wK L4 ≤ wK x.1 + 1 := hcw
                          have h334 : mI M4 33 = toldK nx ro := h334
                          show W p l e R s m args below meth c H locs (cc + 1 + 0 + 0 + 6 + 0 + (2 + cntF x.1 14 ((sk (notK 6) x.1 (k9 + 1)) - (k9 + 1)) (k9 + 1))) (cs + (pktZ rw nx) + 0 + 0 + (6 * bd.length) + 0 + (kSize bd + 20 + 20 * cntF x.1 14 ((sk (notK 6) x.1 (k9 + 1)) - (k9 + 1)) (k9 + 1))) Q (F0 m 241 ls [.int (oI ro)])
                          refine lv_istore_n (lv' := [(2, .int (oI ro)), (7, .int (nI 1)), (6, .int (bZ (decide (kd = 7 ∨ kd = 14)))), (5, .int (bZ (decide (kd = 5 ∨ kd = 6)))), (4, .int (bZ tjp)), (0, .ref h0), (1, .int (nI k9)), (3, .int (nI mn))]) hx hb dX7_readKeys_241 rfl hl (by decide) rfl (fun ls hl => ?_)
                          refine lv_goto (tgt := 268) hx hb dX7_readKeys_242 (by decide) ?_
                          cases hro : ro with
                          | none =>
                            rw [hro] at h334 hpk1 hl
                            have hbad : R0.1 = -1 - nI nx := by rw [hst, hpk1]; rfl
                            refine lv_goto (tgt := 6) hx hb dX7_readKeys_268 (by decide) ?_
                            exact ih f _ _ y9 mn (-1 - nI nx) (nI k9) (oI none) x M4 (E ++ (E2 ++ E3) ++ E4) hI4 hK4 h334 h414 (by omega) (by omega) (fun q => absurd q hfx) (fun _ => hbad) (fun q => absurd q hfx) (⟨by omega, fun q => absurd q hfx⟩) (⟨by omega, fun q => absurd q hfx⟩) (Or.inr (by omega)) (by omega) _ _ h _ (lv_sub hl [5, 6, 0, 7] rfl)
                          | some j4 =>
                            rw [hro] at h334 hpk1 hl
                            have hj4 : j4 < L4.length := k4 j4 hro
                            have hpk3 : pkS x kd bd = some (L4, x.2.1, some j4, x.2.2.2) := hpk1
                            rw [hpk3] at hst
                            have hst : R0 = keysS rw f (L4, x.2.1, some j4, x.2.2.2) y9 := hst
                            refine lv_goto (tgt := 6) hx hb dX7_readKeys_268 (by decide) ?_
                            exact ih f _ _ y9 mn 0 (nI k9) (oI (some j4)) (L4, x.2.1, some j4, x.2.2.2) M4 (E ++ (E2 ++ E3) ++ E4) hI4 hK4 h334 h414 (by omega) (by omega) (fun _ => ⟨hst, ⟨k1, fun k hk => ⟨Nat.lt_of_lt_of_le (hx2b k hk).1 k2, j4, rfl⟩, fun j hj => by cases hj; exact hj4⟩, hR4, by show 2 * L4.length + _ ≤ _; omega, by show 65 * wK L4 ≤ _; omega, by rw [hk9]; rfl, rfl, hx8, hPs _ _ _ _ hxp hpk3⟩) (fun q => absurd rfl q) (fun _ => by omega) (by omega) (by omega) (Or.inl rfl) (by omega) _ _ h _ (lv_sub hl [5, 6, 0, 7] rfl)
                        · have hkf : keyOk bd (decide (kd = 7)) = false := c181
                          have hpk2 : pkS x kd bd = none := by rw [hpk1, if_neg (by rw [hkf]; decide)]
                          refine lv_aload_n hx hb dX7_readKeys_184 rfl (lv_at hl 4 rfl) ?_
                          refine call_V (As := []) (rest := []) (n := 0) C h (c7_failPacket l D dA B Z hZ h0 ad M3 (F ++ (E ++ (E2 ++ E3))) nx h423) (lw_V q2193 q2195 qs57 q138 q2196) (by decide +kernel) (ci := 5) rfl rfl mw_mem0 (by decide) (by decide) rfl hl rfl (Nat.le_of_ble_eq_true rfl) dX7_readKeys_185 (by omega) (fun _ H locs _ h => ?_)
                          rw [h333, failT_0] at h
                          have hbad : R0.1 = -1 - nI nx := by rw [hst, hpk2]; rfl
                          refine lv_istore (lv' := [(8, .int (bZ false)), (7, .int (nI 1)), (6, .int (bZ (decide (kd = 7 ∨ kd = 14)))), (5, .int (bZ (decide (kd = 5 ∨ kd = 6)))), (4, .int (bZ tjp)), (0, .ref h0), (1, .int (nI k9)), (2, .int (nI j9)), (3, .int (nI mn))]) hx hb dX7_readKeys_188 hl (by decide) rfl (fun ls hl => ?_)
                          refine lv_goto (tgt := 268) hx hb dX7_readKeys_190 (by decide) ?_
                          refine lv_goto (tgt := 6) hx hb dX7_readKeys_268 (by decide) ?_
                          exact ih f _ _ y9 mn (-1 - nI nx) (nI k9) (nI j9) x (sI M3 33 (-1 - nI nx)) (E ++ (E2 ++ E3)) hI3 (hK3.trans (Kc.kj ((Kp.kc (Kp.rfl' _)).i33 _))) rfl h413 (by omega) (by omega) (fun q => absurd q hfx) (fun _ => hbad) (fun q => absurd q hfx) (⟨by omega, fun q => absurd q hfx⟩) (⟨by omega, fun q => absurd q hfx⟩) (Or.inr (by omega)) (by omega) _ _ h _ (lv_sub hl [5, 6, 7, 8] rfl)
                      refine lv_aload_n hx hb dX7_readKeys_156 rfl (lv_at hl 4 rfl) ?_
                      refine m_gi C h 43 (by decide) rfl rfl q1913 (v := nI kd) h432 dX7_readKeys_157 ?_
                      refine lv_iconst (v := nI 5) hx hb dX7_readKeys_160 (by decide) ?_
                      refine n_icmp_eq (tgt := 173) hx hb (by omega) (by omega) dX7_readKeys_161 (by decide) (fun c161 => by exfalso; omega) (fun c161 => ?_)
                      refine lv_aload_n hx hb dX7_readKeys_164 rfl (lv_at hl 4 rfl) ?_
                      refine m_gi C h 43 (by decide) rfl rfl q1913 (v := nI kd) h432 dX7_readKeys_165 ?_
                      refine lv_bipush (v := nI 7) hx hb dX7_readKeys_168 (by decide) ?_
                      refine n_icmp_ne (tgt := 177) hx hb (by omega) (by omega) dX7_readKeys_170 (by decide) (fun c170 => ?_) (fun c170 => ?_)
                      · refine lv_iconst (v := nI 0) hx hb dX7_readKeys_177 (by decide) ?_
                        refine n_top (y := bZ (decide (kd = 7))) (by first | (rw [decide_eq_true (by omega)]; rfl) | (rw [decide_eq_false (by omega)]; rfl)) ?_
                        exact j178   _ _ h _ (lv_sub hl [0, 1, 2, 3, 4, 5, 6, 7] rfl)
                      · refine lv_iconst (v := nI 1) hx hb dX7_readKeys_173 (by decide) ?_
                        refine lv_goto (tgt := 178) hx hb dX7_readKeys_174 (by decide) ?_
                        refine n_top (y := bZ (decide (kd = 7))) (by first | (rw [decide_eq_true (by omega)]; rfl) | (rw [decide_eq_false (by omega)]; rfl)) ?_
                        exact j178   _ _ h _ (lv_sub hl [0, 1, 2, 3, 4, 5, 6, 7] rfl)
                    · by_cases hU : kd = 13
                      · have hpk1 : pkS x kd bd = laK x (userS x.1 k9 bd) := by rw [hpk0, if_neg hO, hk9]; show underK x kd bd k9 = _; unfold underK; rw [if_neg hP, if_pos hU]
                        have hba9 : ∃ ba, bo9 = some ba ∧ (ba, ial dA bd) ∈ F ++ (E ++ E2) := by
                          rcases e5 with q | ⟨-, a, q1, q2⟩
                          · exfalso; omega
                          · exact ⟨a, q1, List.mem_append_right _ (List.mem_append_right _ (by rw [q2]; exact List.mem_cons_self))⟩
                        obtain ⟨ba, hba1, hba2⟩ := hba9
                        rw [hba1] at h442
                        refine lv_iload hx hb dX7_readKeys_97 (lv_at hl 1 rfl) ?_
                        refine z_if_ne (tgt := 129) hx hb dX7_readKeys_99 (by decide) (fun c99 => by exfalso; exact hO (of_decide_eq_true c99)) (fun c99 => ?_)
                        refine lv_iload_n hx hb dX7_readKeys_102 rfl (lv_at hl 4 rfl) ?_
                        refine lv_iconst (v := -1) hx hb dX7_readKeys_103 (by decide) ?_
                        refine lv_icmp_eq (tgt := 133) hx hb dX7_readKeys_104 (by decide) (fun c104 => by exfalso; cases (oI_ne (o := some k9) (fun i hi => by cases hi; omega)).mp c104) (fun c104 => ?_)
                        refine lv_iload hx hb dX7_readKeys_107 (lv_at hl 0 rfl) ?_
                        refine z_if_ne (tgt := 129) hx hb dX7_readKeys_109 (by decide) (fun c109 => by exfalso; exact hP (of_decide_eq_true c109)) (fun c109 => ?_)
                        refine lv_aload_n hx hb dX7_readKeys_112 rfl (lv_at hl 3 rfl) ?_
                        refine m_gi C h 43 (by decide) rfl rfl q1913 (v := nI kd) h432 dX7_readKeys_113 ?_
                        refine lv_iconst (v := nI 2) hx hb dX7_readKeys_116 (by decide) ?_
                        refine n_icmp_eq (tgt := 129) hx hb (by omega) (by omega) dX7_readKeys_117 (by decide) (fun c117 => by exfalso; omega) (fun c117 => ?_)
                        refine lv_aload_n hx hb dX7_readKeys_120 rfl (lv_at hl 3 rfl) ?_
                        refine m_gi C h 43 (by decide) rfl rfl q1913 (v := nI kd) h432 dX7_readKeys_121 ?_
                        refine lv_bipush (v := nI 13) hx hb dX7_readKeys_124 (by decide) ?_
                        refine n_icmp_ne (tgt := 133) hx hb (by omega) (by omega) dX7_readKeys_126 (by decide) (fun c126 => by exfalso; omega) (fun c126 => ?_)
                        refine lv_iconst (v := nI 1) hx hb dX7_readKeys_129 (by decide) ?_
                        refine lv_goto (tgt := 134) hx hb dX7_readKeys_130 (by decide) ?_
                        refine lv_istore (lv' := [(7, .int (nI 1)), (6, .int (bZ (decide (kd = 7 ∨ kd = 14)))), (5, .int (bZ (decide (kd = 5 ∨ kd = 6)))), (4, .int (bZ tjp)), (0, .ref h0), (1, .int (nI k9)), (2, .int (nI j9)), (3, .int (nI mn))]) hx hb dX7_readKeys_134 hl (by decide) rfl (fun ls hl => ?_)
                        refine lv_iload hx hb dX7_readKeys_136 (lv_at hl 0 rfl) ?_
                        refine n_if_eq (tgt := 184) hx hb (by omega) dX7_readKeys_138 (by decide) (fun c138 => by exfalso; omega) (fun c138 => ?_)
                        refine lv_iload hx hb dX7_readKeys_141 (lv_at hl 2 rfl) ?_
                        refine z_if_ne (tgt := 151) hx hb dX7_readKeys_143 (by decide) (fun c143 => by exfalso; exact hO (of_decide_eq_true c143)) (fun c143 => ?_)
                        refine lv_iload hx hb dX7_readKeys_146 (lv_at hl 1 rfl) ?_
                        refine z_if_eq (tgt := 193) hx hb dX7_readKeys_148 (by decide) (fun c148 => ?_) (fun c148 => by exfalso; exact hP (of_decide_eq_true c148))
                        refine lv_iload hx hb dX7_readKeys_193 (lv_at hl 2 rfl) ?_
                        refine z_if_eq (tgt := 220) hx hb dX7_readKeys_195 (by decide) (fun c195 => ?_) (fun c195 => by exfalso; exact hO (of_decide_eq_true c195))
                        refine lv_iload hx hb dX7_readKeys_220 (lv_at hl 1 rfl) ?_
                        refine z_if_eq (tgt := 245) hx hb dX7_readKeys_222 (by decide) (fun c222 => ?_) (fun c222 => by exfalso; exact hP (of_decide_eq_true c222))
                        refine lv_aload_n hx hb dX7_readKeys_245 rfl (lv_at hl 4 rfl) ?_
                        refine m_gi C h 43 (by decide) rfl rfl q1913 (v := nI kd) h432 dX7_readKeys_246 ?_
                        refine lv_bipush (v := nI 13) hx hb dX7_readKeys_249 (by decide) ?_
                        refine n_icmp_ne (tgt := 263) hx hb (by omega) (by omega) dX7_readKeys_251 (by decide) (fun c251 => by exfalso; omega) (fun c251 => ?_)
                        refine lv_aload_n hx hb dX7_readKeys_254 rfl (lv_at hl 4 rfl) ?_
                        refine lv_iload_n hx hb dX7_readKeys_255 rfl (lv_at hl 5 rfl) ?_
                        have hcok := userS_ok (L := x.1) (q := k9) (lb := bd) hx2a hk9l ad3 (by omega)
                        have hcw := userS_w x.1 k9 bd
                        refine call_V (As := [.int (nI k9)]) (rest := []) (n := 1) C h (c7_userComes l D dA B Z hZ h0 ad M2 (F ++ (E ++ E2)) x.1 k9 ba nx bd hzs hI2 hR2 hx2a (by omega) hk9l h442 hba2 ad3 (by omega) h422 h332) (lw_V q2325 q2327 qs79 q138 q2328) (by decide +kernel) (ci := 5) rfl rfl mw_mem0 (by decide) (by decide) rfl hl rfl (Nat.le_of_ble_eq_true rfl) dX7_readKeys_256 (by omega) (fun M4 H locs huc h => ?_)
                        obtain ⟨hI4, hC4, hR4, h334⟩ := huc
                        have hK4 : Kj M M4 := hK2.trans hC4.kj
                        have h414 : mI M4 41 = nI y9 := (hC4.1 41 (by decide) (by decide) (by decide)).trans h412
                        obtain ⟨cr, hcr⟩ : ∃ z, z = userS x.1 k9 bd := ⟨_, rfl⟩
                        rw [← hcr] at hR4 h334 hcok hcw hpk1 ⊢
                        obtain ⟨ro, L4⟩ := cr
                        obtain ⟨k1, k2, k3, k4⟩ := hcok
                        have k2 : x.1.length ≤ L4.length := k2
                        have k3 : L4.length ≤ x.1.length + 1 := k3
                        have hcw : wK L4 = wK x.1 := hcw
                        have h334 : mI M4 33 = toldK nx ro := h334
                        show W p l e R s m args below meth c H locs (cc + 1 + 0 + 0 + 0) (cs + (pktZ rw nx) + 0 + 0 + 0) Q (F0 m 259 ls [.int (oI ro)])
                        refine lv_istore_n (lv' := [(2, .int (oI ro)), (7, .int (nI 1)), (6, .int (bZ (decide (kd = 7 ∨ kd = 14)))), (5, .int (bZ (decide (kd = 5 ∨ kd = 6)))), (4, .int (bZ tjp)), (0, .ref h0), (1, .int (nI k9)), (3, .int (nI mn))]) hx hb dX7_readKeys_259 rfl hl (by decide) rfl (fun ls hl => ?_)
                        refine lv_goto (tgt := 268) hx hb dX7_readKeys_260 (by decide) ?_
                        cases hro : ro with
                        | none =>
                          rw [hro] at h334 hpk1 hl
                          have hbad : R0.1 = -1 - nI nx := by rw [hst, hpk1]; rfl
                          refine lv_goto (tgt := 6) hx hb dX7_readKeys_268 (by decide) ?_
                          exact ih f _ _ y9 mn (-1 - nI nx) (nI k9) (oI none) x M4 (E ++ E2) hI4 hK4 h334 h414 (by omega) (by omega) (fun q => absurd q hfx) (fun _ => hbad) (fun q => absurd q hfx) (⟨by omega, fun q => absurd q hfx⟩) (⟨by omega, fun q => absurd q hfx⟩) (Or.inr (by omega)) (by omega) _ _ h _ (lv_sub hl [5, 6, 0, 7] rfl)
                        | some j4 =>
                          rw [hro] at h334 hpk1 hl
                          have hj4 : j4 < L4.length := k4 j4 hro
                          have hpk3 : pkS x kd bd = some (L4, x.2.1, some j4, x.2.2.2) := hpk1
                          rw [hpk3] at hst
                          have hst : R0 = keysS rw f (L4, x.2.1, some j4, x.2.2.2) y9 := hst
                          refine lv_goto (tgt := 6) hx hb dX7_readKeys_268 (by decide) ?_
                          exact ih f _ _ y9 mn 0 (nI k9) (oI (some j4)) (L4, x.2.1, some j4, x.2.2.2) M4 (E ++ E2) hI4 hK4 h334 h414 (by omega) (by omega) (fun _ => ⟨hst, ⟨k1, fun k hk => ⟨Nat.lt_of_lt_of_le (hx2b k hk).1 k2, j4, rfl⟩, fun j hj => by cases hj; exact hj4⟩, hR4, by show 2 * L4.length + _ ≤ _; omega, by show 65 * wK L4 ≤ _; omega, by rw [hk9]; rfl, rfl, hx8, hPs _ _ _ _ hxp hpk3⟩) (fun q => absurd rfl q) (fun _ => by omega) (by omega) (by omega) (Or.inl rfl) (by omega) _ _ h _ (lv_sub hl [5, 6, 0, 7] rfl)
                      · by_cases hS : kd = 2
                        · have hpk1 : pkS x kd bd = sealK2 x (sealS x.1 j9 bd) := by rw [hpk0, if_neg hO, hk9]; show underK x kd bd k9 = _; unfold underK; rw [if_neg hP, if_neg hU, if_pos hS, hj9]; rfl
                          have hba9 : ∃ ba, bo9 = some ba ∧ (ba, ial dA bd) ∈ F ++ (E ++ E2) := by
                            rcases e5 with q | ⟨-, a, q1, q2⟩
                            · exfalso; omega
                            · exact ⟨a, q1, List.mem_append_right _ (List.mem_append_right _ (by rw [q2]; exact List.mem_cons_self))⟩
                          obtain ⟨ba, hba1, hba2⟩ := hba9
                          rw [hba1] at h442
                          refine lv_iload hx hb dX7_readKeys_97 (lv_at hl 1 rfl) ?_
                          refine z_if_ne (tgt := 129) hx hb dX7_readKeys_99 (by decide) (fun c99 => by exfalso; exact hO (of_decide_eq_true c99)) (fun c99 => ?_)
                          refine lv_iload_n hx hb dX7_readKeys_102 rfl (lv_at hl 4 rfl) ?_
                          refine lv_iconst (v := -1) hx hb dX7_readKeys_103 (by decide) ?_
                          refine lv_icmp_eq (tgt := 133) hx hb dX7_readKeys_104 (by decide) (fun c104 => by exfalso; cases (oI_ne (o := some k9) (fun i hi => by cases hi; omega)).mp c104) (fun c104 => ?_)
                          refine lv_iload hx hb dX7_readKeys_107 (lv_at hl 0 rfl) ?_
                          refine z_if_ne (tgt := 129) hx hb dX7_readKeys_109 (by decide) (fun c109 => by exfalso; exact hP (of_decide_eq_true c109)) (fun c109 => ?_)
                          refine lv_aload_n hx hb dX7_readKeys_112 rfl (lv_at hl 3 rfl) ?_
                          refine m_gi C h 43 (by decide) rfl rfl q1913 (v := nI kd) h432 dX7_readKeys_113 ?_
                          refine lv_iconst (v := nI 2) hx hb dX7_readKeys_116 (by decide) ?_
                          refine n_icmp_eq (tgt := 129) hx hb (by omega) (by omega) dX7_readKeys_117 (by decide) (fun c117 => ?_) (fun c117 => by exfalso; omega)
                          refine lv_iconst (v := nI 1) hx hb dX7_readKeys_129 (by decide) ?_
                          refine lv_goto (tgt := 134) hx hb dX7_readKeys_130 (by decide) ?_
                          refine lv_istore (lv' := [(7, .int (nI 1)), (6, .int (bZ (decide (kd = 7 ∨ kd = 14)))), (5, .int (bZ (decide (kd = 5 ∨ kd = 6)))), (4, .int (bZ tjp)), (0, .ref h0), (1, .int (nI k9)), (2, .int (nI j9)), (3, .int (nI mn))]) hx hb dX7_readKeys_134 hl (by decide) rfl (fun ls hl => ?_)
                          refine lv_iload hx hb dX7_readKeys_136 (lv_at hl 0 rfl) ?_
                          refine n_if_eq (tgt := 184) hx hb (by omega) dX7_readKeys_138 (by decide) (fun c138 => by exfalso; omega) (fun c138 => ?_)
                          refine lv_iload hx hb dX7_readKeys_141 (lv_at hl 2 rfl) ?_
                          refine z_if_ne (tgt := 151) hx hb dX7_readKeys_143 (by decide) (fun c143 => by exfalso; exact hO (of_decide_eq_true c143)) (fun c143 => ?_)
                          refine lv_iload hx hb dX7_readKeys_146 (lv_at hl 1 rfl) ?_
                          refine z_if_eq (tgt := 193) hx hb dX7_readKeys_148 (by decide) (fun c148 => ?_) (fun c148 => by exfalso; exact hP (of_decide_eq_true c148))
                          refine lv_iload hx hb dX7_readKeys_193 (lv_at hl 2 rfl) ?_
                          refine z_if_eq (tgt := 220) hx hb dX7_readKeys_195 (by decide) (fun c195 => ?_) (fun c195 => by exfalso; exact hO (of_decide_eq_true c195))
                          refine lv_iload hx hb dX7_readKeys_220 (lv_at hl 1 rfl) ?_
                          refine z_if_eq (tgt := 245) hx hb dX7_readKeys_222 (by decide) (fun c222 => ?_) (fun c222 => by exfalso; exact hP (of_decide_eq_true c222))
                          refine lv_aload_n hx hb dX7_readKeys_245 rfl (lv_at hl 4 rfl) ?_
                          refine m_gi C h 43 (by decide) rfl rfl q1913 (v := nI kd) h432 dX7_readKeys_246 ?_
                          refine lv_bipush (v := nI 13) hx hb dX7_readKeys_249 (by decide) ?_
                          refine n_icmp_ne (tgt := 263) hx hb (by omega) (by omega) dX7_readKeys_251 (by decide) (fun c251 => ?_) (fun c251 => by exfalso; omega)
                          refine lv_aload_n hx hb dX7_readKeys_263 rfl (lv_at hl 4 rfl) ?_
                          refine lv_iload_n hx hb dX7_readKeys_264 rfl (lv_at hl 6 rfl) ?_
                          have hcok := sealS_ok (L := x.1) (q := j9) (lb := bd) hx2a hj9l ad3 (by omega)
                          have hcw := sealS_w x.1 j9 bd
                          refine call_V (As := [.int (nI j9)]) (rest := []) (n := 1) C h (c7_sealComes l D dA B Z hZ h0 ad M2 (F ++ (E ++ E2)) x.1 j9 ba nx bd hzs hI2 hR2 hx2a (by omega) hj9l h442 hba2 ad3 (by omega) h422 h332) (lw_V q2337 q2339 qs82 q138 q2340) (by decide +kernel) (ci := 5) rfl rfl mw_mem0 (by decide) (by decide) rfl hl rfl (Nat.le_of_ble_eq_true rfl) dX7_readKeys_265 (by omega) (fun uc H locs huc h => ?_)
                          obtain ⟨M4, E4⟩ := uc
                          obtain ⟨hI4, hC4, hR4, h334⟩ := huc
                          have hI4 : MI M4 := hI4
                          have hC4 : Kc M2 M4 := hC4
                          have hK4 : Kj M M4 := hK2.trans hC4.kj
                          have h414 : mI M4 41 = nI y9 := (hC4.1 41 (by decide) (by decide) (by decide)).trans h412
                          have hF4 : F ++ (E ++ E2) ++ E4 = F ++ (E ++ E2 ++ E4) := by rw [List.append_assoc]
                          obtain ⟨cr, hcr⟩ : ∃ z, z = sealS x.1 j9 bd := ⟨_, rfl⟩
                          rw [← hcr] at hR4 h334 hcok hcw hpk1
                          obtain ⟨ro, L4⟩ := cr
                          have h : Wd D B s (mw dA h0 ad M4 ++ (F ++ (E ++ E2 ++ E4))) H locs := by rw [← hF4]; exact h
                          rw [hF4] at hR4
                          obtain ⟨k1, k2, k3⟩ := hcok
                          have k2 : x.1.length ≤ L4.length := k2
                          have k3 : L4.length ≤ x.1.length + 1 := k3
                          have hcw : wK L4 = wK x.1 := hcw
                          have h334 : mI M4 33 = (if ro = true then 0 else -1 - nI nx) := h334
                          cases hro : ro with
                          | false =>
                            rw [hro, if_neg (by decide)] at h334
                            have hbad : R0.1 = -1 - nI nx := by rw [hst, hpk1, hro]; rfl
                            refine lv_goto (tgt := 6) hx hb dX7_readKeys_268 (by decide) ?_
                            exact ih f _ _ y9 mn (-1 - nI nx) (nI k9) (nI j9) x M4 (E ++ E2 ++ E4) hI4 hK4 h334 h414 (by omega) (by omega) (fun q => absurd q hfx) (fun _ => hbad) (fun q => absurd q hfx) (⟨by omega, fun q => absurd q hfx⟩) (⟨by omega, fun q => absurd q hfx⟩) (Or.inr (by omega)) (by omega) _ _ h _ (lv_sub hl [4, 5, 6, 7] rfl)
                          | true =>
                            rw [hro, if_pos rfl] at h334
                            have hpk3 : pkS x kd bd = some (L4, x.2) := by rw [hpk1, hro]; rfl
                            rw [hpk3] at hst
                            have hst : R0 = keysS rw f (L4, x.2) y9 := hst
                            refine lv_goto (tgt := 6) hx hb dX7_readKeys_268 (by decide) ?_
                            exact ih f _ _ y9 mn 0 (nI k9) (nI j9) (L4, x.2) M4 (E ++ E2 ++ E4) hI4 hK4 h334 h414 (by omega) (by omega) (fun _ => ⟨hst, ⟨k1, fun k hk => ⟨Nat.lt_of_lt_of_le (hx2b k hk).1 k2, (hx2b k hk).2⟩, fun j hj => Nat.lt_of_lt_of_le (hx2c j hj) k2⟩, hR4, by show 2 * L4.length + _ ≤ _; omega, by show 65 * wK L4 ≤ _; omega, by show _ = oI x.2.1; rw [hk9]; rfl, by show _ = oI x.2.2.1; rw [hj9]; rfl, hx8, hPs _ _ _ _ hxp hpk3⟩) (fun q => absurd rfl q) (fun _ => by omega) (by omega) (by omega) (Or.inl rfl) (by omega) _ _ h _ (lv_sub hl [4, 5, 6, 7] rfl)
                        · have hpk1 : pkS x kd bd = none := by rw [hpk0, if_neg hO, hk9]; show underK x kd bd k9 = _; unfold underK; rw [if_neg hP, if_neg hU, if_neg hS]
                          refine lv_iload hx hb dX7_readKeys_97 (lv_at hl 1 rfl) ?_
                          refine z_if_ne (tgt := 129) hx hb dX7_readKeys_99 (by decide) (fun c99 => by exfalso; exact hO (of_decide_eq_true c99)) (fun c99 => ?_)
                          refine lv_iload_n hx hb dX7_readKeys_102 rfl (lv_at hl 4 rfl) ?_
                          refine lv_iconst (v := -1) hx hb dX7_readKeys_103 (by decide) ?_
                          refine lv_icmp_eq (tgt := 133) hx hb dX7_readKeys_104 (by decide) (fun c104 => by exfalso; cases (oI_ne (o := some k9) (fun i hi => by cases hi; omega)).mp c104) (fun c104 => ?_)
                          refine lv_iload hx hb dX7_readKeys_107 (lv_at hl 0 rfl) ?_
                          refine z_if_ne (tgt := 129) hx hb dX7_readKeys_109 (by decide) (fun c109 => by exfalso; exact hP (of_decide_eq_true c109)) (fun c109 => ?_)
                          refine lv_aload_n hx hb dX7_readKeys_112 rfl (lv_at hl 3 rfl) ?_
                          refine m_gi C h 43 (by decide) rfl rfl q1913 (v := nI kd) h432 dX7_readKeys_113 ?_
                          refine lv_iconst (v := nI 2) hx hb dX7_readKeys_116 (by decide) ?_
                          refine n_icmp_eq (tgt := 129) hx hb (by omega) (by omega) dX7_readKeys_117 (by decide) (fun c117 => by exfalso; omega) (fun c117 => ?_)
                          refine lv_aload_n hx hb dX7_readKeys_120 rfl (lv_at hl 3 rfl) ?_
                          refine m_gi C h 43 (by decide) rfl rfl q1913 (v := nI kd) h432 dX7_readKeys_121 ?_
                          refine lv_bipush (v := nI 13) hx hb dX7_readKeys_124 (by decide) ?_
                          refine n_icmp_ne (tgt := 133) hx hb (by omega) (by omega) dX7_readKeys_126 (by decide) (fun c126 => ?_) (fun c126 => by exfalso; omega)
                          refine lv_iconst (v := nI 0) hx hb dX7_readKeys_133 (by decide) ?_
                          refine lv_istore (lv' := [(7, .int (nI 0)), (6, .int (bZ (decide (kd = 7 ∨ kd = 14)))), (5, .int (bZ (decide (kd = 5 ∨ kd = 6)))), (4, .int (bZ tjp)), (0, .ref h0), (1, .int (nI k9)), (2, .int (nI j9)), (3, .int (nI mn))]) hx hb dX7_readKeys_134 hl (by decide) rfl (fun ls hl => ?_)
                          refine lv_iload hx hb dX7_readKeys_136 (lv_at hl 0 rfl) ?_
                          refine n_if_eq (tgt := 184) hx hb (by omega) dX7_readKeys_138 (by decide) (fun c138 => ?_) (fun c138 => by exfalso; omega)
                          have hpk2 : pkS x kd bd = none := hpk1
                          refine lv_aload_n hx hb dX7_readKeys_184 rfl (lv_at hl 4 rfl) ?_
                          refine call_V (As := []) (rest := []) (n := 0) C h (c7_failPacket l D dA B Z hZ h0 ad M2 (F ++ (E ++ E2)) nx h422) (lw_V q2193 q2195 qs57 q138 q2196) (by decide +kernel) (ci := 5) rfl rfl mw_mem0 (by decide) (by decide) rfl hl rfl (Nat.le_of_ble_eq_true rfl) dX7_readKeys_185 (by omega) (fun _ H locs _ h => ?_)
                          rw [h332, failT_0] at h
                          have hbad : R0.1 = -1 - nI nx := by rw [hst, hpk2]; rfl
                          refine lv_istore (lv' := [(8, .int (bZ false)), (7, .int (nI 0)), (6, .int (bZ (decide (kd = 7 ∨ kd = 14)))), (5, .int (bZ (decide (kd = 5 ∨ kd = 6)))), (4, .int (bZ tjp)), (0, .ref h0), (1, .int (nI k9)), (2, .int (nI j9)), (3, .int (nI mn))]) hx hb dX7_readKeys_188 hl (by decide) rfl (fun ls hl => ?_)
                          refine lv_goto (tgt := 268) hx hb dX7_readKeys_190 (by decide) ?_
                          refine lv_goto (tgt := 6) hx hb dX7_readKeys_268 (by decide) ?_
                          exact ih f _ _ y9 mn (-1 - nI nx) (nI k9) (nI j9) x (sI M2 33 (-1 - nI nx)) (E ++ E2) hI2 (hK2.trans (Kc.kj ((Kp.kc (Kp.rfl' _)).i33 _))) rfl h412 (by omega) (by omega) (fun q => absurd q hfx) (fun _ => hbad) (fun q => absurd q hfx) (⟨by omega, fun q => absurd q hfx⟩) (⟨by omega, fun q => absurd q hfx⟩) (Or.inr (by omega)) (by omega) _ _ h _ (lv_sub hl [5, 6, 7, 8] rfl)
            refine lv_aload_n hx hb dX7_readKeys_31 rfl (lv_at hl 0 rfl) ?_
            refine m_gi C h 43 (by decide) rfl rfl q1913 (v := nI kd) h432 dX7_readKeys_32 ?_
            refine lv_bipush (v := nI 10) hx hb dX7_readKeys_35 (by decide) ?_
            refine n_icmp_eq (tgt := 67) hx hb (by omega) (by omega) dX7_readKeys_37 (by decide) (fun c37 => ?_) (fun c37 => ?_)
            · refine lv_iconst (v := nI 1) hx hb dX7_readKeys_67 (by decide) ?_
              refine lv_goto (tgt := 72) hx hb dX7_readKeys_68 (by decide) ?_
              refine n_top (y := bZ true) rfl ?_
              exact jp true ((decide_eq_true (by omega)).symm) _ _ h _ (lv_sub hl [0, 1, 2, 3] rfl)
            · refine lv_aload_n hx hb dX7_readKeys_40 rfl (lv_at hl 0 rfl) ?_
              refine m_gi C h 43 (by decide) rfl rfl q1913 (v := nI kd) h432 dX7_readKeys_41 ?_
              refine lv_bipush (v := nI 12) hx hb dX7_readKeys_44 (by decide) ?_
              refine n_icmp_eq (tgt := 67) hx hb (by omega) (by omega) dX7_readKeys_46 (by decide) (fun c46 => ?_) (fun c46 => ?_)
              · refine lv_iconst (v := nI 1) hx hb dX7_readKeys_67 (by decide) ?_
                refine lv_goto (tgt := 72) hx hb dX7_readKeys_68 (by decide) ?_
                refine n_top (y := bZ true) rfl ?_
                exact jp true ((decide_eq_true (by omega)).symm) _ _ h _ (lv_sub hl [0, 1, 2, 3] rfl)
              · refine lv_aload_n hx hb dX7_readKeys_49 rfl (lv_at hl 0 rfl) ?_
                refine m_gi C h 43 (by decide) rfl rfl q1913 (v := nI kd) h432 dX7_readKeys_50 ?_
                refine lv_bipush (v := nI 17) hx hb dX7_readKeys_53 (by decide) ?_
                refine n_icmp_eq (tgt := 67) hx hb (by omega) (by omega) dX7_readKeys_55 (by decide) (fun c55 => ?_) (fun c55 => ?_)
                · refine lv_iconst (v := nI 1) hx hb dX7_readKeys_67 (by decide) ?_
                  refine lv_goto (tgt := 72) hx hb dX7_readKeys_68 (by decide) ?_
                  refine n_top (y := bZ true) rfl ?_
                  exact jp true ((decide_eq_true (by omega)).symm) _ _ h _ (lv_sub hl [0, 1, 2, 3] rfl)
                · refine lv_aload_n hx hb dX7_readKeys_58 rfl (lv_at hl 0 rfl) ?_
                  refine m_gi C h 43 (by decide) rfl rfl q1913 (v := nI kd) h432 dX7_readKeys_59 ?_
                  refine lv_bipush (v := nI 40) hx hb dX7_readKeys_62 (by decide) ?_
                  refine n_icmp_lt (tgt := 71) hx hb (by omega) (by omega) dX7_readKeys_64 (by decide) (fun c64 => ?_) (fun c64 => ?_)
                  · refine lv_iconst (v := nI 0) hx hb dX7_readKeys_71 (by decide) ?_
                    refine n_top (y := bZ false) rfl ?_
                    exact jp false ((decide_eq_false (by omega)).symm) _ _ h _ (lv_sub hl [0, 1, 2, 3] rfl)
                  · refine lv_iconst (v := nI 1) hx hb dX7_readKeys_67 (by decide) ?_
                    refine lv_goto (tgt := 72) hx hb dX7_readKeys_68 (by decide) ?_
                    refine n_top (y := bZ true) rfl ?_
                    exact jp true ((decide_eq_true (by omega)).symm) _ _ h _ (lv_sub hl [0, 1, 2, 3] rfl)
  exact loop _ (rw.length + 1) _ _ 0 0 0 (-1) (-1) (L0, none, none, 0) M [] hI (Kj.rfl' M) h33 h41 (by omega) (by omega) (fun _ => ⟨hR0, ⟨hPK, (fun k hk => by cases hk), (fun j hj => by cases hj)⟩, hR.kj (fun z hz => List.mem_append_left _ hz) rfl rfl rfl rfl rfl rfl rfl, by show 2 * L0.length + _ ≤ _; omega, by show 65 * wK L0 ≤ _; omega, rfl, rfl, rfl, hP0⟩) (fun q => absurd rfl q) (fun _ => by omega) (by omega) (by omega) (Or.inl rfl) (Nat.lt_succ_self _) _ _ h _ (lv_sub hl [3, 2, 1, 0] rfl)
