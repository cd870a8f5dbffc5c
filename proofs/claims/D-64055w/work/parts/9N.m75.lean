set_option maxRecDepth 100000

theorem gro_mono {cap m m' : Nat} (h0 : 0 < cap) (h : m ≤ m') : gro cap m ≤ gro cap m' := by
  rw [← gro_gro h0 h]
  exact (gro_b (m := m') (by have := gro_b (cap := cap) (m := m) h0; omega)).2.1
theorem SBis_nil {g : Nat → Nat} {n : Nat} : SBis g n [] := ⟨Nat.zero_le _, fun j hj => absurd hj (Nat.not_lt_zero _)⟩
theorem SBis.sl {g : Nat → Nat} {n : Nat} {l : List Nat} (h : SBis g n l) : sl g 0 l.length = l := by
  have e := sl_congr (g := g) (f := gD l) (a := 0) (b := 0) (n := l.length) (fun j hj => by rw [Nat.zero_add]; exact h.2 j hj)
  rw [e]; exact sl_gD l
/-- a row's array after a method: as great as it was or as it had to be -/
def GrOk (cap m c2 : Nat) : Prop := 64 ≤ c2 ∧ cap ≤ c2 ∧ c2 ≤ gro cap m
theorem GrOk.of {cap m n : Nat} (h : 64 ≤ cap) (hn : n ≤ m) : GrOk cap m (gro cap n) := by
  have h1 := gro_b (cap := cap) (m := n) (by omega)
  exact ⟨by omega, h1.2.1, gro_mono (by omega) hn⟩
theorem GrOk.rf {cap m : Nat} (h : 64 ≤ cap) : GrOk cap m cap := by
  have h1 := gro_b (cap := cap) (m := m) (by omega)
  exact ⟨h, Nat.le_refl _, h1.2.1⟩
def bodyS (lt : List Nat) (u : LU) : LU × List Nat := bodyF lt (lt.length + 2) false [] (lineS lt (headsS lt u))
theorem signsS_b {tx lb : List Nat} {u : LU} (h : (bodyS tx u).1.1 ≠ 0) : signsS tx lb u = bodyS tx u := by
  have h : (bodyF tx (tx.length + 2) false [] (lineS tx (headsS tx u))).1.1 ≠ 0 := h
  unfold signsS; rw [if_neg h]; rfl
theorem signsS_s {tx lb : List Nat} {u : LU} {v : LU} {acc : List Nat} (h : bodyS tx u = (v, acc)) (h0 : v.1 = 0) (hs : sumOk tx v.2.2.1 v.2.2.2 acc = false) : signsS tx lb u = (failLn v v.2.2.1, acc) := by
  have e : bodyF tx (tx.length + 2) false [] (lineS tx (headsS tx u)) = (v, acc) := h
  unfold signsS
  rw [e, if_pos h0]
  show (if sumOk tx v.2.2.1 v.2.2.2 acc = true then _ else _) = _
  rw [if_neg (by rw [hs]; decide)]
theorem signsS_t {tx lb : List Nat} {u : LU} {v : LU} {acc : List Nat} (h : bodyS tx u = (v, acc)) (h0 : v.1 = 0) (hs : sumOk tx v.2.2.1 v.2.2.2 acc = true) : signsS tx lb u = (endF tx lb (lineS tx v), acc) := by
  have e : bodyF tx (tx.length + 2) false [] (lineS tx (headsS tx u)) = (v, acc) := h
  unfold signsS
  rw [e, if_pos h0]
  show (if sumOk tx v.2.2.1 v.2.2.2 acc = true then _ else _) = _
  rw [if_pos hs]
theorem endF_n {tx lb : List Nat} {v : LU} : endF tx lb (false, v) = v := by
  unfold endF; rw [if_neg (show ¬ false = true by decide)]
theorem endF_t {tx lb : List Nat} {v : LU} (h : sl (gD tx) v.2.2.1 (v.2.2.2 - v.2.2.1) = [45, 45, 45, 45, 45, 69, 78, 68, 32] ++ lb ++ [45, 45, 45, 45, 45]) : endF tx lb (true, v) = tailF tx (tx.length + 2) v := by
  unfold endF; rw [if_pos rfl, if_pos h]
theorem endF_f {tx lb : List Nat} {v : LU} (h : ¬ sl (gD tx) v.2.2.1 (v.2.2.2 - v.2.2.1) = [45, 45, 45, 45, 45, 69, 78, 68, 32] ++ lb ++ [45, 45, 45, 45, 45]) : endF tx lb (true, v) = failLn v v.2.2.1 := by
  unfold endF; rw [if_pos rfl, if_neg h]
theorem tailF_s {tx : List Nat} {f n a t : Nat} (h : n < tx.length) : tailF tx (f + 1) (0, n, a, t) = if n < stripL tx n (eolL tx n) then (-100000 - nI n, eolL tx n + 1, n, stripL tx n (eolL tx n)) else tailF tx f (0, eolL tx n + 1, n, stripL tx n (eolL tx n)) := by
  rw [tailF, if_pos ⟨rfl, h⟩, lineS_g h]
  show (if n < stripL tx n (eolL tx n) then failLn (0, eolL tx n + 1, n, stripL tx n (eolL tx n)) n else _) = _
  rw [failLn_0]
theorem ok5_f {tx : List Nat} {fr : Nat} : ∀ {n k : Nat}, k < n → vOk (gD tx (fr + (k + 1))) = false → ok5 tx fr n = false := by
  intro n
  induction n with
  | zero => intro k h; omega
  | succ n ih =>
    intro k h hv
    rw [ok5]
    by_cases q : k = n
    · rw [← q, hv, Bool.and_false]
    · rw [ih (by omega) hv, Bool.false_and]
theorem sumOk_l {tx acc : List Nat} {fr to : Nat} (h : ¬ to - fr = 5) : sumOk tx fr to acc = false := by
  unfold sumOk; rw [decide_eq_false h, Bool.false_and]
theorem sumOk_v {tx acc : List Nat} {fr to k : Nat} (hk : k < 4) (h : vOk (gD tx (fr + (k + 1))) = false) : sumOk tx fr to acc = false := by
  unfold sumOk; rw [ok5_f hk h, Bool.false_and, Bool.and_false]
theorem sumOk_c {tx acc : List Nat} {fr to : Nat} (h : ¬ sum5 tx fr 4 = crcS acc) : sumOk tx fr to acc = false := by
  unfold sumOk; rw [decide_eq_false h, Bool.and_false, Bool.and_false]
theorem sumOk_t {tx acc : List Nat} {fr to : Nat} (h : to - fr = 5) (h1 : ok5 tx fr 4 = true) (h2 : sum5 tx fr 4 = crcS acc) : sumOk tx fr to acc = true := by
  unfold sumOk; rw [decide_eq_true h, h1, decide_eq_true h2]; rfl

set_option maxHeartbeats 400000 in
set_option maxRecDepth 100000 in
theorem c12_signs (l : Launch) (D : va_G) (dA : Nat → ClassId) (B : Nat) (Z : State → Prop) (hZ : Stab B Z) (F : va_W) (li tx n0 : Nat) (gt : Nat → Nat) (lt : List Nat) (nx fr to sa sv : Nat) (lb : List Nat) (r b cap : Nat) (g : Nat → Nat) (lr : List Nat) (hlt : l.stackTraces = false) (hzx : ZX B Z) (hzs : ZS dA B Z) (htx : (tx, bar dA n0 gt) ∈ F) (hsb : SBis gt n0 lt) (hbt : byt lt) (hn0 : n0 < 1000000) (hl4 : lt.length ≤ 4096) (hnx : nx ≤ 5000) (hs : StrV dA B Z F sa sv lb) (hlb : ∀ x ∈ lb, x < 128) (hll : lb.length ≤ 13) (hsr : SBis g cap lr) (hcap : 64 ≤ cap) (hcm : cap < 400000) :
    CtX (S := (Nat × Nat × Nat) × Nat × Nat × (Nat → Nat) × va_W) (SX := Nat × (Nat × Nat × Nat) × Nat × Nat × (Nat → Nat) × List Nat × va_W) l D dA B Z yX12_signs cX12_signs 6 (some ((.object "SignetRing$Row"))) 10 (rC cap lt.length + 20) (rS cap lt.length + 1300) [.ref li, .ref sa, .ref r] ([(li, .inr (9, [.ref tx, .int (nI lt.length), .int (nI nx), .int (nI fr), .int (nI to)])), (r, .inr (1, [.ref b, .int (nI lr.length)])), (b, bar dA cap g)] ++ F) (fun u => (signsS lt lb (0, nx, fr, to)).1.1 = 0 ∧ SBis u.2.2.2.1 u.2.2.1 (signsS lt lb (0, nx, fr, to)).2 ∧ byt (signsS lt lb (0, nx, fr, to)).2 ∧ (signsS lt lb (0, nx, fr, to)).2.length ≤ lt.length ∧ GrOk cap lt.length u.2.2.1 ∧ ∀ x ∈ F, x ∈ u.2.2.2.2) (fun _ => some (.ref r)) (fun u => [(li, .inr (9, [.ref tx, .int (nI lt.length), .int (nI u.1.1), .int (nI u.1.2.1), .int (nI u.1.2.2)])), (r, .inr (1, [.ref u.2.1, .int (nI ((signsS lt lb (0, nx, fr, to)).2.length))])), (u.2.1, bar dA u.2.2.1 u.2.2.2.1)] ++ u.2.2.2.2) (fun u => (signsS lt lb (0, nx, fr, to)).1.1 ≠ 0 ∧ FaultIn u.2.2.2.2.2.2 u.1 (signsS lt lb (0, nx, fr, to)).1.1 ∧ SBis u.2.2.2.2.1 u.2.2.2.1 u.2.2.2.2.2.1 ∧ GrOk cap lt.length u.2.2.2.1 ∧ ∀ x ∈ F, x ∈ u.2.2.2.2.2.2) (fun u => u.1) (fun _ => "SignetRing$Fault") (fun u => [(li, .inr (9, [.ref tx, .int (nI lt.length), .int (nI u.2.1.1), .int (nI u.2.1.2.1), .int (nI u.2.1.2.2)])), (r, .inr (1, [.ref u.2.2.1, .int (nI u.2.2.2.2.2.1.length)])), (u.2.2.1, bar dA u.2.2.2.1 u.2.2.2.2.1)] ++ u.2.2.2.2.2.2) := by
  refine CtX.mk2 (by decide) (Nat.le_of_ble_eq_true rfl) hZ ?_
  intro p e R s m args below meth c ls Q C hr hlocks hin hex hQ hl h
  have C0 := C
  obtain ⟨hx, hb, hml, hown, hts, -⟩ := C0
  have hl : lv_has ls 6 [(0, .ref li), (1, .ref sa), (2, .ref r)] := hl
  have hsl := hsb.1
  have hgm := gro_b (cap := cap) (m := lt.length) (by omega)
  refine lv_aload_n hx hb dX12_signs_0 rfl (lv_at hl 0 rfl) ?_
  refine call_VX (As := []) (rest := []) (n := 0) C h (c12_heads l D dA B Z hZ ([(r, .inr (1, [.ref b, .int (nI lr.length)])), (b, bar dA cap g)] ++ F) li tx n0 gt lt nx fr to hlt hzx (List.mem_append_right _ htx) hsb hbt hn0 hl4 hnx) (lw_V q977 q978 q979 q149 q980) (by decide +kernel) (o_recv C h (RC := RX12) (T := TX12) (N := 5) (List.mem_of_getElem? (i := 0) rfl) rfl) (by decide) (by decide) rfl hl rfl (Nat.le_of_ble_eq_true rfl) dX12_signs_1 (by omega) (fun ux ce9 H locs hux h hce9 hcv9 hcl9 => ?_) (fun _ H locs hu h => ?_)
  · obtain ⟨q9, ⟨n9, f9, t9⟩, E9⟩ := ux
    obtain ⟨hx1, x9, hx2⟩ := hux
    have h : Wd D B s ([(li, .inr (9, [.ref tx, .int (nI lt.length), .int (nI n9), .int (nI f9), .int (nI t9)])), (r, .inr (1, [.ref b, .int (nI lr.length)])), (b, bar dA cap g)] ++ (F ++ E9)) H locs := h
    have e8 : bodyS lt (0, nx, fr, to) = (headsS lt (0, nx, fr, to), []) := by unfold bodyS; rw [lineS_n hx1, bodyF_e (fun z => absurd (show false = true from z.1) (by decide))]
    have e9 : (signsS lt lb (0, nx, fr, to)) = (headsS lt (0, nx, fr, to), []) := by rw [signsS_b (by rw [e8]; exact hx1), e8]
    subst hQ
    exact thr_out C hex hlocks h (q9, (n9, f9, t9), b, cap, g, lr, F ++ E9) rfl rfl (⟨by rw [e9]; exact hx1, ⟨x9, by rw [e9]; exact List.mem_append_right _ hx2⟩, hsr, GrOk.rf hcap, fun z hz => List.mem_append_left _ hz⟩) rfl hce9 hcv9 hcl9 (by omega) (by omega)
  obtain ⟨t9, n1, f1, t1, hHS⟩ : ∃ z1 z2 z3 z4, headsS lt (0, nx, fr, to) = (z1, z2, z3, z4) := ⟨_, _, _, _, rfl⟩
  have hn1 := headsS_le lt (0, nx, fr, to) hl4 hnx
  rw [hHS] at hu h hn1
  dsimp only at hu hn1
  rw [hu] at hHS
  have h : Wd D B s ([(li, .inr (9, [.ref tx, .int (nI lt.length), .int (nI n1), .int (nI f1), .int (nI t1)])), (r, .inr (1, [.ref b, .int (nI lr.length)])), (b, bar dA cap g)] ++ F) H locs := h
  refine lv_aload_n hx hb dX12_signs_4 rfl (lv_at hl 2 rfl) ?_
  have h : Wd D B s ([(r, .inr (1, [.ref b, .int (nI lr.length)])), (b, bar dA cap g), (li, .inr (9, [.ref tx, .int (nI lt.length), .int (nI n1), .int (nI f1), .int (nI t1)]))] ++ F) H locs := h.perm [1, 2, 0] rfl rfl
  refine call_VR (As := []) (rest := []) (n := 0) C h (c2_clear l D dA B Z hZ ([(li, .inr (9, [.ref tx, .int (nI lt.length), .int (nI n1), .int (nI f1), .int (nI t1)]))] ++ F) r b cap g lr) (lw_V q986 q554 q555 q130 q556) (by decide +kernel) (o_recv C h (RC := RX2) (T := TX2) (N := 2) (List.mem_of_getElem? (i := 0) rfl) rfl) (by decide) (by decide) rfl hl rfl (Nat.le_of_ble_eq_true rfl) dX12_signs_5 (by omega) (fun _ H locs _ h => ?_)
  have h : Wd D B s ([(r, .inr (1, [.ref b, .int (nI (([] : List Nat).length))])), (b, bar dA cap g), (li, .inr (9, [.ref tx, .int (nI lt.length), .int (nI n1), .int (nI f1), .int (nI t1)]))] ++ F) H locs := h
  refine lv_iconst (v := nI 0) hx hb dX12_signs_8 (by decide) ?_
  refine lv_istore_n (lv' := [(3, .int (nI 0)), (0, .ref li), (1, .ref sa), (2, .ref r)]) hx hb dX12_signs_9 rfl hl (by decide) rfl (fun ls hl => ?_)
  refine lv_aload_n hx hb dX12_signs_10 rfl (lv_at hl 1 rfl) ?_
  by_cases hc11 : n1 < lt.length
  · have h : Wd D B s ([(li, .inr (9, [.ref tx, .int (nI lt.length), .int (nI n1), .int (nI f1), .int (nI t1)])), (r, .inr (1, [.ref b, .int (nI (([] : List Nat).length))])), (b, bar dA cap g)] ++ F) H locs := h.perm [2, 0, 1] rfl rfl
    refine call_VR (As := []) (rest := []) (n := 0) C h (c12_line l D dA B Z hZ ([(r, .inr (1, [.ref b, .int (nI (([] : List Nat).length))])), (b, bar dA cap g)] ++ F) li tx n0 gt lt n1 f1 t1 (List.mem_append_right _ htx) hsb hbt hn0 hl4 (by omega)) (lw_V q981 q609 q610 q149 q611) (by decide +kernel) (o_recv C h (RC := RX12) (T := TX12) (N := 5) (List.mem_of_getElem? (i := 0) rfl) rfl) (by decide) (by decide) rfl hl rfl (Nat.le_of_ble_eq_true rfl) dX12_signs_11 (by omega) (fun _ H locs _ h => ?_)
    have h : Wd D B s ([(li, .inr (9, [.ref tx, .int (nI lt.length), .int (nI (eolL lt n1 + 1)), .int (nI n1), .int (nI (stripL lt n1 (eolL lt n1)))])), (r, .inr (1, [.ref b, .int (nI (([] : List Nat).length))])), (b, bar dA cap g)] ++ F) H locs := h
    have z9 := eol_strip hc11
    have hl : lv_has ls 6 [(3, .int (bZ false)), (0, .ref li), (1, .ref sa), (2, .ref r)] := hl
    have hb0 : bodyS lt (0, nx, fr, to) = bodyF lt (lt.length + 2) false [] (true, (0, eolL lt n1 + 1, n1, stripL lt n1 (eolL lt n1))) := by unfold bodyS; rw [hHS, lineS_g hc11]
    have h : Wd D B s ([(li, .inr (9, [.ref tx, .int (nI lt.length), .int (nI (eolL lt n1 + 1)), .int (nI n1), .int (nI (stripL lt n1 (eolL lt n1)))])), (r, .inr (1, [.ref b, .int (nI (([] : List Nat).length))])), (b, bar dA cap g)] ++ F) H locs := h.perm [0, 1, 2] rfl rfl
    have loop : ∀ (nn : Nat) (f na fa ta : Nat) (e9 : Bool) (acc : List Nat) (b2 c2 : Nat) (g2 : Nat → Nat) (F2 : va_W) (cc cs : Nat), (bodyS lt (0, nx, fr, to) = bodyF lt f e9 acc (true, (0, na, fa, ta))) → (lt.length + 1 < na + f) → (fa ≤ ta) → (ta ≤ lt.length) → (na ≤ lt.length + 1) → (ta < na) → (acc.length ≤ fa) → (byt acc) → (SBis g2 c2 acc) → (c2 = gro cap acc.length) → (∀ x ∈ F, x ∈ F2) → (cc ≤ 1 + rC cap acc.length) → (cs ≤ 7 + rS cap acc.length) → f < nn → ∀ (H : Heap) (locs : List Loc), Wd D B s ([(li, .inr (9, [.ref tx, .int (nI lt.length), .int (nI na), .int (nI fa), .int (nI ta)])), (r, .inr (1, [.ref b2, .int (nI acc.length)])), (b2, bar dA c2 g2)] ++ F2) H locs → ∀ (ls : Array Slot), lv_has ls 6 [(3, .int (bZ e9)), (0, .ref li), (1, .ref sa), (2, .ref r)] → W p l e R s m args below meth c H locs cc cs Q (F0 m 14 ls []) := by
      intro nn
      induction nn with
      | zero => intro f na fa ta  e9  acc  b2 c2  g2  F2  cc cs  hB0 hfu hft htl hna htn hal hab hs2 hc2 hsub hcc hcs hme; exact absurd hme (Nat.not_lt_zero _)
      | succ nn ih =>
        intro f na fa ta  e9  acc  b2 c2  g2  F2  cc cs  hB0 hfu hft htl hna htn hal hab hs2 hc2 hsub hcc hcs hme H locs h ls hl
        obtain ⟨f7, hf7⟩ : ∃ z, f = z + 1 := ⟨f - 1, by omega⟩
        rw [hf7] at hB0
        have hgb9 := gro_b (cap := cap) (m := acc.length) (by omega)
        have hmn := rC_add (cap := cap) (m := acc.length) (m' := lt.length) (by omega) (by omega)
        have hgo := GrOk.of (cap := cap) (m := lt.length) (n := acc.length) hcap (by omega)
        have hlt2 : c2 ≤ gro cap lt.length := by rw [hc2]; exact hgo.2.2
        have j99 : (bodyS lt (0, nx, fr, to) = ((0, na, fa, ta), acc)) → ∀ (H : Heap) (locs : List Loc), Wd D B s ([(li, .inr (9, [.ref tx, .int (nI lt.length), .int (nI na), .int (nI fa), .int (nI ta)])), (r, .inr (1, [.ref b2, .int (nI acc.length)])), (b2, bar dA c2 g2)] ++ F2) H locs → ∀ (ls : Array Slot), lv_has ls 6 [(0, .ref li), (1, .ref sa), (2, .ref r)] → W p l e R s m args below meth c H locs cc cs Q (F0 m 99 ls []) := by
          intro  hBD H locs h ls hl
          refine lv_aload_n hx hb dX12_signs_99 rfl (lv_at hl 0 rfl) ?_
          refine call_VR (As := []) (rest := []) (n := 0) C h (c12_length l D dA B Z hZ ([(r, .inr (1, [.ref b2, .int (nI acc.length)])), (b2, bar dA c2 g2)] ++ F2) li tx lt.length na fa ta n0 gt (List.mem_append_right _ (hsub _ htx)) (fun j hj => by rw [hsb.2 j hj]; exact byt_gD hbt j) hn0 hsb.1 (by omega) (by omega)) (lw_V q945 q946 q947 q149 q948) (by decide +kernel) (o_recv C h (RC := RX12) (T := TX12) (N := 5) (List.mem_of_getElem? (i := 0) rfl) rfl) (by decide) (by decide) rfl hl rfl (Nat.le_of_ble_eq_true rfl) dX12_signs_100 (by omega) (fun _ H locs _ h => ?_)
          have h : Wd D B s ([(li, .inr (9, [.ref tx, .int (nI lt.length), .int (nI na), .int (nI fa), .int (nI ta)])), (r, .inr (1, [.ref b2, .int (nI acc.length)])), (b2, bar dA c2 g2)] ++ F2) H locs := h
          refine lv_iconst (v := nI 5) hx hb dX12_signs_103 (by decide) ?_
          refine n_icmp_eq (tgt := 116) hx hb (by omega) (by omega) dX12_signs_104 (by decide) (fun c104 => ?_) (fun c104 => ?_)
          · refine lv_iconst (v := nI 0) hx hb dX12_signs_116 (by decide) ?_
            refine lv_istore (lv' := [(4, .int (nI 0)), (0, .ref li), (1, .ref sa), (2, .ref r)]) hx hb dX12_signs_117 hl (by decide) rfl (fun ls hl => ?_)
            refine lv_iconst (v := nI 1) hx hb dX12_signs_119 (by decide) ?_
            refine lv_istore (lv' := [(5, .int (nI 1)), (4, .int (nI 0)), (0, .ref li), (1, .ref sa), (2, .ref r)]) hx hb dX12_signs_120 hl (by decide) rfl (fun ls hl => ?_)
            have h5 : ta - fa = 5 := c104
            have hl : lv_has ls 6 [(5, .int (nI (0 + 1))), (4, .int (nI 0)), (0, .ref li), (1, .ref sa), (2, .ref r)] := hl
            have loopK : ∀ (nnK : Nat) (j s9 : Nat), (j ≤ 4) → (ok5 lt fa j = true) → (s9 = sum5 lt fa j) → 4 - j < nnK → ∀ (H : Heap) (locs : List Loc), Wd D B s ([(li, .inr (9, [.ref tx, .int (nI lt.length), .int (nI na), .int (nI fa), .int (nI ta)])), (r, .inr (1, [.ref b2, .int (nI acc.length)])), (b2, bar dA c2 g2)] ++ F2) H locs → ∀ (ls : Array Slot), lv_has ls 6 [(5, .int (nI (j + 1))), (4, .int (nI s9)), (0, .ref li), (1, .ref sa), (2, .ref r)] → W p l e R s m args below meth c H locs (cc + 0) (cs + 0) Q (F0 m 122 ls []) := by
              intro nnK
              induction nnK with
              | zero => intro j s9  hk0 hk1 hk2 hme; exact absurd hme (Nat.not_lt_zero _)
              | succ nnK ihK =>
                intro j s9  hk0 hk1 hk2 hme H locs h ls hl
                have hs5 := sum5_lt j hk1
                rw [← hk2] at hs5
                have hp5 : 64 ^ j ≤ 64 ^ 4 := Nat.pow_le_pow_right (by decide) hk0
                have hbk := byt_gD hbt (fa + (j + 1))
                refine lv_iload hx hb dX12_signs_122 (lv_at hl 0 rfl) ?_
                refine lv_iconst (v := nI 5) hx hb dX12_signs_124 (by decide) ?_
                refine n_icmp_ge (tgt := 172) hx hb (by omega) (by omega) dX12_signs_125 (by decide) (fun c125 => ?_) (fun c125 => ?_)
                · have hj4 : j = 4 := by omega
                  have hsm : s9 = sum5 lt fa 4 := by rw [hk2, hj4]
                  have hok5 : ok5 lt fa 4 = true := by rw [← hj4]; exact hk1
                  have hcl := crcS_lt hab
                  refine lv_iload hx hb dX12_signs_172 (lv_at hl 1 rfl) ?_
                  refine lv_aload_n hx hb dX12_signs_174 rfl (lv_at hl 4 rfl) ?_
                  refine o_get C h (RC := RX2) (T := TX2) (N := 2) (List.mem_of_getElem? (i := 1) rfl) rfl in_X2 0 (by decide) q187 rfl (v := .ref b2) rfl dX12_signs_175 ?_
                  refine lv_aload_n hx hb dX12_signs_178 rfl (lv_at hl 4 rfl) ?_
                  refine o_get C h (RC := RX2) (T := TX2) (N := 2) (List.mem_of_getElem? (i := 1) rfl) rfl in_X2 1 (by decide) q191 rfl (v := .int (nI acc.length)) rfl dX12_signs_179 ?_
                  refine call_SN (As := [.ref b2, .int (nI acc.length)]) (rest := [.int (nI s9)]) (n := 2) C h (c1_sumOf l D dA B Z hZ _ b2 c2 g2 acc.length (List.mem_of_getElem? (i := 2) rfl) hs2.1 (by omega) (fun j hj => by rw [hs2.2 j hj]; exact byt_gD hab j)) (lw_meth q1001) q999 q1000 q129 (by decide +kernel) (by decide) (by decide) rfl hl rfl (Nat.le_of_ble_eq_true rfl) dX12_signs_182 (by omega) (fun _ H locs _ h => ?_)
                  refine n_top (y := nI (crcS acc)) (by rw [hs2.sl]) ?_
                  refine n_icmp_eq (tgt := 197) hx hb (by omega) (by omega) dX12_signs_185 (by decide) (fun c185 => ?_) (fun c185 => ?_)
                  · have hRS : (signsS lt lb (0, nx, fr, to)) = (endF lt lb (lineS lt (0, na, fa, ta)), acc) := signsS_t hBD rfl (sumOk_t h5 hok5 (by rw [← hsm]; exact c185))
                    refine lv_aload_n hx hb dX12_signs_197 rfl (lv_at hl 2 rfl) ?_
                    by_cases hc198 : na < lt.length
                    · refine call_VR (As := []) (rest := []) (n := 0) C h (c12_line l D dA B Z hZ ([(r, .inr (1, [.ref b2, .int (nI acc.length)])), (b2, bar dA c2 g2)] ++ F2) li tx n0 gt lt na fa ta (List.mem_append_right _ (hsub _ htx)) hsb hbt hn0 hl4 (by omega)) (lw_V q981 q609 q610 q149 q611) (by decide +kernel) (o_recv C h (RC := RX12) (T := TX12) (N := 5) (List.mem_of_getElem? (i := 0) rfl) rfl) (by decide) (by decide) rfl hl rfl (Nat.le_of_ble_eq_true rfl) dX12_signs_198 (by omega) (fun _ H locs _ h => ?_)
                      have h : Wd D B s ([(li, .inr (9, [.ref tx, .int (nI lt.length), .int (nI (eolL lt na + 1)), .int (nI na), .int (nI (stripL lt na (eolL lt na)))])), (r, .inr (1, [.ref b2, .int (nI acc.length)])), (b2, bar dA c2 g2)] ++ F2) H locs := h
                      have z7 := eol_strip hc198
                      rw [lineS_g hc198] at hRS
                      refine lv_aload_n hx hb dX12_signs_201 rfl (lv_at hl 2 rfl) ?_
                      obtain ⟨sa86, sv86, hr86, hk86⟩ := hzs.2.2.1 _ (List.mem_of_getElem? (l := strTab) (i := 12) rfl)
                      obtain ⟨sa92, sv92, hr92, hk92⟩ := hzs.2.2.1 _ (List.mem_of_getElem? (l := strTab) (i := 13) rfl)
                      refine o_new C h (RC := RJ12) (T := TJ12) (N := 4) (ci := 18) (fs := [.null, .int 0, .int (bZ false), .int 0]) rfl in_J12 tyJ12_ok q1005 q700 q155 dv_J12 (by omega) (by omega) dX12_signs_202 (fun o1 H h => ?_)
                      have h := Wd.toFront h
                      have h : Wd D B s ([(o1, .inr (18, [.null, .int 0, .int (bZ false), .int 0])), (li, .inr (9, [.ref tx, .int (nI lt.length), .int (nI (eolL lt na + 1)), .int (nI na), .int (nI (stripL lt na (eolL lt na)))])), (r, .inr (1, [.ref b2, .int (nI acc.length)])), (b2, bar dA c2 g2)] ++ F2) H locs := h
                      refine lv_dup hx hb dX12_signs_205 rfl ?_
                      refine call_I (As := []) (rest := [.ref o1, .ref li]) (n := 0) C h (cJ_sbInit l D dA B Z hZ ([(li, .inr (9, [.ref tx, .int (nI lt.length), .int (nI (eolL lt na + 1)), .int (nI na), .int (nI (stripL lt na (eolL lt na)))])), (r, .inr (1, [.ref b2, .int (nI acc.length)])), (b2, bar dA c2 g2)] ++ F2) o1 hzs) (lw_meth q703) q155 q1006 q702 rfl (by decide +kernel) (by decide) (by decide) rfl hl rfl (Nat.le_of_ble_eq_true rfl) dX12_signs_206 (by omega) (fun v0p H locs _ h => ?_)
                      have h : Wd D B s ([(o1, .inr (18, [.ref v0p, .int (nI 0), .int (bZ false), .int (nI (([] : List Nat).length))])), (v0p, bar dA 16 (fun _ => 0)), (li, .inr (9, [.ref tx, .int (nI lt.length), .int (nI (eolL lt na + 1)), .int (nI na), .int (nI (stripL lt na (eolL lt na)))])), (r, .inr (1, [.ref b2, .int (nI acc.length)])), (b2, bar dA c2 g2)] ++ F2) H locs := h
                      have hnl9 : ([] : List Nat).length = 0 := rfl
                      have hsb0p := SBis_0
                      have hnn0p : (16 : Nat) ≤ 16 := Nat.le_refl _
                      refine s_ldc C h hr86 dX12_signs_209 ?_
                      have hle1p : ([45, 45, 45, 45, 45, 69, 78, 68, 32]).length ≤ 20 := by decide
                      refine call_VR (As := [.ref sa86]) (rest := [.ref li]) (n := 1) C h (cJ_append l D dA B Z hZ ([(li, .inr (9, [.ref tx, .int (nI lt.length), .int (nI (eolL lt na + 1)), .int (nI na), .int (nI (stripL lt na (eolL lt na)))])), (r, .inr (1, [.ref b2, .int (nI acc.length)])), (b2, bar dA c2 g2)] ++ F2) o1 v0p 16 (fun _ => 0) false ([] : List Nat) sa86 sv86 ([45, 45, 45, 45, 45, 69, 78, 68, 32]) (nilup hk86 _) (by intro x hx; revert x; decide) (by omega) hzs hsb0p (by omega) (by (try simp only [List.length_append, List.length_nil]) <;> omega)) (lw_V q1008 q732 q733 q155 q734) (by decide +kernel) (o_recv C h (RC := RJ12) (T := TJ12) (N := 4) (List.mem_of_getElem? (i := 0) rfl) rfl) (by decide) (by decide) rfl hl rfl (Nat.le_of_ble_eq_true rfl) dX12_signs_211 (by omega) (fun u1p H locs hu1p h => ?_)
                      obtain ⟨v1p, n1p, g1p, E1p⟩ := u1p
                      obtain ⟨hsb1p, hnn1p⟩ := hu1p
                      have h : Wd D B s ([(o1, .inr (18, [.ref v1p, .int (nI 0), .int (bZ false), .int (nI ((([] : List Nat) ++ [45, 45, 45, 45, 45, 69, 78, 68, 32]).length))])), (v1p, bar dA n1p g1p), (li, .inr (9, [.ref tx, .int (nI lt.length), .int (nI (eolL lt na + 1)), .int (nI na), .int (nI (stripL lt na (eolL lt na)))])), (r, .inr (1, [.ref b2, .int (nI acc.length)])), (b2, bar dA c2 g2)] ++ (F2 ++ E1p)) H locs := h
                      have hsb1p : SBis g1p n1p (([] : List Nat) ++ [45, 45, 45, 45, 45, 69, 78, 68, 32]) := hsb1p
                      have hnn1p : n1p ≤ 2 * 16 + 2 + ((([] : List Nat)).length + ([45, 45, 45, 45, 45, 69, 78, 68, 32]).length) := hnn1p
                      have hll1p : (([] : List Nat) ++ [45, 45, 45, 45, 45, 69, 78, 68, 32]).length ≤ 20 := by simp only [List.length_append, List.length_nil] at *; omega
                      have hnz1p : n1p ≤ 54 := by simp only [List.length_nil] at hnn1p; omega
                      refine lv_aload_n hx hb dX12_signs_214 rfl (lv_at hl 3 rfl) ?_
                      have hle2p : (lb).length ≤ 20 := by omega
                      refine call_VR (As := [.ref sa]) (rest := [.ref li]) (n := 1) C h (cJ_append l D dA B Z hZ ([(li, .inr (9, [.ref tx, .int (nI lt.length), .int (nI (eolL lt na + 1)), .int (nI na), .int (nI (stripL lt na (eolL lt na)))])), (r, .inr (1, [.ref b2, .int (nI acc.length)])), (b2, bar dA c2 g2)] ++ (F2 ++ E1p)) o1 v1p n1p g1p false (([] : List Nat) ++ [45, 45, 45, 45, 45, 69, 78, 68, 32]) sa sv lb (hs.up (fun x hx => List.mem_append_right _ (List.mem_append_left _ (hsub _ hx)))) (fun x hx => Nat.lt_trans (hlb x hx) (by decide)) (by omega) hzs hsb1p (by omega) (by (try simp only [List.length_append, List.length_nil]) <;> omega)) (lw_V q1008 q732 q733 q155 q734) (by decide +kernel) (o_recv C h (RC := RJ12) (T := TJ12) (N := 4) (List.mem_of_getElem? (i := 0) rfl) rfl) (by decide) (by decide) rfl hl rfl (Nat.le_of_ble_eq_true rfl) dX12_signs_215 (by omega) (fun u2p H locs hu2p h => ?_)
                      obtain ⟨v2p, n2p, g2p, E2p⟩ := u2p
                      obtain ⟨hsb2p, hnn2p⟩ := hu2p
                      have h : Wd D B s ([(o1, .inr (18, [.ref v2p, .int (nI 0), .int (bZ false), .int (nI ((([] : List Nat) ++ [45, 45, 45, 45, 45, 69, 78, 68, 32] ++ lb).length))])), (v2p, bar dA n2p g2p), (li, .inr (9, [.ref tx, .int (nI lt.length), .int (nI (eolL lt na + 1)), .int (nI na), .int (nI (stripL lt na (eolL lt na)))])), (r, .inr (1, [.ref b2, .int (nI acc.length)])), (b2, bar dA c2 g2)] ++ ((F2 ++ E1p) ++ E2p)) H locs := h
                      have hsb2p : SBis g2p n2p (([] : List Nat) ++ [45, 45, 45, 45, 45, 69, 78, 68, 32] ++ lb) := hsb2p
                      have hnn2p : n2p ≤ 2 * n1p + 2 + ((([] : List Nat) ++ [45, 45, 45, 45, 45, 69, 78, 68, 32]).length + (lb).length) := hnn2p
                      have hll2p : (([] : List Nat) ++ [45, 45, 45, 45, 45, 69, 78, 68, 32] ++ lb).length ≤ 40 := by simp only [List.length_append, List.length_nil] at *; omega
                      have hnz2p : n2p ≤ 150 := by omega
                      refine s_ldc C h hr92 dX12_signs_218 ?_
                      have hle3p : ([45, 45, 45, 45, 45]).length ≤ 20 := by decide
                      refine call_VR (As := [.ref sa92]) (rest := [.ref li]) (n := 1) C h (cJ_append l D dA B Z hZ ([(li, .inr (9, [.ref tx, .int (nI lt.length), .int (nI (eolL lt na + 1)), .int (nI na), .int (nI (stripL lt na (eolL lt na)))])), (r, .inr (1, [.ref b2, .int (nI acc.length)])), (b2, bar dA c2 g2)] ++ ((F2 ++ E1p) ++ E2p)) o1 v2p n2p g2p false (([] : List Nat) ++ [45, 45, 45, 45, 45, 69, 78, 68, 32] ++ lb) sa92 sv92 ([45, 45, 45, 45, 45]) (nilup hk92 _) (by intro x hx; revert x; decide) (by omega) hzs hsb2p (by omega) (by (try simp only [List.length_append, List.length_nil]) <;> omega)) (lw_V q1008 q732 q733 q155 q734) (by decide +kernel) (o_recv C h (RC := RJ12) (T := TJ12) (N := 4) (List.mem_of_getElem? (i := 0) rfl) rfl) (by decide) (by decide) rfl hl rfl (Nat.le_of_ble_eq_true rfl) dX12_signs_220 (by omega) (fun u3p H locs hu3p h => ?_)
                      obtain ⟨v3p, n3p, g3p, E3p⟩ := u3p
                      obtain ⟨hsb3p, hnn3p⟩ := hu3p
                      have h : Wd D B s ([(o1, .inr (18, [.ref v3p, .int (nI 0), .int (bZ false), .int (nI ((([] : List Nat) ++ [45, 45, 45, 45, 45, 69, 78, 68, 32] ++ lb ++ [45, 45, 45, 45, 45]).length))])), (v3p, bar dA n3p g3p), (li, .inr (9, [.ref tx, .int (nI lt.length), .int (nI (eolL lt na + 1)), .int (nI na), .int (nI (stripL lt na (eolL lt na)))])), (r, .inr (1, [.ref b2, .int (nI acc.length)])), (b2, bar dA c2 g2)] ++ (((F2 ++ E1p) ++ E2p) ++ E3p)) H locs := h
                      have hsb3p : SBis g3p n3p (([] : List Nat) ++ [45, 45, 45, 45, 45, 69, 78, 68, 32] ++ lb ++ [45, 45, 45, 45, 45]) := hsb3p
                      have hnn3p : n3p ≤ 2 * n2p + 2 + ((([] : List Nat) ++ [45, 45, 45, 45, 45, 69, 78, 68, 32] ++ lb).length + ([45, 45, 45, 45, 45]).length) := hnn3p
                      have hll3p : (([] : List Nat) ++ [45, 45, 45, 45, 45, 69, 78, 68, 32] ++ lb ++ [45, 45, 45, 45, 45]).length ≤ 60 := by simp only [List.length_append, List.length_nil] at *; omega
                      have hnz3p : n3p ≤ 370 := by omega
                      refine call_VR (As := []) (rest := [.ref li]) (n := 0) C h (cJ_toString l D dA B Z hZ ([(li, .inr (9, [.ref tx, .int (nI lt.length), .int (nI (eolL lt na + 1)), .int (nI na), .int (nI (stripL lt na (eolL lt na)))])), (r, .inr (1, [.ref b2, .int (nI acc.length)])), (b2, bar dA c2 g2)] ++ (((F2 ++ E1p) ++ E2p) ++ E3p)) o1 v3p n3p g3p false (([] : List Nat) ++ [45, 45, 45, 45, 45, 69, 78, 68, 32] ++ lb ++ [45, 45, 45, 45, 45]) hzs hsb3p (by omega)) (lw_V q1010 q829 q830 q155 q831) (by decide +kernel) (o_recv C h (RC := RJ12) (T := TJ12) (N := 4) (List.mem_of_getElem? (i := 0) rfl) rfl) (by decide) (by decide) rfl hl rfl (Nat.le_of_ble_eq_true rfl) dX12_signs_223 (by omega) (fun usp H locs _ h => ?_)
                      obtain ⟨srp, sqp⟩ := usp
                      have h : Wd D B s ([(srp, .inr (17, [.ref sqp, .int (nI 0), .int 0, .int (bZ false)])), (sqp, bal dA (([] : List Nat) ++ [45, 45, 45, 45, 45, 69, 78, 68, 32] ++ lb ++ [45, 45, 45, 45, 45])), (o1, .inr (18, [.ref v3p, .int (nI 0), .int (bZ false), .int (nI ((([] : List Nat) ++ [45, 45, 45, 45, 45, 69, 78, 68, 32] ++ lb ++ [45, 45, 45, 45, 45]).length))])), (v3p, bar dA n3p g3p), (li, .inr (9, [.ref tx, .int (nI lt.length), .int (nI (eolL lt na + 1)), .int (nI na), .int (nI (stripL lt na (eolL lt na)))])), (r, .inr (1, [.ref b2, .int (nI acc.length)])), (b2, bar dA c2 g2)] ++ (((F2 ++ E1p) ++ E2p) ++ E3p)) H locs := h
                      obtain ⟨Lp, hLp⟩ : ∃ z, z = ([] : List Nat) ++ [45, 45, 45, 45, 45, 69, 78, 68, 32] ++ lb ++ [45, 45, 45, 45, 45] := ⟨_, rfl⟩
                      have h : Wd D B s ([(li, .inr (9, [.ref tx, .int (nI lt.length), .int (nI (eolL lt na + 1)), .int (nI na), .int (nI (stripL lt na (eolL lt na)))])), (r, .inr (1, [.ref b2, .int (nI acc.length)])), (b2, bar dA c2 g2), (srp, .inr (17, [.ref sqp, .int (nI 0), .int 0, .int (bZ false)])), (sqp, bal dA (([] : List Nat) ++ [45, 45, 45, 45, 45, 69, 78, 68, 32] ++ lb ++ [45, 45, 45, 45, 45])), (o1, .inr (18, [.ref v3p, .int (nI 0), .int (bZ false), .int (nI ((([] : List Nat) ++ [45, 45, 45, 45, 45, 69, 78, 68, 32] ++ lb ++ [45, 45, 45, 45, 45]).length))])), (v3p, bar dA n3p g3p)] ++ (((F2 ++ E1p) ++ E2p) ++ E3p)) H locs := h.perm [4, 5, 6, 0, 1, 2, 3] rfl rfl
                      rw [← hLp] at h
                      obtain ⟨Fp, hFp⟩ : ∃ z, z = [(srp, .inr (17, [.ref sqp, .int (nI 0), .int 0, .int (bZ false)])), (sqp, bal dA Lp), (o1, .inr (18, [.ref v3p, .int (nI 0), .int (bZ false), .int (nI Lp.length)])), (v3p, bar dA n3p g3p)] ++ (((F2 ++ E1p) ++ E2p) ++ E3p) := ⟨_, rfl⟩
                      have hfsp : ∀ x ∈ (((F2 ++ E1p) ++ E2p) ++ E3p), x ∈ Fp := fun x hx => by rw [hFp]; exact List.mem_append_right _ hx
                      have hstp : StrV dA B Z Fp srp sqp Lp := Or.inl ⟨.int 0, .int (bZ false), by rw [hFp]; exact List.mem_append_left _ List.mem_cons_self, by rw [hFp]; exact List.mem_append_left _ (List.mem_cons_of_mem _ List.mem_cons_self)⟩
                      have h : Wd D B s ([(li, .inr (9, [.ref tx, .int (nI lt.length), .int (nI (eolL lt na + 1)), .int (nI na), .int (nI (stripL lt na (eolL lt na)))])), (r, .inr (1, [.ref b2, .int (nI acc.length)])), (b2, bar dA c2 g2)] ++ Fp) H locs := by rw [hFp]; exact h
                      have hLpl : Lp.length < 100 := by rw [hLp]; omega
                      have hLbeg : Lp = [45, 45, 45, 45, 45, 69, 78, 68, 32] ++ lb ++ [45, 45, 45, 45, 45] := by rw [hLp, List.nil_append]
                      have hL128 : ∀ x ∈ Lp, x < 128 := by
                        intro x hx
                        rw [hLbeg] at hx
                        rcases List.mem_append.mp hx with hx | hx
                        · rcases List.mem_append.mp hx with hx | hx
                          · exact (show ∀ y ∈ [45, 45, 45, 45, 45, 69, 78, 68, 32], y < 128 by decide) x hx
                          · exact hlb x hx
                        · exact (show ∀ y ∈ [45, 45, 45, 45, 45], y < 128 by decide) x hx
                      obtain ⟨hF7, hF8⟩ : (∀ x ∈ F, x ∈ Fp) ∧ True := ⟨fun x hx => hfsp _ (List.mem_append_left _ (List.mem_append_left _ (List.mem_append_left _ (hsub _ hx)))), trivial⟩
                      refine call_VR (As := [.ref srp]) (rest := []) (n := 1) C h (c12_is l D dA B Z hZ ([(r, .inr (1, [.ref b2, .int (nI acc.length)])), (b2, bar dA c2 g2)] ++ Fp) li tx n0 gt lt (eolL lt na + 1) na (stripL lt na (eolL lt na)) srp sqp Lp hzs (List.mem_append_right _ (hF7 _ htx)) hsb hbt hn0 hl4 z7.1 z7.2.1 ((hstp).up (fun x hx => List.mem_append_right _ hx)) hL128 (by omega)) (lw_V q1011 q942 q943 q149 q944) (by decide +kernel) (o_recv C h (RC := RX12) (T := TX12) (N := 5) (List.mem_of_getElem? (i := 0) rfl) rfl) (by decide) (by decide) rfl hl rfl (Nat.le_of_ble_eq_true rfl) dX12_signs_226 (by omega) (fun _ H locs _ h => ?_)
                      have h : Wd D B s ([(li, .inr (9, [.ref tx, .int (nI lt.length), .int (nI (eolL lt na + 1)), .int (nI na), .int (nI (stripL lt na (eolL lt na)))])), (r, .inr (1, [.ref b2, .int (nI acc.length)])), (b2, bar dA c2 g2)] ++ Fp) H locs := h
                      refine z_if_ne (tgt := 241) hx hb dX12_signs_229 (by decide) (fun c229 => ?_) (fun c229 => ?_)
                      · have c229y : sl (gD lt) na (stripL lt na (eolL lt na) - na) = Lp := of_decide_eq_true c229
                        rw [endF_t (by rw [← hLbeg]; exact c229y)] at hRS
                        have h : Wd D B s ([(li, .inr (9, [.ref tx, .int (nI lt.length), .int (nI (eolL lt na + 1)), .int (nI na), .int (nI (stripL lt na (eolL lt na)))])), (r, .inr (1, [.ref b2, .int (nI acc.length)])), (b2, bar dA c2 g2)] ++ Fp) H locs := h
                        have loopT : ∀ (nnT : Nat) (f9 n2 f2 t2 : Nat), ((signsS lt lb (0, nx, fr, to)) = (tailF lt f9 (0, n2, f2, t2), acc)) → (lt.length + 1 < n2 + f9) → (n2 ≤ lt.length + 1) → (f2 ≤ t2) → (t2 ≤ lt.length) → f9 < nnT → ∀ (H : Heap) (locs : List Loc), Wd D B s ([(li, .inr (9, [.ref tx, .int (nI lt.length), .int (nI n2), .int (nI f2), .int (nI t2)])), (r, .inr (1, [.ref b2, .int (nI acc.length)])), (b2, bar dA c2 g2)] ++ Fp) H locs → ∀ (ls : Array Slot), lv_has ls 6 [(0, .ref li), (1, .ref sa), (2, .ref r)] → W p l e R s m args below meth c H locs (cc + 0 + 0 + 0 + 1 + 1 + 1 + 1 + 1 + 2 + 0) (cs + 0 + 0 + 0 + 4 + 16 + (2 * 16 + 2 + ((([] : List Nat)).length + ([45, 45, 45, 45, 45, 69, 78, 68, 32]).length)) + (2 * n1p + 2 + ((([] : List Nat) ++ [45, 45, 45, 45, 45, 69, 78, 68, 32]).length + (lb).length)) + (2 * n2p + 2 + ((([] : List Nat) ++ [45, 45, 45, 45, 45, 69, 78, 68, 32] ++ lb).length + ([45, 45, 45, 45, 45]).length)) + (4 + (([] : List Nat) ++ [45, 45, 45, 45, 45, 69, 78, 68, 32] ++ lb ++ [45, 45, 45, 45, 45]).length) + 0) Q (F0 m 241 ls []) := by
                          intro nnT
                          induction nnT with
                          | zero => intro f9 n2 f2 t2  hTL hfu2 hn2 hft2 ht2 hme; exact absurd hme (Nat.not_lt_zero _)
                          | succ nnT ihT =>
                            intro f9 n2 f2 t2  hTL hfu2 hn2 hft2 ht2 hme H locs h ls hl
                            refine lv_aload_n hx hb dX12_signs_241 rfl (lv_at hl 0 rfl) ?_
                            refine call_VR (As := []) (rest := []) (n := 0) C h (c12_more l D dA B Z hZ ([(r, .inr (1, [.ref b2, .int (nI acc.length)])), (b2, bar dA c2 g2)] ++ Fp) li tx lt.length n2 f2 t2 n0 gt (List.mem_append_right _ (hF7 _ htx)) (fun j hj => by rw [hsb.2 j hj]; exact byt_gD hbt j) hn0 hsb.1 (by omega) (by omega) (by omega)) (lw_V q1012 q1013 q1014 q149 q1015) (by decide +kernel) (o_recv C h (RC := RX12) (T := TX12) (N := 5) (List.mem_of_getElem? (i := 0) rfl) rfl) (by decide) (by decide) rfl hl rfl (Nat.le_of_ble_eq_true rfl) dX12_signs_242 (by omega) (fun _ H locs _ h => ?_)
                            have h : Wd D B s ([(li, .inr (9, [.ref tx, .int (nI lt.length), .int (nI n2), .int (nI f2), .int (nI t2)])), (r, .inr (1, [.ref b2, .int (nI acc.length)])), (b2, bar dA c2 g2)] ++ Fp) H locs := h
                            refine z_if_eq (tgt := 268) hx hb dX12_signs_245 (by decide) (fun c245 => ?_) (fun c245 => ?_)
                            · refine lv_aload_n hx hb dX12_signs_268 rfl (lv_at hl 2 rfl) ?_
                              subst hQ
                              have c242 : ¬ n2 < lt.length := of_decide_eq_false c245
                              have e9 : (signsS lt lb (0, nx, fr, to)) = ((0, n2, f2, t2), acc) := by rw [hTL, tailF_n (fun z => c242 z.2)]
                              refine vy_ret ?_
                              exact ret_a C hr (Or.inl ⟨_, rfl⟩) hlocks h ((n2, f2, t2), b2, c2, g2, Fp) (⟨by rw [e9], by rw [e9]; exact hs2, by rw [e9]; exact hab, by rw [e9]; show acc.length ≤ lt.length; omega, (by rw [hc2]; exact hgo), hF7⟩) (Or.inr ⟨_, rfl⟩) rfl (by rw [e9]) (by omega) (by omega) dX12_signs_269
                            · have c242 : n2 < lt.length := of_decide_eq_true c245
                              have z6 := eol_strip c242
                              refine lv_aload_n hx hb dX12_signs_248 rfl (lv_at hl 0 rfl) ?_
                              refine call_VR (As := []) (rest := []) (n := 0) C h (c12_line l D dA B Z hZ ([(r, .inr (1, [.ref b2, .int (nI acc.length)])), (b2, bar dA c2 g2)] ++ Fp) li tx n0 gt lt n2 f2 t2 (List.mem_append_right _ (hF7 _ htx)) hsb hbt hn0 hl4 (by omega)) (lw_V q981 q609 q610 q149 q611) (by decide +kernel) (o_recv C h (RC := RX12) (T := TX12) (N := 5) (List.mem_of_getElem? (i := 0) rfl) rfl) (by decide) (by decide) rfl hl rfl (Nat.le_of_ble_eq_true rfl) dX12_signs_249 (by omega) (fun _ H locs _ h => ?_)
                              have h : Wd D B s ([(li, .inr (9, [.ref tx, .int (nI lt.length), .int (nI (eolL lt n2 + 1)), .int (nI n2), .int (nI (stripL lt n2 (eolL lt n2)))])), (r, .inr (1, [.ref b2, .int (nI acc.length)])), (b2, bar dA c2 g2)] ++ Fp) H locs := h
                              refine lv_aload_n hx hb dX12_signs_252 rfl (lv_at hl 0 rfl) ?_
                              refine call_VR (As := []) (rest := []) (n := 0) C h (c12_length l D dA B Z hZ ([(r, .inr (1, [.ref b2, .int (nI acc.length)])), (b2, bar dA c2 g2)] ++ Fp) li tx lt.length (eolL lt n2 + 1) n2 (stripL lt n2 (eolL lt n2)) n0 gt (List.mem_append_right _ (hF7 _ htx)) (fun j hj => by rw [hsb.2 j hj]; exact byt_gD hbt j) hn0 hsb.1 (by omega) (by omega)) (lw_V q945 q946 q947 q149 q948) (by decide +kernel) (o_recv C h (RC := RX12) (T := TX12) (N := 5) (List.mem_of_getElem? (i := 0) rfl) rfl) (by decide) (by decide) rfl hl rfl (Nat.le_of_ble_eq_true rfl) dX12_signs_253 (by omega) (fun _ H locs _ h => ?_)
                              have h : Wd D B s ([(li, .inr (9, [.ref tx, .int (nI lt.length), .int (nI (eolL lt n2 + 1)), .int (nI n2), .int (nI (stripL lt n2 (eolL lt n2)))])), (r, .inr (1, [.ref b2, .int (nI acc.length)])), (b2, bar dA c2 g2)] ++ Fp) H locs := h
                              refine n_if_le (tgt := 241) hx hb (by omega) dX12_signs_256 (by decide) (fun c256 => ?_) (fun c256 => ?_)
                              · exact ihT (f9 - 1) _ _ _ (by rw [hTL, show f9 = (f9 - 1) + 1 by omega, tailF_s c242, if_neg (by omega)]; rfl) (by omega) (by omega) z6.1 z6.2.1 (by omega) _ _ h _ (lv_sub hl [0, 1, 2] rfl)
                              · refine lv_aload_n hx hb dX12_signs_259 rfl (lv_at hl 0 rfl) ?_
                                refine lv_aload_n hx hb dX12_signs_260 rfl (lv_at hl 0 rfl) ?_
                                refine o_get C h (RC := RX12) (T := TX12) (N := 5) (List.mem_of_getElem? (i := 0) rfl) rfl in_X12 3 (by decide) q593 rfl (v := .int (nI n2)) rfl dX12_signs_261 ?_
                                refine call_VR (As := [.int (nI n2)]) (rest := []) (n := 1) C h (c12_fault l D dA B Z hZ _ li n2 hlt hzx) (lw_V q612 q613 q614 q149 q615) (by decide +kernel) (o_recv C h (RC := RX12) (T := TX12) (N := 5) (List.mem_of_getElem? (i := 0) rfl) rfl) (by decide) (by decide) rfl hl rfl (Nat.le_of_ble_eq_true rfl) dX12_signs_264 (by omega) (fun u9 H locs _ h => ?_)
                                obtain ⟨q9, x9⟩ := u9
                                have h : Wd D B s ([(q9, .inr (10, fts x9 (-100000 - nI n2)))] ++ ([(li, .inr (9, [.ref tx, .int (nI lt.length), .int (nI (eolL lt n2 + 1)), .int (nI n2), .int (nI (stripL lt n2 (eolL lt n2)))])), (r, .inr (1, [.ref b2, .int (nI acc.length)])), (b2, bar dA c2 g2)] ++ Fp)) H locs := h
                                have h : Wd D B s ([(q9, .inr (10, fts x9 (-100000 - nI n2))), (li, .inr (9, [.ref tx, .int (nI lt.length), .int (nI (eolL lt n2 + 1)), .int (nI n2), .int (nI (stripL lt n2 (eolL lt n2)))])), (r, .inr (1, [.ref b2, .int (nI acc.length)])), (b2, bar dA c2 g2)] ++ Fp) H locs := h
                                subst hQ
                                have h : Wd D B s ([(li, .inr (9, [.ref tx, .int (nI lt.length), .int (nI (eolL lt n2 + 1)), .int (nI n2), .int (nI (stripL lt n2 (eolL lt n2)))])), (r, .inr (1, [.ref b2, .int (nI acc.length)])), (b2, bar dA c2 g2)] ++ (Fp ++ [(q9, .inr (10, fts x9 (-100000 - nI n2)))])) H locs := Wd.toLast h
                                have e9 : (signsS lt lb (0, nx, fr, to)).1.1 = -100000 - nI n2 := by rw [hTL, show f9 = (f9 - 1) + 1 by omega, tailF_s c242, if_pos (by omega)]
                                exact x_athrow C hex hlocks h (List.mem_append_right _ (List.mem_append_right _ List.mem_cons_self)) rfl (q9, (eolL lt n2 + 1, n2, stripL lt n2 (eolL lt n2)), b2, c2, g2, acc, (Fp ++ [(q9, .inr (10, fts x9 (-100000 - nI n2)))])) rfl rfl (⟨by rw [e9]; exact code_ne _ (by omega), ⟨x9, by rw [e9]; exact List.mem_append_right _ List.mem_cons_self⟩, hs2, (by rw [hc2]; exact hgo), fun z hz => List.mem_append_left _ (hF7 z hz)⟩) rfl (by omega) (by omega) dX12_signs_267
                        exact loopT _ (lt.length + 2) _ _ _ hRS (by omega) (by omega) z7.1 z7.2.1 (Nat.lt_succ_self _) _ _ h _ (lv_sub hl [2, 3, 4] rfl)
                      · have c229n : ¬ sl (gD lt) na (stripL lt na (eolL lt na) - na) = Lp := of_decide_eq_false c229
                        refine lv_aload_n hx hb dX12_signs_232 rfl (lv_at hl 2 rfl) ?_
                        refine lv_aload_n hx hb dX12_signs_233 rfl (lv_at hl 2 rfl) ?_
                        refine o_get C h (RC := RX12) (T := TX12) (N := 5) (List.mem_of_getElem? (i := 0) rfl) rfl in_X12 3 (by decide) q593 rfl (v := .int (nI na)) rfl dX12_signs_234 ?_
                        refine call_VR (As := [.int (nI na)]) (rest := []) (n := 1) C h (c12_fault l D dA B Z hZ _ li na hlt hzx) (lw_V q612 q613 q614 q149 q615) (by decide +kernel) (o_recv C h (RC := RX12) (T := TX12) (N := 5) (List.mem_of_getElem? (i := 0) rfl) rfl) (by decide) (by decide) rfl hl rfl (Nat.le_of_ble_eq_true rfl) dX12_signs_237 (by omega) (fun u9 H locs _ h => ?_)
                        obtain ⟨q9, x9⟩ := u9
                        have h : Wd D B s ([(q9, .inr (10, fts x9 (-100000 - nI na)))] ++ ([(li, .inr (9, [.ref tx, .int (nI lt.length), .int (nI (eolL lt na + 1)), .int (nI na), .int (nI (stripL lt na (eolL lt na)))])), (r, .inr (1, [.ref b2, .int (nI acc.length)])), (b2, bar dA c2 g2)] ++ Fp)) H locs := h
                        have h : Wd D B s ([(q9, .inr (10, fts x9 (-100000 - nI na))), (li, .inr (9, [.ref tx, .int (nI lt.length), .int (nI (eolL lt na + 1)), .int (nI na), .int (nI (stripL lt na (eolL lt na)))])), (r, .inr (1, [.ref b2, .int (nI acc.length)])), (b2, bar dA c2 g2)] ++ Fp) H locs := h
                        subst hQ
                        have h : Wd D B s ([(li, .inr (9, [.ref tx, .int (nI lt.length), .int (nI (eolL lt na + 1)), .int (nI na), .int (nI (stripL lt na (eolL lt na)))])), (r, .inr (1, [.ref b2, .int (nI acc.length)])), (b2, bar dA c2 g2)] ++ (Fp ++ [(q9, .inr (10, fts x9 (-100000 - nI na)))])) H locs := Wd.toLast h
                        have e9 : (signsS lt lb (0, nx, fr, to)).1.1 = -100000 - nI na := by rw [hRS, endF_f (by rw [← hLbeg]; exact c229n), failLn_0]
                        exact x_athrow C hex hlocks h (List.mem_append_right _ (List.mem_append_right _ List.mem_cons_self)) rfl (q9, (eolL lt na + 1, na, stripL lt na (eolL lt na)), b2, c2, g2, acc, (Fp ++ [(q9, .inr (10, fts x9 (-100000 - nI na)))])) rfl rfl (⟨by rw [e9]; exact code_ne _ (by omega), ⟨x9, by rw [e9]; exact List.mem_append_right _ List.mem_cons_self⟩, hs2, (by rw [hc2]; exact hgo), fun z hz => List.mem_append_left _ (hF7 z hz)⟩) rfl (by omega) (by omega) dX12_signs_240
                    · refine call_VX (As := []) (rest := []) (n := 0) C h (c12_lineX l D dA B Z hZ ([(r, .inr (1, [.ref b2, .int (nI acc.length)])), (b2, bar dA c2 g2)] ++ F2) li tx n0 gt lt na fa ta hlt hzx (List.mem_append_right _ (hsub _ htx)) hsb hbt hn0 hl4 (by omega) (by omega)) (lw_V q981 q609 q610 q149 q611) (by decide +kernel) (o_recv C h (RC := RX12) (T := TX12) (N := 5) (List.mem_of_getElem? (i := 0) rfl) rfl) (by decide) (by decide) rfl hl rfl (Nat.le_of_ble_eq_true rfl) dX12_signs_198 (by omega) (fun ux ce9 H locs hux h hce9 hcv9 hcl9 => ?_) (fun _ H locs hu h => ?_)
                      · obtain ⟨q9, x9⟩ := ux
                        have h : Wd D B s ([(li, .inr (9, [.ref tx, .int (nI lt.length), .int (nI na), .int (nI fa), .int (nI ta)])), (r, .inr (1, [.ref b2, .int (nI acc.length)])), (b2, bar dA c2 g2)] ++ (F2 ++ [(q9, .inr (10, fts x9 (-100000 - nI lt.length)))])) H locs := h
                        have h : Wd D B s ([(li, .inr (9, [.ref tx, .int (nI lt.length), .int (nI na), .int (nI fa), .int (nI ta)])), (r, .inr (1, [.ref b2, .int (nI acc.length)])), (b2, bar dA c2 g2)] ++ (F2 ++ [(q9, .inr (10, fts x9 (-100000 - nI lt.length)))])) H locs := h
                        have e9 : (signsS lt lb (0, nx, fr, to)).1.1 = -100000 - nI lt.length := by rw [hRS, lineS_x (by omega), endF_n]
                        subst hQ
                        exact thr_out C hex hlocks h (q9, (na, fa, ta), b2, c2, g2, acc, (F2 ++ [(q9, .inr (10, fts x9 (-100000 - nI lt.length)))])) rfl rfl (⟨by rw [e9]; exact code_ne _ (by omega), ⟨x9, by rw [e9]; exact List.mem_append_right _ List.mem_cons_self⟩, hs2, (by rw [hc2]; exact hgo), fun z hz => List.mem_append_left _ (hsub z hz)⟩) rfl hce9 hcv9 hcl9 (by omega) (by omega)
                      exact hu.elim
                  · refine lv_aload_n hx hb dX12_signs_188 rfl (lv_at hl 2 rfl) ?_
                    refine lv_aload_n hx hb dX12_signs_189 rfl (lv_at hl 2 rfl) ?_
                    refine o_get C h (RC := RX12) (T := TX12) (N := 5) (List.mem_of_getElem? (i := 0) rfl) rfl in_X12 3 (by decide) q593 rfl (v := .int (nI fa)) rfl dX12_signs_190 ?_
                    refine call_VR (As := [.int (nI fa)]) (rest := []) (n := 1) C h (c12_fault l D dA B Z hZ _ li fa hlt hzx) (lw_V q612 q613 q614 q149 q615) (by decide +kernel) (o_recv C h (RC := RX12) (T := TX12) (N := 5) (List.mem_of_getElem? (i := 0) rfl) rfl) (by decide) (by decide) rfl hl rfl (Nat.le_of_ble_eq_true rfl) dX12_signs_193 (by omega) (fun u9 H locs _ h => ?_)
                    obtain ⟨q9, x9⟩ := u9
                    have h : Wd D B s ([(q9, .inr (10, fts x9 (-100000 - nI fa)))] ++ ([(li, .inr (9, [.ref tx, .int (nI lt.length), .int (nI na), .int (nI fa), .int (nI ta)])), (r, .inr (1, [.ref b2, .int (nI acc.length)])), (b2, bar dA c2 g2)] ++ F2)) H locs := h
                    have h : Wd D B s ([(q9, .inr (10, fts x9 (-100000 - nI fa))), (li, .inr (9, [.ref tx, .int (nI lt.length), .int (nI na), .int (nI fa), .int (nI ta)])), (r, .inr (1, [.ref b2, .int (nI acc.length)])), (b2, bar dA c2 g2)] ++ F2) H locs := h
                    subst hQ
                    have h : Wd D B s ([(li, .inr (9, [.ref tx, .int (nI lt.length), .int (nI na), .int (nI fa), .int (nI ta)])), (r, .inr (1, [.ref b2, .int (nI acc.length)])), (b2, bar dA c2 g2)] ++ (F2 ++ [(q9, .inr (10, fts x9 (-100000 - nI fa)))])) H locs := Wd.toLast h
                    have e9 : (signsS lt lb (0, nx, fr, to)).1.1 = -100000 - nI fa := by rw [signsS_s hBD rfl (sumOk_c (by rw [← hsm]; exact c185)), failLn_0]
                    exact x_athrow C hex hlocks h (List.mem_append_right _ (List.mem_append_right _ List.mem_cons_self)) rfl (q9, (na, fa, ta), b2, c2, g2, acc, (F2 ++ [(q9, .inr (10, fts x9 (-100000 - nI fa)))])) rfl rfl (⟨by rw [e9]; exact code_ne _ (by omega), ⟨x9, by rw [e9]; exact List.mem_append_right _ List.mem_cons_self⟩, hs2, (by rw [hc2]; exact hgo), fun z hz => List.mem_append_left _ (hsub z hz)⟩) rfl (by omega) (by omega) dX12_signs_196
                · refine lv_aload_n hx hb dX12_signs_128 rfl (lv_at hl 2 rfl) ?_
                  refine lv_iload hx hb dX12_signs_129 (lv_at hl 0 rfl) ?_
                  refine call_VR (As := [.int (nI (j + 1))]) (rest := []) (n := 1) C h (c12_at l D dA B Z hZ ([(r, .inr (1, [.ref b2, .int (nI acc.length)])), (b2, bar dA c2 g2)] ++ F2) li tx lt.length na fa ta n0 gt (j + 1) (List.mem_append_right _ (hsub _ htx)) (fun j hj => by rw [hsb.2 j hj]; exact byt_gD hbt j) hn0 hsb.1 (by omega) (by omega) (by omega)) (lw_V q987 q988 q989 q149 q990) (by decide +kernel) (o_recv C h (RC := RX12) (T := TX12) (N := 5) (List.mem_of_getElem? (i := 0) rfl) rfl) (by decide) (by decide) rfl hl rfl (Nat.le_of_ble_eq_true rfl) dX12_signs_131 (by omega) (fun _ H locs _ h => ?_)
                  have h : Wd D B s ([(li, .inr (9, [.ref tx, .int (nI lt.length), .int (nI na), .int (nI fa), .int (nI ta)])), (r, .inr (1, [.ref b2, .int (nI acc.length)])), (b2, bar dA c2 g2)] ++ F2) H locs := h
                  refine n_top (y := nI (gD lt (fa + (j + 1)))) (congrArg nI (hsb.2 _ (by omega))) ?_
                  refine call_SN (As := [.int (nI (gD lt (fa + (j + 1))))]) (rest := []) (n := 1) C h (c1_valueOf l D dA B Z hZ _ (gD lt (fa + (j + 1))) (by omega)) (lw_meth q997) q995 q996 q129 (by decide +kernel) (by decide) (by decide) rfl hl rfl (Nat.le_of_ble_eq_true rfl) dX12_signs_134 (by omega) (fun _ H locs _ h => ?_)
                  by_cases hv9 : vOk (gD lt (fa + (j + 1))) = true
                  · obtain ⟨hv1, hv2⟩ := valI_vN (vOk_t hv9)
                    refine n_top (y := nI (vN (gD lt (fa + (j + 1))))) hv1 ?_
                    refine n_if_ge (tgt := 149) hx hb (by omega) dX12_signs_137 (by decide) ?_
                    refine lv_iload hx hb dX12_signs_149 (lv_at hl 1 rfl) ?_
                    refine lv_bipush (v := nI 6) hx hb dX12_signs_151 (by decide) ?_
                    refine n_ishl hx hb dX12_signs_153 (n_top (y := nI (s9 * 64)) (pk_shlN _ 6 (by decide) (by omega)) ?_)
                    refine lv_aload_n hx hb dX12_signs_154 rfl (lv_at hl 2 rfl) ?_
                    refine lv_iload hx hb dX12_signs_155 (lv_at hl 0 rfl) ?_
                    refine call_VR (As := [.int (nI (j + 1))]) (rest := [.int (nI (s9 * 64))]) (n := 1) C h (c12_at l D dA B Z hZ ([(r, .inr (1, [.ref b2, .int (nI acc.length)])), (b2, bar dA c2 g2)] ++ F2) li tx lt.length na fa ta n0 gt (j + 1) (List.mem_append_right _ (hsub _ htx)) (fun j hj => by rw [hsb.2 j hj]; exact byt_gD hbt j) hn0 hsb.1 (by omega) (by omega) (by omega)) (lw_V q987 q988 q989 q149 q990) (by decide +kernel) (o_recv C h (RC := RX12) (T := TX12) (N := 5) (List.mem_of_getElem? (i := 0) rfl) rfl) (by decide) (by decide) rfl hl rfl (Nat.le_of_ble_eq_true rfl) dX12_signs_157 (by omega) (fun _ H locs _ h => ?_)
                    have h : Wd D B s ([(li, .inr (9, [.ref tx, .int (nI lt.length), .int (nI na), .int (nI fa), .int (nI ta)])), (r, .inr (1, [.ref b2, .int (nI acc.length)])), (b2, bar dA c2 g2)] ++ F2) H locs := h
                    refine n_top (y := nI (gD lt (fa + (j + 1)))) (congrArg nI (hsb.2 _ (by omega))) ?_
                    refine call_SN (As := [.int (nI (gD lt (fa + (j + 1))))]) (rest := [.int (nI (s9 * 64))]) (n := 1) C h (c1_valueOf l D dA B Z hZ _ (gD lt (fa + (j + 1))) (by omega)) (lw_meth q997) q995 q996 q129 (by decide +kernel) (by decide) (by decide) rfl hl rfl (Nat.le_of_ble_eq_true rfl) dX12_signs_160 (by omega) (fun _ H locs _ h => ?_)
                    refine n_top (y := nI (vN (gD lt (fa + (j + 1))))) hv1 ?_
                    refine lv_ior hx hb dX12_signs_163 ?_
                    refine n_top (y := nI (64 * s9 + vN (gD lt (fa + (j + 1))))) (by rw [Int32.or_comm, Nat.mul_comm 64 s9]; exact n_orN (k := 6) hv2 (by omega)) ?_
                    refine lv_istore (lv' := [(4, .int (nI (64 * s9 + vN (gD lt (fa + (j + 1)))))), (5, .int (nI (j + 1))), (0, .ref li), (1, .ref sa), (2, .ref r)]) hx hb dX12_signs_164 hl (by decide) rfl (fun ls hl => ?_)
                    refine lv_iinc (v := nI (j + 1 + 1)) (lv' := [(5, .int (nI (j + 1 + 1))), (4, .int (nI (64 * s9 + vN (gD lt (fa + (j + 1)))))), (0, .ref li), (1, .ref sa), (2, .ref r)]) hx hb dX12_signs_166 hl (k := 1) rfl (nI_add (j + 1) 1) (by decide) rfl (fun ls hl => ?_)
                    refine lv_goto (tgt := 122) hx hb dX12_signs_169 (by decide) ?_
                    exact ihK (j + 1) _ (by omega) (by rw [ok5, hk1, hv9]; rfl) (by rw [sum5, ← hk2]) (by omega) _ _ h _ (lv_sub hl [0, 1, 2, 3, 4] rfl)
                  · have hv8 : vOk (gD lt (fa + (j + 1))) = false := by cases q : vOk (gD lt (fa + (j + 1))); rfl; exact absurd q hv9
                    refine n_top (y := -1) (vOk_f hv8) ?_
                    refine lv_if_ge (tgt := 149) hx hb dX12_signs_137 (by decide) (fun c137 => by exfalso; exact absurd c137 (by decide)) (fun c137 => ?_)
                    refine lv_aload_n hx hb dX12_signs_140 rfl (lv_at hl 2 rfl) ?_
                    refine lv_aload_n hx hb dX12_signs_141 rfl (lv_at hl 2 rfl) ?_
                    refine o_get C h (RC := RX12) (T := TX12) (N := 5) (List.mem_of_getElem? (i := 0) rfl) rfl in_X12 3 (by decide) q593 rfl (v := .int (nI fa)) rfl dX12_signs_142 ?_
                    refine call_VR (As := [.int (nI fa)]) (rest := []) (n := 1) C h (c12_fault l D dA B Z hZ _ li fa hlt hzx) (lw_V q612 q613 q614 q149 q615) (by decide +kernel) (o_recv C h (RC := RX12) (T := TX12) (N := 5) (List.mem_of_getElem? (i := 0) rfl) rfl) (by decide) (by decide) rfl hl rfl (Nat.le_of_ble_eq_true rfl) dX12_signs_145 (by omega) (fun u9 H locs _ h => ?_)
                    obtain ⟨q9, x9⟩ := u9
                    have h : Wd D B s ([(q9, .inr (10, fts x9 (-100000 - nI fa)))] ++ ([(li, .inr (9, [.ref tx, .int (nI lt.length), .int (nI na), .int (nI fa), .int (nI ta)])), (r, .inr (1, [.ref b2, .int (nI acc.length)])), (b2, bar dA c2 g2)] ++ F2)) H locs := h
                    have h : Wd D B s ([(q9, .inr (10, fts x9 (-100000 - nI fa))), (li, .inr (9, [.ref tx, .int (nI lt.length), .int (nI na), .int (nI fa), .int (nI ta)])), (r, .inr (1, [.ref b2, .int (nI acc.length)])), (b2, bar dA c2 g2)] ++ F2) H locs := h
                    subst hQ
                    have h : Wd D B s ([(li, .inr (9, [.ref tx, .int (nI lt.length), .int (nI na), .int (nI fa), .int (nI ta)])), (r, .inr (1, [.ref b2, .int (nI acc.length)])), (b2, bar dA c2 g2)] ++ (F2 ++ [(q9, .inr (10, fts x9 (-100000 - nI fa)))])) H locs := Wd.toLast h
                    have e9 : (signsS lt lb (0, nx, fr, to)).1.1 = -100000 - nI fa := by rw [signsS_s hBD rfl (sumOk_v (k := j) (by omega) hv8), failLn_0]
                    exact x_athrow C hex hlocks h (List.mem_append_right _ (List.mem_append_right _ List.mem_cons_self)) rfl (q9, (na, fa, ta), b2, c2, g2, acc, (F2 ++ [(q9, .inr (10, fts x9 (-100000 - nI fa)))])) rfl rfl (⟨by rw [e9]; exact code_ne _ (by omega), ⟨x9, by rw [e9]; exact List.mem_append_right _ List.mem_cons_self⟩, hs2, (by rw [hc2]; exact hgo), fun z hz => List.mem_append_left _ (hsub z hz)⟩) rfl (by omega) (by omega) dX12_signs_148
            exact loopK _ 0 0 (by omega) rfl rfl (Nat.lt_succ_self _) _ _ h _ (lv_sub hl [0, 1, 2, 3, 4] rfl)
          · refine lv_aload_n hx hb dX12_signs_107 rfl (lv_at hl 0 rfl) ?_
            refine lv_aload_n hx hb dX12_signs_108 rfl (lv_at hl 0 rfl) ?_
            refine o_get C h (RC := RX12) (T := TX12) (N := 5) (List.mem_of_getElem? (i := 0) rfl) rfl in_X12 3 (by decide) q593 rfl (v := .int (nI fa)) rfl dX12_signs_109 ?_
            refine call_VR (As := [.int (nI fa)]) (rest := []) (n := 1) C h (c12_fault l D dA B Z hZ _ li fa hlt hzx) (lw_V q612 q613 q614 q149 q615) (by decide +kernel) (o_recv C h (RC := RX12) (T := TX12) (N := 5) (List.mem_of_getElem? (i := 0) rfl) rfl) (by decide) (by decide) rfl hl rfl (Nat.le_of_ble_eq_true rfl) dX12_signs_112 (by omega) (fun u9 H locs _ h => ?_)
            obtain ⟨q9, x9⟩ := u9
            have h : Wd D B s ([(q9, .inr (10, fts x9 (-100000 - nI fa)))] ++ ([(li, .inr (9, [.ref tx, .int (nI lt.length), .int (nI na), .int (nI fa), .int (nI ta)])), (r, .inr (1, [.ref b2, .int (nI acc.length)])), (b2, bar dA c2 g2)] ++ F2)) H locs := h
            have h : Wd D B s ([(q9, .inr (10, fts x9 (-100000 - nI fa))), (li, .inr (9, [.ref tx, .int (nI lt.length), .int (nI na), .int (nI fa), .int (nI ta)])), (r, .inr (1, [.ref b2, .int (nI acc.length)])), (b2, bar dA c2 g2)] ++ F2) H locs := h
            subst hQ
            have h : Wd D B s ([(li, .inr (9, [.ref tx, .int (nI lt.length), .int (nI na), .int (nI fa), .int (nI ta)])), (r, .inr (1, [.ref b2, .int (nI acc.length)])), (b2, bar dA c2 g2)] ++ (F2 ++ [(q9, .inr (10, fts x9 (-100000 - nI fa)))])) H locs := Wd.toLast h
            have e9 : (signsS lt lb (0, nx, fr, to)).1.1 = -100000 - nI fa := by rw [signsS_s hBD rfl (sumOk_l (show ¬ ta - fa = 5 by omega)), failLn_0]
            exact x_athrow C hex hlocks h (List.mem_append_right _ (List.mem_append_right _ List.mem_cons_self)) rfl (q9, (na, fa, ta), b2, c2, g2, acc, (F2 ++ [(q9, .inr (10, fts x9 (-100000 - nI fa)))])) rfl rfl (⟨by rw [e9]; exact code_ne _ (by omega), ⟨x9, by rw [e9]; exact List.mem_append_right _ List.mem_cons_self⟩, hs2, (by rw [hc2]; exact hgo), fun z hz => List.mem_append_left _ (hsub z hz)⟩) rfl (by omega) (by omega) dX12_signs_115
        refine lv_aload_n hx hb dX12_signs_14 rfl (lv_at hl 1 rfl) ?_
        refine call_VR (As := []) (rest := []) (n := 0) C h (c12_length l D dA B Z hZ ([(r, .inr (1, [.ref b2, .int (nI acc.length)])), (b2, bar dA c2 g2)] ++ F2) li tx lt.length na fa ta n0 gt (List.mem_append_right _ (hsub _ htx)) (fun j hj => by rw [hsb.2 j hj]; exact byt_gD hbt j) hn0 hsb.1 (by omega) (by omega)) (lw_V q945 q946 q947 q149 q948) (by decide +kernel) (o_recv C h (RC := RX12) (T := TX12) (N := 5) (List.mem_of_getElem? (i := 0) rfl) rfl) (by decide) (by decide) rfl hl rfl (Nat.le_of_ble_eq_true rfl) dX12_signs_15 (by omega) (fun _ H locs _ h => ?_)
        have h : Wd D B s ([(li, .inr (9, [.ref tx, .int (nI lt.length), .int (nI na), .int (nI fa), .int (nI ta)])), (r, .inr (1, [.ref b2, .int (nI acc.length)])), (b2, bar dA c2 g2)] ++ F2) H locs := h
        refine n_if_le (tgt := 99) hx hb (by omega) dX12_signs_18 (by decide) (fun c18 => ?_) (fun c18 => ?_)
        · exact j99  (by rw [hB0, bodyF_e (by rintro ⟨-, z1, z2⟩; first | exact absurd z1 (show ¬ fa < ta by omega) | exact z2 c28)]) _ _ h _ (lv_sub hl [1, 2, 3] rfl)
        · have hbf := byt_gD hbt fa
          refine lv_aload_n hx hb dX12_signs_21 rfl (lv_at hl 1 rfl) ?_
          refine lv_iconst (v := nI 0) hx hb dX12_signs_22 (by decide) ?_
          refine call_VR (As := [.int (nI 0)]) (rest := []) (n := 1) C h (c12_at l D dA B Z hZ ([(r, .inr (1, [.ref b2, .int (nI acc.length)])), (b2, bar dA c2 g2)] ++ F2) li tx lt.length na fa ta n0 gt 0 (List.mem_append_right _ (hsub _ htx)) (fun j hj => by rw [hsb.2 j hj]; exact byt_gD hbt j) hn0 hsb.1 (by omega) (by omega) (by omega)) (lw_V q987 q988 q989 q149 q990) (by decide +kernel) (o_recv C h (RC := RX12) (T := TX12) (N := 5) (List.mem_of_getElem? (i := 0) rfl) rfl) (by decide) (by decide) rfl hl rfl (Nat.le_of_ble_eq_true rfl) dX12_signs_23 (by omega) (fun _ H locs _ h => ?_)
          have h : Wd D B s ([(li, .inr (9, [.ref tx, .int (nI lt.length), .int (nI na), .int (nI fa), .int (nI ta)])), (r, .inr (1, [.ref b2, .int (nI acc.length)])), (b2, bar dA c2 g2)] ++ F2) H locs := h
          refine n_top (y := nI (gD lt fa)) (congrArg nI (hsb.2 _ (by omega))) ?_
          refine lv_bipush (v := nI 61) hx hb dX12_signs_26 (by decide) ?_
          refine n_icmp_eq (tgt := 99) hx hb (by omega) (by omega) dX12_signs_28 (by decide) (fun c28 => ?_) (fun c28 => ?_)
          · exact j99  (by rw [hB0, bodyF_e (by rintro ⟨-, z1, z2⟩; first | exact absurd z1 (show ¬ fa < ta by omega) | exact z2 c28)]) _ _ h _ (lv_sub hl [1, 2, 3] rfl)
          · refine lv_iload_n hx hb dX12_signs_31 rfl (lv_at hl 0 rfl) ?_
            refine z_if_ne (tgt := 44) hx hb dX12_signs_32 (by decide) (fun c32 => ?_) (fun c32 => ?_)
            · refine lv_aload_n hx hb dX12_signs_44 rfl (lv_at hl 1 rfl) ?_
              refine lv_aload_n hx hb dX12_signs_45 rfl (lv_at hl 1 rfl) ?_
              refine o_get C h (RC := RX12) (T := TX12) (N := 5) (List.mem_of_getElem? (i := 0) rfl) rfl in_X12 3 (by decide) q593 rfl (v := .int (nI fa)) rfl dX12_signs_46 ?_
              refine call_VR (As := [.int (nI fa)]) (rest := []) (n := 1) C h (c12_fault l D dA B Z hZ _ li fa hlt hzx) (lw_V q612 q613 q614 q149 q615) (by decide +kernel) (o_recv C h (RC := RX12) (T := TX12) (N := 5) (List.mem_of_getElem? (i := 0) rfl) rfl) (by decide) (by decide) rfl hl rfl (Nat.le_of_ble_eq_true rfl) dX12_signs_49 (by omega) (fun u9 H locs _ h => ?_)
              obtain ⟨q9, x9⟩ := u9
              have h : Wd D B s ([(q9, .inr (10, fts x9 (-100000 - nI fa)))] ++ ([(li, .inr (9, [.ref tx, .int (nI lt.length), .int (nI na), .int (nI fa), .int (nI ta)])), (r, .inr (1, [.ref b2, .int (nI acc.length)])), (b2, bar dA c2 g2)] ++ F2)) H locs := h
              have h : Wd D B s ([(q9, .inr (10, fts x9 (-100000 - nI fa))), (li, .inr (9, [.ref tx, .int (nI lt.length), .int (nI na), .int (nI fa), .int (nI ta)])), (r, .inr (1, [.ref b2, .int (nI acc.length)])), (b2, bar dA c2 g2)] ++ F2) H locs := h
              subst hQ
              have h : Wd D B s ([(li, .inr (9, [.ref tx, .int (nI lt.length), .int (nI na), .int (nI fa), .int (nI ta)])), (r, .inr (1, [.ref b2, .int (nI acc.length)])), (b2, bar dA c2 g2)] ++ (F2 ++ [(q9, .inr (10, fts x9 (-100000 - nI fa)))])) H locs := Wd.toLast h
              have e9 : (signsS lt lb (0, nx, fr, to)).1.1 = -100000 - nI fa := by have e8 := hB0.trans (bodyF_x rfl (show fa < ta by omega) c28 (Or.inl (by first | exact Or.inl c32 | exact Or.inr c41))); rw [signsS_b (by rw [e8, failLn_0]; exact code_ne fa (by omega)), e8, failLn_0]
              exact x_athrow C hex hlocks h (List.mem_append_right _ (List.mem_append_right _ List.mem_cons_self)) rfl (q9, (na, fa, ta), b2, c2, g2, acc, (F2 ++ [(q9, .inr (10, fts x9 (-100000 - nI fa)))])) rfl rfl (⟨by rw [e9]; exact code_ne _ (by omega), ⟨x9, by rw [e9]; exact List.mem_append_right _ List.mem_cons_self⟩, hs2, (by rw [hc2]; exact hgo), fun z hz => List.mem_append_left _ (hsub z hz)⟩) rfl (by omega) (by omega) dX12_signs_52
            · refine lv_aload_n hx hb dX12_signs_35 rfl (lv_at hl 1 rfl) ?_
              refine call_VR (As := []) (rest := []) (n := 0) C h (c12_length l D dA B Z hZ ([(r, .inr (1, [.ref b2, .int (nI acc.length)])), (b2, bar dA c2 g2)] ++ F2) li tx lt.length na fa ta n0 gt (List.mem_append_right _ (hsub _ htx)) (fun j hj => by rw [hsb.2 j hj]; exact byt_gD hbt j) hn0 hsb.1 (by omega) (by omega)) (lw_V q945 q946 q947 q149 q948) (by decide +kernel) (o_recv C h (RC := RX12) (T := TX12) (N := 5) (List.mem_of_getElem? (i := 0) rfl) rfl) (by decide) (by decide) rfl hl rfl (Nat.le_of_ble_eq_true rfl) dX12_signs_36 (by omega) (fun _ H locs _ h => ?_)
              have h : Wd D B s ([(li, .inr (9, [.ref tx, .int (nI lt.length), .int (nI na), .int (nI fa), .int (nI ta)])), (r, .inr (1, [.ref b2, .int (nI acc.length)])), (b2, bar dA c2 g2)] ++ F2) H locs := h
              refine lv_iconst (v := nI 4) hx hb dX12_signs_39 (by decide) ?_
              refine lv_irem hx hb dX12_signs_40 (by decide) (n_top (y := nI ((ta - fa) % 4)) (pk_rem (by omega) (by omega) (by omega)) ?_)
              refine n_if_eq (tgt := 53) hx hb (by omega) dX12_signs_41 (by decide) (fun c41 => ?_) (fun c41 => ?_)
              · have c32 : e9 = false := c32
                refine lv_iconst (v := nI 0) hx hb dX12_signs_53 (by decide) ?_
                refine lv_istore (lv' := [(4, .int (nI 0)), (3, .int (bZ e9)), (0, .ref li), (1, .ref sa), (2, .ref r)]) hx hb dX12_signs_54 hl (by decide) rfl (fun ls hl => ?_)
                have hq4 : (ta - fa) % 4 = 0 := c41
                rw [c32] at hl
                have hl : lv_has ls 6 [(4, .int (nI (4 * 0))), (3, .int (bZ false)), (0, .ref li), (1, .ref sa), (2, .ref r)] := hl
                have loopJ : ∀ (nnJ : Nat) (j : Nat) (e8 : Bool) (ac2 : List Nat) (b3 c3 : Nat) (g3 : Nat → Nat) (F3 : va_W) (cc3 cs3 : Nat), (j ≤ (ta - fa) / 4) → (foursF lt ((ta - fa) / 4) fa false acc = foursF lt ((ta - fa) / 4 - j) (fa + 4 * j) e8 ac2) → (ac2.length ≤ acc.length + 3 * j) → (byt ac2) → (SBis g3 c3 ac2) → (c3 = gro cap ac2.length) → (∀ x ∈ F, x ∈ F3) → (cc3 ≤ 1 + rC cap ac2.length) → (cs3 ≤ 7 + rS cap ac2.length) → (ta - fa) / 4 - j < nnJ → ∀ (H : Heap) (locs : List Loc), Wd D B s ([(li, .inr (9, [.ref tx, .int (nI lt.length), .int (nI na), .int (nI fa), .int (nI ta)])), (r, .inr (1, [.ref b3, .int (nI ac2.length)])), (b3, bar dA c3 g3)] ++ F3) H locs → ∀ (ls : Array Slot), lv_has ls 6 [(4, .int (nI (4 * j))), (3, .int (bZ e8)), (0, .ref li), (1, .ref sa), (2, .ref r)] → W p l e R s m args below meth c H locs cc3 cs3 Q (F0 m 56 ls []) := by
                  intro nnJ
                  induction nnJ with
                  | zero => intro j  e8  ac2  b3 c3  g3  F3  cc3 cs3  hj0 hfo hal2 hab2 hs3 hc3 hsub3 hcc3 hcs3 hme; exact absurd hme (Nat.not_lt_zero _)
                  | succ nnJ ihJ =>
                    intro j  e8  ac2  b3 c3  g3  F3  cc3 cs3  hj0 hfo hal2 hab2 hs3 hc3 hsub3 hcc3 hcs3 hme H locs h ls hl
                    have hgb3 := gro_b (cap := cap) (m := ac2.length) (by omega)
                    have hmn3 := rC_add (cap := cap) (m := ac2.length) (m' := lt.length) (by omega) (by omega)
                    have hgo3 := GrOk.of (cap := cap) (m := lt.length) (n := ac2.length) hcap (by omega)
                    have hlt3 : c3 ≤ gro cap lt.length := by rw [hc3]; exact hgo3.2.2
                    refine lv_iload hx hb dX12_signs_56 (lv_at hl 0 rfl) ?_
                    refine lv_aload_n hx hb dX12_signs_58 rfl (lv_at hl 2 rfl) ?_
                    refine call_VR (As := []) (rest := [.int (nI (4 * j))]) (n := 0) C h (c12_length l D dA B Z hZ ([(r, .inr (1, [.ref b3, .int (nI ac2.length)])), (b3, bar dA c3 g3)] ++ F3) li tx lt.length na fa ta n0 gt (List.mem_append_right _ (hsub3 _ htx)) (fun j hj => by rw [hsb.2 j hj]; exact byt_gD hbt j) hn0 hsb.1 (by omega) (by omega)) (lw_V q945 q946 q947 q149 q948) (by decide +kernel) (o_recv C h (RC := RX12) (T := TX12) (N := 5) (List.mem_of_getElem? (i := 0) rfl) rfl) (by decide) (by decide) rfl hl rfl (Nat.le_of_ble_eq_true rfl) dX12_signs_59 (by omega) (fun _ H locs _ h => ?_)
                    have h : Wd D B s ([(li, .inr (9, [.ref tx, .int (nI lt.length), .int (nI na), .int (nI fa), .int (nI ta)])), (r, .inr (1, [.ref b3, .int (nI ac2.length)])), (b3, bar dA c3 g3)] ++ F3) H locs := h
                    refine n_icmp_ge (tgt := 92) hx hb (by omega) (by omega) dX12_signs_62 (by decide) (fun c62 => ?_) (fun c62 => ?_)
                    · have hBs : bodyS lt (0, nx, fr, to) = bodyF lt f7 e8 ac2 (lineS lt (0, na, fa, ta)) := by rw [hB0]; exact bodyF_s (v := (0, na, fa, ta)) (r := (e8, ac2)) rfl (show fa < ta by omega) c28 c32 c41 (by show foursF lt ((ta - fa) / 4) fa false acc = some (e8, ac2); rw [hfo, (show (ta - fa) / 4 - j = 0 by omega)]; rfl)
                      refine lv_aload_n hx hb dX12_signs_92 rfl (lv_at hl 2 rfl) ?_
                      by_cases hc93 : na < lt.length
                      · refine call_VR (As := []) (rest := []) (n := 0) C h (c12_line l D dA B Z hZ ([(r, .inr (1, [.ref b3, .int (nI ac2.length)])), (b3, bar dA c3 g3)] ++ F3) li tx n0 gt lt na fa ta (List.mem_append_right _ (hsub3 _ htx)) hsb hbt hn0 hl4 (by omega)) (lw_V q981 q609 q610 q149 q611) (by decide +kernel) (o_recv C h (RC := RX12) (T := TX12) (N := 5) (List.mem_of_getElem? (i := 0) rfl) rfl) (by decide) (by decide) rfl hl rfl (Nat.le_of_ble_eq_true rfl) dX12_signs_93 (by omega) (fun _ H locs _ h => ?_)
                        have h : Wd D B s ([(li, .inr (9, [.ref tx, .int (nI lt.length), .int (nI (eolL lt na + 1)), .int (nI na), .int (nI (stripL lt na (eolL lt na)))])), (r, .inr (1, [.ref b3, .int (nI ac2.length)])), (b3, bar dA c3 g3)] ++ F3) H locs := h
                        have z8 := eol_strip hc93
                        have hBn : bodyS lt (0, nx, fr, to) = bodyF lt f7 e8 ac2 (true, (0, eolL lt na + 1, na, stripL lt na (eolL lt na))) := by rw [hBs, lineS_g hc93]
                        refine lv_goto (tgt := 14) hx hb dX12_signs_96 (by decide) ?_
                        exact ih f7 _ _ _ e8 ac2 b3 _ g3 F3 _ _ hBn (by omega) z8.1 z8.2.1 z8.2.2.1 z8.2.2.2.2 (by omega) hab2 hs3 hc3 hsub3 (by omega) (by omega) (by omega) _ _ h _ (lv_sub hl [1, 2, 3, 4] rfl)
                      · refine call_VX (As := []) (rest := []) (n := 0) C h (c12_lineX l D dA B Z hZ ([(r, .inr (1, [.ref b3, .int (nI ac2.length)])), (b3, bar dA c3 g3)] ++ F3) li tx n0 gt lt na fa ta hlt hzx (List.mem_append_right _ (hsub3 _ htx)) hsb hbt hn0 hl4 (by omega) (by omega)) (lw_V q981 q609 q610 q149 q611) (by decide +kernel) (o_recv C h (RC := RX12) (T := TX12) (N := 5) (List.mem_of_getElem? (i := 0) rfl) rfl) (by decide) (by decide) rfl hl rfl (Nat.le_of_ble_eq_true rfl) dX12_signs_93 (by omega) (fun ux ce9 H locs hux h hce9 hcv9 hcl9 => ?_) (fun _ H locs hu h => ?_)
                        · obtain ⟨q9, x9⟩ := ux
                          have h : Wd D B s ([(li, .inr (9, [.ref tx, .int (nI lt.length), .int (nI na), .int (nI fa), .int (nI ta)])), (r, .inr (1, [.ref b3, .int (nI ac2.length)])), (b3, bar dA c3 g3)] ++ (F3 ++ [(q9, .inr (10, fts x9 (-100000 - nI lt.length)))])) H locs := h
                          have h : Wd D B s ([(li, .inr (9, [.ref tx, .int (nI lt.length), .int (nI na), .int (nI fa), .int (nI ta)])), (r, .inr (1, [.ref b3, .int (nI ac2.length)])), (b3, bar dA c3 g3)] ++ (F3 ++ [(q9, .inr (10, fts x9 (-100000 - nI lt.length)))])) H locs := h
                          have e9 : (signsS lt lb (0, nx, fr, to)).1.1 = -100000 - nI lt.length := by have e8 := hBs; rw [lineS_x (by omega), bodyF_e (fun z => absurd (show false = true from z.1) (by decide))] at e8; rw [signsS_b (by rw [e8]; exact code_ne _ (by omega)), e8]
                          subst hQ
                          exact thr_out C hex hlocks h (q9, (na, fa, ta), b3, c3, g3, ac2, (F3 ++ [(q9, .inr (10, fts x9 (-100000 - nI lt.length)))])) rfl rfl (⟨by rw [e9]; exact code_ne _ (by omega), ⟨x9, by rw [e9]; exact List.mem_append_right _ List.mem_cons_self⟩, hs3, (by rw [hc3]; exact hgo3), fun z hz => List.mem_append_left _ (hsub3 z hz)⟩) rfl hce9 hcv9 hcl9 (by omega) (by omega)
                        exact hu.elim
                    · refine lv_iload_n hx hb dX12_signs_65 rfl (lv_at hl 1 rfl) ?_
                      refine z_if_eq (tgt := 78) hx hb dX12_signs_66 (by decide) (fun c66 => ?_) (fun c66 => ?_)
                      · refine lv_aload_n hx hb dX12_signs_78 rfl (lv_at hl 2 rfl) ?_
                        refine lv_aload_n hx hb dX12_signs_79 rfl (lv_at hl 4 rfl) ?_
                        refine lv_iload hx hb dX12_signs_80 (lv_at hl 0 rfl) ?_
                        by_cases hc82 : ∃ bb, fourF lt (fa + 4 * j) = some bb
                        · obtain ⟨bb, hbb⟩ := hc82
                          have hbl := fourF_len hbb
                          have hmy := manyF_le lt (fa + 4 * j)
                          refine call_VR (As := [.ref r, .int (nI (4 * j))]) (rest := []) (n := 2) C h (c12_four l D dA B Z hZ F3 li tx n0 gt lt na fa ta (4 * j) r b3 c3 g3 ac2 bb (hsub3 _ htx) hsb hbt hn0 hl4 (by omega) htl hs3 (by omega) (by omega) (by omega) hbb) (lw_V q991 q993 qs6 q149 q994) (by decide +kernel) (o_recv C h (RC := RX12) (T := TX12) (N := 5) (List.mem_of_getElem? (i := 0) rfl) rfl) (by decide) (by decide) rfl hl rfl (Nat.le_of_ble_eq_true rfl) dX12_signs_82 (by
                            have hle4 : (ac2 ++ bb).length = ac2.length + bb.length := List.length_append
                            have hcst4 := rC_add (cap := cap) (m := ac2.length) (m' := (ac2 ++ bb).length) (by omega) (by omega)
                            have hcst5 := rC_add (cap := cap) (m := (ac2 ++ bb).length) (m' := lt.length) (by omega) (by omega)
                            rw [← hc3] at hcst4
                            omega) (fun u4 H locs hu4 h => ?_)
                          obtain ⟨b4, g4, E4⟩ := u4
                          dsimp only at hu4
                          have hle4 : (ac2 ++ bb).length = ac2.length + bb.length := List.length_append
                          have hc4 : gro c3 (ac2 ++ bb).length = gro cap (ac2 ++ bb).length := by rw [hc3]; exact gro_gro (by omega) (by omega)
                          have hcst4 := rC_add (cap := cap) (m := ac2.length) (m' := (ac2 ++ bb).length) (by omega) (by omega)
                          rw [← hc3] at hcst4
                          have h : Wd D B s ([(li, .inr (9, [.ref tx, .int (nI lt.length), .int (nI na), .int (nI fa), .int (nI ta)])), (r, .inr (1, [.ref b4, .int (nI ((ac2 ++ bb).length))])), (b4, bar dA (gro c3 (ac2 ++ bb).length) g4)] ++ (F3 ++ E4)) H locs := h
                          refine lv_istore_n (lv' := [(3, .int (bZ (decide (bb.length < 3)))), (4, .int (nI (4 * j))), (0, .ref li), (1, .ref sa), (2, .ref r)]) hx hb dX12_signs_85 rfl hl (by decide) rfl (fun ls hl => ?_)
                          refine lv_iinc (v := nI (4 * (j + 1))) (lv' := [(4, .int (nI (4 * (j + 1)))), (3, .int (bZ (decide (bb.length < 3)))), (0, .ref li), (1, .ref sa), (2, .ref r)]) hx hb dX12_signs_86 hl (k := 1) rfl (by rw [show 4 * (j + 1) = 4 * j + 4 by omega]; exact nI_add _ _) (by decide) rfl (fun ls hl => ?_)
                          refine lv_goto (tgt := 56) hx hb dX12_signs_89 (by decide) ?_
                          exact ihJ (j + 1) _ (ac2 ++ bb) b4 _ g4 (F3 ++ E4) _ _ (by omega) (by rw [hfo, show (ta - fa) / 4 - j = ((ta - fa) / 4 - (j + 1)) + 1 by omega, c66, foursF_s hbb]; rfl) (by rw [List.length_append]; omega) (byt_app hab2 hbl.2) hu4 hc4 (fun z hz => List.mem_append_left _ (hsub3 z hz)) (by omega) (by omega) (by omega) _ _ h _ (lv_sub hl [0, 1, 2, 3, 4] rfl)
                        · have hn4 : fourF lt (fa + 4 * j) = none := by
                            cases q : fourF lt (fa + 4 * j) with
                            | none => rfl
                            | some z => exact absurd ⟨z, q⟩ hc82
                          refine call_VX (As := [.ref r, .int (nI (4 * j))]) (rest := []) (n := 2) C h (c12_fourX l D dA B Z hZ F3 li tx n0 gt lt na fa ta (4 * j) r b3 c3 g3 ac2 hlt hzx (hsub3 _ htx) hsb hbt hn0 hl4 (by omega) htl hs3 (by omega) (by omega) (by omega) hn4) (lw_V q991 q993 qs6 q149 q994) (by decide +kernel) (o_recv C h (RC := RX12) (T := TX12) (N := 5) (List.mem_of_getElem? (i := 0) rfl) rfl) (by decide) (by decide) rfl hl rfl (Nat.le_of_ble_eq_true rfl) dX12_signs_82 (by omega) (fun ux ce9 H locs hux h hce9 hcv9 hcl9 => ?_) (fun _ H locs hu h => ?_)
                          · obtain ⟨q9, x9⟩ := ux
                            have h : Wd D B s ([(li, .inr (9, [.ref tx, .int (nI lt.length), .int (nI na), .int (nI fa), .int (nI ta)])), (r, .inr (1, [.ref b3, .int (nI ac2.length)])), (b3, bar dA c3 g3)] ++ (F3 ++ [(q9, .inr (10, fts x9 (-100000 - nI fa)))])) H locs := h
                            have h : Wd D B s ([(li, .inr (9, [.ref tx, .int (nI lt.length), .int (nI na), .int (nI fa), .int (nI ta)])), (r, .inr (1, [.ref b3, .int (nI ac2.length)])), (b3, bar dA c3 g3)] ++ (F3 ++ [(q9, .inr (10, fts x9 (-100000 - nI fa)))])) H locs := h
                            have e9 : (signsS lt lb (0, nx, fr, to)).1.1 = -100000 - nI fa := by have e8 := hB0.trans (bodyF_x rfl (show fa < ta by omega) c28 (Or.inr (by show foursF lt ((ta - fa) / 4) fa false acc = none; rw [hfo, show (ta - fa) / 4 - j = ((ta - fa) / 4 - j - 1) + 1 by omega, foursF_n (Or.inr hn4)]))); rw [signsS_b (by rw [e8, failLn_0]; exact code_ne fa (by omega)), e8, failLn_0]
                            subst hQ
                            exact thr_out C hex hlocks h (q9, (na, fa, ta), b3, c3, g3, ac2, (F3 ++ [(q9, .inr (10, fts x9 (-100000 - nI fa)))])) rfl rfl (⟨by rw [e9]; exact code_ne _ (by omega), ⟨x9, by rw [e9]; exact List.mem_append_right _ List.mem_cons_self⟩, hs3, (by rw [hc3]; exact hgo3), fun z hz => List.mem_append_left _ (hsub3 z hz)⟩) rfl hce9 hcv9 hcl9 (by omega) (by omega)
                          exact hu.elim
                      · refine lv_aload_n hx hb dX12_signs_69 rfl (lv_at hl 2 rfl) ?_
                        refine lv_aload_n hx hb dX12_signs_70 rfl (lv_at hl 2 rfl) ?_
                        refine o_get C h (RC := RX12) (T := TX12) (N := 5) (List.mem_of_getElem? (i := 0) rfl) rfl in_X12 3 (by decide) q593 rfl (v := .int (nI fa)) rfl dX12_signs_71 ?_
                        refine call_VR (As := [.int (nI fa)]) (rest := []) (n := 1) C h (c12_fault l D dA B Z hZ _ li fa hlt hzx) (lw_V q612 q613 q614 q149 q615) (by decide +kernel) (o_recv C h (RC := RX12) (T := TX12) (N := 5) (List.mem_of_getElem? (i := 0) rfl) rfl) (by decide) (by decide) rfl hl rfl (Nat.le_of_ble_eq_true rfl) dX12_signs_74 (by omega) (fun u9 H locs _ h => ?_)
                        obtain ⟨q9, x9⟩ := u9
                        have h : Wd D B s ([(q9, .inr (10, fts x9 (-100000 - nI fa)))] ++ ([(li, .inr (9, [.ref tx, .int (nI lt.length), .int (nI na), .int (nI fa), .int (nI ta)])), (r, .inr (1, [.ref b3, .int (nI ac2.length)])), (b3, bar dA c3 g3)] ++ F3)) H locs := h
                        have h : Wd D B s ([(q9, .inr (10, fts x9 (-100000 - nI fa))), (li, .inr (9, [.ref tx, .int (nI lt.length), .int (nI na), .int (nI fa), .int (nI ta)])), (r, .inr (1, [.ref b3, .int (nI ac2.length)])), (b3, bar dA c3 g3)] ++ F3) H locs := h
                        subst hQ
                        have h : Wd D B s ([(li, .inr (9, [.ref tx, .int (nI lt.length), .int (nI na), .int (nI fa), .int (nI ta)])), (r, .inr (1, [.ref b3, .int (nI ac2.length)])), (b3, bar dA c3 g3)] ++ (F3 ++ [(q9, .inr (10, fts x9 (-100000 - nI fa)))])) H locs := Wd.toLast h
                        have e9 : (signsS lt lb (0, nx, fr, to)).1.1 = -100000 - nI fa := by have e8 := hB0.trans (bodyF_x rfl (show fa < ta by omega) c28 (Or.inr (by show foursF lt ((ta - fa) / 4) fa false acc = none; rw [hfo, show (ta - fa) / 4 - j = ((ta - fa) / 4 - j - 1) + 1 by omega, foursF_n (Or.inl c66)]))); rw [signsS_b (by rw [e8, failLn_0]; exact code_ne fa (by omega)), e8, failLn_0]
                        exact x_athrow C hex hlocks h (List.mem_append_right _ (List.mem_append_right _ List.mem_cons_self)) rfl (q9, (na, fa, ta), b3, c3, g3, ac2, (F3 ++ [(q9, .inr (10, fts x9 (-100000 - nI fa)))])) rfl rfl (⟨by rw [e9]; exact code_ne _ (by omega), ⟨x9, by rw [e9]; exact List.mem_append_right _ List.mem_cons_self⟩, hs3, (by rw [hc3]; exact hgo3), fun z hz => List.mem_append_left _ (hsub3 z hz)⟩) rfl (by omega) (by omega) dX12_signs_77
                exact loopJ _ 0 false acc b2 c2 g2 F2 _ _ (by omega) rfl (by omega) hab hs2 hc2 hsub (by omega) (by omega) (Nat.lt_succ_self _) _ _ h _ (lv_sub hl [0, 1, 2, 3, 4] rfl)
              · refine lv_aload_n hx hb dX12_signs_44 rfl (lv_at hl 1 rfl) ?_
                refine lv_aload_n hx hb dX12_signs_45 rfl (lv_at hl 1 rfl) ?_
                refine o_get C h (RC := RX12) (T := TX12) (N := 5) (List.mem_of_getElem? (i := 0) rfl) rfl in_X12 3 (by decide) q593 rfl (v := .int (nI fa)) rfl dX12_signs_46 ?_
                refine call_VR (As := [.int (nI fa)]) (rest := []) (n := 1) C h (c12_fault l D dA B Z hZ _ li fa hlt hzx) (lw_V q612 q613 q614 q149 q615) (by decide +kernel) (o_recv C h (RC := RX12) (T := TX12) (N := 5) (List.mem_of_getElem? (i := 0) rfl) rfl) (by decide) (by decide) rfl hl rfl (Nat.le_of_ble_eq_true rfl) dX12_signs_49 (by omega) (fun u9 H locs _ h => ?_)
                obtain ⟨q9, x9⟩ := u9
                have h : Wd D B s ([(q9, .inr (10, fts x9 (-100000 - nI fa)))] ++ ([(li, .inr (9, [.ref tx, .int (nI lt.length), .int (nI na), .int (nI fa), .int (nI ta)])), (r, .inr (1, [.ref b2, .int (nI acc.length)])), (b2, bar dA c2 g2)] ++ F2)) H locs := h
                have h : Wd D B s ([(q9, .inr (10, fts x9 (-100000 - nI fa))), (li, .inr (9, [.ref tx, .int (nI lt.length), .int (nI na), .int (nI fa), .int (nI ta)])), (r, .inr (1, [.ref b2, .int (nI acc.length)])), (b2, bar dA c2 g2)] ++ F2) H locs := h
                subst hQ
                have h : Wd D B s ([(li, .inr (9, [.ref tx, .int (nI lt.length), .int (nI na), .int (nI fa), .int (nI ta)])), (r, .inr (1, [.ref b2, .int (nI acc.length)])), (b2, bar dA c2 g2)] ++ (F2 ++ [(q9, .inr (10, fts x9 (-100000 - nI fa)))])) H locs := Wd.toLast h
                have e9 : (signsS lt lb (0, nx, fr, to)).1.1 = -100000 - nI fa := by have e8 := hB0.trans (bodyF_x rfl (show fa < ta by omega) c28 (Or.inl (by first | exact Or.inl c32 | exact Or.inr c41))); rw [signsS_b (by rw [e8, failLn_0]; exact code_ne fa (by omega)), e8, failLn_0]
                exact x_athrow C hex hlocks h (List.mem_append_right _ (List.mem_append_right _ List.mem_cons_self)) rfl (q9, (na, fa, ta), b2, c2, g2, acc, (F2 ++ [(q9, .inr (10, fts x9 (-100000 - nI fa)))])) rfl rfl (⟨by rw [e9]; exact code_ne _ (by omega), ⟨x9, by rw [e9]; exact List.mem_append_right _ List.mem_cons_self⟩, hs2, (by rw [hc2]; exact hgo), fun z hz => List.mem_append_left _ (hsub z hz)⟩) rfl (by omega) (by omega) dX12_signs_52
    exact loop _ (lt.length + 2) _ _ _ false [] b cap g F _ _ hb0 (by omega) z9.1 z9.2.1 z9.2.2.1 z9.2.2.2.2 (Nat.zero_le _) (fun x hx => absurd hx List.not_mem_nil) SBis_nil ((gro_le (m := ([] : List Nat).length) (Nat.zero_le _)).symm) (fun z hz => hz) (by omega) (by omega) (Nat.lt_succ_self _) _ _ h _ (lv_sub hl [0, 1, 2, 3] rfl)
  · have h : Wd D B s ([(li, .inr (9, [.ref tx, .int (nI lt.length), .int (nI n1), .int (nI f1), .int (nI t1)])), (r, .inr (1, [.ref b, .int (nI (([] : List Nat).length))])), (b, bar dA cap g)] ++ F) H locs := h.perm [2, 0, 1] rfl rfl
    refine call_VX (As := []) (rest := []) (n := 0) C h (c12_lineX l D dA B Z hZ ([(r, .inr (1, [.ref b, .int (nI (([] : List Nat).length))])), (b, bar dA cap g)] ++ F) li tx n0 gt lt n1 f1 t1 hlt hzx (List.mem_append_right _ htx) hsb hbt hn0 hl4 (by omega) (by omega)) (lw_V q981 q609 q610 q149 q611) (by decide +kernel) (o_recv C h (RC := RX12) (T := TX12) (N := 5) (List.mem_of_getElem? (i := 0) rfl) rfl) (by decide) (by decide) rfl hl rfl (Nat.le_of_ble_eq_true rfl) dX12_signs_11 (by omega) (fun ux ce9 H locs hux h hce9 hcv9 hcl9 => ?_) (fun _ H locs hu h => ?_)
    · obtain ⟨q9, x9⟩ := ux
      have h : Wd D B s ([(li, .inr (9, [.ref tx, .int (nI lt.length), .int (nI n1), .int (nI f1), .int (nI t1)])), (r, .inr (1, [.ref b, .int (nI (([] : List Nat).length))])), (b, bar dA cap g)] ++ (F ++ [(q9, .inr (10, fts x9 (-100000 - nI lt.length)))])) H locs := h
      have h : Wd D B s ([(li, .inr (9, [.ref tx, .int (nI lt.length), .int (nI n1), .int (nI f1), .int (nI t1)])), (r, .inr (1, [.ref b, .int (nI (([] : List Nat).length))])), (b, bar dA cap g)] ++ (F ++ [(q9, .inr (10, fts x9 (-100000 - nI lt.length)))])) H locs := h
      have e9 : (signsS lt lb (0, nx, fr, to)).1.1 = -100000 - nI lt.length := by rw [signsS_b (by unfold bodyS; rw [hHS, lineS_x (by omega), bodyF_e (fun z => absurd (show false = true from z.1) (by decide))]; exact code_ne _ (by omega))]; unfold bodyS; rw [hHS, lineS_x (by omega), bodyF_e (fun z => absurd (show false = true from z.1) (by decide))]
      subst hQ
      exact thr_out C hex hlocks h (q9, (n1, f1, t1), b, cap, g, ([] : List Nat), (F ++ [(q9, .inr (10, fts x9 (-100000 - nI lt.length)))])) rfl rfl (⟨by rw [e9]; exact code_ne _ (by omega), ⟨x9, by rw [e9]; exact List.mem_append_right _ List.mem_cons_self⟩, SBis_nil, GrOk.rf hcap, fun z hz => List.mem_append_left _ ((fun z hz => hz) z hz)⟩) rfl hce9 hcv9 hcl9 (by omega) (by omega)
    exact hu.elim
