set_option maxRecDepth 100000

/-- thrown, told, the out, by seal -/
def sealC (Ry : List KY) (dc ou : List Nat) (x y z : Int32) (v : Int64) : Nat × Nat × List Nat := match thC Ry x y with
  | none => (1, 0, ou)
  | some t => if isTm v = true ∧ ¬ z < 0 ∧ ¬ nI 3 < z then (match (numC t).2.2 with
      | none => (3, 0, ou)
      | some sec => (0, (sealO (tmN v) z.toInt.toNat (numC t).2.1 sec dc).length, sealO (tmN v) z.toInt.toNat (numC t).2.1 sec dc)) else (2, 0, ou)
theorem sealC_1 {Ry : List KY} {dc ou : List Nat} {x y z : Int32} {v : Int64} (h : thC Ry x y = none) : sealC Ry dc ou x y z v = (1, 0, ou) := by unfold sealC; rw [h]
theorem sealC_2 {Ry : List KY} {dc ou : List Nat} {x y z : Int32} {v : Int64} {t : KY × Option Nat} (h : thC Ry x y = some t) (h2 : ¬ (isTm v = true ∧ ¬ z < 0 ∧ ¬ nI 3 < z)) : sealC Ry dc ou x y z v = (2, 0, ou) := by unfold sealC; rw [h]; exact if_neg h2
theorem sealC_3 {Ry : List KY} {dc ou : List Nat} {x y z : Int32} {v : Int64} {t : KY × Option Nat} (h : thC Ry x y = some t) (h2 : isTm v = true ∧ ¬ z < 0 ∧ ¬ nI 3 < z) (h4 : (numC t).2.2 = none) : sealC Ry dc ou x y z v = (3, 0, ou) := by unfold sealC; rw [h]; refine (if_pos h2).trans ?_; rw [h4]
theorem sealC_s {Ry : List KY} {dc ou : List Nat} {x y z : Int32} {v : Int64} {n k : Nat} {t : KY × Option Nat} {sec : List Nat} (h : thC Ry x y = some t) (h2 : isTm v = true ∧ ¬ z < 0 ∧ ¬ nI 3 < z) (h4 : (numC t).2.2 = some sec) (ht : tmN v = n) (hk : z.toInt.toNat = k) : sealC Ry dc ou x y z v = (0, (sealO n k (numC t).2.1 sec dc).length, sealO n k (numC t).2.1 sec dc) := by unfold sealC; rw [h]; refine (if_pos h2).trans ?_; rw [h4]; dsimp only; rw [ht, hk]
def slEx (n : Nat) : String := if n = 1 then "java/lang/IndexOutOfBoundsException" else if n = 2 then "java/lang/IllegalArgumentException" else "java/lang/IllegalStateException"

set_option maxHeartbeats 4000000 in
set_option maxRecDepth 100000 in
theorem c1_seal (l : Launch) (D : va_G) (dA : Nat → ClassId) (B : Nat) (Z : State → Prop) (hZ : Stab B Z) (G : va_W) (A : Nat → Nat) (O : va_W) (sz dc f1 f2 : Nat) (q : QS) (cx : CX) (e0 : Nat) (rl : LD) (Ry : List KY) (ob oc : Nat) (og : Nat → Nat) (ol : List Nat) (tb tc : Nat) (tg : Nat → Nat) (tl : List Nat) (sb9 sc : Nat) (sg : Nat → Nat) (sl9 dcl : List Nat) (x y z : Int32) (v : Int64) (hlt : l.stackTraces = false) (hzx : ZX B Z) (hzq : ZQ B f1 f2 Z) (hQF : QF dA A sz dc rl.1 G) (hqo : QOk q) (hRw0 : ∀ z ∈ ringW dA e0 rl Ry, z ∈ G) (hRS : RgS dA cx G rl Ry) (hzs : ZS dA B Z) (hro : RowOk (ob, oc, og, ol)) (hrt : RowOk (tb, tc, tg, tl)) (hrs : RowOk (sb9, sc, sg, sl9)) (hdc : (dc, bal dA dcl) ∈ G) (hdb : byt dcl) (hdl : dcl.length ≤ 4096) :
    CtX (S := QS × RowS × RowS × RowS × va_W) (SX := Nat × Nat) l D dA B Z yX1_seal cX1_seal 7 (some .int) 14 (rC oc 20000 + rC tc dcl.length + rC sc 200 + 70) (rS oc 20000 + rS tc dcl.length + rS sc 200 + 4100) [.ref (A 24), .int x, .int y, .int z, .long v] (qW dA A O q ++ ([((A 17), .inr (1, [.ref ob, .int (nI ol.length)])), (ob, bar dA oc og)] ++ ([((A 21), .inr (1, [.ref tb, .int (nI tl.length)])), (tb, bar dA tc tg)] ++ ([((A 22), .inr (1, [.ref sb9, .int (nI sl9.length)])), (sb9, bar dA sc sg)] ++ G)))) (fun u => QOk u.1 ∧ RowOk u.2.1 ∧ RowOk u.2.2.1 ∧ RowOk u.2.2.2.1 ∧ (sealC Ry dcl ol x y z v).1 = 0 ∧ u.2.1.2.2.2 = (sealC Ry dcl ol x y z v).2.2) (fun _ => some (.int (nI (sealC Ry dcl ol x y z v).2.1))) (fun u => qW dA A O u.1 ++ ([((A 17), .inr (1, [.ref u.2.1.1, .int (nI u.2.1.2.2.2.length)])), (u.2.1.1, bar dA u.2.1.2.1 u.2.1.2.2.1)] ++ ([((A 21), .inr (1, [.ref u.2.2.1.1, .int (nI u.2.2.1.2.2.2.length)])), (u.2.2.1.1, bar dA u.2.2.1.2.1 u.2.2.1.2.2.1)] ++ ([((A 22), .inr (1, [.ref u.2.2.2.1.1, .int (nI u.2.2.2.1.2.2.2.length)])), (u.2.2.2.1.1, bar dA u.2.2.2.1.2.1 u.2.2.2.1.2.2.1)] ++ (G ++ u.2.2.2.2))))) (fun u => u.2 = (sealC Ry dcl ol x y z v).1 ∧ (u.2 = 1 ∨ u.2 = 2 ∨ u.2 = 3)) (fun u => u.1) (fun u => slEx u.2) (fun _ => qW dA A O q ++ ([((A 17), .inr (1, [.ref ob, .int (nI ol.length)])), (ob, bar dA oc og)] ++ ([((A 21), .inr (1, [.ref tb, .int (nI tl.length)])), (tb, bar dA tc tg)] ++ ([((A 22), .inr (1, [.ref sb9, .int (nI sl9.length)])), (sb9, bar dA sc sg)] ++ G)))) := by
  refine CtX.mk2 (by decide) (Nat.le_of_ble_eq_true rfl) hZ ?_
  intro p e R s m args below meth c ls Q C hr hlocks hin hex hQ hl h
  have C0 := C
  obtain ⟨hx, hb, hml, hown, hts, -⟩ := C0
  have hl : lv_has ls 7 [(0, .ref (A 24)), (1, .int x), (2, .int y), (3, .int z), (4, .long v)] := hl
  obtain ⟨hro1, hro2, hro3⟩ := hro
  have hrt0 := hrt
  have hrs0 := hrs
  dsimp only at hro1 hro2 hro3
  have hrt3 := hrt.2.2
  have hrs3 := hrs.2.2
  have hrt2 := hrt.2.1
  have hrs2 := hrs.2.1
  dsimp only at hrt2 hrs2 hrt3 hrs3
  obtain ⟨hqo1, hqo2, hqo3⟩ := hqo
  have hg0r : gro oc ol.length = oc := gro_le hro1.1
  have hSr0 : SBis og (gro oc ol.length) ol := by rw [hg0r]; exact hro1
  have hz0r : rC oc ol.length = 0 ∧ rS oc ol.length = 0 := rC_0 hg0r
  have h : Wd D B s ([((A 17), .inr (1, [.ref ob, .int (nI ol.length)])), (ob, bar dA (gro oc ol.length) og), ((A 21), .inr (1, [.ref tb, .int (nI tl.length)])), (tb, bar dA tc tg), ((A 22), .inr (1, [.ref sb9, .int (nI sl9.length)])), (sb9, bar dA sc sg)] ++ (qW dA A O q ++ G)) s.heap [] := by rw [hg0r]; exact h.permL (perm_add (fun g f p0 p1 p2 => by (try simp only [p0, p1, p2]) <;> omega))
  refine W.widen (k := 0 + rC oc ol.length) (n := 0 + rS oc ol.length) (by omega) (by omega) ?_
  have hme : meC A sz dc rl.1 ∈ [((A 17), .inr (1, [.ref ob, .int (nI ol.length)])), (ob, bar dA (gro oc ol.length) og), ((A 21), .inr (1, [.ref tb, .int (nI tl.length)])), (tb, bar dA tc tg), ((A 22), .inr (1, [.ref sb9, .int (nI sl9.length)])), (sb9, bar dA sc sg)] ++ (qW dA A O q ++ G) := List.mem_append_right _ (List.mem_append_right _ hQF.2.2)
  have hRw : ∀ z ∈ ringW dA e0 rl Ry, z ∈ [((A 17), .inr (1, [.ref ob, .int (nI ol.length)])), (ob, bar dA (gro oc ol.length) og), ((A 21), .inr (1, [.ref tb, .int (nI tl.length)])), (tb, bar dA tc tg), ((A 22), .inr (1, [.ref sb9, .int (nI sl9.length)])), (sb9, bar dA sc sg)] ++ (qW dA A O q ++ G) := fun z hz => List.mem_append_right _ (List.mem_append_right _ (hRw0 z hz))
  have hRk := hRS.1
  have hKy : ∀ k ∈ Ry, KyIn dA ([((A 17), .inr (1, [.ref ob, .int (nI ol.length)])), (ob, bar dA (gro oc ol.length) og), ((A 21), .inr (1, [.ref tb, .int (nI tl.length)])), (tb, bar dA tc tg), ((A 22), .inr (1, [.ref sb9, .int (nI sl9.length)])), (sb9, bar dA sc sg)] ++ (qW dA A O q ++ G)) k := fun k hk => (hRS.2 k hk).1.sub (fun z hz => List.mem_append_right _ (List.mem_append_right _ hz))
  refine lv_aload_n hx hb dX1_seal_0 rfl (lv_at hl 0 rfl) ?_
  refine lv_iload_n hx hb dX1_seal_1 rfl (lv_at hl 1 rfl) ?_
  refine lv_iload_n hx hb dX1_seal_2 rfl (lv_at hl 2 rfl) ?_
  refine call_VX (As := [.int x, .int y]) (rest := []) (n := 2) C h (c1_keyOf2 l D dA B Z hZ ([((A 17), .inr (1, [.ref ob, .int (nI ol.length)])), (ob, bar dA (gro oc ol.length) og), ((A 21), .inr (1, [.ref tb, .int (nI tl.length)])), (tb, bar dA tc tg), ((A 22), .inr (1, [.ref sb9, .int (nI sl9.length)])), (sb9, bar dA sc sg)] ++ (qW dA A O q ++ G)) A sz dc e0 rl Ry x y hlt hzx hme hRw hRk hKy) (lw_V q1709 q1711 qs38 q129 q1712) (by decide +kernel) (o_recv C h (RC := RX1) (T := TX1) (N := 14) (hme) rfl) (by decide) (by decide) rfl hl rfl (Nat.le_of_ble_eq_true rfl) dX1_seal_3 (by omega) (fun ux ce9 H locs hux h hce9 hcv9 hcl9 => ?_) (fun u8 H locs hu8 h => ?_)
  · have h : Wd D B s (qW dA A O q ++ ([((A 17), .inr (1, [.ref ob, .int (nI ol.length)])), (ob, bar dA oc og)] ++ ([((A 21), .inr (1, [.ref tb, .int (nI tl.length)])), (tb, bar dA tc tg)] ++ ([((A 22), .inr (1, [.ref sb9, .int (nI sl9.length)])), (sb9, bar dA sc sg)] ++ G)))) H locs := by rw [hg0r] at h; exact h.permL (perm_add (fun g f p0 p1 p2 => by (try simp only [p0, p1, p2]) <;> omega))
    subst hQ
    exact thr_out C hex hlocks h (ux, 1) rfl rfl (⟨by rw [sealC_1 hux], Or.inl rfl⟩) rfl hce9 hcv9 hcl9 (by omega) (by omega)
  obtain ⟨tt, htt⟩ : ∃ z : KY × Option Nat, z = u8 := ⟨_, rfl⟩
  rw [← htt] at hu8
  obtain ⟨hth, hTI⟩ := hu8
  have hkw : ∀ z ∈ kyW dA e0 tt.1, z ∈ [((A 17), .inr (1, [.ref ob, .int (nI ol.length)])), (ob, bar dA (gro oc ol.length) og), ((A 21), .inr (1, [.ref tb, .int (nI tl.length)])), (tb, bar dA tc tg), ((A 22), .inr (1, [.ref sb9, .int (nI sl9.length)])), (sb9, bar dA sc sg)] ++ (qW dA A O q ++ G) := fun z hz => hRw z (ky_ring hTI.1 hz)
  have hKk := hKy tt.1 hTI.1
  rw [← htt]
  show W p l e R s m args below meth c H locs (0 + rC oc ol.length + 2) (0 + rS oc ol.length + 12) Q (F0 m 6 ls [.ref tt.1.1])
  refine lv_iload_n hx hb dX1_seal_6 rfl (lv_at hl 2 rfl) ?_
  have hnum : Ct (S := Unit) l D dA B Z yX9_numbersOf cX9_numbersOf 2 (some ((.object "SignetRing$Numbers"))) 4 0 0 [.ref tt.1.1, .int y] ([((A 17), .inr (1, [.ref ob, .int (nI ol.length)])), (ob, bar dA (gro oc ol.length) og), ((A 21), .inr (1, [.ref tb, .int (nI tl.length)])), (tb, bar dA tc tg), ((A 22), .inr (1, [.ref sb9, .int (nI sl9.length)])), (sb9, bar dA sc sg)] ++ (qW dA A O q ++ G)) (fun _ => True) (fun _ => some (.ref (numC tt).1)) (fun _ => [((A 17), .inr (1, [.ref ob, .int (nI ol.length)])), (ob, bar dA (gro oc ol.length) og), ((A 21), .inr (1, [.ref tb, .int (nI tl.length)])), (tb, bar dA tc tg), ((A 22), .inr (1, [.ref sb9, .int (nI sl9.length)])), (sb9, bar dA sc sg)] ++ (qW dA A O q ++ G)) := by
    clear h
    obtain ⟨kq, oq⟩ := tt
    rcases hTI.2 with ⟨e1, e2⟩ | ⟨jq, pq, e1, e2, e3, e4⟩
    · have e1 : oq = none := e1
      subst e1
      rw [e2]
      exact c9_numbersOfK l D dA B Z hZ _ kq.1 _ kq.2.1.1 _ _ (hkw _ kyc_in)
    · have e1 : oq = some jq := e1
      subst e1
      rw [e2, numC_s e4]
      exact c9_numbersOf l D dA B Z hZ _ kq.1 _ kq.2.1.1 _ e0 jq kq.2.2.2.2.1 kq.2.2.2.2.2 pq (hkw _ kyc_in) ((KyIn.pl (k := kq) hKk hkw).sub (fun z hz => (KyIn.pl (k := kq) hKk hkw).1 z hz)) (fun y9 hy9 => ⟨(hKk.2.2.2.2.2 y9 hy9).1.sub (fun b q hq => hq) (fun a fs hq => hq), KyIn.ptc (k := kq) hkw hy9⟩) e4 (by omega)
  refine call_VR (As := [.int y]) (rest := []) (n := 1) C h hnum (lw_V q1508 q1509 q1510 q142 q1511) (by decide +kernel) (o_recv C h (RC := RX9) (T := TX9) (N := 4) (hkw _ kyc_in) rfl) (by decide) (by decide) rfl hl rfl (Nat.le_of_ble_eq_true rfl) dX1_seal_7 (by omega) (fun _ H locs _ h => ?_)
  have hNt := hTI.num hKk
  obtain ⟨⟨hnbn, hnln, hnkn, hnsn⟩, ban, ann, aen, apn, san, hncn, hnban, hnann, hnaen, hnapn, hnsan⟩ := hNt
  refine lv_astore (lv' := [(6, .ref ((numC tt).1)), (0, .ref (A 24)), (1, .int x), (2, .int y), (3, .int z), (4, .long v)]) hx hb dX1_seal_10 hl (by decide) rfl (fun ls hl => ?_)
  have jn : ∀ (tjn : Bool) (cc cs : Nat), (tjn = decide (isTm v = true ∧ ¬ z < 0 ∧ ¬ nI 3 < z)) → (cc ≤ 2) → (cs ≤ 12) → ∀ (H : Heap) (locs : List Loc), Wd D B s ([((A 17), .inr (1, [.ref ob, .int (nI ol.length)])), (ob, bar dA (gro oc ol.length) og), ((A 21), .inr (1, [.ref tb, .int (nI tl.length)])), (tb, bar dA tc tg), ((A 22), .inr (1, [.ref sb9, .int (nI sl9.length)])), (sb9, bar dA sc sg)] ++ (qW dA A O q ++ G)) H locs → ∀ (ls : Array Slot), lv_has ls 7 [(6, .ref ((numC tt).1)), (0, .ref (A 24)), (1, .int x), (2, .int y), (3, .int z), (4, .long v)] → W p l e R s m args below meth c H locs cc cs Q (F0 m 34 ls [.int (bZ tjn)]) := by
    intro tjn  cc cs  hjn hcc hcs H locs h ls hl
    refine call_SX (As := [.int (bZ tjn)]) (rest := []) (n := 1) C h (c1_want l D dA B Z hZ [((A 17), .inr (1, [.ref ob, .int (nI ol.length)])), (ob, bar dA (gro oc ol.length) og), ((A 21), .inr (1, [.ref tb, .int (nI tl.length)])), (tb, bar dA tc tg), ((A 22), .inr (1, [.ref sb9, .int (nI sl9.length)])), (sb9, bar dA sc sg)] ++ (qW dA A O q ++ G) tjn hlt hzx) (lw_S q1448 q1449 q129 q1450) (by decide +kernel) (by decide) (by decide) rfl hl rfl (Nat.le_of_ble_eq_true rfl) dX1_seal_34 (by omega) (fun ux ce9 H locs hbx h hce9 hcv9 hcl9 => ?_) (fun _ H locs hb9 h => ?_)
    · have h : Wd D B s (qW dA A O q ++ ([((A 17), .inr (1, [.ref ob, .int (nI ol.length)])), (ob, bar dA oc og)] ++ ([((A 21), .inr (1, [.ref tb, .int (nI tl.length)])), (tb, bar dA tc tg)] ++ ([((A 22), .inr (1, [.ref sb9, .int (nI sl9.length)])), (sb9, bar dA sc sg)] ++ G)))) H locs := by rw [hg0r] at h; exact h.permL (perm_add (fun g f p0 p1 p2 => by (try simp only [p0, p1, p2]) <;> omega))
      subst hQ
      exact thr_out C hex hlocks h (ux, 2) rfl rfl (⟨by rw [sealC_2 hth (fun q9 => by rw [hjn, decide_eq_true q9] at hbx; cases hbx)], Or.inr (Or.inl rfl)⟩) rfl hce9 hcv9 hcl9 (by omega) (by omega)
    have hpp : isTm v = true ∧ ¬ z < 0 ∧ ¬ nI 3 < z := of_decide_eq_true (hjn ▸ hb9)
    obtain ⟨k, hk1, hzk, hkt⟩ := i_le (by omega) hpp.2.1 (Int32.not_lt.mp hpp.2.2)
    obtain ⟨t, ht, hvt⟩ := isTm_t hpp.1
    have htt : tmN v = t := by rw [hvt]; exact tmN_l ht
    rw [hzk, hvt] at hl
    have hl : lv_has ls 7 [(6, .ref ((numC tt).1)), (0, .ref (A 24)), (1, .int x), (2, .int y), (3, .int (nI k)), (4, .long (lN t))] := hl
    refine lv_aload hx hb dX1_seal_37 (lv_at hl 0 rfl) ?_
    refine o_get C h (RC := RX16) (T := TX16) (N := 6) (List.mem_append_right _ hncn) rfl in_X16 5 (by decide) q1158 rfl (v := va_rf san) rfl dX1_seal_39 ?_
    refine q_ifnonnull (tgt := 53) hx hb dX1_seal_42 (by decide) (fun a42 c42 => ?_) (fun c42 => ?_)
    · obtain ⟨sec, hsec, -⟩ := ROb_s hnsan c42
      have hU := sealC_s (dc := dcl) (ou := ol) hth hpp hsec htt hkt
      have hNt9 : NumIn dA G (numC tt) := hTI.num (hRS.2 tt.1 hTI.1).1
      have hkN3 : (kN (numC tt).2.1).length ≤ 128 := (keyOk_nums hNt9.1.2.2.1 hNt9.1.1 (by have := hNt9.1.2.1; omega)).2.2.2.1
      have hsl := sealO_len (t := t) (k := k) (kb := (numC tt).2.1) (sec := sec) hdb hdl hkN3
      have hgo2 := rC_mono (cap := oc) (m := (sealO t k (numC tt).2.1 sec dcl).length) (m' := 20000) (by omega) hsl.1
      refine lv_aload_n hx hb dX1_seal_53 rfl (lv_at hl 1 rfl) ?_
      refine o_get C h (RC := RX1) (T := TX1) (N := 14) (List.mem_append_right _ (List.mem_append_right _ hQF.2.2)) rfl in_X1 3 (by decide) q311 rfl (v := .ref (A 17)) rfl dX1_seal_54 ?_
      refine call_VR (As := []) (rest := []) (n := 0) C h (c2_clear l D dA B Z hZ ([((A 21), .inr (1, [.ref tb, .int (nI tl.length)])), (tb, bar dA tc tg), ((A 22), .inr (1, [.ref sb9, .int (nI sl9.length)])), (sb9, bar dA sc sg)] ++ (qW dA A O q ++ G)) (A 17) ob (gro oc ol.length) og ol) (lw_V q553 q554 q555 q130 q556) (by decide +kernel) (o_recv C h (RC := RX2) (T := TX2) (N := 2) (List.mem_of_getElem? (i := 0) rfl) rfl) (by decide) (by decide) rfl hl rfl (Nat.le_of_ble_eq_true rfl) dX1_seal_57 (by omega) (fun _ H locs _ h => ?_)
      have h : Wd D B s ([((A 17), .inr (1, [.ref ob, .int (nI (([] : List Nat).length))])), (ob, bar dA (gro oc ol.length) og), ((A 21), .inr (1, [.ref tb, .int (nI tl.length)])), (tb, bar dA tc tg), ((A 22), .inr (1, [.ref sb9, .int (nI sl9.length)])), (sb9, bar dA sc sg)] ++ (qW dA A O q ++ G)) H locs := h
      have hSnr : SBis og (gro oc ([] : List Nat).length) [] := ⟨Nat.zero_le _, fun j hj => absurd hj (Nat.not_lt_zero _)⟩
      have hgnr : gro oc ([] : List Nat).length = oc := gro_le (Nat.zero_le _)
      have hznr : rC oc ([] : List Nat).length = 0 ∧ rS oc ([] : List Nat).length = 0 := rC_0 hgnr
      have h : Wd D B s ([((A 17), .inr (1, [.ref ob, .int (nI (([] : List Nat).length))])), (ob, bar dA (gro oc ([] : List Nat).length) og), ((A 21), .inr (1, [.ref tb, .int (nI tl.length)])), (tb, bar dA tc tg), ((A 22), .inr (1, [.ref sb9, .int (nI sl9.length)])), (sb9, bar dA sc sg)] ++ (qW dA A O q ++ G)) H locs := by rw [hgnr]; rw [hg0r] at h; exact h.permL (perm_add (fun g f p0 p1 p2 => by (try simp only [p0, p1, p2]) <;> omega))
      refine W.widen (k := 0 + rC oc ([] : List Nat).length) (n := 0 + rS oc ([] : List Nat).length) (by omega) (by omega) ?_
      refine lv_iload_n hx hb dX1_seal_60 rfl (lv_at hl 4 rfl) ?_
      refine lv_iconst (v := nI 3) hx hb dX1_seal_61 (by decide) ?_
      refine n_icmp_ne (tgt := 76) hx hb (by omega) (by omega) dX1_seal_62 (by decide) (fun c62 => ?_) (fun c62 => ?_)
      · refine lv_iload_n hx hb dX1_seal_76 rfl (lv_at hl 4 rfl) ?_
        refine lv_iconst (v := nI 2) hx hb dX1_seal_77 (by decide) ?_
        refine n_icmp_ne (tgt := 87) hx hb (by omega) (by omega) dX1_seal_78 (by decide) (fun c78 => ?_) (fun c78 => ?_)
        · refine lv_aload_n hx hb dX1_seal_87 rfl (lv_at hl 1 rfl) ?_
          refine o_get C h (RC := RX1) (T := TX1) (N := 14) (List.mem_append_right _ (List.mem_append_right _ hQF.2.2)) rfl in_X1 3 (by decide) q311 rfl (v := .ref (A 17)) rfl dX1_seal_88 ?_
          refine lv_iconst (v := nI 2) hx hb dX1_seal_91 (by decide) ?_
          refine lv_aload_n hx hb dX1_seal_92 rfl (lv_at hl 1 rfl) ?_
          refine lv_aload hx hb dX1_seal_93 (lv_at hl 0 rfl) ?_
          refine lv_iload_n hx hb dX1_seal_95 rfl (lv_at hl 4 rfl) ?_
          refine lv_iconst (v := nI 1) hx hb dX1_seal_96 (by decide) ?_
          refine n_icmp_ne (tgt := 104) hx hb (by omega) (by omega) dX1_seal_97 (by decide) (fun c97 => ?_) (fun c97 => ?_)
          · refine lv_iconst (v := nI 0) hx hb dX1_seal_104 (by decide) ?_
            refine lv_aload_n hx hb dX1_seal_105 rfl (lv_at hl 1 rfl) ?_
            refine o_get C h (RC := RX1) (T := TX1) (N := 14) (List.mem_append_right _ (List.mem_append_right _ hQF.2.2)) rfl in_X1 2 (by decide) q310 rfl (v := .ref dc) rfl dX1_seal_106 ?_
            refine lv_aload_n hx hb dX1_seal_109 rfl (lv_at hl 1 rfl) ?_
            refine o_get C h (RC := RX1) (T := TX1) (N := 14) (List.mem_append_right _ (List.mem_append_right _ hQF.2.2)) rfl in_X1 2 (by decide) q310 rfl (v := .ref dc) rfl dX1_seal_110 ?_
            refine n_balen C h (List.mem_append_right _ (List.mem_append_right _ hdc)) dX1_seal_113 ?_
            refine lv_lload hx hb dX1_seal_114 (lv_at hl 5 rfl) ?_
            have h : Wd D B s (h5C dA (A 5) (A 6) (A 7) (A 8) (A 9) (A 10) q.2.1 ++ ([(A 11, bar dA 32 q.2.2.1)] ++ (pwC dA (A 12) (A 13) (A 14) (A 15) (A 16) q.2.2.2 ++ ([((A 17), .inr (1, [.ref ob, .int (nI (([] : List Nat).length))])), (ob, bar dA (gro oc ([] : List Nat).length) og), ((A 21), .inr (1, [.ref tb, .int (nI tl.length)])), (tb, bar dA tc tg), ((A 22), .inr (1, [.ref sb9, .int (nI sl9.length)])), (sb9, bar dA sc sg)] ++ (h4C dA (A 0) (A 1) (A 2) (A 3) (A 4) q.1 ++ (O ++ G)))))) H locs := by unfold qW at h; exact h.permL (perm_add (fun g f p0 p1 p2 => by (try simp only [p0, p1, p2]) <;> omega))
            refine call_VR (As := [.ref ((numC tt).1), .int (nI 0), .ref dc, .int (nI dcl.length), .long (lN t)]) (rest := [.int (nI 2), .ref (A 17)]) (n := 5) C h (c1_sealed l D dA B Z hZ ([((A 17), .inr (1, [.ref ob, .int (nI (([] : List Nat).length))])), (ob, bar dA (gro oc ([] : List Nat).length) og), ((A 21), .inr (1, [.ref tb, .int (nI tl.length)])), (tb, bar dA tc tg), ((A 22), .inr (1, [.ref sb9, .int (nI sl9.length)])), (sb9, bar dA sc sg)] ++ (h4C dA (A 0) (A 1) (A 2) (A 3) (A 4) q.1 ++ (O ++ G))) (A 5) (A 6) (A 7) (A 8) (A 9) (A 10) (A 24) (A 23) dc (A 17) rl.1 (A 0) (A 11) (A 18) (A 19) (A 20) (A 21) (A 22) sz (A 12) (A 13) (A 14) (A 15) (A 16) f1 f2 q.2.1 q.2.2.1 q.2.2.2 (numC tt) sec 0 t dc dcl.length (gD dcl) dcl hzq.1 (List.mem_append_right _ (List.mem_append_right _ (List.mem_append_right _ (hQF.2.1)))) hzq.2.1 (List.mem_append_right _ (List.mem_append_right _ (List.mem_append_right _ (hQF.2.2)))) (hNt9.sub (fun b q hq => List.mem_append_right _ (List.mem_append_right _ (List.mem_append_right _ (hq)))) (fun a fs hq => List.mem_append_right _ (List.mem_append_right _ (List.mem_append_right _ (hq))))) hsec (by decide) ht (List.mem_append_right _ (List.mem_append_right _ (List.mem_append_right _ (hdc)))) ⟨Nat.le_refl _, fun j _ => rfl⟩ hdb (by omega) (by omega) hqo2 hqo3) (lw_V q1755 q1757 qs40 q129 q1758) (by decide +kernel) (o_recv C h (RC := RX1) (T := TX1) (N := 14) (List.mem_append_right _ (List.mem_append_right _ (List.mem_append_right _ (List.mem_append_right _ (List.mem_append_right _ (List.mem_append_right _ (hQF.2.2))))))) rfl) (by decide) (by decide) rfl hl rfl (Nat.le_of_ble_eq_true rfl) dX1_seal_116 (by omega) (fun u6 H locs hu6 h => ?_)
            obtain ⟨uh, ug, up, q6, E6⟩ := u6
            obtain ⟨hq1, hq2, hq3⟩ := hu6
            dsimp only at hq1 hq2 hq3 h
            have h : Wd D B s ([((A 17), .inr (1, [.ref ob, .int (nI (([] : List Nat).length))])), (ob, bar dA (gro oc ([] : List Nat).length) og), ((A 21), .inr (1, [.ref tb, .int (nI tl.length)])), (tb, bar dA tc tg), ((A 22), .inr (1, [.ref sb9, .int (nI sl9.length)])), (sb9, bar dA sc sg)] ++ (qW dA A O (q.1, uh, ug, up) ++ (G ++ E6))) H locs := by unfold qW; dsimp only; exact h.permL (perm_add (fun g f p0 p1 p2 => by (try simp only [p0, p1, p2]) <;> omega))
            show W p l e R s m args below meth c H locs (0 + rC oc ([] : List Nat).length + 20) (0 + rS oc ([] : List Nat).length + 2200) Q (F0 m 119 ls [.ref q6, .int (nI 2), .ref (A 17)])
            refine W.widen (k := 20 + rC oc ([] : List Nat).length) (n := 2200 + rS oc ([] : List Nat).length) (by omega) (by omega) ?_
            have hml : (madeL 0 t (numC tt).2.1 sec dcl).length ≤ 179 := madeL_len hkN3
            have hmb : byt (madeL 0 t (numC tt).2.1 sec dcl) := madeL_byt (by decide) hkN3
            have hso : sealO t k (numC tt).2.1 sec dcl = [] ++ pktB 2 (madeL 0 t (numC tt).2.1 sec dcl) := by unfold sealO; rw [if_neg (show ¬ k = 3 by omega), if_neg (show ¬ k = 2 by omega)]; rw [if_neg (show ¬ k = 1 by omega)]; rfl
            have hLso : (([] : List Nat) ++ pktB 2 (madeL 0 t (numC tt).2.1 sec dcl)).length = (sealO t k (numC tt).2.1 sec dcl).length := by rw [hso]
            have hnlr1 : (([] : List Nat) ++ pktB 2 (madeL 0 t (numC tt).2.1 sec dcl)).length = ([] : List Nat).length + ((pktB 2 (madeL 0 t (numC tt).2.1 sec dcl)).length) := by rw [List.length_append]
            have hcbr1 := gro_b (cap := oc) (m := ([] : List Nat).length) (by omega)
            have hcar1 := rC_add (cap := oc) (m := ([] : List Nat).length) (m' := (([] : List Nat) ++ pktB 2 (madeL 0 t (numC tt).2.1 sec dcl)).length) (by omega) (by omega)
            have hcmr1 := rC_mono (cap := oc) (m := (([] : List Nat) ++ pktB 2 (madeL 0 t (numC tt).2.1 sec dcl)).length) (m' := 20000) (by omega) (by omega)
            refine call_S (As := [.ref (A 17), .int (nI 2), .ref q6]) (rest := []) (n := 3) C h (c1_packet l D dA B Z hZ ([((A 21), .inr (1, [.ref tb, .int (nI tl.length)])), (tb, bar dA tc tg), ((A 22), .inr (1, [.ref sb9, .int (nI sl9.length)])), (sb9, bar dA sc sg)] ++ (qW dA A O (q.1, uh, ug, up) ++ (G ++ E6))) (A 17) ob (gro oc ([] : List Nat).length) og ([] : List Nat) 2 q6 (madeL 0 t (numC tt).2.1 sec dcl) hSnr (by omega) (by omega) (by omega) (by omega) (List.mem_append_right _ (List.mem_append_right _ hq3)) (hmb) (by omega)) (lw_S q1770 q1771 q129 q1772) (by decide +kernel) (by decide) (by decide) rfl hl rfl (Nat.le_of_ble_eq_true rfl) dX1_seal_119 (by omega) (fun urr1 H locs hur1 h => ?_)
            obtain ⟨br1, gr1, Er1⟩ := urr1
            obtain ⟨Lr1, hLr1⟩ : ∃ z, z = ([] : List Nat) ++ pktB 2 (madeL 0 t (numC tt).2.1 sec dcl) := ⟨_, rfl⟩
            dsimp only at hur1 h
            rw [← hLr1] at h hur1 hnlr1
            have hger1 : gro (gro oc ([] : List Nat).length) Lr1.length = gro oc Lr1.length := gro_gro (by omega) (by omega)
            rw [hger1] at h hur1
            have hclr1 : rC oc (([] : List Nat) ++ pktB 2 (madeL 0 t (numC tt).2.1 sec dcl)).length = rC oc Lr1.length ∧ rS oc (([] : List Nat) ++ pktB 2 (madeL 0 t (numC tt).2.1 sec dcl)).length = rS oc Lr1.length := by rw [hLr1]; exact ⟨rfl, rfl⟩
            have h : Wd D B s ([((A 17), .inr (1, [.ref br1, .int (nI Lr1.length)])), (br1, bar dA (gro oc Lr1.length) gr1), ((A 21), .inr (1, [.ref tb, .int (nI tl.length)])), (tb, bar dA tc tg), ((A 22), .inr (1, [.ref sb9, .int (nI sl9.length)])), (sb9, bar dA sc sg)] ++ ((qW dA A O (q.1, uh, ug, up) ++ (G ++ E6)) ++ Er1)) H locs := h
            refine W.widen (k := 20 + rC oc Lr1.length) (n := 2200 + rS oc Lr1.length) (by omega) (by omega) ?_
            refine lv_aload_n hx hb dX1_seal_122 rfl (lv_at hl 1 rfl) ?_
            refine o_get C h (RC := RX1) (T := TX1) (N := 14) (List.mem_append_right _ (List.mem_append_left _ (List.mem_append_right _ (List.mem_append_left _ (hQF.2.2))))) rfl in_X1 3 (by decide) q311 rfl (v := .ref (A 17)) rfl dX1_seal_123 ?_
            refine o_get C h (RC := RX2) (T := TX2) (N := 2) (List.mem_of_getElem? (i := 0) rfl) rfl in_X2 1 (by decide) q192 rfl (v := .int (nI Lr1.length)) rfl dX1_seal_126 ?_
            subst hQ
            have hre : Lr1 = sealO t k (numC tt).2.1 sec dcl := by rw [hso, hLr1]
            have hrl : Lr1.length = (sealO t k (numC tt).2.1 sec dcl).length := by rw [hre]
            have hgo := gro_b (cap := oc) (m := Lr1.length) (by omega)
            have hcr : rC oc Lr1.length = rC oc (sealO t k (numC tt).2.1 sec dcl).length ∧ rS oc Lr1.length = rS oc (sealO t k (numC tt).2.1 sec dcl).length := by rw [hre]; exact ⟨rfl, rfl⟩
            have h : Wd D B s (qW dA A O (q.1, uh, ug, up) ++ ([((A 17), .inr (1, [.ref br1, .int (nI Lr1.length)])), (br1, bar dA (gro oc Lr1.length) gr1)] ++ ([((A 21), .inr (1, [.ref tb, .int (nI tl.length)])), (tb, bar dA tc tg)] ++ ([((A 22), .inr (1, [.ref sb9, .int (nI sl9.length)])), (sb9, bar dA sc sg)] ++ (G ++ (E6 ++ Er1)))))) H locs := h.permL (perm_add (fun g f p0 p1 p2 => by (try simp only [p0, p1, p2]) <;> omega))
            refine vy_ret ?_
            exact ret_i C hr hlocks h ((q.1, uh, ug, up), (br1, (gro oc Lr1.length), gr1, Lr1), (tb, tc, tg, tl), (sb9, sc, sg, sl9), (E6 ++ Er1)) (⟨⟨hqo1, hq2, hq1⟩, ⟨hur1, by (try dsimp only) <;> omega, by (try dsimp only) <;> omega⟩, hrt0, hrs0, by rw [hU], by rw [hU]; exact hre⟩) (by rw [hU, hrl]) rfl (by omega) (by omega) dX1_seal_129
          · refine lv_iconst (v := nI 1) hx hb dX1_seal_100 (by decide) ?_
            refine lv_goto (tgt := 105) hx hb dX1_seal_101 (by decide) ?_
            refine lv_aload_n hx hb dX1_seal_105 rfl (lv_at hl 1 rfl) ?_
            refine o_get C h (RC := RX1) (T := TX1) (N := 14) (List.mem_append_right _ (List.mem_append_right _ hQF.2.2)) rfl in_X1 2 (by decide) q310 rfl (v := .ref dc) rfl dX1_seal_106 ?_
            refine lv_aload_n hx hb dX1_seal_109 rfl (lv_at hl 1 rfl) ?_
            refine o_get C h (RC := RX1) (T := TX1) (N := 14) (List.mem_append_right _ (List.mem_append_right _ hQF.2.2)) rfl in_X1 2 (by decide) q310 rfl (v := .ref dc) rfl dX1_seal_110 ?_
            refine n_balen C h (List.mem_append_right _ (List.mem_append_right _ hdc)) dX1_seal_113 ?_
            refine lv_lload hx hb dX1_seal_114 (lv_at hl 5 rfl) ?_
            have h : Wd D B s (h5C dA (A 5) (A 6) (A 7) (A 8) (A 9) (A 10) q.2.1 ++ ([(A 11, bar dA 32 q.2.2.1)] ++ (pwC dA (A 12) (A 13) (A 14) (A 15) (A 16) q.2.2.2 ++ ([((A 17), .inr (1, [.ref ob, .int (nI (([] : List Nat).length))])), (ob, bar dA (gro oc ([] : List Nat).length) og), ((A 21), .inr (1, [.ref tb, .int (nI tl.length)])), (tb, bar dA tc tg), ((A 22), .inr (1, [.ref sb9, .int (nI sl9.length)])), (sb9, bar dA sc sg)] ++ (h4C dA (A 0) (A 1) (A 2) (A 3) (A 4) q.1 ++ (O ++ G)))))) H locs := by unfold qW at h; exact h.permL (perm_add (fun g f p0 p1 p2 => by (try simp only [p0, p1, p2]) <;> omega))
            refine call_VR (As := [.ref ((numC tt).1), .int (nI 1), .ref dc, .int (nI dcl.length), .long (lN t)]) (rest := [.int (nI 2), .ref (A 17)]) (n := 5) C h (c1_sealed l D dA B Z hZ ([((A 17), .inr (1, [.ref ob, .int (nI (([] : List Nat).length))])), (ob, bar dA (gro oc ([] : List Nat).length) og), ((A 21), .inr (1, [.ref tb, .int (nI tl.length)])), (tb, bar dA tc tg), ((A 22), .inr (1, [.ref sb9, .int (nI sl9.length)])), (sb9, bar dA sc sg)] ++ (h4C dA (A 0) (A 1) (A 2) (A 3) (A 4) q.1 ++ (O ++ G))) (A 5) (A 6) (A 7) (A 8) (A 9) (A 10) (A 24) (A 23) dc (A 17) rl.1 (A 0) (A 11) (A 18) (A 19) (A 20) (A 21) (A 22) sz (A 12) (A 13) (A 14) (A 15) (A 16) f1 f2 q.2.1 q.2.2.1 q.2.2.2 (numC tt) sec 1 t dc dcl.length (gD dcl) dcl hzq.1 (List.mem_append_right _ (List.mem_append_right _ (List.mem_append_right _ (hQF.2.1)))) hzq.2.1 (List.mem_append_right _ (List.mem_append_right _ (List.mem_append_right _ (hQF.2.2)))) (hNt9.sub (fun b q hq => List.mem_append_right _ (List.mem_append_right _ (List.mem_append_right _ (hq)))) (fun a fs hq => List.mem_append_right _ (List.mem_append_right _ (List.mem_append_right _ (hq))))) hsec (by decide) ht (List.mem_append_right _ (List.mem_append_right _ (List.mem_append_right _ (hdc)))) ⟨Nat.le_refl _, fun j _ => rfl⟩ hdb (by omega) (by omega) hqo2 hqo3) (lw_V q1755 q1757 qs40 q129 q1758) (by decide +kernel) (o_recv C h (RC := RX1) (T := TX1) (N := 14) (List.mem_append_right _ (List.mem_append_right _ (List.mem_append_right _ (List.mem_append_right _ (List.mem_append_right _ (List.mem_append_right _ (hQF.2.2))))))) rfl) (by decide) (by decide) rfl hl rfl (Nat.le_of_ble_eq_true rfl) dX1_seal_116 (by omega) (fun u6 H locs hu6 h => ?_)
            obtain ⟨uh, ug, up, q6, E6⟩ := u6
            obtain ⟨hq1, hq2, hq3⟩ := hu6
            dsimp only at hq1 hq2 hq3 h
            have h : Wd D B s ([((A 17), .inr (1, [.ref ob, .int (nI (([] : List Nat).length))])), (ob, bar dA (gro oc ([] : List Nat).length) og), ((A 21), .inr (1, [.ref tb, .int (nI tl.length)])), (tb, bar dA tc tg), ((A 22), .inr (1, [.ref sb9, .int (nI sl9.length)])), (sb9, bar dA sc sg)] ++ (qW dA A O (q.1, uh, ug, up) ++ (G ++ E6))) H locs := by unfold qW; dsimp only; exact h.permL (perm_add (fun g f p0 p1 p2 => by (try simp only [p0, p1, p2]) <;> omega))
            show W p l e R s m args below meth c H locs (0 + rC oc ([] : List Nat).length + 20) (0 + rS oc ([] : List Nat).length + 2200) Q (F0 m 119 ls [.ref q6, .int (nI 2), .ref (A 17)])
            refine W.widen (k := 20 + rC oc ([] : List Nat).length) (n := 2200 + rS oc ([] : List Nat).length) (by omega) (by omega) ?_
            have hml : (madeL 1 t (numC tt).2.1 sec dcl).length ≤ 179 := madeL_len hkN3
            have hmb : byt (madeL 1 t (numC tt).2.1 sec dcl) := madeL_byt (by decide) hkN3
            have hso : sealO t k (numC tt).2.1 sec dcl = [] ++ pktB 2 (madeL 1 t (numC tt).2.1 sec dcl) := by unfold sealO; rw [if_neg (show ¬ k = 3 by omega), if_neg (show ¬ k = 2 by omega)]; rw [if_pos (show k = 1 by omega)]; rfl
            have hLso : (([] : List Nat) ++ pktB 2 (madeL 1 t (numC tt).2.1 sec dcl)).length = (sealO t k (numC tt).2.1 sec dcl).length := by rw [hso]
            have hnlr2 : (([] : List Nat) ++ pktB 2 (madeL 1 t (numC tt).2.1 sec dcl)).length = ([] : List Nat).length + ((pktB 2 (madeL 1 t (numC tt).2.1 sec dcl)).length) := by rw [List.length_append]
            have hcbr2 := gro_b (cap := oc) (m := ([] : List Nat).length) (by omega)
            have hcar2 := rC_add (cap := oc) (m := ([] : List Nat).length) (m' := (([] : List Nat) ++ pktB 2 (madeL 1 t (numC tt).2.1 sec dcl)).length) (by omega) (by omega)
            have hcmr2 := rC_mono (cap := oc) (m := (([] : List Nat) ++ pktB 2 (madeL 1 t (numC tt).2.1 sec dcl)).length) (m' := 20000) (by omega) (by omega)
            refine call_S (As := [.ref (A 17), .int (nI 2), .ref q6]) (rest := []) (n := 3) C h (c1_packet l D dA B Z hZ ([((A 21), .inr (1, [.ref tb, .int (nI tl.length)])), (tb, bar dA tc tg), ((A 22), .inr (1, [.ref sb9, .int (nI sl9.length)])), (sb9, bar dA sc sg)] ++ (qW dA A O (q.1, uh, ug, up) ++ (G ++ E6))) (A 17) ob (gro oc ([] : List Nat).length) og ([] : List Nat) 2 q6 (madeL 1 t (numC tt).2.1 sec dcl) hSnr (by omega) (by omega) (by omega) (by omega) (List.mem_append_right _ (List.mem_append_right _ hq3)) (hmb) (by omega)) (lw_S q1770 q1771 q129 q1772) (by decide +kernel) (by decide) (by decide) rfl hl rfl (Nat.le_of_ble_eq_true rfl) dX1_seal_119 (by omega) (fun urr2 H locs hur2 h => ?_)
            obtain ⟨br2, gr2, Er2⟩ := urr2
            obtain ⟨Lr2, hLr2⟩ : ∃ z, z = ([] : List Nat) ++ pktB 2 (madeL 1 t (numC tt).2.1 sec dcl) := ⟨_, rfl⟩
            dsimp only at hur2 h
            rw [← hLr2] at h hur2 hnlr2
            have hger2 : gro (gro oc ([] : List Nat).length) Lr2.length = gro oc Lr2.length := gro_gro (by omega) (by omega)
            rw [hger2] at h hur2
            have hclr2 : rC oc (([] : List Nat) ++ pktB 2 (madeL 1 t (numC tt).2.1 sec dcl)).length = rC oc Lr2.length ∧ rS oc (([] : List Nat) ++ pktB 2 (madeL 1 t (numC tt).2.1 sec dcl)).length = rS oc Lr2.length := by rw [hLr2]; exact ⟨rfl, rfl⟩
            have h : Wd D B s ([((A 17), .inr (1, [.ref br2, .int (nI Lr2.length)])), (br2, bar dA (gro oc Lr2.length) gr2), ((A 21), .inr (1, [.ref tb, .int (nI tl.length)])), (tb, bar dA tc tg), ((A 22), .inr (1, [.ref sb9, .int (nI sl9.length)])), (sb9, bar dA sc sg)] ++ ((qW dA A O (q.1, uh, ug, up) ++ (G ++ E6)) ++ Er2)) H locs := h
            refine W.widen (k := 20 + rC oc Lr2.length) (n := 2200 + rS oc Lr2.length) (by omega) (by omega) ?_
            refine lv_aload_n hx hb dX1_seal_122 rfl (lv_at hl 1 rfl) ?_
            refine o_get C h (RC := RX1) (T := TX1) (N := 14) (List.mem_append_right _ (List.mem_append_left _ (List.mem_append_right _ (List.mem_append_left _ (hQF.2.2))))) rfl in_X1 3 (by decide) q311 rfl (v := .ref (A 17)) rfl dX1_seal_123 ?_
            refine o_get C h (RC := RX2) (T := TX2) (N := 2) (List.mem_of_getElem? (i := 0) rfl) rfl in_X2 1 (by decide) q192 rfl (v := .int (nI Lr2.length)) rfl dX1_seal_126 ?_
            subst hQ
            have hre : Lr2 = sealO t k (numC tt).2.1 sec dcl := by rw [hso, hLr2]
            have hrl : Lr2.length = (sealO t k (numC tt).2.1 sec dcl).length := by rw [hre]
            have hgo := gro_b (cap := oc) (m := Lr2.length) (by omega)
            have hcr : rC oc Lr2.length = rC oc (sealO t k (numC tt).2.1 sec dcl).length ∧ rS oc Lr2.length = rS oc (sealO t k (numC tt).2.1 sec dcl).length := by rw [hre]; exact ⟨rfl, rfl⟩
            have h : Wd D B s (qW dA A O (q.1, uh, ug, up) ++ ([((A 17), .inr (1, [.ref br2, .int (nI Lr2.length)])), (br2, bar dA (gro oc Lr2.length) gr2)] ++ ([((A 21), .inr (1, [.ref tb, .int (nI tl.length)])), (tb, bar dA tc tg)] ++ ([((A 22), .inr (1, [.ref sb9, .int (nI sl9.length)])), (sb9, bar dA sc sg)] ++ (G ++ (E6 ++ Er2)))))) H locs := h.permL (perm_add (fun g f p0 p1 p2 => by (try simp only [p0, p1, p2]) <;> omega))
            refine vy_ret ?_
            exact ret_i C hr hlocks h ((q.1, uh, ug, up), (br2, (gro oc Lr2.length), gr2, Lr2), (tb, tc, tg, tl), (sb9, sc, sg, sl9), (E6 ++ Er2)) (⟨⟨hqo1, hq2, hq1⟩, ⟨hur2, by (try dsimp only) <;> omega, by (try dsimp only) <;> omega⟩, hrt0, hrs0, by rw [hU], by rw [hU]; exact hre⟩) (by rw [hU, hrl]) rfl (by omega) (by omega) dX1_seal_129
        · refine lv_aload_n hx hb dX1_seal_81 rfl (lv_at hl 1 rfl) ?_
          refine lv_aload hx hb dX1_seal_82 (lv_at hl 0 rfl) ?_
          have hfrl := frnB_len (sha1 (keyMsg (numC tt).2.1)) dcl
          have hnlr3 : (([] : List Nat) ++ frnB (sha1 (keyMsg (numC tt).2.1)) dcl).length = ([] : List Nat).length + ((frnB (sha1 (keyMsg (numC tt).2.1)) dcl).length) := by rw [List.length_append]
          have hcbr3 := gro_b (cap := oc) (m := ([] : List Nat).length) (by omega)
          have hcar3 := rC_add (cap := oc) (m := ([] : List Nat).length) (m' := (([] : List Nat) ++ frnB (sha1 (keyMsg (numC tt).2.1)) dcl).length) (by omega) (by omega)
          have hcmr3 := rC_mono (cap := oc) (m := (([] : List Nat) ++ frnB (sha1 (keyMsg (numC tt).2.1)) dcl).length) (m' := 20000) (by omega) (by rw [List.nil_append]; omega)
          refine call_VR (As := [.ref ((numC tt).1)]) (rest := []) (n := 1) C h (c1_putFront l D dA B Z hZ ([((A 21), .inr (1, [.ref tb, .int (nI tl.length)])), (tb, bar dA tc tg), ((A 22), .inr (1, [.ref sb9, .int (nI sl9.length)])), (sb9, bar dA sc sg)] ++ (qW dA A O q ++ G)) (A 17) ob (gro oc ([] : List Nat).length) og ([] : List Nat) (A 24) (A 23) dc rl.1 (A 0) (A 5) (A 11) (A 12) (A 18) (A 19) (A 20) (A 21) (A 22) sz (numC tt) dcl hSnr (by omega) (by (try simp only [List.length_nil]) <;> omega) (by omega) (List.mem_append_right _ (List.mem_append_right _ hQF.2.2)) (hNt9.sub (fun b q hq => List.mem_append_right _ (List.mem_append_right _ hq)) (fun a fs hq => List.mem_append_right _ (List.mem_append_right _ hq))) (List.mem_append_right _ (List.mem_append_right _ hdc)) hdb hdl) (lw_V q1788 q1790 qs41 q129 q1791) (by decide +kernel) (o_recv C h (RC := RX2) (T := TX2) (N := 2) (List.mem_of_getElem? (i := 0) rfl) rfl) (by decide) (by decide) rfl hl rfl (Nat.le_of_ble_eq_true rfl) dX1_seal_84 (by omega) (fun urr3 H locs hur3 h => ?_)
          obtain ⟨br3, gr3, Er3⟩ := urr3
          obtain ⟨Lr3, hLr3⟩ : ∃ z, z = ([] : List Nat) ++ frnB (sha1 (keyMsg (numC tt).2.1)) dcl := ⟨_, rfl⟩
          dsimp only at hur3 h
          rw [← hLr3] at h hur3 hnlr3
          have hger3 : gro (gro oc ([] : List Nat).length) Lr3.length = gro oc Lr3.length := gro_gro (by omega) (by omega)
          rw [hger3] at h hur3
          have hclr3 : rC oc (([] : List Nat) ++ frnB (sha1 (keyMsg (numC tt).2.1)) dcl).length = rC oc Lr3.length ∧ rS oc (([] : List Nat) ++ frnB (sha1 (keyMsg (numC tt).2.1)) dcl).length = rS oc Lr3.length := by rw [hLr3]; exact ⟨rfl, rfl⟩
          have h : Wd D B s ([((A 17), .inr (1, [.ref br3, .int (nI Lr3.length)])), (br3, bar dA (gro oc Lr3.length) gr3), ((A 21), .inr (1, [.ref tb, .int (nI tl.length)])), (tb, bar dA tc tg), ((A 22), .inr (1, [.ref sb9, .int (nI sl9.length)])), (sb9, bar dA sc sg)] ++ ((qW dA A O q ++ G) ++ Er3)) H locs := h
          refine W.widen (k := 0 + rC oc Lr3.length) (n := 0 + rS oc Lr3.length) (by omega) (by omega) ?_
          refine lv_aload_n hx hb dX1_seal_87 rfl (lv_at hl 1 rfl) ?_
          refine o_get C h (RC := RX1) (T := TX1) (N := 14) (List.mem_append_right _ (List.mem_append_left _ (List.mem_append_right _ hQF.2.2))) rfl in_X1 3 (by decide) q311 rfl (v := .ref (A 17)) rfl dX1_seal_88 ?_
          refine lv_iconst (v := nI 2) hx hb dX1_seal_91 (by decide) ?_
          refine lv_aload_n hx hb dX1_seal_92 rfl (lv_at hl 1 rfl) ?_
          refine lv_aload hx hb dX1_seal_93 (lv_at hl 0 rfl) ?_
          refine lv_iload_n hx hb dX1_seal_95 rfl (lv_at hl 4 rfl) ?_
          refine lv_iconst (v := nI 1) hx hb dX1_seal_96 (by decide) ?_
          refine n_icmp_ne (tgt := 104) hx hb (by omega) (by omega) dX1_seal_97 (by decide) (fun c97 => ?_) (fun c97 => by exfalso; omega)
          refine lv_iconst (v := nI 0) hx hb dX1_seal_104 (by decide) ?_
          refine lv_aload_n hx hb dX1_seal_105 rfl (lv_at hl 1 rfl) ?_
          refine o_get C h (RC := RX1) (T := TX1) (N := 14) (List.mem_append_right _ (List.mem_append_left _ (List.mem_append_right _ hQF.2.2))) rfl in_X1 2 (by decide) q310 rfl (v := .ref dc) rfl dX1_seal_106 ?_
          refine lv_aload_n hx hb dX1_seal_109 rfl (lv_at hl 1 rfl) ?_
          refine o_get C h (RC := RX1) (T := TX1) (N := 14) (List.mem_append_right _ (List.mem_append_left _ (List.mem_append_right _ hQF.2.2))) rfl in_X1 2 (by decide) q310 rfl (v := .ref dc) rfl dX1_seal_110 ?_
          refine n_balen C h (List.mem_append_right _ (List.mem_append_left _ (List.mem_append_right _ hdc))) dX1_seal_113 ?_
          refine lv_lload hx hb dX1_seal_114 (lv_at hl 5 rfl) ?_
          have h : Wd D B s (h5C dA (A 5) (A 6) (A 7) (A 8) (A 9) (A 10) q.2.1 ++ ([(A 11, bar dA 32 q.2.2.1)] ++ (pwC dA (A 12) (A 13) (A 14) (A 15) (A 16) q.2.2.2 ++ ([((A 17), .inr (1, [.ref br3, .int (nI Lr3.length)])), (br3, bar dA (gro oc Lr3.length) gr3), ((A 21), .inr (1, [.ref tb, .int (nI tl.length)])), (tb, bar dA tc tg), ((A 22), .inr (1, [.ref sb9, .int (nI sl9.length)])), (sb9, bar dA sc sg)] ++ (h4C dA (A 0) (A 1) (A 2) (A 3) (A 4) q.1 ++ (O ++ (G ++ Er3))))))) H locs := by unfold qW at h; exact h.permL (perm_add (fun g f p0 p1 p2 => by (try simp only [p0, p1, p2]) <;> omega))
          refine call_VR (As := [.ref ((numC tt).1), .int (nI 0), .ref dc, .int (nI dcl.length), .long (lN t)]) (rest := [.int (nI 2), .ref (A 17)]) (n := 5) C h (c1_sealed l D dA B Z hZ ([((A 17), .inr (1, [.ref br3, .int (nI Lr3.length)])), (br3, bar dA (gro oc Lr3.length) gr3), ((A 21), .inr (1, [.ref tb, .int (nI tl.length)])), (tb, bar dA tc tg), ((A 22), .inr (1, [.ref sb9, .int (nI sl9.length)])), (sb9, bar dA sc sg)] ++ (h4C dA (A 0) (A 1) (A 2) (A 3) (A 4) q.1 ++ (O ++ (G ++ Er3)))) (A 5) (A 6) (A 7) (A 8) (A 9) (A 10) (A 24) (A 23) dc (A 17) rl.1 (A 0) (A 11) (A 18) (A 19) (A 20) (A 21) (A 22) sz (A 12) (A 13) (A 14) (A 15) (A 16) f1 f2 q.2.1 q.2.2.1 q.2.2.2 (numC tt) sec 0 t dc dcl.length (gD dcl) dcl hzq.1 (List.mem_append_right _ (List.mem_append_right _ (List.mem_append_right _ (List.mem_append_left _ (hQF.2.1))))) hzq.2.1 (List.mem_append_right _ (List.mem_append_right _ (List.mem_append_right _ (List.mem_append_left _ (hQF.2.2))))) (hNt9.sub (fun b q hq => List.mem_append_right _ (List.mem_append_right _ (List.mem_append_right _ (List.mem_append_left _ (hq))))) (fun a fs hq => List.mem_append_right _ (List.mem_append_right _ (List.mem_append_right _ (List.mem_append_left _ (hq)))))) hsec (by decide) ht (List.mem_append_right _ (List.mem_append_right _ (List.mem_append_right _ (List.mem_append_left _ (hdc))))) ⟨Nat.le_refl _, fun j _ => rfl⟩ hdb (by omega) (by omega) hqo2 hqo3) (lw_V q1755 q1757 qs40 q129 q1758) (by decide +kernel) (o_recv C h (RC := RX1) (T := TX1) (N := 14) (List.mem_append_right _ (List.mem_append_right _ (List.mem_append_right _ (List.mem_append_right _ (List.mem_append_right _ (List.mem_append_right _ (List.mem_append_left _ (hQF.2.2)))))))) rfl) (by decide) (by decide) rfl hl rfl (Nat.le_of_ble_eq_true rfl) dX1_seal_116 (by omega) (fun u6 H locs hu6 h => ?_)
          obtain ⟨uh, ug, up, q6, E6⟩ := u6
          obtain ⟨hq1, hq2, hq3⟩ := hu6
          dsimp only at hq1 hq2 hq3 h
          have h : Wd D B s ([((A 17), .inr (1, [.ref br3, .int (nI Lr3.length)])), (br3, bar dA (gro oc Lr3.length) gr3), ((A 21), .inr (1, [.ref tb, .int (nI tl.length)])), (tb, bar dA tc tg), ((A 22), .inr (1, [.ref sb9, .int (nI sl9.length)])), (sb9, bar dA sc sg)] ++ (qW dA A O (q.1, uh, ug, up) ++ ((G ++ Er3) ++ E6))) H locs := by unfold qW; dsimp only; exact h.permL (perm_add (fun g f p0 p1 p2 => by (try simp only [p0, p1, p2]) <;> omega))
          show W p l e R s m args below meth c H locs (0 + rC oc Lr3.length + 20) (0 + rS oc Lr3.length + 2200) Q (F0 m 119 ls [.ref q6, .int (nI 2), .ref (A 17)])
          refine W.widen (k := 20 + rC oc Lr3.length) (n := 2200 + rS oc Lr3.length) (by omega) (by omega) ?_
          have hml : (madeL 0 t (numC tt).2.1 sec dcl).length ≤ 179 := madeL_len hkN3
          have hmb : byt (madeL 0 t (numC tt).2.1 sec dcl) := madeL_byt (by decide) hkN3
          have hso : sealO t k (numC tt).2.1 sec dcl = frnB (sha1 (keyMsg (numC tt).2.1)) dcl ++ pktB 2 (madeL 0 t (numC tt).2.1 sec dcl) := by unfold sealO; rw [if_neg (show ¬ k = 3 by omega), if_pos (show k = 2 by omega), if_neg (show ¬ k = 1 by omega)]
          have hLso : (Lr3 ++ pktB 2 (madeL 0 t (numC tt).2.1 sec dcl)).length = (sealO t k (numC tt).2.1 sec dcl).length := by rw [hso, hLr3, List.nil_append]
          have hnlr4 : (Lr3 ++ pktB 2 (madeL 0 t (numC tt).2.1 sec dcl)).length = Lr3.length + ((pktB 2 (madeL 0 t (numC tt).2.1 sec dcl)).length) := by rw [List.length_append]
          have hcbr4 := gro_b (cap := oc) (m := Lr3.length) (by omega)
          have hcar4 := rC_add (cap := oc) (m := Lr3.length) (m' := (Lr3 ++ pktB 2 (madeL 0 t (numC tt).2.1 sec dcl)).length) (by omega) (by omega)
          have hcmr4 := rC_mono (cap := oc) (m := (Lr3 ++ pktB 2 (madeL 0 t (numC tt).2.1 sec dcl)).length) (m' := 20000) (by omega) (by omega)
          refine call_S (As := [.ref (A 17), .int (nI 2), .ref q6]) (rest := []) (n := 3) C h (c1_packet l D dA B Z hZ ([((A 21), .inr (1, [.ref tb, .int (nI tl.length)])), (tb, bar dA tc tg), ((A 22), .inr (1, [.ref sb9, .int (nI sl9.length)])), (sb9, bar dA sc sg)] ++ (qW dA A O (q.1, uh, ug, up) ++ ((G ++ Er3) ++ E6))) (A 17) br3 (gro oc Lr3.length) gr3 Lr3 2 q6 (madeL 0 t (numC tt).2.1 sec dcl) hur3 (by omega) (by omega) (by omega) (by omega) (List.mem_append_right _ (List.mem_append_right _ hq3)) (hmb) (by omega)) (lw_S q1770 q1771 q129 q1772) (by decide +kernel) (by decide) (by decide) rfl hl rfl (Nat.le_of_ble_eq_true rfl) dX1_seal_119 (by omega) (fun urr4 H locs hur4 h => ?_)
          obtain ⟨br4, gr4, Er4⟩ := urr4
          obtain ⟨Lr4, hLr4⟩ : ∃ z, z = Lr3 ++ pktB 2 (madeL 0 t (numC tt).2.1 sec dcl) := ⟨_, rfl⟩
          dsimp only at hur4 h
          rw [← hLr4] at h hur4 hnlr4
          have hger4 : gro (gro oc Lr3.length) Lr4.length = gro oc Lr4.length := gro_gro (by omega) (by omega)
          rw [hger4] at h hur4
          have hclr4 : rC oc (Lr3 ++ pktB 2 (madeL 0 t (numC tt).2.1 sec dcl)).length = rC oc Lr4.length ∧ rS oc (Lr3 ++ pktB 2 (madeL 0 t (numC tt).2.1 sec dcl)).length = rS oc Lr4.length := by rw [hLr4]; exact ⟨rfl, rfl⟩
          have h : Wd D B s ([((A 17), .inr (1, [.ref br4, .int (nI Lr4.length)])), (br4, bar dA (gro oc Lr4.length) gr4), ((A 21), .inr (1, [.ref tb, .int (nI tl.length)])), (tb, bar dA tc tg), ((A 22), .inr (1, [.ref sb9, .int (nI sl9.length)])), (sb9, bar dA sc sg)] ++ ((qW dA A O (q.1, uh, ug, up) ++ ((G ++ Er3) ++ E6)) ++ Er4)) H locs := h
          refine W.widen (k := 20 + rC oc Lr4.length) (n := 2200 + rS oc Lr4.length) (by omega) (by omega) ?_
          refine lv_aload_n hx hb dX1_seal_122 rfl (lv_at hl 1 rfl) ?_
          refine o_get C h (RC := RX1) (T := TX1) (N := 14) (List.mem_append_right _ (List.mem_append_left _ (List.mem_append_right _ (List.mem_append_left _ (List.mem_append_left _ (hQF.2.2)))))) rfl in_X1 3 (by decide) q311 rfl (v := .ref (A 17)) rfl dX1_seal_123 ?_
          refine o_get C h (RC := RX2) (T := TX2) (N := 2) (List.mem_of_getElem? (i := 0) rfl) rfl in_X2 1 (by decide) q192 rfl (v := .int (nI Lr4.length)) rfl dX1_seal_126 ?_
          subst hQ
          have hre : Lr4 = sealO t k (numC tt).2.1 sec dcl := by rw [hso, hLr4, hLr3]
          have hrl : Lr4.length = (sealO t k (numC tt).2.1 sec dcl).length := by rw [hre]
          have hgo := gro_b (cap := oc) (m := Lr4.length) (by omega)
          have hcr : rC oc Lr4.length = rC oc (sealO t k (numC tt).2.1 sec dcl).length ∧ rS oc Lr4.length = rS oc (sealO t k (numC tt).2.1 sec dcl).length := by rw [hre]; exact ⟨rfl, rfl⟩
          have h : Wd D B s (qW dA A O (q.1, uh, ug, up) ++ ([((A 17), .inr (1, [.ref br4, .int (nI Lr4.length)])), (br4, bar dA (gro oc Lr4.length) gr4)] ++ ([((A 21), .inr (1, [.ref tb, .int (nI tl.length)])), (tb, bar dA tc tg)] ++ ([((A 22), .inr (1, [.ref sb9, .int (nI sl9.length)])), (sb9, bar dA sc sg)] ++ (G ++ (Er3 ++ (E6 ++ Er4))))))) H locs := h.permL (perm_add (fun g f p0 p1 p2 => by (try simp only [p0, p1, p2]) <;> omega))
          refine vy_ret ?_
          exact ret_i C hr hlocks h ((q.1, uh, ug, up), (br4, (gro oc Lr4.length), gr4, Lr4), (tb, tc, tg, tl), (sb9, sc, sg, sl9), (Er3 ++ (E6 ++ Er4))) (⟨⟨hqo1, hq2, hq1⟩, ⟨hur4, by (try dsimp only) <;> omega, by (try dsimp only) <;> omega⟩, hrt0, hrs0, by rw [hU], by rw [hU]; exact hre⟩) (by rw [hU, hrl]) rfl (by omega) (by omega) dX1_seal_129
      · refine lv_aload_n hx hb dX1_seal_65 rfl (lv_at hl 1 rfl) ?_
        refine lv_aload hx hb dX1_seal_66 (lv_at hl 0 rfl) ?_
        refine lv_lload hx hb dX1_seal_68 (lv_at hl 5 rfl) ?_
        have hk3 : k = 3 := c62
        have hso : sealO t k (numC tt).2.1 sec dcl = sclL t (numC tt).2.1 sec dcl := by unfold sealO; rw [if_pos hk3]
        have h : Wd D B s (h5C dA (A 5) (A 6) (A 7) (A 8) (A 9) (A 10) q.2.1 ++ ([(A 11, bar dA 32 q.2.2.1)] ++ (pwC dA (A 12) (A 13) (A 14) (A 15) (A 16) q.2.2.2 ++ ([((A 17), .inr (1, [.ref ob, .int (nI (([] : List Nat).length))])), (ob, bar dA oc og), ((A 21), .inr (1, [.ref tb, .int (nI tl.length)])), (tb, bar dA tc tg), ((A 22), .inr (1, [.ref sb9, .int (nI sl9.length)])), (sb9, bar dA sc sg)] ++ (h4C dA (A 0) (A 1) (A 2) (A 3) (A 4) q.1 ++ (O ++ G)))))) H locs := by rw [hgnr] at h; unfold qW at h; exact h.permL (perm_add (fun g f p0 p1 p2 => by (try simp only [p0, p1, p2]) <;> omega))
        have hsc : rC oc (([] : List Nat) ++ sclL t (numC tt).2.1 sec dcl).length ≤ rC oc 20000 ∧ rS oc (([] : List Nat) ++ sclL t (numC tt).2.1 sec dcl).length ≤ rS oc 20000 := by rw [List.nil_append, ← hso]; exact hgo2
        refine call_VR (As := [.ref ((numC tt).1), .long (lN t)]) (rest := []) (n := 2) C h (c1_sealClear l D dA B Z hZ (h4C dA (A 0) (A 1) (A 2) (A 3) (A 4) q.1 ++ (O ++ G)) (A 5) (A 6) (A 7) (A 8) (A 9) (A 10) (A 24) (A 23) dc (A 17) rl.1 (A 0) (A 11) (A 12) (A 18) (A 19) (A 20) (A 21) (A 22) sz (A 13) (A 14) (A 15) (A 16) f1 f2 q.2.1 q.2.2.1 q.2.2.2 (numC tt) sec t dcl ob oc og ([] : List Nat) tb tc tg tl sb9 sc sg sl9 hzs hzq.1 (List.mem_append_right _ (List.mem_append_right _ hQF.2.1)) hzq.2.1 (List.mem_append_right _ (List.mem_append_right _ hQF.2.2)) (hNt9.sub (fun b q hq => List.mem_append_right _ (List.mem_append_right _ hq)) (fun a fs hq => List.mem_append_right _ (List.mem_append_right _ hq))) hsec ht (List.mem_append_right _ (List.mem_append_right _ hdc)) hdb hdl hqo2 hqo3 ⟨by have z := hSnr; rw [hgnr] at z; exact z, by (try dsimp only) <;> omega, by (try dsimp only) <;> omega⟩ (Nat.zero_lt_of_lt (show 0 < 1000 by decide)) hrt0 hrs0) (lw_V q1743 q1745 qs39 q129 q1746) (by decide +kernel) (o_recv C h (RC := RX1) (T := TX1) (N := 14) (List.mem_append_right _ (List.mem_append_right _ (List.mem_append_right _ (List.mem_append_right _ (List.mem_append_right _ (List.mem_append_right _ hQF.2.2)))))) rfl) (by decide) (by decide) rfl hl rfl (Nat.le_of_ble_eq_true rfl) dX1_seal_70 (by omega) (fun u9 H locs hu9 h => ?_)
        obtain ⟨uh, ug, up, ro9, rt9, rs9, E9⟩ := u9
        obtain ⟨hq1, hq2, hk1o, hk1e, hk1t, hk1s⟩ := hu9
        dsimp only at hq1 hq2 hk1o hk1e hk1t hk1s h
        have hk1o3 := hk1o.1.1
        have hk1o4 := hk1o.2.2
        have h : Wd D B s ([((A 17), .inr (1, [.ref ro9.1, .int (nI ro9.2.2.2.length)])), (ro9.1, bar dA ro9.2.1 ro9.2.2.1), ((A 21), .inr (1, [.ref rt9.1, .int (nI rt9.2.2.2.length)])), (rt9.1, bar dA rt9.2.1 rt9.2.2.1), ((A 22), .inr (1, [.ref rs9.1, .int (nI rs9.2.2.2.length)])), (rs9.1, bar dA rs9.2.1 rs9.2.2.1)] ++ (qW dA A O (q.1, uh, ug, up) ++ (G ++ E9))) H locs := by unfold qW; dsimp only; exact h.permL (perm_add (fun g f p0 p1 p2 => by (try simp only [p0, p1, p2]) <;> omega))
        refine lv_goto (tgt := 122) hx hb dX1_seal_73 (by decide) ?_
        refine lv_aload_n hx hb dX1_seal_122 rfl (lv_at hl 1 rfl) ?_
        refine o_get C h (RC := RX1) (T := TX1) (N := 14) (List.mem_append_right _ (List.mem_append_right _ (List.mem_append_left _ hQF.2.2))) rfl in_X1 3 (by decide) q311 rfl (v := .ref (A 17)) rfl dX1_seal_123 ?_
        refine o_get C h (RC := RX2) (T := TX2) (N := 2) (List.mem_of_getElem? (i := 0) rfl) rfl in_X2 1 (by decide) q192 rfl (v := .int (nI ro9.2.2.2.length)) rfl dX1_seal_126 ?_
        subst hQ
        have h : Wd D B s (qW dA A O (q.1, uh, ug, up) ++ ([((A 17), .inr (1, [.ref ro9.1, .int (nI ro9.2.2.2.length)])), (ro9.1, bar dA ro9.2.1 ro9.2.2.1)] ++ ([((A 21), .inr (1, [.ref rt9.1, .int (nI rt9.2.2.2.length)])), (rt9.1, bar dA rt9.2.1 rt9.2.2.1)] ++ ([((A 22), .inr (1, [.ref rs9.1, .int (nI rs9.2.2.2.length)])), (rs9.1, bar dA rs9.2.1 rs9.2.2.1)] ++ (G ++ E9))))) H locs := h.permL (perm_add (fun g f p0 p1 p2 => by (try simp only [p0, p1, p2]) <;> omega))
        have hre : ro9.2.2.2 = sealO t k (numC tt).2.1 sec dcl := by rw [hk1e, List.nil_append, hso]
        have hrl : ro9.2.2.2.length = (sealO t k (numC tt).2.1 sec dcl).length := by rw [hre]
        refine vy_ret ?_
        exact ret_i C hr hlocks h ((q.1, uh, ug, up), ro9, rt9, rs9, E9) (⟨⟨hqo1, hq2, hq1⟩, hk1o, hk1t, hk1s, by rw [hU], by rw [hU]; exact hre⟩) (by rw [hU, hrl]) rfl (by omega) (by omega) dX1_seal_129
    · have hno : (numC tt).2.2 = none := ROb_n hnsan c42
      have hU := sealC_3 (dc := dcl) (ou := ol) hth hpp hno
      have h : Wd D B s (qW dA A O q ++ ([((A 17), .inr (1, [.ref ob, .int (nI ol.length)])), (ob, bar dA oc og)] ++ ([((A 21), .inr (1, [.ref tb, .int (nI tl.length)])), (tb, bar dA tc tg)] ++ ([((A 22), .inr (1, [.ref sb9, .int (nI sl9.length)])), (sb9, bar dA sc sg)] ++ G)))) H locs := by rw [hg0r] at h; exact h.permL (perm_add (fun g f p0 p1 p2 => by (try simp only [p0, p1, p2]) <;> omega))
      subst hQ
      exact x_throw0 C (fun x hx9 => (hex x hx9).elim) hlocks hlt hzx h hl (by decide +kernel) (by decide +kernel) q1728 q169 (ex_ISE C hzx) eg_ISE (fun q9 => (q9, 3)) (fun _ => rfl) (fun _ => rfl) (fun q9 => ⟨by rw [hU], Or.inr (Or.inr rfl)⟩) (fun _ => rfl) (by decide) (Nat.le_of_ble_eq_true rfl) (by omega) (by omega) dX1_seal_45 dX1_seal_48 dX1_seal_49 dX1_seal_52
  refine lv_lload hx hb dX1_seal_12 (lv_at hl 5 rfl) ?_
  refine call_S (As := [.long v]) (rest := []) (n := 1) C h (c1_isTime l D dA B Z hZ _ v) (lw_S q1444 q1445 q129 q1446) (by decide +kernel) (by decide) (by decide) rfl hl rfl (Nat.le_of_ble_eq_true rfl) dX1_seal_14 (by omega) (fun _ H locs _ h => ?_)
  refine z_if_eq (tgt := 33) hx hb dX1_seal_17 (by decide) (fun c17 => ?_) (fun c17 => ?_)
  · refine lv_iconst (v := nI 0) hx hb dX1_seal_33 (by decide) ?_
    refine n_top (y := bZ false) rfl ?_
    exact jn false _ _ (by symm; exact decide_eq_false (fun q9 => by first | (rw [q9.1] at c17; cases c17) | exact q9.2.1 c21 | exact c26 (Int32.not_lt.mp q9.2.2))) (by omega) (by omega) _ _ h _ (lv_sub hl [0, 1, 2, 3, 4, 5] rfl)
  · refine lv_iload_n hx hb dX1_seal_20 rfl (lv_at hl 4 rfl) ?_
    refine lv_if_lt (tgt := 33) hx hb dX1_seal_21 (by decide) (fun c21 => ?_) (fun c21 => ?_)
    · refine lv_iconst (v := nI 0) hx hb dX1_seal_33 (by decide) ?_
      refine n_top (y := bZ false) rfl ?_
      exact jn false _ _ (by symm; exact decide_eq_false (fun q9 => by first | (rw [q9.1] at c17; cases c17) | exact q9.2.1 c21 | exact c26 (Int32.not_lt.mp q9.2.2))) (by omega) (by omega) _ _ h _ (lv_sub hl [0, 1, 2, 3, 4, 5] rfl)
    · refine lv_iload_n hx hb dX1_seal_24 rfl (lv_at hl 4 rfl) ?_
      refine lv_iconst (v := nI 3) hx hb dX1_seal_25 (by decide) ?_
      refine lv_icmp_gt (tgt := 33) hx hb dX1_seal_26 (by decide) (fun c26 => ?_) (fun c26 => ?_)
      · refine lv_iconst (v := nI 0) hx hb dX1_seal_33 (by decide) ?_
        refine n_top (y := bZ false) rfl ?_
        exact jn false _ _ (by symm; exact decide_eq_false (fun q9 => by first | (rw [q9.1] at c17; cases c17) | exact q9.2.1 c21 | exact c26 (Int32.not_lt.mp q9.2.2))) (by omega) (by omega) _ _ h _ (lv_sub hl [0, 1, 2, 3, 4, 5] rfl)
      · refine lv_iconst (v := nI 1) hx hb dX1_seal_29 (by decide) ?_
        refine lv_goto (tgt := 34) hx hb dX1_seal_30 (by decide) ?_
        refine n_top (y := bZ true) rfl ?_
        exact jn true _ _ ((decide_eq_true ⟨by first | exact c17 | (cases q9 : isTm v with | true => rfl | false => rw [q9] at c17; exact absurd rfl c17), c21, Int32.not_lt.mpr c26⟩).symm) (by omega) (by omega) _ _ h _ (lv_sub hl [0, 1, 2, 3, 4, 5] rfl)
