set_option maxRecDepth 100000

def usTC (t : KY × Option Nat) (n : Nat) : Nat := match t.2 with
  | none => uskC t.1 n
  | some j => match t.1.2.2.2.2.2[j]? with
    | none => 0
    | some p => uspC t.1 p n
def ublC (Ry : List KY) (x y : Int32) (v : Int64) : Nat × Nat := match thC Ry x y with
  | none => (1, 0)
  | some t => if isTm v = true then (0, usTC t (tmN v)) else (2, 0)
theorem ublC_n {Ry : List KY} {x y : Int32} {v : Int64} (h : thC Ry x y = none) : ublC Ry x y v = (1, 0) := by unfold ublC; rw [h]
theorem ublC_s {Ry : List KY} {x y : Int32} {v : Int64} {t : KY × Option Nat} (h : thC Ry x y = some t) : ublC Ry x y v = if isTm v = true then (0, usTC t (tmN v)) else (2, 0) := by unfold ublC; rw [h]
def uC (k : KY) : Nat := 6 * k.2.2.1.2.length + 4 * sumL (fun u : US => u.2.2.2.length) k.2.2.2.1.2 + sumL (fun x : PTt => 6 * x.2.2.2.length + sumL (fun y : SL => y.2.length) x.2.2.2) k.2.2.2.2.2 + 5
def uSl (k : KY) : Nat := 768 * k.2.2.1.2.length + 512 * sumL (fun u : US => u.2.2.2.length) k.2.2.2.1.2 + sumL (fun x : PTt => 768 * x.2.2.2.length + 5 * sumL (fun y : SL => y.2.length) x.2.2.2) k.2.2.2.2.2 + 278
theorem sumL_mem {α : Type} (f : α → Nat) : ∀ {l : List α} {x : α}, x ∈ l → f x ≤ sumL f l
  | a :: l, x, h => by
    show f x ≤ f a + sumL f l
    rcases List.mem_cons.mp h with q | q
    · rw [q]; omega
    · have := sumL_mem f q
      omega
def usEx (n : Nat) : String := if n = 1 then "java/lang/IndexOutOfBoundsException" else "java/lang/IllegalArgumentException"
theorem KyS.t {dA : Nat → ClassId} {e0 : Nat} {cx : CX} {G : va_W} {rl : LD} {Ry : List KY} (hRw : ∀ z ∈ ringW dA e0 rl Ry, z ∈ G) (hRS : RgS dA cx G rl Ry) {k : KY} (hk : k ∈ Ry) : KyT dA e0 cx G k := ⟨fun z hz => hRw z (ky_ring hk hz), (hRS.2 k hk).1, (hRS.2 k hk).2.1, (hRS.2 k hk).2.2.1, (hRS.2 k hk).2.2.2⟩

set_option maxHeartbeats 400000 in
set_option maxRecDepth 100000 in
theorem c1_usable (l : Launch) (D : va_G) (dA : Nat → ClassId) (B : Nat) (Z : State → Prop) (hZ : Stab B Z) (G : va_W) (A : Nat → Nat) (O : va_W) (sz dc f1 f2 : Nat) (q : QS) (cx : CX) (e0 : Nat) (rl : LD) (Ry : List KY) (x y : Int32) (v : Int64) (hlt : l.stackTraces = false) (hzx : ZX B Z) (hzq : ZQ B f1 f2 Z) (hQF : QF dA A sz dc rl.1 G) (hqo : QOk q) (hRw0 : ∀ z ∈ ringW dA e0 rl Ry, z ∈ G) (hRS : RgS dA cx G rl Ry) :
    CtX (S := QS × va_W) (SX := Nat × Nat) l D dA B Z yX1_usable_3 cX1_usable_3 6 (some .int) 14 (sumL uC Ry + 3) (sumL uSl Ry + 18) [.ref (A 24), .int x, .int y, .long v] (qW dA A O q ++ G) (fun u => QOk u.1 ∧ TR dA cx G u.2 ∧ (ublC Ry x y v).1 = 0) (fun _ => some (.int (nI (ublC Ry x y v).2))) (fun u => qW dA A O u.1 ++ u.2) (fun u => u.2 = (ublC Ry x y v).1 ∧ (u.2 = 1 ∨ u.2 = 2)) (fun u => u.1) (fun u => usEx u.2) (fun _ => qW dA A O q ++ G) := by
  refine CtX.mk2 (by decide) (Nat.le_of_ble_eq_true rfl) hZ ?_
  intro p e R s m args below meth c ls Q C hr hlocks hin hex hQ hl h
  have C0 := C
  obtain ⟨hx, hb, hml, hown, hts, -⟩ := C0
  have hl : lv_has ls 6 [(0, .ref (A 24)), (1, .int x), (2, .int y), (3, .long v)] := hl
  have hme : meC A sz dc rl.1 ∈ qW dA A O q ++ G := List.mem_append_right _ hQF.2.2
  have hRw : ∀ z ∈ ringW dA e0 rl Ry, z ∈ qW dA A O q ++ G := fun z hz => List.mem_append_right _ (hRw0 z hz)
  have hRk := hRS.1
  have hKy : ∀ k ∈ Ry, KyIn dA (qW dA A O q ++ G) k := fun k hk => (hRS.2 k hk).1.sub (fun z hz => List.mem_append_right _ hz)
  refine lv_aload_n hx hb dX1_usable_3_0 rfl (lv_at hl 0 rfl) ?_
  refine lv_iload_n hx hb dX1_usable_3_1 rfl (lv_at hl 1 rfl) ?_
  refine lv_iload_n hx hb dX1_usable_3_2 rfl (lv_at hl 2 rfl) ?_
  refine call_VX (As := [.int x, .int y]) (rest := []) (n := 2) C h (c1_keyOf2 l D dA B Z hZ ((qW dA A O q ++ G)) A sz dc e0 rl Ry x y hlt hzx hme hRw hRk hKy) (lw_V q1709 q1711 qs38 q129 q1712) (by decide +kernel) (o_recv C h (RC := RX1) (T := TX1) (N := 14) (hme) rfl) (by decide) (by decide) rfl hl rfl (Nat.le_of_ble_eq_true rfl) dX1_usable_3_3 (by omega) (fun ux ce9 H locs hux h hce9 hcv9 hcl9 => ?_) (fun u8 H locs hu8 h => ?_)
  · subst hQ
    exact thr_out C hex hlocks h (ux, 1) rfl rfl (⟨by rw [ublC_n hux], Or.inl rfl⟩) rfl hce9 hcv9 hcl9 (by omega) (by omega)
  obtain ⟨tt, htt⟩ : ∃ z : KY × Option Nat, z = u8 := ⟨_, rfl⟩
  rw [← htt] at hu8
  obtain ⟨hth, hTI⟩ := hu8
  have hkw : ∀ z ∈ kyW dA e0 tt.1, z ∈ qW dA A O q ++ G := fun z hz => hRw z (ky_ring hTI.1 hz)
  have hKk := hKy tt.1 hTI.1
  rw [← htt]
  show W p l e R s m args below meth c H locs (0 + 2) (0 + 12) Q (F0 m 6 ls [.ref tt.1.1])
  refine lv_astore (lv' := [(5, .ref tt.1.1), (0, .ref (A 24)), (1, .int x), (2, .int y), (3, .long v)]) hx hb dX1_usable_3_6 hl (by decide) rfl (fun ls hl => ?_)
  refine lv_lload_n hx hb dX1_usable_3_8 rfl (lv_at hl 4 rfl) ?_
  refine call_S (As := [.long v]) (rest := []) (n := 1) C h (c1_isTime l D dA B Z hZ _ v) (lw_S q1444 q1445 q129 q1446) (by decide +kernel) (by decide) (by decide) rfl hl rfl (Nat.le_of_ble_eq_true rfl) dX1_usable_3_9 (by omega) (fun _ H locs _ h => ?_)
  refine call_SX (As := [.int (bZ (isTm v))]) (rest := []) (n := 1) C h (c1_want l D dA B Z hZ _ (isTm v) hlt hzx) (lw_S q1448 q1449 q129 q1450) (by decide +kernel) (by decide) (by decide) rfl hl rfl (Nat.le_of_ble_eq_true rfl) dX1_usable_3_12 (by omega) (fun ux ce9 H locs hbx h hce9 hcv9 hcl9 => ?_) (fun _ H locs hb9 h => ?_)
  · subst hQ
    exact thr_out C hex hlocks h (ux, 2) rfl rfl (⟨by rw [ublC_s hth, if_neg (by rw [hbx]; decide)], Or.inr rfl⟩) rfl hce9 hcv9 hcl9 (by omega) (by omega)
  obtain ⟨t, ht, hvt⟩ := isTm_t hb9
  have htm : tmN v = t := by rw [hvt]; exact tmN_l ht
  have hus : ublC Ry x y v = (0, usTC tt t) := by rw [ublC_s hth, if_pos hb9, htm]
  rw [hvt] at hl
  have hl : lv_has ls 6 [(5, .ref tt.1.1), (0, .ref (A 24)), (1, .int x), (2, .int y), (3, .long (lN t))] := hl
  have hkt : KyT dA e0 cx G tt.1 := KyS.t hRw0 hRS hTI.1
  have hcu := sumL_mem uC hTI.1
  have hcs9 := sumL_mem uSl hTI.1
  have zc : uC tt.1 = 6 * tt.1.2.2.1.2.length + 4 * sumL (fun u : US => u.2.2.2.length) tt.1.2.2.2.1.2 + sumL (fun x : PTt => 6 * x.2.2.2.length + sumL (fun y : SL => y.2.length) x.2.2.2) tt.1.2.2.2.2.2 + 5 := rfl
  have zs : uSl tt.1 = 768 * tt.1.2.2.1.2.length + 512 * sumL (fun u : US => u.2.2.2.length) tt.1.2.2.2.1.2 + sumL (fun x : PTt => 768 * x.2.2.2.length + 5 * sumL (fun y : SL => y.2.length) x.2.2.2) tt.1.2.2.2.2.2 + 278 := rfl
  rcases hTI.2 with ⟨e1, e2⟩ | ⟨jq, pq, e1, e2, e3, e4⟩
  · have hut : usTC tt t = uskC tt.1 t := by unfold usTC; rw [e1]
    rw [e2] at hl
    have hl : lv_has ls 6 [(5, .ref tt.1.1), (0, .ref (A 24)), (1, .int x), (2, .int (-1)), (3, .long (lN t))] := hl
    refine lv_iload_n hx hb dX1_usable_3_15 rfl (lv_at hl 3 rfl) ?_
    refine lv_if_ge (tgt := 29) hx hb dX1_usable_3_16 (by decide) (fun c16 => absurd c16 (by decide)) (fun c16 => ?_)
    refine lv_aload_n hx hb dX1_usable_3_19 rfl (lv_at hl 1 rfl) ?_
    refine lv_aload hx hb dX1_usable_3_20 (lv_at hl 0 rfl) ?_
    refine lv_lload_n hx hb dX1_usable_3_22 rfl (lv_at hl 4 rfl) ?_
    refine call_VR (As := [.ref tt.1.1, .long (lN t)]) (rest := []) (n := 2) C h (cQ_usableK l D dA B Z hZ G A O sz dc rl.1 f1 f2 q cx e0 tt.1 t hzq hQF hqo hkt ht) (lw_V q1626 q1628 qs27 q129 q1629) (by decide +kernel) (o_recv C h (RC := RX1) (T := TX1) (N := 14) (hme) rfl) (by decide) (by decide) rfl hl rfl (Nat.le_of_ble_eq_true rfl) dX1_usable_3_23 (by omega) (fun u9 H locs hu9 h => ?_)
    obtain ⟨q3, G3⟩ := u9
    obtain ⟨hq3, hT3⟩ := hu9
    dsimp only at hq3 hT3 h
    refine lv_goto (tgt := 48) hx hb dX1_usable_3_26 (by decide) ?_
    subst hQ
    refine vy_ret ?_
    exact ret_i C hr hlocks h (q3, G3) (⟨hq3, hT3, by rw [hus]⟩) (by rw [hus, hut]) rfl (by omega) (by omega) dX1_usable_3_48
  · have hut : usTC tt t = uspC tt.1 pq t := by unfold usTC; rw [e1]; dsimp only; rw [e4]
    rw [e2] at hl
    have hl : lv_has ls 6 [(5, .ref tt.1.1), (0, .ref (A 24)), (1, .int x), (2, .int (nI jq)), (3, .long (lN t))] := hl
    have hpm := List.mem_of_getElem? e4
    have hpl := hKk.pl hkw
    obtain ⟨edp, hcpl⟩ := hpl.cell
    have hcp := sumL_mem (fun x : PTt => 6 * x.2.2.2.length + sumL (fun y : SL => y.2.length) x.2.2.2) hpm
    have hcp2 := sumL_mem (fun x : PTt => 768 * x.2.2.2.length + 5 * sumL (fun y : SL => y.2.length) x.2.2.2) hpm
    try dsimp only at hcp hcp2
    refine lv_iload_n hx hb dX1_usable_3_15 rfl (lv_at hl 3 rfl) ?_
    refine n_if_ge (tgt := 29) hx hb (by omega) dX1_usable_3_16 (by decide) ?_
    refine lv_aload_n hx hb dX1_usable_3_29 rfl (lv_at hl 1 rfl) ?_
    refine lv_aload hx hb dX1_usable_3_30 (lv_at hl 0 rfl) ?_
    refine lv_aload hx hb dX1_usable_3_32 (lv_at hl 0 rfl) ?_
    refine o_get C h (RC := RX9) (T := TX9) (N := 4) (hkw _ kyc_in) rfl in_X9 3 (by decide) q401 rfl (v := .ref tt.1.2.2.2.2.1.1) rfl dX1_usable_3_34 ?_
    refine lv_iload_n hx hb dX1_usable_3_37 rfl (lv_at hl 3 rfl) ?_
    refine call_VR (As := [.int (nI jq)]) (rest := [.ref tt.1.1, .ref (A 24)]) (n := 1) C h (cA_get l D dA B Z hZ _ e0 tt.1.2.2.2.2.1 _ jq pq.1 hpl (at_map e4)) (lw_V q364 q365 q366 q133 q367) (by decide +kernel) (o_recv C h (RC := RJ2) (T := TJ2) (N := 3) (hcpl) rfl) (by decide) (by decide) rfl hl rfl (Nat.le_of_ble_eq_true rfl) dX1_usable_3_38 (by omega) (fun _ H locs _ h => ?_)
    refine o_cast C h (RC := RX11) (T := TX11) (N := 2) (KyIn.ptc hkw hpm) rfl q1279 dX1_usable_3_41 ?_
    refine lv_lload_n hx hb dX1_usable_3_44 rfl (lv_at hl 4 rfl) ?_
    refine call_VR (As := [.ref tt.1.1, .ref pq.1, .long (lN t)]) (rest := []) (n := 3) C h (cQ_usableP l D dA B Z hZ G A O sz dc rl.1 f1 f2 q cx e0 tt.1 pq t hzq hQF hqo hkt hpm ht) (lw_V q1658 q1660 qs35 q129 q1661) (by decide +kernel) (o_recv C h (RC := RX1) (T := TX1) (N := 14) (hme) rfl) (by decide) (by decide) rfl hl rfl (Nat.le_of_ble_eq_true rfl) dX1_usable_3_45 (by omega) (fun u9 H locs hu9 h => ?_)
    obtain ⟨q3, G3⟩ := u9
    obtain ⟨hq3, hT3⟩ := hu9
    dsimp only at hq3 hT3 h
    subst hQ
    refine vy_ret ?_
    exact ret_i C hr hlocks h (q3, G3) (⟨hq3, hT3, by rw [hus]⟩) (by rw [hus, hut]) rfl (by omega) (by omega) dX1_usable_3_48
