set_option maxRecDepth 100000

def arEx (n : Nat) : String := if n = 1 then "java/lang/IllegalArgumentException" else "java/lang/UnsupportedOperationException"
def usB9 (u : US) : List Nat := pktB 13 u.2.1 ++ slsB (u.2.2.2.map Prod.snd)
def ptB9 (x : PTt) : List Nat := pktB 14 x.2.1.2.1 ++ slsB (x.2.2.2.map Prod.snd)
/-- a key as it goes out -/
def xpC (k : KY) : List Nat := pktB 6 k.2.1.2.1 ++ slsB (k.2.2.1.2.map Prod.snd) ++ k.2.2.2.1.2.flatMap usB9 ++ k.2.2.2.2.2.flatMap ptB9
def xptC (Ry : List KY) (ou : List Nat) (x : Int32) : Nat × Nat × List Nat := match ixO Ry.length x with
  | none => (1, 0, ou)
  | some i => match Ry[i]? with
    | none => (1, 0, ou)
    | some k => (0, (xpC k).length, xpC k)
theorem xptC_n {Ry : List KY} {ou : List Nat} {x : Int32} (h : ixO Ry.length x = none) : xptC Ry ou x = (1, 0, ou) := by unfold xptC; rw [h]
theorem xptC_s {Ry : List KY} {ou : List Nat} {x : Int32} {i : Nat} {k : KY} (h : ixO Ry.length x = some i) (hk : Ry[i]? = some k) : xptC Ry ou x = (0, (xpC k).length, xpC k) := by
  unfold xptC; rw [h]
  show (match Ry[i]? with | none => (1, 0, ou) | some k => (0, (xpC k).length, xpC k)) = _
  rw [hk]
theorem armS_n9 {ou : List Nat} {x : Int32} (h : ¬ (¬ x < 0 ∧ ¬ nI 2 < x)) : armS ou x = (1, 0, ou) := armS_f (by
  by_cases q : x < 0
  · exact Or.inl q
  · exact Or.inr (Decidable.byContradiction (fun z => h ⟨q, z⟩)))
theorem armS_29 {ou : List Nat} {x : Int32} (h : ¬ x < 0 ∧ ¬ nI 2 < x) (hl : 8000 < ou.length) : armS ou x = (2, 0, ou) := by rw [armS_k h.1 h.2 rfl, if_pos hl]
theorem armS_s9 {ou : List Nat} {x : Int32} {k : Nat} (h : ¬ x < 0 ∧ ¬ nI 2 < x) (hl : ¬ 8000 < ou.length) (hk : x.toInt.toNat = k) : armS ou x = (0, (armL k ou).length, armL k ou) := by rw [armS_k h.1 h.2 hk, if_neg hl]
theorem fm_step {α : Type} {f : α → List Nat} {l : List α} {i : Nat} {y : α} (h : l[i]? = some y) : (l.take (i + 1)).flatMap f = (l.take i).flatMap f ++ f y := by
  rw [List.take_add_one, h, List.flatMap_append]
  exact congrArg _ (List.append_nil _)
theorem fm_le {α : Type} (f : α → List Nat) (l : List α) (i : Nat) : ((l.take i).flatMap f).length ≤ (l.flatMap f).length := by
  have e : l.flatMap f = (l.take i).flatMap f ++ (l.drop i).flatMap f := by rw [← List.flatMap_append, List.take_append_drop]
  rw [e, List.length_append]; omega


section CA9
variable {p : Program} {l : Launch} {e : Env} {Ry : Room} {s : State} {m : MethodId} {args : Array Value} {below : List Frame} {meth : Method} {c : Code} {H : Heap} {locs : List Loc} {cells slots : Nat} {cc : ByteArray} {pc : Nat} {ls : Array Slot} {rest : List Value} {Q : State → Prop}
variable {nL : Nat} {own : String} {D : va_G} {dA : Nat → ClassId} {B : Nat} {Z : State → Prop} {d mc ms : Nat} {ws : va_W}
theorem o_castU (C : Cx p Ry s m args c cc nL own D dA B Z d mc ms) (h : Wd D B s ws H locs) {a ci N idx : Nat} {fs : List Value} {RC X : String} {T : u_T} (hm : (a, .inr (ci, fs)) ∈ ws) (hc : vwCl[ci]? = some (RC, T, N)) (hlink : Cond.classLink own idx X ∈ lw_all) (hcw : Cond.castable RC X ∈ lw_tbl) (hdg : decode cc pc = .ok (.checkcast idx, 3))
    (kk : W p l e R s m args below meth c H locs cells slots Q (F0 m (pc + 3) ls (.ref a :: rest))) : W p l e R s m args below meth c H locs cells slots Q (F0 m pc ls (.ref a :: rest)) := by
  have hR := o_recv C h hm hc
  obtain ⟨hx, hb, hml, hown, hts, hK, hN, hz, hZ, hB, hRf, hRl, hRc, hRs⟩ := C
  exact va_castY hx hb hown (hts _ hlink) (hN _ hcw rfl) hR hdg kk
end CA9

set_option maxHeartbeats 2000000 in
set_option maxRecDepth 100000 in
theorem c1_export (l : Launch) (D : va_G) (dA : Nat → ClassId) (B : Nat) (Z : State → Prop) (hZ : Stab B Z) (F : va_W) (A : Nat → Nat) (sz dc e0 : Nat) (rl : LD) (Ry : List KY) (ob oc : Nat) (og : Nat → Nat) (ol : List Nat) (xn : Nat) (x : Int32) (hlt : l.stackTraces = false) (hzx : ZX B Z) (hme : meC A sz dc rl.1 ∈ F) (hRw : ∀ z ∈ ringW dA e0 rl Ry, z ∈ F) (hRk : LsR rl Ry) (hKy : ∀ k ∈ Ry, KyIn dA F k) (hro : RowOk (ob, oc, og, ol)) (hxn : ∀ k ∈ Ry, (xpC k).length ≤ xn) (hx9 : xn ≤ 59000) :
    CtX (S := RowS × va_W) (SX := Nat) l D dA B Z yX1_export cX1_export 4 (some .int) 9 (rC oc xn + 2) (rS oc xn + 12) [.ref (A 24), .int x] ([((A 17), .inr (1, [.ref ob, .int (nI ol.length)])), (ob, bar dA oc og)] ++ F) (fun u => (xptC Ry ol x).1 = 0 ∧ RowOk u.1 ∧ u.1.2.2.2 = (xptC Ry ol x).2.2) (fun _ => some (.int (nI (xptC Ry ol x).2.1))) (fun u => [((A 17), .inr (1, [.ref u.1.1, .int (nI u.1.2.2.2.length)])), (u.1.1, bar dA u.1.2.1 u.1.2.2.1)] ++ (F ++ u.2)) (fun _ => (xptC Ry ol x).1 = 1) (fun u => u) (fun _ => "java/lang/IndexOutOfBoundsException") (fun _ => [((A 17), .inr (1, [.ref ob, .int (nI ol.length)])), (ob, bar dA oc og)] ++ F) := by
  refine CtX.mk2 (by decide) (Nat.le_of_ble_eq_true rfl) hZ ?_
  intro p e R s m args below meth c ls Q C hr hlocks hin hex hQ hl h
  have C0 := C
  obtain ⟨hx, hb, hml, hown, hts, -⟩ := C0
  have hl : lv_has ls 4 [(0, .ref (A 24)), (1, .int x)] := hl
  obtain ⟨hro1, hro2, hro3⟩ := hro
  dsimp only at hro1 hro2 hro3
  have hg0r : gro oc ol.length = oc := gro_le hro1.1
  have hSr0 : SBis og (gro oc ol.length) ol := by rw [hg0r]; exact hro1
  have hz0r : rC oc ol.length = 0 ∧ rS oc ol.length = 0 := rC_0 hg0r
  have h : Wd D B s ([((A 17), .inr (1, [.ref ob, .int (nI ol.length)])), (ob, bar dA (gro oc ol.length) og)] ++ F) s.heap [] := by rw [hg0r]; exact h
  refine W.widen (k := 0 + rC oc ol.length) (n := 0 + rS oc ol.length) (by omega) (by omega) ?_
  refine lv_aload_n hx hb dX1_export_0 rfl (lv_at hl 0 rfl) ?_
  refine lv_iload_n hx hb dX1_export_1 rfl (lv_at hl 1 rfl) ?_
  have hRw9 : ∀ z ∈ ringW dA e0 rl Ry, z ∈ [((A 17), .inr (1, [.ref ob, .int (nI ol.length)])), (ob, bar dA (gro oc ol.length) og)] ++ F := fun z hz => List.mem_append_right _ (hRw z hz)
  have hKy9 : ∀ k ∈ Ry, KyIn dA ([((A 17), .inr (1, [.ref ob, .int (nI ol.length)])), (ob, bar dA (gro oc ol.length) og)] ++ F) k := fun k hk => (hKy k hk).sub (fun z hz => List.mem_append_right _ hz)
  refine call_VX (As := [.int x]) (rest := []) (n := 1) C h (c1_keyOf l D dA B Z hZ ([((A 17), .inr (1, [.ref ob, .int (nI ol.length)])), (ob, bar dA (gro oc ol.length) og)] ++ F) A sz dc e0 rl Ry x hlt hzx (List.mem_append_right _ hme) hRw9 hRk hKy9) (lw_V q1676 q1678 qs37 q129 q1679) (by decide +kernel) (o_recv C h (RC := RX1) (T := TX1) (N := 14) (List.mem_append_right _ hme) rfl) (by decide) (by decide) rfl hl rfl (Nat.le_of_ble_eq_true rfl) dX1_export_2 (by omega) (fun ux ce9 H locs hux h hce9 hcv9 hcl9 => ?_) (fun u8 H locs hu8 h => ?_)
  · have h : Wd D B s ([((A 17), .inr (1, [.ref ob, .int (nI ol.length)])), (ob, bar dA oc og)] ++ F) H locs := by rw [hg0r] at h; exact h
    subst hQ
    exact thr_out C hex hlocks h ux rfl rfl (by rw [xptC_n hux]) rfl hce9 hcv9 hcl9 (by omega) (by omega)
  obtain ⟨i9, k⟩ := u8
  obtain ⟨hix, hik⟩ := hu8
  dsimp only at hix hik
  have hkm := List.mem_of_getElem? hik
  have hkw : ∀ z ∈ kyW dA e0 k, z ∈ F := fun z hz => hRw z (ky_ring hkm hz)
  have hKk := hKy k hkm
  have hxs := xptC_s (ou := ol) hix hik
  have hxk := hxn k hkm
  show W p l e R s m args below meth c H locs (0 + rC oc ol.length + 1) (0 + rS oc ol.length + 6) Q (F0 m 5 ls [.ref k.1])
  obtain ⟨⟨hnb9, hnl9, hnk9, -⟩, nba, nan, nae, nap, nsa, hnc9, hnba9, -⟩ := hKk.1
  have hxe : xpC k = pktB 6 k.2.1.2.1 ++ slsB (k.2.2.1.2.map Prod.snd) ++ k.2.2.2.1.2.flatMap usB9 ++ k.2.2.2.2.2.flatMap ptB9 := rfl
  have hxl : (xpC k).length = (pktB 6 k.2.1.2.1).length + (slsB (k.2.2.1.2.map Prod.snd)).length + (k.2.2.2.1.2.flatMap usB9).length + (k.2.2.2.2.2.flatMap ptB9).length := by rw [hxe]; simp only [List.length_append]
  have hul0 := KyIn.ul hKk hkw
  have hpl0 := KyIn.pl hKk hkw
  have hul8 := hKk.2.2.1.2.2
  have hpl8 := hKk.2.2.2.1.2.2
  refine lv_astore_n (lv' := [(2, .ref k.1), (0, .ref (A 24)), (1, .int x)]) hx hb dX1_export_5 rfl hl (by decide) rfl (fun ls hl => ?_)
  refine lv_aload_n hx hb dX1_export_6 rfl (lv_at hl 1 rfl) ?_
  refine o_get C h (RC := RX1) (T := TX1) (N := 14) (List.mem_append_right _ hme) rfl in_X1 3 (by decide) q311 rfl (v := .ref (A 17)) rfl dX1_export_7 ?_
  refine call_VR (As := []) (rest := []) (n := 0) C h (c2_clear l D dA B Z hZ F (A 17) ob (gro oc ol.length) og ol) (lw_V q553 q554 q555 q130 q556) (by decide +kernel) (o_recv C h (RC := RX2) (T := TX2) (N := 2) (List.mem_of_getElem? (i := 0) rfl) rfl) (by decide) (by decide) rfl hl rfl (Nat.le_of_ble_eq_true rfl) dX1_export_10 (by omega) (fun _ H locs _ h => ?_)
  have h : Wd D B s ([((A 17), .inr (1, [.ref ob, .int (nI (([] : List Nat).length))])), (ob, bar dA (gro oc ol.length) og)] ++ F) H locs := h
  have hSnr : SBis og (gro oc ([] : List Nat).length) [] := ⟨Nat.zero_le _, fun j hj => absurd hj (Nat.not_lt_zero _)⟩
  have hgnr : gro oc ([] : List Nat).length = oc := gro_le (Nat.zero_le _)
  have hznr : rC oc ([] : List Nat).length = 0 ∧ rS oc ([] : List Nat).length = 0 := rC_0 hgnr
  have h : Wd D B s ([((A 17), .inr (1, [.ref ob, .int (nI (([] : List Nat).length))])), (ob, bar dA (gro oc ([] : List Nat).length) og)] ++ F) H locs := by rw [hgnr]; rw [hg0r] at h; exact h.permL (perm_add (fun g f p0 p1 p2 => by (try simp only [p0, p1, p2]) <;> omega))
  refine W.widen (k := 0 + rC oc ([] : List Nat).length) (n := 0 + rS oc ([] : List Nat).length) (by omega) (by omega) ?_
  refine lv_aload_n hx hb dX1_export_13 rfl (lv_at hl 1 rfl) ?_
  refine o_get C h (RC := RX1) (T := TX1) (N := 14) (List.mem_append_right _ hme) rfl in_X1 3 (by decide) q311 rfl (v := .ref (A 17)) rfl dX1_export_14 ?_
  refine lv_bipush (v := nI 6) hx hb dX1_export_17 (by decide) ?_
  refine lv_aload_n hx hb dX1_export_19 rfl (lv_at hl 0 rfl) ?_
  refine o_get C h (RC := RX9) (T := TX9) (N := 4) (List.mem_append_right _ (hkw _ kyc_in)) rfl in_X9 1 (by decide) q397 rfl (v := .ref k.2.1.1) rfl dX1_export_20 ?_
  refine o_get C h (RC := RX16) (T := TX16) (N := 6) (List.mem_append_right _ hnc9) rfl in_X16 0 (by decide) q1148 rfl (v := .ref nba) rfl dX1_export_23 ?_
  have hnlr1 : (([] : List Nat) ++ pktB 6 k.2.1.2.1).length = ([] : List Nat).length + ((pktB 6 k.2.1.2.1).length) := by rw [List.length_append]
  have hcbr1 := gro_b (cap := oc) (m := ([] : List Nat).length) (by omega)
  have hcar1 := rC_add (cap := oc) (m := ([] : List Nat).length) (m' := (([] : List Nat) ++ pktB 6 k.2.1.2.1).length) (by omega) (by omega)
  have hcmr1 := rC_mono (cap := oc) (m := (([] : List Nat) ++ pktB 6 k.2.1.2.1).length) (m' := xn) (by omega) (by omega)
  refine call_S (As := [.ref (A 17), .int (nI 6), .ref nba]) (rest := []) (n := 3) C h (c1_packet l D dA B Z hZ F (A 17) ob (gro oc ([] : List Nat).length) og ([] : List Nat) 6 nba k.2.1.2.1 hSnr (by omega) (by omega) (by omega) (by omega) (hnba9) (hnb9) (by omega)) (lw_S q1770 q1771 q129 q1772) (by decide +kernel) (by decide) (by decide) rfl hl rfl (Nat.le_of_ble_eq_true rfl) dX1_export_26 (by omega) (fun urr1 H locs hur1 h => ?_)
  obtain ⟨br1, gr1, Er1⟩ := urr1
  obtain ⟨Lr1, hLr1⟩ : ∃ z, z = ([] : List Nat) ++ pktB 6 k.2.1.2.1 := ⟨_, rfl⟩
  dsimp only at hur1 h
  rw [← hLr1] at h hur1 hnlr1
  have hger1 : gro (gro oc ([] : List Nat).length) Lr1.length = gro oc Lr1.length := gro_gro (by omega) (by omega)
  rw [hger1] at h hur1
  have hclr1 : rC oc (([] : List Nat) ++ pktB 6 k.2.1.2.1).length = rC oc Lr1.length ∧ rS oc (([] : List Nat) ++ pktB 6 k.2.1.2.1).length = rS oc Lr1.length := by rw [hLr1]; exact ⟨rfl, rfl⟩
  have h : Wd D B s ([((A 17), .inr (1, [.ref br1, .int (nI Lr1.length)])), (br1, bar dA (gro oc Lr1.length) gr1)] ++ (F ++ Er1)) H locs := h
  refine W.widen (k := 0 + rC oc Lr1.length) (n := 0 + rS oc Lr1.length) (by omega) (by omega) ?_
  refine lv_aload_n hx hb dX1_export_29 rfl (lv_at hl 1 rfl) ?_
  refine o_get C h (RC := RX1) (T := TX1) (N := 14) (List.mem_append_right _ (List.mem_append_left _ hme)) rfl in_X1 3 (by decide) q311 rfl (v := .ref (A 17)) rfl dX1_export_30 ?_
  refine lv_aload_n hx hb dX1_export_33 rfl (lv_at hl 0 rfl) ?_
  have hnlr2 : (Lr1 ++ slsB (k.2.2.1.2.map Prod.snd)).length = Lr1.length + ((slsB (k.2.2.1.2.map Prod.snd)).length) := by rw [List.length_append]
  have hcbr2 := gro_b (cap := oc) (m := Lr1.length) (by omega)
  have hcar2 := rC_add (cap := oc) (m := Lr1.length) (m' := (Lr1 ++ slsB (k.2.2.1.2.map Prod.snd)).length) (by omega) (by omega)
  have hcmr2 := rC_mono (cap := oc) (m := (Lr1 ++ slsB (k.2.2.1.2.map Prod.snd)).length) (m' := xn) (by omega) (by omega)
  refine call_S (As := [.ref (A 17), .ref k.1]) (rest := []) (n := 2) C h (c1_putSealsK l D dA B Z hZ (F ++ Er1) (A 17) br1 (gro oc Lr1.length) gr1 Lr1 k.1 k.2.1.1 k.2.2.2.1.1.1 k.2.2.2.2.1.1 e0 k.2.2.1.1 k.2.2.1.2 hur1 (by omega) (by omega) (by omega) (List.mem_append_left _ (hkw _ kyc_in)) (fun z hz => List.mem_append_left _ (KyIn.sw hkw z hz)) (hKk.2.1.sub (fun z hz => List.mem_append_left _ (hz))) (by omega)) (lw_S q1799 q1800 q129 q1801) (by decide +kernel) (by decide) (by decide) rfl hl rfl (Nat.le_of_ble_eq_true rfl) dX1_export_34 (by omega) (fun urr2 H locs hur2 h => ?_)
  obtain ⟨br2, gr2, Er2⟩ := urr2
  obtain ⟨Lr2, hLr2⟩ : ∃ z, z = Lr1 ++ slsB (k.2.2.1.2.map Prod.snd) := ⟨_, rfl⟩
  dsimp only at hur2 h
  rw [← hLr2] at h hur2 hnlr2
  have hger2 : gro (gro oc Lr1.length) Lr2.length = gro oc Lr2.length := gro_gro (by omega) (by omega)
  rw [hger2] at h hur2
  have hclr2 : rC oc (Lr1 ++ slsB (k.2.2.1.2.map Prod.snd)).length = rC oc Lr2.length ∧ rS oc (Lr1 ++ slsB (k.2.2.1.2.map Prod.snd)).length = rS oc Lr2.length := by rw [hLr2]; exact ⟨rfl, rfl⟩
  have h : Wd D B s ([((A 17), .inr (1, [.ref br2, .int (nI Lr2.length)])), (br2, bar dA (gro oc Lr2.length) gr2)] ++ ((F ++ Er1) ++ Er2)) H locs := h
  refine W.widen (k := 0 + rC oc Lr2.length) (n := 0 + rS oc Lr2.length) (by omega) (by omega) ?_
  refine lv_iconst (v := nI 0) hx hb dX1_export_37 (by decide) ?_
  refine lv_istore_n (lv' := [(3, .int (nI 0)), (2, .ref k.1), (0, .ref (A 24)), (1, .int x)]) hx hb dX1_export_38 rfl hl (by decide) rfl (fun ls hl => ?_)
  have h : Wd D B s ([((A 17), .inr (1, [.ref br2, .int (nI Lr2.length)])), (br2, bar dA (gro oc Lr2.length) gr2)] ++ ((F ++ Er1) ++ Er2)) H locs := h
  have h : Wd D B s ([((A 17), .inr (1, [.ref br2, .int (nI Lr2.length)])), (br2, bar dA (gro oc Lr2.length) gr2)] ++ (F ++ (Er1 ++ Er2))) H locs := h.permL (perm_add (fun g f p0 p1 p2 => by (try simp only [p0, p1, p2]) <;> omega))
  have loop39 : ∀ (nn39 : Nat) (i b39 : Nat) (g39 : Nat → Nat) (L39 : List Nat) (E39 : va_W), (i ≤ k.2.2.2.1.2.length) → (SBis g39 (gro oc L39.length) L39) → (L39 = pktB 6 k.2.1.2.1 ++ slsB (k.2.2.1.2.map Prod.snd) ++ (k.2.2.2.1.2.take i).flatMap usB9) → k.2.2.2.1.2.length - i < nn39 → ∀ (H : Heap) (locs : List Loc), Wd D B s ([((A 17), .inr (1, [.ref b39, .int (nI L39.length)])), (b39, bar dA (gro oc L39.length) g39)] ++ (F ++ E39)) H locs → ∀ (ls : Array Slot), lv_has ls 4 [(0, .ref (A 24)), (1, .int x), (2, .ref k.1), (3, .int (nI i))] → W p l e R s m args below meth c H locs (0 + rC oc L39.length) (0 + rS oc L39.length) Q (F0 m 39 ls []) := by
    intro nn39
    induction nn39 with
    | zero => intro i b39  g39  L39  E39  hi39 hS39 hL39e hme; exact absurd hme (Nat.not_lt_zero _)
    | succ nn39 ih39 =>
      intro i b39  g39  L39  E39  hi39 hS39 hL39e hme H locs h ls hl
      have hfm := fm_le usB9 k.2.2.2.1.2 i
      have hfm2 := fm_le usB9 k.2.2.2.1.2 (i + 1)
      have hLl39 : L39.length = (pktB 6 k.2.1.2.1 ++ slsB (k.2.2.1.2.map Prod.snd)).length + ((k.2.2.2.1.2.take i).flatMap usB9).length := by rw [hL39e, List.length_append]
      have hpre39 : (pktB 6 k.2.1.2.1 ++ slsB (k.2.2.1.2.map Prod.snd)).length = (pktB 6 k.2.1.2.1).length + (slsB (k.2.2.1.2.map Prod.snd)).length := by simp only [List.length_append]
      have hul : LIn dA e0 (F ++ E39) k.2.2.2.1.1 (k.2.2.2.1.2.map Prod.fst) := hul0.sub (fun z hz => List.mem_append_left _ (hul0.1 z hz))
      obtain ⟨ed9, hcl9⟩ := hul.cell
      refine lv_iload_n hx hb dX1_export_39 rfl (lv_at hl 3 rfl) ?_
      refine lv_aload_n hx hb dX1_export_40 rfl (lv_at hl 2 rfl) ?_
      refine o_get C h (RC := RX9) (T := TX9) (N := 4) (List.mem_append_right _ (List.mem_append_left _ (hkw _ kyc_in))) rfl in_X9 2 (by decide) q399 rfl (v := .ref k.2.2.2.1.1.1) rfl dX1_export_41 ?_
      refine call_VR (As := []) (rest := [.int (nI i)]) (n := 0) C h (cA_size l D dA B Z hZ _ e0 k.2.2.2.1.1 _ (hul.sub (fun z hz => List.mem_append_right _ (hul.1 z hz)))) (lw_V q360 q361 q362 q133 q363) (by decide +kernel) (o_recv C h (RC := RJ2) (T := TJ2) (N := 3) (List.mem_append_right _ hcl9) rfl) (by decide) (by decide) rfl hl rfl (Nat.le_of_ble_eq_true rfl) dX1_export_44 (by omega) (fun _ H locs _ h => ?_)
      refine W.widen (k := 0 + rC oc L39.length) (n := 0 + rS oc L39.length) (by omega) (by omega) ?_
      refine n_top (y := nI k.2.2.2.1.2.length) (by rw [List.length_map]) ?_
      refine n_icmp_ge (tgt := 97) hx hb (by omega) (by omega) dX1_export_47 (by decide) (fun c47 => ?_) (fun c47 => ?_)
      · refine lv_iconst (v := nI 0) hx hb dX1_export_97 (by decide) ?_
        refine lv_istore_n (lv' := [(3, .int (nI 0)), (0, .ref (A 24)), (1, .int x), (2, .ref k.1)]) hx hb dX1_export_98 rfl hl (by decide) rfl (fun ls hl => ?_)
        have h : Wd D B s ([((A 17), .inr (1, [.ref b39, .int (nI L39.length)])), (b39, bar dA (gro oc L39.length) g39)] ++ (F ++ E39)) H locs := h
        have hi39 := hi39
        have loop99 : ∀ (nn99 : Nat) (i b99 : Nat) (g99 : Nat → Nat) (L99 : List Nat) (E99 : va_W), (i ≤ k.2.2.2.2.2.length) → (SBis g99 (gro oc L99.length) L99) → (L99 = (pktB 6 k.2.1.2.1 ++ slsB (k.2.2.1.2.map Prod.snd) ++ k.2.2.2.1.2.flatMap usB9) ++ (k.2.2.2.2.2.take i).flatMap ptB9) → k.2.2.2.2.2.length - i < nn99 → ∀ (H : Heap) (locs : List Loc), Wd D B s ([((A 17), .inr (1, [.ref b99, .int (nI L99.length)])), (b99, bar dA (gro oc L99.length) g99)] ++ (F ++ E99)) H locs → ∀ (ls : Array Slot), lv_has ls 4 [(0, .ref (A 24)), (1, .int x), (2, .ref k.1), (3, .int (nI i))] → W p l e R s m args below meth c H locs (0 + rC oc L99.length) (0 + rS oc L99.length) Q (F0 m 99 ls []) := by
          intro nn99
          induction nn99 with
          | zero => intro i b99  g99  L99  E99  hi99 hS99 hL99e hme; exact absurd hme (Nat.not_lt_zero _)
          | succ nn99 ih99 =>
            intro i b99  g99  L99  E99  hi99 hS99 hL99e hme H locs h ls hl
            have hfm := fm_le ptB9 k.2.2.2.2.2 i
            have hfm2 := fm_le ptB9 k.2.2.2.2.2 (i + 1)
            have hLl99 : L99.length = ((pktB 6 k.2.1.2.1 ++ slsB (k.2.2.1.2.map Prod.snd) ++ k.2.2.2.1.2.flatMap usB9)).length + ((k.2.2.2.2.2.take i).flatMap ptB9).length := by rw [hL99e, List.length_append]
            have hpre99 : ((pktB 6 k.2.1.2.1 ++ slsB (k.2.2.1.2.map Prod.snd) ++ k.2.2.2.1.2.flatMap usB9)).length = (pktB 6 k.2.1.2.1).length + (slsB (k.2.2.1.2.map Prod.snd)).length + (k.2.2.2.1.2.flatMap usB9).length := by simp only [List.length_append]
            have hul : LIn dA e0 (F ++ E99) k.2.2.2.2.1 (k.2.2.2.2.2.map Prod.fst) := hpl0.sub (fun z hz => List.mem_append_left _ (hpl0.1 z hz))
            obtain ⟨ed9, hcl9⟩ := hul.cell
            refine lv_iload_n hx hb dX1_export_99 rfl (lv_at hl 3 rfl) ?_
            refine lv_aload_n hx hb dX1_export_100 rfl (lv_at hl 2 rfl) ?_
            refine o_get C h (RC := RX9) (T := TX9) (N := 4) (List.mem_append_right _ (List.mem_append_left _ (hkw _ kyc_in))) rfl in_X9 3 (by decide) q401 rfl (v := .ref k.2.2.2.2.1.1) rfl dX1_export_101 ?_
            refine call_VR (As := []) (rest := [.int (nI i)]) (n := 0) C h (cA_size l D dA B Z hZ _ e0 k.2.2.2.2.1 _ (hul.sub (fun z hz => List.mem_append_right _ (hul.1 z hz)))) (lw_V q360 q361 q362 q133 q363) (by decide +kernel) (o_recv C h (RC := RJ2) (T := TJ2) (N := 3) (List.mem_append_right _ hcl9) rfl) (by decide) (by decide) rfl hl rfl (Nat.le_of_ble_eq_true rfl) dX1_export_104 (by omega) (fun _ H locs _ h => ?_)
            refine W.widen (k := 0 + rC oc L99.length) (n := 0 + rS oc L99.length) (by omega) (by omega) ?_
            refine n_top (y := nI k.2.2.2.2.2.length) (by rw [List.length_map]) ?_
            refine n_icmp_ge (tgt := 160) hx hb (by omega) (by omega) dX1_export_107 (by decide) (fun c107 => ?_) (fun c107 => ?_)
            · refine lv_aload_n hx hb dX1_export_160 rfl (lv_at hl 0 rfl) ?_
              refine o_get C h (RC := RX1) (T := TX1) (N := 14) (List.mem_append_right _ (List.mem_append_left _ hme)) rfl in_X1 3 (by decide) q311 rfl (v := .ref (A 17)) rfl dX1_export_161 ?_
              refine o_get C h (RC := RX2) (T := TX2) (N := 2) (List.mem_of_getElem? (i := 0) rfl) rfl in_X2 1 (by decide) q192 rfl (v := .int (nI L99.length)) rfl dX1_export_164 ?_
              subst hQ
              have hfin : L99 = xpC k := by rw [hL99e, List.take_of_length_le (show k.2.2.2.2.2.length ≤ i by omega), hxe]
              have hgo := gro_b (cap := oc) (m := L99.length) (by omega)
              have hlf : L99.length = (xpC k).length := by rw [hfin]
              have hcf := rC_mono (cap := oc) (m := L99.length) (m' := xn) (by omega) (by omega)
              refine vy_ret ?_
              exact ret_i C hr hlocks h ((b99, gro oc L99.length, g99, L99), E99) (⟨by rw [hxs], ⟨hS99, by (try dsimp only) <;> omega, by (try dsimp only) <;> omega⟩, by rw [hxs]; exact hfin⟩) (by rw [hxs, hlf]) rfl (by omega) (by omega) dX1_export_167
            · refine lv_aload_n hx hb dX1_export_110 rfl (lv_at hl 0 rfl) ?_
              refine o_get C h (RC := RX1) (T := TX1) (N := 14) (List.mem_append_right _ (List.mem_append_left _ hme)) rfl in_X1 3 (by decide) q311 rfl (v := .ref (A 17)) rfl dX1_export_111 ?_
              refine lv_bipush (v := nI 14) hx hb dX1_export_114 (by decide) ?_
              refine lv_aload_n hx hb dX1_export_116 rfl (lv_at hl 2 rfl) ?_
              refine o_get C h (RC := RX9) (T := TX9) (N := 4) (List.mem_append_right _ (List.mem_append_left _ (hkw _ kyc_in))) rfl in_X9 3 (by decide) q401 rfl (v := .ref k.2.2.2.2.1.1) rfl dX1_export_117 ?_
              refine lv_iload_n hx hb dX1_export_120 rfl (lv_at hl 3 rfl) ?_
              obtain ⟨y, hy⟩ := at_lt (l := k.2.2.2.2.2) (i := i) (by omega)
              have hym := List.mem_of_getElem? hy
              have hfms := congrArg List.length (fm_step (f := ptB9) hy)
              rw [List.length_append] at hfms
              have hfy : (ptB9 y).length = (pktB 14 y.2.1.2.1).length + (slsB (y.2.2.2.map Prod.snd)).length := List.length_append ..
              obtain ⟨hyN, hyS⟩ := hKk.2.2.2.2.2 y hym
              have hcp := KyIn.ptc hkw hym
              obtain ⟨⟨hqb9, hql9, hqk9, -⟩, qba, qan, qae, qap, qsa, hqc9, hqba9, -⟩ := hyN
              refine call_VR (As := [.int (nI i)]) (rest := [.int (nI 14), .ref (A 17)]) (n := 1) C h (cA_get l D dA B Z hZ _ e0 k.2.2.2.2.1 _ i y.1 (hul.sub (fun z hz => List.mem_append_right _ (hul.1 z hz))) (at_map hy)) (lw_V q364 q365 q366 q133 q367) (by decide +kernel) (o_recv C h (RC := RJ2) (T := TJ2) (N := 3) (List.mem_append_right _ (hcl9)) rfl) (by decide) (by decide) rfl hl rfl (Nat.le_of_ble_eq_true rfl) dX1_export_121 (by omega) (fun _ H locs _ h => ?_)
              refine W.widen (k := 0 + rC oc L99.length) (n := 0 + rS oc L99.length) (by omega) (by omega) ?_
              refine o_cast C h (RC := RX11) (T := TX11) (N := 2) (List.mem_append_right _ (List.mem_append_left _ hcp)) rfl q1279 dX1_export_124 ?_
              refine o_get C h (RC := RX11) (T := TX11) (N := 2) (List.mem_append_right _ (List.mem_append_left _ hcp)) rfl in_X11 1 (by decide) q542 rfl (v := .ref y.2.1.1) rfl dX1_export_127 ?_
              refine o_get C h (RC := RX16) (T := TX16) (N := 6) (List.mem_append_right _ (List.mem_append_left _ hqc9)) rfl in_X16 0 (by decide) q1148 rfl (v := .ref qba) rfl dX1_export_130 ?_
              have hnlr3 : (L99 ++ pktB 14 y.2.1.2.1).length = L99.length + ((pktB 14 y.2.1.2.1).length) := by rw [List.length_append]
              have hcbr3 := gro_b (cap := oc) (m := L99.length) (by omega)
              have hcar3 := rC_add (cap := oc) (m := L99.length) (m' := (L99 ++ pktB 14 y.2.1.2.1).length) (by omega) (by omega)
              have hcmr3 := rC_mono (cap := oc) (m := (L99 ++ pktB 14 y.2.1.2.1).length) (m' := xn) (by omega) (by omega)
              refine call_S (As := [.ref (A 17), .int (nI 14), .ref qba]) (rest := []) (n := 3) C h (c1_packet l D dA B Z hZ (F ++ E99) (A 17) b99 (gro oc L99.length) g99 L99 14 qba y.2.1.2.1 hS99 (by omega) (by omega) (by omega) (by omega) (List.mem_append_left _ hqba9) (hqb9) (by omega)) (lw_S q1770 q1771 q129 q1772) (by decide +kernel) (by decide) (by decide) rfl hl rfl (Nat.le_of_ble_eq_true rfl) dX1_export_133 (by omega) (fun urr3 H locs hur3 h => ?_)
              obtain ⟨br3, gr3, Er3⟩ := urr3
              obtain ⟨Lr3, hLr3⟩ : ∃ z, z = L99 ++ pktB 14 y.2.1.2.1 := ⟨_, rfl⟩
              dsimp only at hur3 h
              rw [← hLr3] at h hur3 hnlr3
              have hger3 : gro (gro oc L99.length) Lr3.length = gro oc Lr3.length := gro_gro (by omega) (by omega)
              rw [hger3] at h hur3
              have hclr3 : rC oc (L99 ++ pktB 14 y.2.1.2.1).length = rC oc Lr3.length ∧ rS oc (L99 ++ pktB 14 y.2.1.2.1).length = rS oc Lr3.length := by rw [hLr3]; exact ⟨rfl, rfl⟩
              have h : Wd D B s ([((A 17), .inr (1, [.ref br3, .int (nI Lr3.length)])), (br3, bar dA (gro oc Lr3.length) gr3)] ++ ((F ++ E99) ++ Er3)) H locs := h
              refine W.widen (k := 0 + rC oc Lr3.length) (n := 0 + rS oc Lr3.length) (by omega) (by omega) ?_
              refine lv_aload_n hx hb dX1_export_136 rfl (lv_at hl 0 rfl) ?_
              refine o_get C h (RC := RX1) (T := TX1) (N := 14) (List.mem_append_right _ (List.mem_append_left _ (List.mem_append_left _ hme))) rfl in_X1 3 (by decide) q311 rfl (v := .ref (A 17)) rfl dX1_export_137 ?_
              refine lv_aload_n hx hb dX1_export_140 rfl (lv_at hl 2 rfl) ?_
              refine o_get C h (RC := RX9) (T := TX9) (N := 4) (List.mem_append_right _ (List.mem_append_left _ (List.mem_append_left _ (hkw _ kyc_in)))) rfl in_X9 3 (by decide) q401 rfl (v := .ref k.2.2.2.2.1.1) rfl dX1_export_141 ?_
              refine lv_iload_n hx hb dX1_export_144 rfl (lv_at hl 3 rfl) ?_
              refine call_VR (As := [.int (nI i)]) (rest := [.ref (A 17)]) (n := 1) C h (cA_get l D dA B Z hZ _ e0 k.2.2.2.2.1 _ i y.1 (hul.sub (fun z hz => List.mem_append_right _ (List.mem_append_left _ (hul.1 z hz)))) (at_map hy)) (lw_V q364 q365 q366 q133 q367) (by decide +kernel) (o_recv C h (RC := RJ2) (T := TJ2) (N := 3) (List.mem_append_right _ (List.mem_append_left _ (hcl9))) rfl) (by decide) (by decide) rfl hl rfl (Nat.le_of_ble_eq_true rfl) dX1_export_145 (by omega) (fun _ H locs _ h => ?_)
              refine W.widen (k := 0 + rC oc Lr3.length) (n := 0 + rS oc Lr3.length) (by omega) (by omega) ?_
              refine o_castU C h (RC := RX11) (T := TX11) (N := 2) (List.mem_append_right _ (List.mem_append_left _ (List.mem_append_left _ hcp))) rfl q1802 q2617 dX1_export_148 ?_
              have hnlr4 : (Lr3 ++ slsB (y.2.2.2.map Prod.snd)).length = Lr3.length + ((slsB (y.2.2.2.map Prod.snd)).length) := by rw [List.length_append]
              have hcbr4 := gro_b (cap := oc) (m := Lr3.length) (by omega)
              have hcar4 := rC_add (cap := oc) (m := Lr3.length) (m' := (Lr3 ++ slsB (y.2.2.2.map Prod.snd)).length) (by omega) (by omega)
              have hcmr4 := rC_mono (cap := oc) (m := (Lr3 ++ slsB (y.2.2.2.map Prod.snd)).length) (m' := xn) (by omega) (by omega)
              refine call_S (As := [.ref (A 17), .ref y.1]) (rest := []) (n := 2) C h (c1_putSealsP l D dA B Z hZ ((F ++ E99) ++ Er3) (A 17) br3 (gro oc Lr3.length) gr3 Lr3 y.1 y.2.1.1 e0 y.2.2.1 y.2.2.2 hur3 (by omega) (by omega) (by omega) (List.mem_append_left _ (List.mem_append_left _ (hcp))) (fun z hz => List.mem_append_left _ (List.mem_append_left _ (KyIn.ptw hkw hym z (List.mem_append_right _ hz)))) (hyS.sub (fun z hz => List.mem_append_left _ (List.mem_append_left _ (hz)))) (by omega)) (lw_S q1799 q1800 q129 q1801) (by decide +kernel) (by decide) (by decide) rfl hl rfl (Nat.le_of_ble_eq_true rfl) dX1_export_151 (by omega) (fun urr4 H locs hur4 h => ?_)
              obtain ⟨br4, gr4, Er4⟩ := urr4
              obtain ⟨Lr4, hLr4⟩ : ∃ z, z = Lr3 ++ slsB (y.2.2.2.map Prod.snd) := ⟨_, rfl⟩
              dsimp only at hur4 h
              rw [← hLr4] at h hur4 hnlr4
              have hger4 : gro (gro oc Lr3.length) Lr4.length = gro oc Lr4.length := gro_gro (by omega) (by omega)
              rw [hger4] at h hur4
              have hclr4 : rC oc (Lr3 ++ slsB (y.2.2.2.map Prod.snd)).length = rC oc Lr4.length ∧ rS oc (Lr3 ++ slsB (y.2.2.2.map Prod.snd)).length = rS oc Lr4.length := by rw [hLr4]; exact ⟨rfl, rfl⟩
              have h : Wd D B s ([((A 17), .inr (1, [.ref br4, .int (nI Lr4.length)])), (br4, bar dA (gro oc Lr4.length) gr4)] ++ (((F ++ E99) ++ Er3) ++ Er4)) H locs := h
              refine W.widen (k := 0 + rC oc Lr4.length) (n := 0 + rS oc Lr4.length) (by omega) (by omega) ?_
              refine lv_iinc (v := nI (i + 1)) (lv' := [(3, .int (nI (i + 1))), (0, .ref (A 24)), (1, .int x), (2, .ref k.1)]) hx hb dX1_export_154 hl (k := 3) rfl (nI_add i 1) (by decide) rfl (fun ls hl => ?_)
              refine lv_goto (tgt := 99) hx hb dX1_export_157 (by decide) ?_
              have h : Wd D B s ([((A 17), .inr (1, [.ref br4, .int (nI Lr4.length)])), (br4, bar dA (gro oc Lr4.length) gr4)] ++ (F ++ (E99 ++ (Er3 ++ Er4)))) H locs := h.permL (perm_add (fun g f p0 p1 p2 => by (try simp only [p0, p1, p2]) <;> omega))
              exact ih99 (i + 1) br4 gr4 Lr4 (E99 ++ (Er3 ++ Er4)) (by omega) hur4 (by rw [hLr4, hLr3, hL99e, fm_step hy]; show _ = _ ++ (_ ++ (ptB9 y)); unfold ptB9; simp only [List.append_assoc]) (by omega) _ _ h _ (lv_sub hl [1, 2, 3, 0] rfl)
        exact loop99 _ 0 b39 g39 L39 E39 (by omega) hS39 (by rw [hL39e, List.take_of_length_le (show k.2.2.2.1.2.length ≤ i by omega)]; simp only [List.take_zero, List.flatMap_nil, List.append_nil]) (Nat.lt_succ_self _) _ _ h _ (lv_sub hl [1, 2, 3, 0] rfl)
      · refine lv_aload_n hx hb dX1_export_50 rfl (lv_at hl 0 rfl) ?_
        refine o_get C h (RC := RX1) (T := TX1) (N := 14) (List.mem_append_right _ (List.mem_append_left _ hme)) rfl in_X1 3 (by decide) q311 rfl (v := .ref (A 17)) rfl dX1_export_51 ?_
        refine lv_bipush (v := nI 13) hx hb dX1_export_54 (by decide) ?_
        refine lv_aload_n hx hb dX1_export_56 rfl (lv_at hl 2 rfl) ?_
        refine o_get C h (RC := RX9) (T := TX9) (N := 4) (List.mem_append_right _ (List.mem_append_left _ (hkw _ kyc_in))) rfl in_X9 2 (by decide) q399 rfl (v := .ref k.2.2.2.1.1.1) rfl dX1_export_57 ?_
        refine lv_iload_n hx hb dX1_export_60 rfl (lv_at hl 3 rfl) ?_
        obtain ⟨y, hy⟩ := at_lt (l := k.2.2.2.1.2) (i := i) (by omega)
        have hym := List.mem_of_getElem? hy
        have hfms := congrArg List.length (fm_step (f := usB9) hy)
        rw [List.length_append] at hfms
        have hfy : (usB9 y).length = (pktB 13 y.2.1).length + (slsB (y.2.2.2.map Prod.snd)).length := List.length_append ..
        obtain ⟨hyU, hyS⟩ := hKk.2.2.2.2.1 y hym
        obtain ⟨⟨hub, hubl⟩, uba, hcu, hbu⟩ := hyU
        refine call_VR (As := [.int (nI i)]) (rest := [.int (nI 13), .ref (A 17)]) (n := 1) C h (cA_get l D dA B Z hZ _ e0 k.2.2.2.1.1 _ i y.1 (hul.sub (fun z hz => List.mem_append_right _ (hul.1 z hz))) (at_map hy)) (lw_V q364 q365 q366 q133 q367) (by decide +kernel) (o_recv C h (RC := RJ2) (T := TJ2) (N := 3) (List.mem_append_right _ (hcl9)) rfl) (by decide) (by decide) rfl hl rfl (Nat.le_of_ble_eq_true rfl) dX1_export_61 (by omega) (fun _ H locs _ h => ?_)
        refine W.widen (k := 0 + rC oc L39.length) (n := 0 + rS oc L39.length) (by omega) (by omega) ?_
        refine o_cast C h (RC := RX10) (T := TX10) (N := 2) (List.mem_append_right _ (List.mem_append_left _ hcu)) rfl q1289 dX1_export_64 ?_
        refine o_get C h (RC := RX10) (T := TX10) (N := 2) (List.mem_append_right _ (List.mem_append_left _ hcu)) rfl in_X10 1 (by decide) q511 rfl (v := .ref uba) rfl dX1_export_67 ?_
        have hnlr5 : (L39 ++ pktB 13 y.2.1).length = L39.length + ((pktB 13 y.2.1).length) := by rw [List.length_append]
        have hcbr5 := gro_b (cap := oc) (m := L39.length) (by omega)
        have hcar5 := rC_add (cap := oc) (m := L39.length) (m' := (L39 ++ pktB 13 y.2.1).length) (by omega) (by omega)
        have hcmr5 := rC_mono (cap := oc) (m := (L39 ++ pktB 13 y.2.1).length) (m' := xn) (by omega) (by omega)
        refine call_S (As := [.ref (A 17), .int (nI 13), .ref uba]) (rest := []) (n := 3) C h (c1_packet l D dA B Z hZ (F ++ E39) (A 17) b39 (gro oc L39.length) g39 L39 13 uba y.2.1 hS39 (by omega) (by omega) (by omega) (by omega) (List.mem_append_left _ hbu) (hub) (by omega)) (lw_S q1770 q1771 q129 q1772) (by decide +kernel) (by decide) (by decide) rfl hl rfl (Nat.le_of_ble_eq_true rfl) dX1_export_70 (by omega) (fun urr5 H locs hur5 h => ?_)
        obtain ⟨br5, gr5, Er5⟩ := urr5
        obtain ⟨Lr5, hLr5⟩ : ∃ z, z = L39 ++ pktB 13 y.2.1 := ⟨_, rfl⟩
        dsimp only at hur5 h
        rw [← hLr5] at h hur5 hnlr5
        have hger5 : gro (gro oc L39.length) Lr5.length = gro oc Lr5.length := gro_gro (by omega) (by omega)
        rw [hger5] at h hur5
        have hclr5 : rC oc (L39 ++ pktB 13 y.2.1).length = rC oc Lr5.length ∧ rS oc (L39 ++ pktB 13 y.2.1).length = rS oc Lr5.length := by rw [hLr5]; exact ⟨rfl, rfl⟩
        have h : Wd D B s ([((A 17), .inr (1, [.ref br5, .int (nI Lr5.length)])), (br5, bar dA (gro oc Lr5.length) gr5)] ++ ((F ++ E39) ++ Er5)) H locs := h
        refine W.widen (k := 0 + rC oc Lr5.length) (n := 0 + rS oc Lr5.length) (by omega) (by omega) ?_
        refine lv_aload_n hx hb dX1_export_73 rfl (lv_at hl 0 rfl) ?_
        refine o_get C h (RC := RX1) (T := TX1) (N := 14) (List.mem_append_right _ (List.mem_append_left _ (List.mem_append_left _ hme))) rfl in_X1 3 (by decide) q311 rfl (v := .ref (A 17)) rfl dX1_export_74 ?_
        refine lv_aload_n hx hb dX1_export_77 rfl (lv_at hl 2 rfl) ?_
        refine o_get C h (RC := RX9) (T := TX9) (N := 4) (List.mem_append_right _ (List.mem_append_left _ (List.mem_append_left _ (hkw _ kyc_in)))) rfl in_X9 2 (by decide) q399 rfl (v := .ref k.2.2.2.1.1.1) rfl dX1_export_78 ?_
        refine lv_iload_n hx hb dX1_export_81 rfl (lv_at hl 3 rfl) ?_
        refine call_VR (As := [.int (nI i)]) (rest := [.ref (A 17)]) (n := 1) C h (cA_get l D dA B Z hZ _ e0 k.2.2.2.1.1 _ i y.1 (hul.sub (fun z hz => List.mem_append_right _ (List.mem_append_left _ (hul.1 z hz)))) (at_map hy)) (lw_V q364 q365 q366 q133 q367) (by decide +kernel) (o_recv C h (RC := RJ2) (T := TJ2) (N := 3) (List.mem_append_right _ (List.mem_append_left _ (hcl9))) rfl) (by decide) (by decide) rfl hl rfl (Nat.le_of_ble_eq_true rfl) dX1_export_82 (by omega) (fun _ H locs _ h => ?_)
        refine W.widen (k := 0 + rC oc Lr5.length) (n := 0 + rS oc Lr5.length) (by omega) (by omega) ?_
        refine o_castU C h (RC := RX10) (T := TX10) (N := 2) (List.mem_append_right _ (List.mem_append_left _ (List.mem_append_left _ hcu))) rfl q1802 q2618 dX1_export_85 ?_
        have hnlr6 : (Lr5 ++ slsB (y.2.2.2.map Prod.snd)).length = Lr5.length + ((slsB (y.2.2.2.map Prod.snd)).length) := by rw [List.length_append]
        have hcbr6 := gro_b (cap := oc) (m := Lr5.length) (by omega)
        have hcar6 := rC_add (cap := oc) (m := Lr5.length) (m' := (Lr5 ++ slsB (y.2.2.2.map Prod.snd)).length) (by omega) (by omega)
        have hcmr6 := rC_mono (cap := oc) (m := (Lr5 ++ slsB (y.2.2.2.map Prod.snd)).length) (m' := xn) (by omega) (by omega)
        refine call_S (As := [.ref (A 17), .ref y.1]) (rest := []) (n := 2) C h (c1_putSealsU l D dA B Z hZ ((F ++ E39) ++ Er5) (A 17) br5 (gro oc Lr5.length) gr5 Lr5 y.1 uba e0 y.2.2.1 y.2.2.2 hur5 (by omega) (by omega) (by omega) (List.mem_append_left _ (List.mem_append_left _ (hcu))) (fun z hz => List.mem_append_left _ (List.mem_append_left _ (KyIn.usw hkw hym z hz))) (hyS.sub (fun z hz => List.mem_append_left _ (List.mem_append_left _ (hz)))) (by omega)) (lw_S q1799 q1800 q129 q1801) (by decide +kernel) (by decide) (by decide) rfl hl rfl (Nat.le_of_ble_eq_true rfl) dX1_export_88 (by omega) (fun urr6 H locs hur6 h => ?_)
        obtain ⟨br6, gr6, Er6⟩ := urr6
        obtain ⟨Lr6, hLr6⟩ : ∃ z, z = Lr5 ++ slsB (y.2.2.2.map Prod.snd) := ⟨_, rfl⟩
        dsimp only at hur6 h
        rw [← hLr6] at h hur6 hnlr6
        have hger6 : gro (gro oc Lr5.length) Lr6.length = gro oc Lr6.length := gro_gro (by omega) (by omega)
        rw [hger6] at h hur6
        have hclr6 : rC oc (Lr5 ++ slsB (y.2.2.2.map Prod.snd)).length = rC oc Lr6.length ∧ rS oc (Lr5 ++ slsB (y.2.2.2.map Prod.snd)).length = rS oc Lr6.length := by rw [hLr6]; exact ⟨rfl, rfl⟩
        have h : Wd D B s ([((A 17), .inr (1, [.ref br6, .int (nI Lr6.length)])), (br6, bar dA (gro oc Lr6.length) gr6)] ++ (((F ++ E39) ++ Er5) ++ Er6)) H locs := h
        refine W.widen (k := 0 + rC oc Lr6.length) (n := 0 + rS oc Lr6.length) (by omega) (by omega) ?_
        refine lv_iinc (v := nI (i + 1)) (lv' := [(3, .int (nI (i + 1))), (0, .ref (A 24)), (1, .int x), (2, .ref k.1)]) hx hb dX1_export_91 hl (k := 3) rfl (nI_add i 1) (by decide) rfl (fun ls hl => ?_)
        refine lv_goto (tgt := 39) hx hb dX1_export_94 (by decide) ?_
        have h : Wd D B s ([((A 17), .inr (1, [.ref br6, .int (nI Lr6.length)])), (br6, bar dA (gro oc Lr6.length) gr6)] ++ (F ++ (E39 ++ (Er5 ++ Er6)))) H locs := h.permL (perm_add (fun g f p0 p1 p2 => by (try simp only [p0, p1, p2]) <;> omega))
        exact ih39 (i + 1) br6 gr6 Lr6 (E39 ++ (Er5 ++ Er6)) (by omega) hur6 (by rw [hLr6, hLr5, hL39e, fm_step hy]; show _ = _ ++ (_ ++ (usB9 y)); unfold usB9; simp only [List.append_assoc]) (by omega) _ _ h _ (lv_sub hl [1, 2, 3, 0] rfl)
  exact loop39 _ 0 br2 gr2 Lr2 (Er1 ++ Er2) (by omega) hur2 (by rw [hLr2, hLr1]; simp only [List.nil_append, List.take_zero, List.flatMap_nil, List.append_nil]) (Nat.lt_succ_self _) _ _ h _ (lv_sub hl [2, 3, 1, 0] rfl)
set_option maxHeartbeats 2000000 in
set_option maxRecDepth 100000 in
theorem c1_armorP (l : Launch) (D : va_G) (dA : Nat → ClassId) (B : Nat) (Z : State → Prop) (hZ : Stab B Z) (F : va_W) (A : Nat → Nat) (sz dc rg : Nat) (ob oc : Nat) (og : Nat → Nat) (ol : List Nat) (tb tc : Nat) (tg : Nat → Nat) (tl : List Nat) (x : Int32) (hlt : l.stackTraces = false) (hzx : ZX B Z) (hzs : ZS dA B Z) (hme : ((A 24), .inr (0, [.ref (A 23), .int (nI sz), .ref dc, .ref (A 17), .ref rg, .ref (A 0), .ref (A 5), .ref (A 11), .ref (A 12), .ref (A 18), .ref (A 19), .ref (A 20), .ref (A 21), .ref (A 22)])) ∈ F) (hro : RowOk (ob, oc, og, ol)) (hrt : RowOk (tb, tc, tg, tl)) (hob : byt ol) :
    CtX (S := RowS × RowS × va_W) (SX := Nat × Nat) l D dA B Z yX1_armor_2 cX1_armor_2 2 (some .int) 9 (rC oc 12000 + rC tc 8000 + 20) (rS oc 12000 + rS tc 8000 + 1420) [.ref (A 24), .int x] ([((A 17), .inr (1, [.ref ob, .int (nI ol.length)])), (ob, bar dA oc og)] ++ ([((A 21), .inr (1, [.ref tb, .int (nI tl.length)])), (tb, bar dA tc tg)] ++ F)) (fun u => (armS ol x).1 = 0 ∧ RowOk u.1 ∧ u.1.2.2.2 = (armS ol x).2.2 ∧ RowOk u.2.1) (fun _ => some (.int (nI (armS ol x).2.1))) (fun u => [((A 17), .inr (1, [.ref u.1.1, .int (nI u.1.2.2.2.length)])), (u.1.1, bar dA u.1.2.1 u.1.2.2.1)] ++ ([((A 21), .inr (1, [.ref u.2.1.1, .int (nI u.2.1.2.2.2.length)])), (u.2.1.1, bar dA u.2.1.2.1 u.2.1.2.2.1)] ++ (F ++ u.2.2))) (fun u => u.2 = (armS ol x).1 ∧ (u.2 = 1 ∨ u.2 = 2)) (fun u => u.1) (fun u => arEx u.2) (fun _ => [((A 17), .inr (1, [.ref ob, .int (nI ol.length)])), (ob, bar dA oc og)] ++ ([((A 21), .inr (1, [.ref tb, .int (nI tl.length)])), (tb, bar dA tc tg)] ++ F)) := by
  refine CtX.mk2 (by decide) (Nat.le_of_ble_eq_true rfl) hZ ?_
  intro p e R s m args below meth c ls Q C hr hlocks hin hex hQ hl h
  have C0 := C
  obtain ⟨hx, hb, hml, hown, hts, -⟩ := C0
  have hl : lv_has ls 2 [(0, .ref (A 24)), (1, .int x)] := hl
  obtain ⟨hro1, hro2, hro3⟩ := hro
  dsimp only at hro1 hro2 hro3
  obtain ⟨hrt1, hrt2, hrt3⟩ := hrt
  dsimp only at hrt1 hrt2 hrt3
  have hol9 := hro1.1
  have hg0r : gro oc ol.length = oc := gro_le hro1.1
  have hSr0 : SBis og (gro oc ol.length) ol := by rw [hg0r]; exact hro1
  have hz0r : rC oc ol.length = 0 ∧ rS oc ol.length = 0 := rC_0 hg0r
  have hg0x : gro tc tl.length = tc := gro_le hrt1.1
  have hSx0 : SBis tg (gro tc tl.length) tl := by rw [hg0x]; exact hrt1
  have hz0x : rC tc tl.length = 0 ∧ rS tc tl.length = 0 := rC_0 hg0x
  have h : Wd D B s ([((A 17), .inr (1, [.ref ob, .int (nI ol.length)])), (ob, bar dA (gro oc ol.length) og), ((A 21), .inr (1, [.ref tb, .int (nI tl.length)])), (tb, bar dA (gro tc tl.length) tg)] ++ F) s.heap [] := by rw [hg0r, hg0x]; exact h
  refine W.widen (k := 0 + rC oc ol.length + rC tc tl.length) (n := 0 + rS oc ol.length + rS tc tl.length) (by omega) (by omega) ?_
  have jn : ∀ (tjn : Bool) (cc cs : Nat), (tjn = decide (¬ x < 0 ∧ ¬ nI 2 < x)) → (cc ≤ 0) → (cs ≤ 0) → ∀ (H : Heap) (locs : List Loc), Wd D B s ([((A 17), .inr (1, [.ref ob, .int (nI ol.length)])), (ob, bar dA (gro oc ol.length) og), ((A 21), .inr (1, [.ref tb, .int (nI tl.length)])), (tb, bar dA (gro tc tl.length) tg)] ++ F) H locs → ∀ (ls : Array Slot), lv_has ls 2 [(0, .ref (A 24)), (1, .int x)] → W p l e R s m args below meth c H locs cc cs Q (F0 m 14 ls [.int (bZ tjn)]) := by
    intro tjn  cc cs  hjn hcc hcs H locs h ls hl
    refine call_SX (As := [.int (bZ tjn)]) (rest := []) (n := 1) C h (c1_want l D dA B Z hZ [((A 17), .inr (1, [.ref ob, .int (nI ol.length)])), (ob, bar dA (gro oc ol.length) og), ((A 21), .inr (1, [.ref tb, .int (nI tl.length)])), (tb, bar dA (gro tc tl.length) tg)] ++ F tjn hlt hzx) (lw_S q1448 q1449 q129 q1450) (by decide +kernel) (by decide) (by decide) rfl hl rfl (Nat.le_of_ble_eq_true rfl) dX1_armor_2_14 (by omega) (fun ux ce9 H locs hbx h hce9 hcv9 hcl9 => ?_) (fun _ H locs hb9 h => ?_)
    · have h : Wd D B s ([((A 17), .inr (1, [.ref ob, .int (nI ol.length)])), (ob, bar dA oc og)] ++ ([((A 21), .inr (1, [.ref tb, .int (nI tl.length)])), (tb, bar dA tc tg)] ++ F)) H locs := by rw [hg0r, hg0x] at h; exact h
      subst hQ
      exact thr_out C hex hlocks h (ux, 1) rfl rfl (⟨by rw [armS_n9 (fun q9 => by rw [hjn, decide_eq_true q9] at hbx; cases hbx)], Or.inl rfl⟩) rfl hce9 hcv9 hcl9 (by omega) (by omega)
    have hpp : ¬ x < 0 ∧ ¬ nI 2 < x := of_decide_eq_true (hjn ▸ hb9)
    obtain ⟨k, hk1, hxk, hkt⟩ := i_le (by omega) hpp.1 (Int32.not_lt.mp hpp.2)
    rw [hxk] at hl
    have hl : lv_has ls 2 [(0, .ref (A 24)), (1, .int (nI k))] := hl
    refine lv_aload_n hx hb dX1_armor_2_17 rfl (lv_at hl 0 rfl) ?_
    refine o_get C h (RC := RX1) (T := TX1) (N := 14) (List.mem_append_right _ hme) rfl in_X1 3 (by decide) q311 rfl (v := .ref (A 17)) rfl dX1_armor_2_18 ?_
    refine o_get C h (RC := RX2) (T := TX2) (N := 2) (List.mem_of_getElem? (i := 0) rfl) rfl in_X2 1 (by decide) q192 rfl (v := .int (nI ol.length)) rfl dX1_armor_2_21 ?_
    refine lv_sipush (v := nI 8000) hx hb dX1_armor_2_24 (by decide) ?_
    refine n_icmp_le (tgt := 38) hx hb (by omega) (by omega) dX1_armor_2_27 (by decide) (fun c27 => ?_) (fun c27 => ?_)
    · have hA0 : armS ol x = (0, (armL k ol).length, armL k ol) := armS_s9 hpp (by omega) hkt
      have hal := armL_len k ol
      have hgt := gro_b (cap := tc) (m := ol.length) (by omega)
      refine lv_aload_n hx hb dX1_armor_2_38 rfl (lv_at hl 0 rfl) ?_
      refine o_get C h (RC := RX1) (T := TX1) (N := 14) (List.mem_append_right _ hme) rfl in_X1 12 (by decide) q320 rfl (v := .ref (A 21)) rfl dX1_armor_2_39 ?_
      have h : Wd D B s ([((A 21), .inr (1, [.ref tb, .int (nI tl.length)])), (tb, bar dA (gro tc tl.length) tg), ((A 17), .inr (1, [.ref ob, .int (nI ol.length)])), (ob, bar dA (gro oc ol.length) og)] ++ F) H locs := h.perm [2, 3, 0, 1] rfl rfl
      refine call_VR (As := []) (rest := []) (n := 0) C h (c2_clear l D dA B Z hZ ([((A 17), .inr (1, [.ref ob, .int (nI ol.length)])), (ob, bar dA (gro oc ol.length) og)] ++ F) (A 21) tb (gro tc tl.length) tg tl) (lw_V q553 q554 q555 q130 q556) (by decide +kernel) (o_recv C h (RC := RX2) (T := TX2) (N := 2) (List.mem_of_getElem? (i := 0) rfl) rfl) (by decide) (by decide) rfl hl rfl (Nat.le_of_ble_eq_true rfl) dX1_armor_2_42 (by omega) (fun _ H locs _ h => ?_)
      have h : Wd D B s ([((A 21), .inr (1, [.ref tb, .int (nI (([] : List Nat).length))])), (tb, bar dA (gro tc tl.length) tg), ((A 17), .inr (1, [.ref ob, .int (nI ol.length)])), (ob, bar dA (gro oc ol.length) og)] ++ F) H locs := h
      have hSnx : SBis tg (gro tc ([] : List Nat).length) [] := ⟨Nat.zero_le _, fun j hj => absurd hj (Nat.not_lt_zero _)⟩
      have hgnx : gro tc ([] : List Nat).length = tc := gro_le (Nat.zero_le _)
      have hznx : rC tc ([] : List Nat).length = 0 ∧ rS tc ([] : List Nat).length = 0 := rC_0 hgnx
      have h : Wd D B s ([((A 21), .inr (1, [.ref tb, .int (nI (([] : List Nat).length))])), (tb, bar dA (gro tc ([] : List Nat).length) tg), ((A 17), .inr (1, [.ref ob, .int (nI ol.length)])), (ob, bar dA (gro oc ol.length) og)] ++ F) H locs := by rw [hgnx]; rw [hg0x] at h; exact h.permL (perm_add (fun g f p0 p1 p2 => by (try simp only [p0, p1, p2]) <;> omega))
      refine W.widen (k := 0 + rC oc ol.length + rC tc ([] : List Nat).length) (n := 0 + rS oc ol.length + rS tc ([] : List Nat).length) (by omega) (by omega) ?_
      refine lv_aload_n hx hb dX1_armor_2_45 rfl (lv_at hl 0 rfl) ?_
      refine o_get C h (RC := RX1) (T := TX1) (N := 14) (List.mem_append_right _ hme) rfl in_X1 12 (by decide) q320 rfl (v := .ref (A 21)) rfl dX1_armor_2_46 ?_
      refine lv_aload_n hx hb dX1_armor_2_49 rfl (lv_at hl 0 rfl) ?_
      refine o_get C h (RC := RX1) (T := TX1) (N := 14) (List.mem_append_right _ hme) rfl in_X1 3 (by decide) q311 rfl (v := .ref (A 17)) rfl dX1_armor_2_50 ?_
      refine o_get C h (RC := RX2) (T := TX2) (N := 2) (List.mem_of_getElem? (i := 2) rfl) rfl in_X2 0 (by decide) q188 rfl (v := .ref ob) rfl dX1_armor_2_53 ?_
      refine lv_iconst (v := nI 0) hx hb dX1_armor_2_56 (by decide) ?_
      refine lv_aload_n hx hb dX1_armor_2_57 rfl (lv_at hl 0 rfl) ?_
      refine o_get C h (RC := RX1) (T := TX1) (N := 14) (List.mem_append_right _ hme) rfl in_X1 3 (by decide) q311 rfl (v := .ref (A 17)) rfl dX1_armor_2_58 ?_
      refine o_get C h (RC := RX2) (T := TX2) (N := 2) (List.mem_of_getElem? (i := 2) rfl) rfl in_X2 1 (by decide) q192 rfl (v := .int (nI ol.length)) rfl dX1_armor_2_61 ?_
      have hnlx1 : (([] : List Nat) ++ sl og 0 (ol.length - 0)).length = ([] : List Nat).length + (ol.length - 0) := by rw [List.length_append, sl_len]
      have hcbx1 := gro_b (cap := tc) (m := ([] : List Nat).length) (by omega)
      have hcax1 := rC_add (cap := tc) (m := ([] : List Nat).length) (m' := (([] : List Nat) ++ sl og 0 (ol.length - 0)).length) (by omega) (by omega)
      have hcmx1 := rC_mono (cap := tc) (m := (([] : List Nat) ++ sl og 0 (ol.length - 0)).length) (m' := 8000) (by omega) (by omega)
      refine call_VR (As := [.ref ob, .int (nI 0), .int (nI ol.length)]) (rest := []) (n := 3) C h (c2_putA l D dA B Z hZ ([((A 17), .inr (1, [.ref ob, .int (nI ol.length)])), (ob, bar dA (gro oc ol.length) og)] ++ F) (A 21) tb (gro tc ([] : List Nat).length) tg ([] : List Nat) ob (gro oc ol.length) 0 ol.length og hSnx (by omega) (List.mem_append_left _ (List.mem_of_getElem? (i := 1) rfl)) (by omega) (by omega) (by omega) (by omega) (by omega) (fun j hj => by rw [hSr0.2 j (by omega)]; exact byt_gD hob j)) (lw_V q557 q558 q559 q130 q560) (by decide +kernel) (o_recv C h (RC := RX2) (T := TX2) (N := 2) (List.mem_of_getElem? (i := 0) rfl) rfl) (by decide) (by decide) rfl hl rfl (Nat.le_of_ble_eq_true rfl) dX1_armor_2_64 (by omega) (fun urx1 H locs hux1 h => ?_)
      obtain ⟨bx1, gx1, Ex1⟩ := urx1
      obtain ⟨Lx1, hLx1⟩ : ∃ z, z = ([] : List Nat) ++ sl og 0 (ol.length - 0) := ⟨_, rfl⟩
      dsimp only at hux1 h
      rw [← hLx1] at h hux1 hnlx1
      have hgex1 : gro (gro tc ([] : List Nat).length) Lx1.length = gro tc Lx1.length := gro_gro (by omega) (by omega)
      rw [hgex1] at h hux1
      have hclx1 : rC tc (([] : List Nat) ++ sl og 0 (ol.length - 0)).length = rC tc Lx1.length ∧ rS tc (([] : List Nat) ++ sl og 0 (ol.length - 0)).length = rS tc Lx1.length := by rw [hLx1]; exact ⟨rfl, rfl⟩
      have h : Wd D B s ([((A 21), .inr (1, [.ref bx1, .int (nI Lx1.length)])), (bx1, bar dA (gro tc Lx1.length) gx1), ((A 17), .inr (1, [.ref ob, .int (nI ol.length)])), (ob, bar dA (gro oc ol.length) og)] ++ (F ++ Ex1)) H locs := h
      refine W.widen (k := 0 + rC oc ol.length + rC tc Lx1.length) (n := 0 + rS oc ol.length + rS tc Lx1.length) (by omega) (by omega) ?_
      have hLe : Lx1 = ol := by rw [hLx1, List.nil_append, Nat.sub_zero]; exact hSr0.sl
      refine lv_aload_n hx hb dX1_armor_2_67 rfl (lv_at hl 0 rfl) ?_
      refine o_get C h (RC := RX1) (T := TX1) (N := 14) (List.mem_append_right _ (List.mem_append_left _ hme)) rfl in_X1 3 (by decide) q311 rfl (v := .ref (A 17)) rfl dX1_armor_2_68 ?_
      have h : Wd D B s ([((A 17), .inr (1, [.ref ob, .int (nI ol.length)])), (ob, bar dA (gro oc ol.length) og), ((A 21), .inr (1, [.ref bx1, .int (nI Lx1.length)])), (bx1, bar dA (gro tc Lx1.length) gx1)] ++ (F ++ Ex1)) H locs := h.perm [2, 3, 0, 1] rfl rfl
      refine call_VR (As := []) (rest := []) (n := 0) C h (c2_clear l D dA B Z hZ ([((A 21), .inr (1, [.ref bx1, .int (nI Lx1.length)])), (bx1, bar dA (gro tc Lx1.length) gx1)] ++ (F ++ Ex1)) (A 17) ob (gro oc ol.length) og ol) (lw_V q553 q554 q555 q130 q556) (by decide +kernel) (o_recv C h (RC := RX2) (T := TX2) (N := 2) (List.mem_of_getElem? (i := 0) rfl) rfl) (by decide) (by decide) rfl hl rfl (Nat.le_of_ble_eq_true rfl) dX1_armor_2_71 (by omega) (fun _ H locs _ h => ?_)
      have h : Wd D B s ([((A 17), .inr (1, [.ref ob, .int (nI (([] : List Nat).length))])), (ob, bar dA (gro oc ol.length) og), ((A 21), .inr (1, [.ref bx1, .int (nI Lx1.length)])), (bx1, bar dA (gro tc Lx1.length) gx1)] ++ (F ++ Ex1)) H locs := h
      have hSnr : SBis og (gro oc ([] : List Nat).length) [] := ⟨Nat.zero_le _, fun j hj => absurd hj (Nat.not_lt_zero _)⟩
      have hgnr : gro oc ([] : List Nat).length = oc := gro_le (Nat.zero_le _)
      have hznr : rC oc ([] : List Nat).length = 0 ∧ rS oc ([] : List Nat).length = 0 := rC_0 hgnr
      have h : Wd D B s ([((A 17), .inr (1, [.ref ob, .int (nI (([] : List Nat).length))])), (ob, bar dA (gro oc ([] : List Nat).length) og), ((A 21), .inr (1, [.ref bx1, .int (nI Lx1.length)])), (bx1, bar dA (gro tc Lx1.length) gx1)] ++ (F ++ Ex1)) H locs := by rw [hgnr]; rw [hg0r] at h; exact h.permL (perm_add (fun g f p0 p1 p2 => by (try simp only [p0, p1, p2]) <;> omega))
      refine W.widen (k := 0 + rC oc ([] : List Nat).length + rC tc Lx1.length) (n := 0 + rS oc ([] : List Nat).length + rS tc Lx1.length) (by omega) (by omega) ?_
      refine lv_aload_n hx hb dX1_armor_2_74 rfl (lv_at hl 0 rfl) ?_
      refine o_get C h (RC := RX1) (T := TX1) (N := 14) (List.mem_append_right _ (List.mem_append_left _ hme)) rfl in_X1 3 (by decide) q311 rfl (v := .ref (A 17)) rfl dX1_armor_2_75 ?_
      refine lv_aload_n hx hb dX1_armor_2_78 rfl (lv_at hl 0 rfl) ?_
      refine o_get C h (RC := RX1) (T := TX1) (N := 14) (List.mem_append_right _ (List.mem_append_left _ hme)) rfl in_X1 12 (by decide) q320 rfl (v := .ref (A 21)) rfl dX1_armor_2_79 ?_
      refine o_get C h (RC := RX2) (T := TX2) (N := 2) (List.mem_of_getElem? (i := 2) rfl) rfl in_X2 0 (by decide) q188 rfl (v := .ref bx1) rfl dX1_armor_2_82 ?_
      refine lv_aload_n hx hb dX1_armor_2_85 rfl (lv_at hl 0 rfl) ?_
      refine o_get C h (RC := RX1) (T := TX1) (N := 14) (List.mem_append_right _ (List.mem_append_left _ hme)) rfl in_X1 12 (by decide) q320 rfl (v := .ref (A 21)) rfl dX1_armor_2_86 ?_
      refine o_get C h (RC := RX2) (T := TX2) (N := 2) (List.mem_of_getElem? (i := 2) rfl) rfl in_X2 1 (by decide) q192 rfl (v := .int (nI Lx1.length)) rfl dX1_armor_2_89 ?_
      refine call_S (As := []) (rest := [.int (nI Lx1.length), .ref bx1, .ref (A 17)]) (n := 0) C h (c1_labels l D dA B Z hZ ([((A 17), .inr (1, [.ref ob, .int (nI (([] : List Nat).length))])), (ob, bar dA (gro oc ([] : List Nat).length) og), ((A 21), .inr (1, [.ref bx1, .int (nI Lx1.length)])), (bx1, bar dA (gro tc Lx1.length) gx1)] ++ (F ++ Ex1)) hzs) (lw_S q691 q692 q129 q693) (by decide +kernel) (by decide) (by decide) rfl hl rfl (Nat.le_of_ble_eq_true rfl) dX1_armor_2_92 (by omega) (fun u8 H locs hu8 h => ?_)
      obtain ⟨la9, lg9⟩ := u8
      dsimp only at hu8 h
      obtain ⟨sa9, sv9, hlg, hst9⟩ := hu8 k (by omega)
      have h : Wd D B s ([(la9, sar dA 3 lg9), ((A 17), .inr (1, [.ref ob, .int (nI (([] : List Nat).length))])), (ob, bar dA (gro oc ([] : List Nat).length) og), ((A 21), .inr (1, [.ref bx1, .int (nI Lx1.length)])), (bx1, bar dA (gro tc Lx1.length) gx1)] ++ (F ++ Ex1)) H locs := h.permL (perm_add (fun g f p0 p1 p2 => by (try simp only [p0, p1, p2]) <;> omega))
      show W p l e R s m args below meth c H locs (0 + rC oc ([] : List Nat).length + rC tc Lx1.length + 1) (0 + rS oc ([] : List Nat).length + rS tc Lx1.length + 3) Q (F0 m 95 ls [.ref la9, .int (nI Lx1.length), .ref bx1, .ref (A 17)])
      refine W.widen (k := 1 + rC oc ([] : List Nat).length + rC tc Lx1.length) (n := 3 + rS oc ([] : List Nat).length + rS tc Lx1.length) (by omega) (by omega) ?_
      refine lv_iload_n hx hb dX1_armor_2_95 rfl (lv_at hl 1 rfl) ?_
      refine n_Sald C h (i := k) (o := some sa9) (List.mem_of_getElem? (i := 0) rfl) (by omega) (by decide) hlg dX1_armor_2_96 ?_
      have hal2 : (armL k Lx1).length = (armL k ol).length := by rw [hLe]
      have hnlr2 : (([] : List Nat) ++ armL k Lx1).length = ([] : List Nat).length + ((armL k Lx1).length) := by rw [List.length_append]
      have hcbr2 := gro_b (cap := oc) (m := ([] : List Nat).length) (by omega)
      have hcar2 := rC_add (cap := oc) (m := ([] : List Nat).length) (m' := (([] : List Nat) ++ armL k Lx1).length) (by omega) (by omega)
      have hcmr2 := rC_mono (cap := oc) (m := (([] : List Nat) ++ armL k Lx1).length) (m' := 12000) (by omega) (by rw [List.nil_append, hLe]; omega)
      have h : Wd D B s ([((A 17), .inr (1, [.ref ob, .int (nI (([] : List Nat).length))])), (ob, bar dA (gro oc ([] : List Nat).length) og), (la9, sar dA 3 lg9), ((A 21), .inr (1, [.ref bx1, .int (nI Lx1.length)])), (bx1, bar dA (gro tc Lx1.length) gx1)] ++ (F ++ Ex1)) H locs := h.perm [1, 2, 0, 3, 4] rfl rfl
      refine call_S (As := [.ref (A 17), .ref bx1, .int (nI Lx1.length), .ref sa9]) (rest := []) (n := 4) C h (c1_armorS l D dA B Z hZ ([(la9, sar dA 3 lg9), ((A 21), .inr (1, [.ref bx1, .int (nI Lx1.length)])), (bx1, bar dA (gro tc Lx1.length) gx1)] ++ (F ++ Ex1)) (A 17) ob (gro oc ([] : List Nat).length) og ([] : List Nat) bx1 (gro tc Lx1.length) gx1 Lx1 sa9 sv9 k hSnr (by omega) (by omega) (by omega) hzs (List.mem_append_left _ (List.mem_of_getElem? (i := 2) rfl)) hux1 (by rw [hLe]; exact hob) (by rw [hLe]; omega) (by rw [hLe]; omega) (by omega) (nilup hst9 _)) (lw_S q1776 q1777 q129 q1778) (by decide +kernel) (by decide) (by decide) rfl hl rfl (Nat.le_of_ble_eq_true rfl) dX1_armor_2_97 (by omega) (fun urr2 H locs hur2 h => ?_)
      obtain ⟨br2, gr2, Er2⟩ := urr2
      obtain ⟨Lr2, hLr2⟩ : ∃ z, z = ([] : List Nat) ++ armL k Lx1 := ⟨_, rfl⟩
      dsimp only at hur2 h
      rw [← hLr2] at h hur2 hnlr2
      have hger2 : gro (gro oc ([] : List Nat).length) Lr2.length = gro oc Lr2.length := gro_gro (by omega) (by omega)
      rw [hger2] at h hur2
      have hclr2 : rC oc (([] : List Nat) ++ armL k Lx1).length = rC oc Lr2.length ∧ rS oc (([] : List Nat) ++ armL k Lx1).length = rS oc Lr2.length := by rw [hLr2]; exact ⟨rfl, rfl⟩
      have h : Wd D B s ([((A 17), .inr (1, [.ref br2, .int (nI Lr2.length)])), (br2, bar dA (gro oc Lr2.length) gr2), (la9, sar dA 3 lg9), ((A 21), .inr (1, [.ref bx1, .int (nI Lx1.length)])), (bx1, bar dA (gro tc Lx1.length) gx1)] ++ ((F ++ Ex1) ++ Er2)) H locs := h
      refine W.widen (k := 1 + 14 + rC oc Lr2.length + rC tc Lx1.length) (n := 3 + 1388 + rS oc Lr2.length + rS tc Lx1.length) (by omega) (by omega) ?_
      refine lv_aload_n hx hb dX1_armor_2_100 rfl (lv_at hl 0 rfl) ?_
      refine o_get C h (RC := RX1) (T := TX1) (N := 14) (List.mem_append_right _ (List.mem_append_left _ (List.mem_append_left _ hme))) rfl in_X1 3 (by decide) q311 rfl (v := .ref (A 17)) rfl dX1_armor_2_101 ?_
      refine o_get C h (RC := RX2) (T := TX2) (N := 2) (List.mem_of_getElem? (i := 0) rfl) rfl in_X2 1 (by decide) q192 rfl (v := .int (nI Lr2.length)) rfl dX1_armor_2_104 ?_
      subst hQ
      have hfin : Lr2 = armL k ol := by rw [hLr2, List.nil_append, hLe]
      have hlf : Lr2.length = (armL k ol).length := by rw [hfin]
      have hlx : Lx1.length = ol.length := by rw [hLe]
      have hgo := gro_b (cap := oc) (m := Lr2.length) (by omega)
      have hgx := gro_b (cap := tc) (m := Lx1.length) (by omega)
      have hcx := rC_mono (cap := tc) (m := Lx1.length) (m' := 8000) (by omega) (by omega)
      have hco := rC_mono (cap := oc) (m := Lr2.length) (m' := 12000) (by omega) (by omega)
      have h : Wd D B s ([((A 17), .inr (1, [.ref br2, .int (nI Lr2.length)])), (br2, bar dA (gro oc Lr2.length) gr2)] ++ ([((A 21), .inr (1, [.ref bx1, .int (nI Lx1.length)])), (bx1, bar dA (gro tc Lx1.length) gx1)] ++ (F ++ ([(la9, sar dA 3 lg9)] ++ (Ex1 ++ Er2))))) H locs := h.permL (perm_add (fun g f p0 p1 p2 => by (try simp only [p0, p1, p2]) <;> omega))
      refine vy_ret ?_
      exact ret_i C hr hlocks h ((br2, (gro oc Lr2.length), gr2, Lr2), (bx1, (gro tc Lx1.length), gx1, Lx1), ([(la9, sar dA 3 lg9)] ++ (Ex1 ++ Er2))) (⟨by rw [hA0], ⟨hur2, by (try dsimp only) <;> omega, by (try dsimp only) <;> omega⟩, by rw [hA0]; exact hfin, ⟨hux1, by (try dsimp only) <;> omega, by (try dsimp only) <;> omega⟩⟩) (by rw [hA0, hlf]) rfl (by omega) (by omega) dX1_armor_2_107
    · have hA2 : armS ol x = (2, 0, ol) := armS_29 hpp (by omega)
      have h : Wd D B s ([((A 17), .inr (1, [.ref ob, .int (nI ol.length)])), (ob, bar dA oc og)] ++ ([((A 21), .inr (1, [.ref tb, .int (nI tl.length)])), (tb, bar dA tc tg)] ++ F)) H locs := by rw [hg0r, hg0x] at h; exact h
      subst hQ
      exact x_throw0 C (fun x hx9 => (hex x hx9).elim) hlocks hlt hzx h hl (by decide +kernel) (by decide +kernel) q1811 q170 (ex_UOE C hzx) eg_UOE (fun q9 => (q9, 2)) (fun _ => rfl) (fun _ => rfl) (fun q9 => ⟨by rw [hA2], Or.inr rfl⟩) (fun _ => rfl) (by decide) (Nat.le_of_ble_eq_true rfl) (by omega) (by omega) dX1_armor_2_30 dX1_armor_2_33 dX1_armor_2_34 dX1_armor_2_37
  refine lv_iload_n hx hb dX1_armor_2_0 rfl (lv_at hl 1 rfl) ?_
  refine lv_if_lt (tgt := 13) hx hb dX1_armor_2_1 (by decide) (fun c1 => ?_) (fun c1 => ?_)
  · refine lv_iconst (v := nI 0) hx hb dX1_armor_2_13 (by decide) ?_
    refine n_top (y := bZ false) rfl ?_
    exact jn false _ _ (by symm; exact decide_eq_false (fun q9 => by first | exact q9.1 c1 | exact c6 (Int32.not_lt.mp q9.2))) (by omega) (by omega) _ _ h _ (lv_sub hl [0, 1] rfl)
  · refine lv_iload_n hx hb dX1_armor_2_4 rfl (lv_at hl 1 rfl) ?_
    refine lv_iconst (v := nI 2) hx hb dX1_armor_2_5 (by decide) ?_
    refine lv_icmp_gt (tgt := 13) hx hb dX1_armor_2_6 (by decide) (fun c6 => ?_) (fun c6 => ?_)
    · refine lv_iconst (v := nI 0) hx hb dX1_armor_2_13 (by decide) ?_
      refine n_top (y := bZ false) rfl ?_
      exact jn false _ _ (by symm; exact decide_eq_false (fun q9 => by first | exact q9.1 c1 | exact c6 (Int32.not_lt.mp q9.2))) (by omega) (by omega) _ _ h _ (lv_sub hl [0, 1] rfl)
    · refine lv_iconst (v := nI 1) hx hb dX1_armor_2_9 (by decide) ?_
      refine lv_goto (tgt := 14) hx hb dX1_armor_2_10 (by decide) ?_
      refine n_top (y := bZ true) rfl ?_
      exact jn true _ _ ((decide_eq_true ⟨c1, Int32.not_lt.mpr c6⟩).symm) (by omega) (by omega) _ _ h _ (lv_sub hl [0, 1] rfl)
