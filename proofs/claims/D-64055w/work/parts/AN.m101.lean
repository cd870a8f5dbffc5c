set_option maxRecDepth 100000

def kyc (y : KY) : Nat × va_E := (y.1, .inr (6, [.ref y.2.2.1.1.1, .ref y.2.1.1, .ref y.2.2.2.1.1.1, .ref y.2.2.2.2.1.1]))
def kyHas (lb : List Nat) (y : KY) : Bool := decide (sha1 (keyMsg y.2.1.2.1) = lb)
theorem kyHf {lb : List Nat} {y : KY} (h : decide (sha1 (keyMsg y.2.1.2.1) = lb) = false) : kyHas lb y = false := h
theorem kyHt {lb : List Nat} {y : KY} (h : decide (sha1 (keyMsg y.2.1.2.1) = lb) = true) : kyHas lb y = true := h

set_option maxHeartbeats 400000 in
set_option maxRecDepth 100000 in
theorem c1_comesH (l : Launch) (D : va_G) (dA : Nat → ClassId) (B : Nat) (Z : State → Prop) (hZ : Stab B Z) (O F : va_W) (e0 mi : Nat) (rl : LD) (Rg : List KY) (n : NBr) (pk : Nat) (i0 : Nat) (k : KY) (hA : LIn dA e0 (O ++ F) rl (Rg.map Prod.fst)) (hR : ∀ y ∈ Rg, NumIn dA F y.2.1 ∧ kyc y ∈ ([(k.1, .inr (6, [.ref k.2.2.1.1.1, .ref k.2.1.1, .ref k.2.2.2.1.1.1, .ref k.2.2.2.2.1.1]))] ++ (O ++ F))) (hn : NumIn dA F n) (hi : Rg[i0]? = some k) (hno : ∀ j y, j < i0 → Rg[j]? = some y → kyHas (sha1 (keyMsg n.2.1)) y = false) (hyes : kyHas (sha1 (keyMsg n.2.1)) k = true) :
    Ct (S := NBr × va_W) l D dA B Z yX1_comes cX1_comes 5 (some ((.object "SignetRing$Key"))) 8 2 26 [.ref rl.1, .ref n.1, .ref pk] ([(k.1, .inr (6, [.ref k.2.2.1.1.1, .ref k.2.1.1, .ref k.2.2.2.1.1.1, .ref k.2.2.2.2.1.1]))] ++ (O ++ F)) (fun u => u.1.2 = (k.2.1.2.1, withO k.2.1.2.2 n.2.2) ∧ NumIn dA (F ++ u.2) u.1) (fun _ => some (.ref k.1)) (fun u => [(k.1, .inr (6, [.ref k.2.2.1.1.1, .ref u.1.1, .ref k.2.2.2.1.1.1, .ref k.2.2.2.2.1.1]))] ++ (O ++ (F ++ u.2))) := by
  refine Ct.mk2 (by decide) (Nat.le_of_ble_eq_true rfl) hZ ?_
  intro p e R s m args below meth c ls Q C hr hlocks hin hQ hl h
  have C0 := C
  obtain ⟨hx, hb, hml, hown, hts, -⟩ := C0
  have hl : lv_has ls 5 [(0, .ref rl.1), (1, .ref n.1), (2, .ref pk)] := hl
  have hi0 : i0 < Rg.length := (List.getElem?_eq_some_iff.mp hi).1
  have hA9 : LIn dA e0 ([(k.1, .inr (6, [.ref k.2.2.1.1.1, .ref k.2.1.1, .ref k.2.2.2.1.1.1, .ref k.2.2.2.2.1.1]))] ++ (O ++ F)) rl (Rg.map Prod.fst) := hA.sub (fun z hz => List.mem_append_right _ (hA.1 z hz))
  obtain ⟨ed9, hcl⟩ := hA9.cell
  have hln := hA9.len
  rw [List.length_map] at hln
  have hlm : (Rg.map Prod.fst).length = Rg.length := by rw [List.length_map]
  have hn0 := hn
  obtain ⟨⟨hkbn, hkln, hkon, hksn⟩, ban, ann, aen, apn, san, hnmn, hban, hann, haen, hapn, hsan⟩ := hn
  try dsimp only at hkbn hkln hkon hksn hnmn hban hann haen hapn hsan
  refine lv_iconst (v := nI 0) hx hb dX1_comes_0 (by decide) ?_
  refine lv_istore_n (lv' := [(3, .int (nI 0)), (0, .ref rl.1), (1, .ref n.1), (2, .ref pk)]) hx hb dX1_comes_1 rfl hl (by decide) rfl (fun ls hl => ?_)
  have loop : ∀ (nn : Nat) (i : Nat), (i ≤ i0) → i0 - i < nn → ∀ (H : Heap) (locs : List Loc), Wd D B s (([(k.1, .inr (6, [.ref k.2.2.1.1.1, .ref k.2.1.1, .ref k.2.2.2.1.1.1, .ref k.2.2.2.2.1.1]))] ++ (O ++ F))) H locs → ∀ (ls : Array Slot), lv_has ls 5 [(0, .ref rl.1), (1, .ref n.1), (2, .ref pk), (3, .int (nI i))] → W p l e R s m args below meth c H locs 0 0 Q (F0 m 2 ls []) := by
    intro nn
    induction nn with
    | zero => intro i  hi0 hme; exact absurd hme (Nat.not_lt_zero _)
    | succ nn ih =>
      intro i  hi0 hme H locs h ls hl
      refine lv_iload_n hx hb dX1_comes_2 rfl (lv_at hl 3 rfl) ?_
      refine lv_aload_n hx hb dX1_comes_3 rfl (lv_at hl 0 rfl) ?_
      refine call_VR (As := []) (rest := [.int (nI i)]) (n := 0) C h (cA_size l D dA B Z hZ _ e0 rl _ hA9) (lw_V q360 q361 q362 q133 q363) (by decide +kernel) (o_recv C h (RC := RJ2) (T := TJ2) (N := 3) (hcl) rfl) (by decide) (by decide) rfl hl rfl (Nat.le_of_ble_eq_true rfl) dX1_comes_4 (by omega) (fun _ H locs _ h => ?_)
      refine n_top (y := nI Rg.length) (by rw [List.length_map]) ?_
      refine n_icmp_ge (tgt := 64) hx hb (by omega) (by omega) dX1_comes_7 (by decide) (fun c7 => by exfalso; omega) (fun c7 => ?_)
      refine lv_aload_n hx hb dX1_comes_10 rfl (lv_at hl 0 rfl) ?_
      refine lv_iload_n hx hb dX1_comes_11 rfl (lv_at hl 3 rfl) ?_
      obtain ⟨y, hy⟩ := at_lt (l := Rg) (i := i) (by omega)
      obtain ⟨hyN0, hyc⟩ := hR y (List.mem_of_getElem? hy)
      have hyN : NumIn dA ([(k.1, .inr (6, [.ref k.2.2.1.1.1, .ref k.2.1.1, .ref k.2.2.2.1.1.1, .ref k.2.2.2.2.1.1]))] ++ (O ++ F)) y.2.1 := (hyN0).sub (fun b q hq => List.mem_append_right _ (List.mem_append_right _ hq)) (fun a fs hq => List.mem_append_right _ (List.mem_append_right _ hq))
      have hnn := hyN
      obtain ⟨_, _, _, _, _, _, hnn, _⟩ := hnn
      refine call_VR (As := [.int (nI i)]) (rest := []) (n := 1) C h (cA_get l D dA B Z hZ _ e0 rl _ i y.1 hA9 (at_map hy)) (lw_V q364 q365 q366 q133 q367) (by decide +kernel) (o_recv C h (RC := RJ2) (T := TJ2) (N := 3) (hcl) rfl) (by decide) (by decide) rfl hl rfl (Nat.le_of_ble_eq_true rfl) dX1_comes_12 (by omega) (fun _ H locs _ h => ?_)
      refine o_cast C h (RC := RX9) (T := TX9) (N := 4) (hyc) rfl q378 dX1_comes_15 ?_
      refine lv_astore (lv' := [(4, .ref y.1), (0, .ref rl.1), (1, .ref n.1), (2, .ref pk), (3, .int (nI i))]) hx hb dX1_comes_18 hl (by decide) rfl (fun ls hl => ?_)
      refine lv_aload hx hb dX1_comes_20 (lv_at hl 0 rfl) ?_
      refine o_get C h (RC := RX9) (T := TX9) (N := 4) (hyc) rfl in_X9 1 (by decide) q397 rfl (v := .ref y.2.1.1) rfl dX1_comes_22 ?_
      refine lv_aload_n hx hb dX1_comes_25 rfl (lv_at hl 2 rfl) ?_
      refine o_get C h (RC := RX16) (T := TX16) (N := 6) (List.mem_append_right _ (List.mem_append_right _ hnmn)) rfl in_X16 4 (by decide) q1156 rfl (v := .ref apn) rfl dX1_comes_26 ?_
      refine call_VR (As := [.ref apn]) (rest := []) (n := 1) C h (c16_hasPrint l D dA B Z hZ _ y.2.1 apn (sha1 (keyMsg n.2.1)) hyN (List.mem_append_right _ (List.mem_append_right _ hapn)) (by rw [sha1_len]; decide) (sha1_byt _)) (lw_V q1256 q1257 q1258 q164 q1259) (by decide +kernel) (o_recv C h (RC := RX16) (T := TX16) (N := 6) (hnn) rfl) (by decide) (by decide) rfl hl rfl (Nat.le_of_ble_eq_true rfl) dX1_comes_29 (by omega) (fun _ H locs _ h => ?_)
      refine z_if_ne (tgt := 38) hx hb dX1_comes_32 (by decide) (fun c32 => ?_) (fun c32 => ?_)
      · have c32 : kyHas (sha1 (keyMsg n.2.1)) y = true := c32
        have hyk : y = k := by
          rcases Nat.lt_or_ge i i0 with q | q
          · rw [hno i y q hy] at c32; cases c32
          · have e9 : i = i0 := by omega
            rw [e9, hi] at hy; exact (Option.some.inj hy).symm
        rw [hyk] at hl
        have hkN := (hR k (List.mem_of_getElem? hi)).1
        refine lv_aload hx hb dX1_comes_38 (lv_at hl 0 rfl) ?_
        refine lv_aload hx hb dX1_comes_40 (lv_at hl 0 rfl) ?_
        refine o_get C h (RC := RX9) (T := TX9) (N := 4) (List.mem_of_getElem? (i := 0) rfl) rfl in_X9 1 (by decide) q397 rfl (v := .ref k.2.1.1) rfl dX1_comes_42 ?_
        refine lv_aload_n hx hb dX1_comes_45 rfl (lv_at hl 2 rfl) ?_
        refine o_get C h (RC := RX16) (T := TX16) (N := 6) (List.mem_append_right _ (List.mem_append_right _ hnmn)) rfl in_X16 5 (by decide) q1158 rfl (v := va_rf san) rfl dX1_comes_46 ?_
        have hnk := hkN
        obtain ⟨_, _, _, _, _, _, hnk, _⟩ := hnk
        have h : Wd D B s (([(k.1, .inr (6, [.ref k.2.2.1.1.1, .ref k.2.1.1, .ref k.2.2.2.1.1.1, .ref k.2.2.2.2.1.1]))] ++ O) ++ F) H locs := h
        refine call_VR (As := [va_rf san]) (rest := [.ref k.1]) (n := 1) C h (cW_with l D dA B Z hZ ([(k.1, .inr (6, [.ref k.2.2.1.1.1, .ref k.2.1.1, .ref k.2.2.2.1.1.1, .ref k.2.2.2.2.1.1]))] ++ O) F k.2.1 san n.2.2 hkN hsan hksn) (lw_V q1263 q1264 q1265 q164 q1266) (by decide +kernel) (o_recv C h (RC := RX16) (T := TX16) (N := 6) (List.mem_append_right _ hnk) rfl) (by decide) (by decide) rfl hl rfl (Nat.le_of_ble_eq_true rfl) dX1_comes_49 (by omega) (fun u9 H locs hu9 h => ?_)
        obtain ⟨n9, E9⟩ := u9
        obtain ⟨e91, hn9⟩ := hu9
        dsimp only at e91 hn9 h
        have h : Wd D B s ([(k.1, .inr (6, [.ref k.2.2.1.1.1, .ref k.2.1.1, .ref k.2.2.2.1.1.1, .ref k.2.2.2.2.1.1]))] ++ (O ++ (F ++ E9))) H locs := h
        show W p l e R s m args below meth c H locs (0 + 0 + 0 + 0 + 2) (0 + 0 + 0 + 0 + 26) Q (F0 m 52 ls [.ref n9.1, .ref k.1])
        refine o_put C h 0 (RC := RX9) (T := TX9) (N := 4) (ws' := [(k.1, .inr (6, [.ref k.2.2.1.1.1, .ref n9.1, .ref k.2.2.2.1.1.1, .ref k.2.2.2.2.1.1]))] ++ (O ++ (F ++ E9))) rfl rfl in_X9 tyX9_ok nmX9 1 (by decide) q397 rfl rfl (v := .ref n9.1) rfl rfl (Nat.le_of_ble_eq_true rfl) rfl dX1_comes_52 (fun H locs h => ?_)
        refine lv_aload hx hb dX1_comes_55 (lv_at hl 0 rfl) ?_
        subst hQ
        exact ret_a C hr (Or.inl ⟨_, rfl⟩) hlocks h (n9, E9) (⟨e91, hn9⟩) (Or.inr ⟨_, rfl⟩) rfl rfl (by omega) (by omega) dX1_comes_57
      · have c32 : kyHas (sha1 (keyMsg n.2.1)) y = false := c32
        have hilt : i < i0 := by
          rcases Nat.lt_or_ge i i0 with q | q
          · exact q
          · have e9 : i = i0 := by omega
            rw [e9, hi] at hy
            rw [← Option.some.inj hy, hyes] at c32
            cases c32
        refine lv_goto (tgt := 58) hx hb dX1_comes_35 (by decide) ?_
        refine lv_iinc (v := nI (i + 1)) (lv' := [(3, .int (nI (i + 1))), (4, .ref y.1), (0, .ref rl.1), (1, .ref n.1), (2, .ref pk)]) hx hb dX1_comes_58 hl (k := 4) rfl (nI_add i 1) (by decide) rfl (fun ls hl => ?_)
        refine lv_goto (tgt := 2) hx hb dX1_comes_61 (by decide) ?_
        exact ih (i + 1) (by omega) (by omega) _ _ h _ (lv_sub hl [2, 3, 4, 0] rfl)
  exact loop _ 0 (by omega) (Nat.lt_succ_self _) _ _ h _ (lv_sub hl [1, 2, 3, 0] rfl)
set_option maxHeartbeats 400000 in
set_option maxRecDepth 100000 in
theorem c1_comesN (l : Launch) (D : va_G) (dA : Nat → ClassId) (B : Nat) (Z : State → Prop) (hZ : Stab B Z) (F : va_W) (e0 mi : Nat) (rl : LD) (Rg : List KY) (n : NBr) (pk pb sz nx pl kd pm : Nat) (bo : Option Nat) (hzs : ZS dA B Z) (hza : ZA B e0 mi Z) (hAL : ALis rl.2.2 (Rg.map Prod.fst)) (hR : ∀ y ∈ Rg, NumIn dA F y.2.1 ∧ kyc y ∈ F) (hn : NumIn dA F n) (hno : ∀ j y, j < Rg.length → Rg[j]? = some y → kyHas (sha1 (keyMsg n.2.1)) y = false) (hfull : Rg.length < 16) :
    Ct (S := Nat × Nat × Nat × Nat × Int32 × Option (Nat × Nat × (Nat → Option Nat)) × va_W) l D dA B Z yX1_comes cX1_comes 5 (some ((.object "SignetRing$Key"))) 8 5 (2 * Rg.length + 24) [.ref rl.1, .ref n.1, .ref pk] (lW dA e0 rl Rg.length ++ F) (fun u => ALis u.2.2.2.2.2.1 (Rg.map Prod.fst ++ [u.1]) ∧ u.2.2.2.2.2.1 ≠ none) (fun u => some (.ref u.1)) (fun u => lW dA e0 (rl.1, u.2.2.2.2.1, u.2.2.2.2.2.1) (Rg.length + 1) ++ ([(u.1, .inr (6, [.ref u.2.1, .ref n.1, .ref u.2.2.1, .ref u.2.2.2.1])), (u.2.1, .inr (16, [.int (nI 0), .ref e0, .int (nI 0)])), (u.2.2.1, .inr (16, [.int (nI 0), .ref e0, .int (nI 0)])), (u.2.2.2.1, .inr (16, [.int (nI 0), .ref e0, .int (nI 0)]))] ++ (F ++ u.2.2.2.2.2.2))) := by
  refine Ct.mk2 (by decide) (Nat.le_of_ble_eq_true rfl) hZ ?_
  intro p e R s m args below meth c ls Q C hr hlocks hin hQ hl h
  have C0 := C
  obtain ⟨hx, hb, hml, hown, hts, -⟩ := C0
  have hl : lv_has ls 5 [(0, .ref rl.1), (1, .ref n.1), (2, .ref pk)] := hl
  have hA9 : LIn dA e0 (lW dA e0 rl Rg.length ++ F) rl (Rg.map Prod.fst) := ⟨by rw [List.length_map]; exact fun z hz => List.mem_append_left _ hz, hAL⟩
  obtain ⟨ed9, hcl⟩ := hA9.cell
  have hln := hA9.len
  rw [List.length_map] at hln
  have hlm : (Rg.map Prod.fst).length = Rg.length := by rw [List.length_map]
  have hn0 := hn
  obtain ⟨⟨hkbn, hkln, hkon, hksn⟩, ban, ann, aen, apn, san, hnmn, hban, hann, haen, hapn, hsan⟩ := hn
  try dsimp only at hkbn hkln hkon hksn hnmn hban hann haen hapn hsan
  refine lv_iconst (v := nI 0) hx hb dX1_comes_0 (by decide) ?_
  refine lv_istore_n (lv' := [(3, .int (nI 0)), (0, .ref rl.1), (1, .ref n.1), (2, .ref pk)]) hx hb dX1_comes_1 rfl hl (by decide) rfl (fun ls hl => ?_)
  have loop : ∀ (nn : Nat) (i : Nat), (i ≤ Rg.length) → Rg.length - i < nn → ∀ (H : Heap) (locs : List Loc), Wd D B s ((lW dA e0 rl Rg.length ++ F)) H locs → ∀ (ls : Array Slot), lv_has ls 5 [(0, .ref rl.1), (1, .ref n.1), (2, .ref pk), (3, .int (nI i))] → W p l e R s m args below meth c H locs 0 0 Q (F0 m 2 ls []) := by
    intro nn
    induction nn with
    | zero => intro i  hi0 hme; exact absurd hme (Nat.not_lt_zero _)
    | succ nn ih =>
      intro i  hi0 hme H locs h ls hl
      refine lv_iload_n hx hb dX1_comes_2 rfl (lv_at hl 3 rfl) ?_
      refine lv_aload_n hx hb dX1_comes_3 rfl (lv_at hl 0 rfl) ?_
      refine call_VR (As := []) (rest := [.int (nI i)]) (n := 0) C h (cA_size l D dA B Z hZ _ e0 rl _ hA9) (lw_V q360 q361 q362 q133 q363) (by decide +kernel) (o_recv C h (RC := RJ2) (T := TJ2) (N := 3) (hcl) rfl) (by decide) (by decide) rfl hl rfl (Nat.le_of_ble_eq_true rfl) dX1_comes_4 (by omega) (fun _ H locs _ h => ?_)
      refine n_top (y := nI Rg.length) (by rw [List.length_map]) ?_
      refine n_icmp_ge (tgt := 64) hx hb (by omega) (by omega) dX1_comes_7 (by decide) (fun c7 => ?_) (fun c7 => ?_)
      · refine lv_aload_n hx hb dX1_comes_64 rfl (lv_at hl 0 rfl) ?_
        refine call_VR (As := []) (rest := []) (n := 0) C h (cA_size l D dA B Z hZ _ e0 rl _ hA9) (lw_V q360 q361 q362 q133 q363) (by decide +kernel) (o_recv C h (RC := RJ2) (T := TJ2) (N := 3) (hcl) rfl) (by decide) (by decide) rfl hl rfl (Nat.le_of_ble_eq_true rfl) dX1_comes_65 (by omega) (fun _ H locs _ h => ?_)
        refine n_top (y := nI Rg.length) (by rw [List.length_map]) ?_
        refine lv_bipush (v := nI 16) hx hb dX1_comes_68 (by decide) ?_
        refine n_icmp_ne (tgt := 78) hx hb (by omega) (by omega) dX1_comes_70 (by decide) (fun c70 => ?_) (fun c70 => by exfalso; omega)
        refine o_new C h (RC := RX9) (T := TX9) (N := 4) (ci := 6) (fs := [.null, .null, .null, .null]) rfl in_X9 tyX9_ok q378 q384 q142 dv_X9 (by omega) (by omega) dX1_comes_78 (fun o1 H h => ?_)
        have h := Wd.toFront h
        have h : Wd D B s ([(o1, .inr (6, [.null, .null, .null, .null]))] ++ (lW dA e0 rl Rg.length ++ F)) H locs := h
        refine lv_dup hx hb dX1_comes_81 rfl ?_
        refine lv_aload_n hx hb dX1_comes_82 rfl (lv_at hl 1 rfl) ?_
        refine call_I (As := [.ref n.1]) (rest := [.ref o1]) (n := 1) C h (c9_init l D dA B Z hZ (lW dA e0 rl Rg.length ++ F) o1 n.1 e0 mi hzs hza) (lw_meth q387) q142 q1270 q386 rfl (by decide +kernel) (by decide) (by decide) rfl hl rfl (Nat.le_of_ble_eq_true rfl) dX1_comes_83 (by omega) (fun u9 H locs _ h => ?_)
        obtain ⟨a1, a2, a3⟩ := u9
        have h : Wd D B s ([(o1, .inr (6, [.ref a1, .ref n.1, .ref a2, .ref a3])), (a1, .inr (16, [.int (nI 0), .ref e0, .int (nI 0)])), (a2, .inr (16, [.int (nI 0), .ref e0, .int (nI 0)])), (a3, .inr (16, [.int (nI 0), .ref e0, .int (nI 0)]))] ++ (lW dA e0 rl Rg.length ++ F)) H locs := h
        refine lv_astore_n (lv' := [(3, .ref o1), (0, .ref rl.1), (1, .ref n.1), (2, .ref pk)]) hx hb dX1_comes_86 rfl hl (by decide) rfl (fun ls hl => ?_)
        refine lv_aload_n hx hb dX1_comes_87 rfl (lv_at hl 1 rfl) ?_
        refine lv_aload_n hx hb dX1_comes_88 rfl (lv_at hl 0 rfl) ?_
        have h : Wd D B s (lW dA e0 rl (Rg.map Prod.fst).length ++ ([(o1, .inr (6, [.ref a1, .ref n.1, .ref a2, .ref a3])), (a1, .inr (16, [.int (nI 0), .ref e0, .int (nI 0)])), (a2, .inr (16, [.int (nI 0), .ref e0, .int (nI 0)])), (a3, .inr (16, [.int (nI 0), .ref e0, .int (nI 0)]))] ++ F)) H locs := by rw [List.length_map]; exact h.permL (perm_add (fun g f p0 p1 p2 => by (try simp only [p0, p1, p2]) <;> omega))
        obtain ⟨ed8, hcl8⟩ := lW_cell dA e0 rl (Rg.map Prod.fst).length
        refine call_VR (As := [.ref o1]) (rest := []) (n := 1) C h (cA_add l D dA B Z hZ ([(o1, .inr (6, [.ref a1, .ref n.1, .ref a2, .ref a3])), (a1, .inr (16, [.int (nI 0), .ref e0, .int (nI 0)])), (a2, .inr (16, [.int (nI 0), .ref e0, .int (nI 0)])), (a3, .inr (16, [.int (nI 0), .ref e0, .int (nI 0)]))] ++ F) e0 mi rl (Rg.map Prod.fst) o1 [.ref a1, .ref n.1, .ref a2, .ref a3] 6 _ rfl q2627 hzs hza (List.mem_of_getElem? (i := 0) rfl) hAL (by rw [List.length_map]; omega) (fun z hz => by
          obtain ⟨y, hy, e⟩ := List.mem_map.mp hz
          rw [← e]
          exact ⟨_, List.mem_append_right _ (hR y hy).2⟩)) (lw_V q548 q518 q519 q133 q520) (by decide +kernel) (o_recv C h (RC := RJ2) (T := TJ2) (N := 3) (List.mem_append_left _ hcl8) rfl) (by decide) (by decide) rfl hl rfl (Nat.le_of_ble_eq_true rfl) dX1_comes_89 (by omega) (fun u9 H locs hu9 h => ?_)
        obtain ⟨mo9, o9, E9⟩ := u9
        dsimp only at h hu9
        have h : Wd D B s (lW dA e0 (rl.1, mo9, o9) (Rg.length + 1) ++ ([(o1, .inr (6, [.ref a1, .ref n.1, .ref a2, .ref a3])), (a1, .inr (16, [.int (nI 0), .ref e0, .int (nI 0)])), (a2, .inr (16, [.int (nI 0), .ref e0, .int (nI 0)])), (a3, .inr (16, [.int (nI 0), .ref e0, .int (nI 0)]))] ++ (F ++ E9))) H locs := by rw [List.length_append, List.length_map, List.append_assoc] at h; exact h
        refine lv_pop hx hb dX1_comes_92 rfl ?_
        refine lv_aload_n hx hb dX1_comes_93 rfl (lv_at hl 0 rfl) ?_
        subst hQ
        exact ret_a C hr (Or.inl ⟨_, rfl⟩) hlocks h (o1, a1, a2, a3, mo9, o9, E9) hu9 (Or.inr ⟨_, rfl⟩) rfl rfl (by omega) (by omega) dX1_comes_94
      · refine lv_aload_n hx hb dX1_comes_10 rfl (lv_at hl 0 rfl) ?_
        refine lv_iload_n hx hb dX1_comes_11 rfl (lv_at hl 3 rfl) ?_
        obtain ⟨y, hy⟩ := at_lt (l := Rg) (i := i) (by omega)
        obtain ⟨hyN0, hyc⟩ := hR y (List.mem_of_getElem? hy)
        have hyN : NumIn dA (lW dA e0 rl Rg.length ++ F) y.2.1 := (hyN0).sub (fun b q hq => List.mem_append_right _ hq) (fun a fs hq => List.mem_append_right _ hq)
        have hnn := hyN
        obtain ⟨_, _, _, _, _, _, hnn, _⟩ := hnn
        refine call_VR (As := [.int (nI i)]) (rest := []) (n := 1) C h (cA_get l D dA B Z hZ _ e0 rl _ i y.1 hA9 (at_map hy)) (lw_V q364 q365 q366 q133 q367) (by decide +kernel) (o_recv C h (RC := RJ2) (T := TJ2) (N := 3) (hcl) rfl) (by decide) (by decide) rfl hl rfl (Nat.le_of_ble_eq_true rfl) dX1_comes_12 (by omega) (fun _ H locs _ h => ?_)
        refine o_cast C h (RC := RX9) (T := TX9) (N := 4) (List.mem_append_right _ hyc) rfl q378 dX1_comes_15 ?_
        refine lv_astore (lv' := [(4, .ref y.1), (0, .ref rl.1), (1, .ref n.1), (2, .ref pk), (3, .int (nI i))]) hx hb dX1_comes_18 hl (by decide) rfl (fun ls hl => ?_)
        refine lv_aload hx hb dX1_comes_20 (lv_at hl 0 rfl) ?_
        refine o_get C h (RC := RX9) (T := TX9) (N := 4) (List.mem_append_right _ hyc) rfl in_X9 1 (by decide) q397 rfl (v := .ref y.2.1.1) rfl dX1_comes_22 ?_
        refine lv_aload_n hx hb dX1_comes_25 rfl (lv_at hl 2 rfl) ?_
        refine o_get C h (RC := RX16) (T := TX16) (N := 6) (List.mem_append_right _ hnmn) rfl in_X16 4 (by decide) q1156 rfl (v := .ref apn) rfl dX1_comes_26 ?_
        refine call_VR (As := [.ref apn]) (rest := []) (n := 1) C h (c16_hasPrint l D dA B Z hZ _ y.2.1 apn (sha1 (keyMsg n.2.1)) hyN (List.mem_append_right _ hapn) (by rw [sha1_len]; decide) (sha1_byt _)) (lw_V q1256 q1257 q1258 q164 q1259) (by decide +kernel) (o_recv C h (RC := RX16) (T := TX16) (N := 6) (hnn) rfl) (by decide) (by decide) rfl hl rfl (Nat.le_of_ble_eq_true rfl) dX1_comes_29 (by omega) (fun _ H locs _ h => ?_)
        refine z_if_ne (tgt := 38) hx hb dX1_comes_32 (by decide) (fun c32 => by exfalso; have c32 : kyHas (sha1 (keyMsg n.2.1)) y = true := c32; rw [hno i y (by omega) hy] at c32; cases c32) (fun c32 => ?_)
        refine lv_goto (tgt := 58) hx hb dX1_comes_35 (by decide) ?_
        refine lv_iinc (v := nI (i + 1)) (lv' := [(3, .int (nI (i + 1))), (4, .ref y.1), (0, .ref rl.1), (1, .ref n.1), (2, .ref pk)]) hx hb dX1_comes_58 hl (k := 4) rfl (nI_add i 1) (by decide) rfl (fun ls hl => ?_)
        refine lv_goto (tgt := 2) hx hb dX1_comes_61 (by decide) ?_
        exact ih (i + 1) (by omega) (by omega) _ _ h _ (lv_sub hl [2, 3, 4, 0] rfl)
  exact loop _ 0 (by omega) (Nat.lt_succ_self _) _ _ h _ (lv_sub hl [1, 2, 3, 0] rfl)
set_option maxHeartbeats 400000 in
set_option maxRecDepth 100000 in
theorem c1_comesX (l : Launch) (D : va_G) (dA : Nat → ClassId) (B : Nat) (Z : State → Prop) (hZ : Stab B Z) (F : va_W) (e0 mi : Nat) (rl : LD) (Rg : List KY) (n : NBr) (pk pb sz nx pl kd pm : Nat) (bo : Option Nat) (hlt : l.stackTraces = false) (hzx : ZX B Z) (hA : LIn dA e0 F rl (Rg.map Prod.fst)) (hR : ∀ y ∈ Rg, NumIn dA F y.2.1 ∧ kyc y ∈ F) (hn : NumIn dA F n) (hno : ∀ j y, j < Rg.length → Rg[j]? = some y → kyHas (sha1 (keyMsg n.2.1)) y = false) (hpk : (pk, .inr (11, [.ref pb, .int (nI sz), .int (nI nx), .int (nI pl), .int (nI kd), va_rf bo, .ref pm])) ∈ F) (hfull : Rg.length = 16) :
    CtX (S := Unit) (SX := Nat × (Nat → Value)) l D dA B Z yX1_comes cX1_comes 5 (some ((.object "SignetRing$Key"))) 8 1 7 [.ref rl.1, .ref n.1, .ref pk] (F) (fun _ => False) (fun _ => some .null) (fun _ => F) (fun _ => True) (fun u => u.1) (fun _ => "SignetRing$Fault") (fun u => [(u.1, .inr (10, fts u.2 (-1 - nI pl)))] ++ (F)) := by
  refine CtX.mk2 (by decide) (Nat.le_of_ble_eq_true rfl) hZ ?_
  intro p e R s m args below meth c ls Q C hr hlocks hin hex hQ hl h
  have C0 := C
  obtain ⟨hx, hb, hml, hown, hts, -⟩ := C0
  have hl : lv_has ls 5 [(0, .ref rl.1), (1, .ref n.1), (2, .ref pk)] := hl
  have hA9 := hA
  obtain ⟨ed9, hcl⟩ := hA9.cell
  have hln := hA9.len
  rw [List.length_map] at hln
  have hlm : (Rg.map Prod.fst).length = Rg.length := by rw [List.length_map]
  have hn0 := hn
  obtain ⟨⟨hkbn, hkln, hkon, hksn⟩, ban, ann, aen, apn, san, hnmn, hban, hann, haen, hapn, hsan⟩ := hn
  try dsimp only at hkbn hkln hkon hksn hnmn hban hann haen hapn hsan
  refine lv_iconst (v := nI 0) hx hb dX1_comes_0 (by decide) ?_
  refine lv_istore_n (lv' := [(3, .int (nI 0)), (0, .ref rl.1), (1, .ref n.1), (2, .ref pk)]) hx hb dX1_comes_1 rfl hl (by decide) rfl (fun ls hl => ?_)
  have loop : ∀ (nn : Nat) (i : Nat), (i ≤ Rg.length) → Rg.length - i < nn → ∀ (H : Heap) (locs : List Loc), Wd D B s (F) H locs → ∀ (ls : Array Slot), lv_has ls 5 [(0, .ref rl.1), (1, .ref n.1), (2, .ref pk), (3, .int (nI i))] → W p l e R s m args below meth c H locs 0 0 Q (F0 m 2 ls []) := by
    intro nn
    induction nn with
    | zero => intro i  hi0 hme; exact absurd hme (Nat.not_lt_zero _)
    | succ nn ih =>
      intro i  hi0 hme H locs h ls hl
      refine lv_iload_n hx hb dX1_comes_2 rfl (lv_at hl 3 rfl) ?_
      refine lv_aload_n hx hb dX1_comes_3 rfl (lv_at hl 0 rfl) ?_
      refine call_VR (As := []) (rest := [.int (nI i)]) (n := 0) C h (cA_size l D dA B Z hZ _ e0 rl _ hA9) (lw_V q360 q361 q362 q133 q363) (by decide +kernel) (o_recv C h (RC := RJ2) (T := TJ2) (N := 3) (hcl) rfl) (by decide) (by decide) rfl hl rfl (Nat.le_of_ble_eq_true rfl) dX1_comes_4 (by omega) (fun _ H locs _ h => ?_)
      refine n_top (y := nI Rg.length) (by rw [List.length_map]) ?_
      refine n_icmp_ge (tgt := 64) hx hb (by omega) (by omega) dX1_comes_7 (by decide) (fun c7 => ?_) (fun c7 => ?_)
      · refine lv_aload_n hx hb dX1_comes_64 rfl (lv_at hl 0 rfl) ?_
        refine call_VR (As := []) (rest := []) (n := 0) C h (cA_size l D dA B Z hZ _ e0 rl _ hA9) (lw_V q360 q361 q362 q133 q363) (by decide +kernel) (o_recv C h (RC := RJ2) (T := TJ2) (N := 3) (hcl) rfl) (by decide) (by decide) rfl hl rfl (Nat.le_of_ble_eq_true rfl) dX1_comes_65 (by omega) (fun _ H locs _ h => ?_)
        refine n_top (y := nI Rg.length) (by rw [List.length_map]) ?_
        refine lv_bipush (v := nI 16) hx hb dX1_comes_68 (by decide) ?_
        refine n_icmp_ne (tgt := 78) hx hb (by omega) (by omega) dX1_comes_70 (by decide) (fun c70 => by exfalso; omega) (fun c70 => ?_)
        refine lv_aload_n hx hb dX1_comes_73 rfl (lv_at hl 2 rfl) ?_
        refine call_VR (As := []) (rest := []) (n := 0) C h (c14_fault l D dA B Z hZ _ pk pb sz nx pl kd pm bo hlt hzx (hpk)) (lw_V q1088 q1064 q1065 q162 q1066) (by decide +kernel) (o_recv C h (RC := RX14) (T := TX14) (N := 7) (hpk) rfl) (by decide) (by decide) rfl hl rfl (Nat.le_of_ble_eq_true rfl) dX1_comes_74 (by omega) (fun u9 H locs _ h => ?_)
        obtain ⟨q9, x9⟩ := u9
        have h : Wd D B s ([(q9, .inr (10, fts x9 (-1 - nI pl)))] ++ F) H locs := h
        subst hQ
        exact x_athrow C hex hlocks h (List.mem_of_getElem? (i := 0) rfl) rfl (q9, x9) rfl rfl trivial rfl (by omega) (by omega) dX1_comes_77
      · refine lv_aload_n hx hb dX1_comes_10 rfl (lv_at hl 0 rfl) ?_
        refine lv_iload_n hx hb dX1_comes_11 rfl (lv_at hl 3 rfl) ?_
        obtain ⟨y, hy⟩ := at_lt (l := Rg) (i := i) (by omega)
        obtain ⟨hyN0, hyc⟩ := hR y (List.mem_of_getElem? hy)
        have hyN : NumIn dA (F) y.2.1 := hyN0
        have hnn := hyN
        obtain ⟨_, _, _, _, _, _, hnn, _⟩ := hnn
        refine call_VR (As := [.int (nI i)]) (rest := []) (n := 1) C h (cA_get l D dA B Z hZ _ e0 rl _ i y.1 hA9 (at_map hy)) (lw_V q364 q365 q366 q133 q367) (by decide +kernel) (o_recv C h (RC := RJ2) (T := TJ2) (N := 3) (hcl) rfl) (by decide) (by decide) rfl hl rfl (Nat.le_of_ble_eq_true rfl) dX1_comes_12 (by omega) (fun _ H locs _ h => ?_)
        refine o_cast C h (RC := RX9) (T := TX9) (N := 4) (hyc) rfl q378 dX1_comes_15 ?_
        refine lv_astore (lv' := [(4, .ref y.1), (0, .ref rl.1), (1, .ref n.1), (2, .ref pk), (3, .int (nI i))]) hx hb dX1_comes_18 hl (by decide) rfl (fun ls hl => ?_)
        refine lv_aload hx hb dX1_comes_20 (lv_at hl 0 rfl) ?_
        refine o_get C h (RC := RX9) (T := TX9) (N := 4) (hyc) rfl in_X9 1 (by decide) q397 rfl (v := .ref y.2.1.1) rfl dX1_comes_22 ?_
        refine lv_aload_n hx hb dX1_comes_25 rfl (lv_at hl 2 rfl) ?_
        refine o_get C h (RC := RX16) (T := TX16) (N := 6) (hnmn) rfl in_X16 4 (by decide) q1156 rfl (v := .ref apn) rfl dX1_comes_26 ?_
        refine call_VR (As := [.ref apn]) (rest := []) (n := 1) C h (c16_hasPrint l D dA B Z hZ _ y.2.1 apn (sha1 (keyMsg n.2.1)) hyN (hapn) (by rw [sha1_len]; decide) (sha1_byt _)) (lw_V q1256 q1257 q1258 q164 q1259) (by decide +kernel) (o_recv C h (RC := RX16) (T := TX16) (N := 6) (hnn) rfl) (by decide) (by decide) rfl hl rfl (Nat.le_of_ble_eq_true rfl) dX1_comes_29 (by omega) (fun _ H locs _ h => ?_)
        refine z_if_ne (tgt := 38) hx hb dX1_comes_32 (by decide) (fun c32 => by exfalso; have c32 : kyHas (sha1 (keyMsg n.2.1)) y = true := c32; rw [hno i y (by omega) hy] at c32; cases c32) (fun c32 => ?_)
        refine lv_goto (tgt := 58) hx hb dX1_comes_35 (by decide) ?_
        refine lv_iinc (v := nI (i + 1)) (lv' := [(3, .int (nI (i + 1))), (4, .ref y.1), (0, .ref rl.1), (1, .ref n.1), (2, .ref pk)]) hx hb dX1_comes_58 hl (k := 4) rfl (nI_add i 1) (by decide) rfl (fun ls hl => ?_)
        refine lv_goto (tgt := 2) hx hb dX1_comes_61 (by decide) ?_
        exact ih (i + 1) (by omega) (by omega) _ _ h _ (lv_sub hl [2, 3, 4, 0] rfl)
  exact loop _ 0 (by omega) (Nat.lt_succ_self _) _ _ h _ (lv_sub hl [1, 2, 3, 0] rfl)
