set_option maxRecDepth 100000

def rvdC (msg kb : List Nat) (ty t : Nat) (y : SL) : Bool := decide (sType y.2 = ty) && rvkC msg kb y.2 t
def drpC (msg kb : List Nat) (my t : Nat) (y : SL) : Bool := decide (sType y.2 = 48) && (decide (my ≤ mdN y.2) && cntC msg kb y.2 t)
def mdO (o : Option SL) : Nat := match o with
  | none => 0
  | some y => mdN y.2
def latF (msg kb : List Nat) (lo hi t : Nat) (o : Option SL) (y : SL) : Option SL := if (lo ≤ sType y.2 ∧ sType y.2 ≤ hi) ∧ cntC msg kb y.2 t = true ∧ mdO o ≤ mdN y.2 then some y else o
def latC (msg kb : List Nat) (lo hi t : Nat) (ls : List SL) : Option SL := ls.foldl (latF msg kb lo hi t) none
theorem fold_step {α β : Type} {f : β → α → β} {b : β} {l : List α} {i : Nat} {y : α} (h : l[i]? = some y) : (l.take (i + 1)).foldl f b = f ((l.take i).foldl f b) y := by
  rw [List.take_succ, h, List.foldl_append]; rfl
theorem cntC_v {msg kb sb : List Nat} {t : Nat} (h : sVain sb = true) : cntC msg kb sb t = false := by unfold cntC; rw [h]; rfl
theorem TR.al {dA : Nat → ClassId} {cx : CX} {G G' : va_W} (h : TR dA cx G G') {e0 : Nat} {x : LD} {it : List Nat} (hA : LIn dA e0 G x it) : LIn dA e0 G' x it := by
  refine hA.sub (fun z hz => ?_)
  have h1 := hA.1 z hz
  obtain ⟨la, mo, o⟩ := x
  refine h.1 z.1 z.2 h1 (fun fs q => ?_)
  unfold lW alC at hz
  cases o with
  | none =>
    have hz := List.mem_singleton.mp hz
    rw [hz] at q
    have q2 : (16 : Nat) = 14 := congrArg Prod.fst (Sum.inr.inj q)
    exact absurd q2 (by decide)
  | some o =>
    rcases List.mem_cons.mp hz with hz | hz
    · rw [hz] at q
      have q2 : (16 : Nat) = 14 := congrArg Prod.fst (Sum.inr.inj q)
      exact absurd q2 (by decide)
    · have hz := List.mem_singleton.mp hz
      rw [hz] at q
      cases q


theorem sT_lt {dA : Nat → ClassId} {G : va_W} {y : SL} (h : SealB dA G y) : sType y.2 < 256 := by
  obtain ⟨t, ⟨h1, _⟩, _⟩ := h
  exact oneS_lt h1 _


theorem cnt_nv {msg kb sb : List Nat} {t : Nat} (h : cntC msg kb sb t = true) : sVain sb = false := by
  cases q : sVain sb with
  | false => rfl
  | true => rw [cntC_v q] at h; cases h

set_option maxHeartbeats 400000 in
set_option maxRecDepth 100000 in
theorem cQ_isRevokedK (l : Launch) (D : va_G) (dA : Nat → ClassId) (B : Nat) (Z : State → Prop) (hZ : Stab B Z) (G : va_W) (A : Nat → Nat) (O : va_W) (sz dc rg f1 f2 : Nat) (q : QS) (cx : CX) (ka a2 a3 : Nat) (kn : NBr) (e0 : Nat) (ld : LD) (sls : List SL) (tyy : Nat) (t : Nat) (hzq : ZQ B f1 f2 Z) (hQF : QF dA A sz dc rg G) (hqo : QOk q) (hk : (ka, .inr (6, [.ref ld.1, .ref kn.1, .ref a2, .ref a3])) ∈ G) (hkn : NumIn dA G kn) (hA : LIn dA e0 G ld (sls.map Prod.fst)) (hS : ∀ y ∈ sls, SealT dA cx G y ∧ cx y.1 = (keyMsg kn.2.1, kn.2.1)) (ht : t < 4294967296) (hty : tyy < 256) :
    Ct (S := QS × va_W) l D dA B Z yX1_isRevoked cX1_isRevoked 8 (some .boolean) 11 (4 * sls.length) (512 * sls.length) [.ref (A 24), .ref ka, .ref ka, .int (nI tyy), .long (lN t)] (qW dA A O q ++ G) (fun u => QOk u.1 ∧ TR dA cx G u.2) (fun _ => some (.int (bZ (sls.any (rvdC (keyMsg kn.2.1) kn.2.1 tyy t))))) (fun u => qW dA A O u.1 ++ u.2) := by
  refine Ct.mk2 (by decide) (Nat.le_of_ble_eq_true rfl) hZ ?_
  intro p e R s m args below meth c ls Q C hr hlocks hin hQ hl h
  have C0 := C
  obtain ⟨hx, hb, hml, hown, hts, -⟩ := C0
  have hl : lv_has ls 8 [(0, .ref (A 24)), (1, .ref ka), (2, .ref ka), (3, .int (nI tyy)), (4, .long (lN t))] := hl
  refine lv_iconst (v := nI 0) hx hb dX1_isRevoked_0 (by decide) ?_
  refine lv_istore (lv' := [(6, .int (nI 0)), (0, .ref (A 24)), (1, .ref ka), (2, .ref ka), (3, .int (nI tyy)), (4, .long (lN t))]) hx hb dX1_isRevoked_1 hl (by decide) rfl (fun ls hl => ?_)
  have loop : ∀ (nn : Nat) (i : Nat) (q1 : QS) (G1 : va_W) (cc cs : Nat), (i ≤ sls.length) → (QOk q1) → (TR dA cx G G1) → (∀ j y, j < i → sls[j]? = some y → (rvdC (keyMsg kn.2.1) kn.2.1 tyy t) y = false) → (cc ≤ 4 * i) → (cs ≤ 512 * i) → sls.length - i < nn → ∀ (H : Heap) (locs : List Loc), Wd D B s ((qW dA A O q1 ++ G1)) H locs → ∀ (ls : Array Slot), lv_has ls 8 [(0, .ref (A 24)), (1, .ref ka), (2, .ref ka), (3, .int (nI tyy)), (4, .long (lN t)), (6, .int (nI i))] → W p l e R s m args below meth c H locs cc cs Q (F0 m 3 ls []) := by
    intro nn
    induction nn with
    | zero => intro i  q1  G1  cc cs  hi0 hq1 hT1 hi1 hcc hcs hme; exact absurd hme (Nat.not_lt_zero _)
    | succ nn ih =>
      intro i  q1  G1  cc cs  hi0 hq1 hT1 hi1 hcc hcs hme H locs h ls hl
      have hA1 : LIn dA e0 (qW dA A O q1 ++ G1) ld (sls.map Prod.fst) := (hT1.al hA).sub (fun z hz => List.mem_append_right _ ((hT1.al hA).1 z hz))
      obtain ⟨ed1, hcl1⟩ := hA1.cell
      have hln1 := hA1.len
      rw [List.length_map] at hln1
      refine lv_iload hx hb dX1_isRevoked_3 (lv_at hl 5 rfl) ?_
      refine lv_aload_n hx hb dX1_isRevoked_5 rfl (lv_at hl 2 rfl) ?_
      refine o_get C h (RC := RX9) (T := TX9) (N := 4) (List.mem_append_right _ (hT1.ob (by decide) hk)) rfl in_X9 0 (by decide) q411 rfl (v := .ref ld.1) rfl dX1_isRevoked_6 ?_
      refine call_VR (As := []) (rest := [.int (nI i)]) (n := 0) C h (cA_size l D dA B Z hZ _ e0 ld _ hA1) (lw_V q360 q361 q362 q133 q363) (by decide +kernel) (o_recv C h (RC := RJ2) (T := TJ2) (N := 3) (hcl1) rfl) (by decide) (by decide) rfl hl rfl (Nat.le_of_ble_eq_true rfl) dX1_isRevoked_9 (by omega) (fun _ H locs _ h => ?_)
      refine n_top (y := nI sls.length) (by rw [List.length_map]) ?_
      refine n_icmp_ge (tgt := 59) hx hb (by omega) (by omega) dX1_isRevoked_12 (by decide) (fun c12 => ?_) (fun c12 => ?_)
      · refine lv_iconst (v := nI 0) hx hb dX1_isRevoked_59 (by decide) ?_
        subst hQ
        refine n_top (y := bZ false) rfl ?_
        exact ret_z C hr hlocks h (q1, G1) (⟨hq1, hT1⟩) (by rw [any_miss (f := rvdC (keyMsg kn.2.1) kn.2.1 tyy t) (fun j y hj hy => hi1 j y (by omega) hy)]) rfl (by omega) (by omega) dX1_isRevoked_60
      · refine lv_aload_n hx hb dX1_isRevoked_15 rfl (lv_at hl 2 rfl) ?_
        refine o_get C h (RC := RX9) (T := TX9) (N := 4) (List.mem_append_right _ (hT1.ob (by decide) hk)) rfl in_X9 0 (by decide) q411 rfl (v := .ref ld.1) rfl dX1_isRevoked_16 ?_
        refine lv_iload hx hb dX1_isRevoked_19 (lv_at hl 5 rfl) ?_
        obtain ⟨y, hy⟩ := at_lt (l := sls) (i := i) (by omega)
        have hym := List.mem_of_getElem? hy
        obtain ⟨hyS0, hyc⟩ := hS y hym
        have hyS := hT1.2 y hyS0
        have hST := sT_lt hyS.b
        obtain ⟨ty, ⟨hbby, hbly, hboy, hb0y⟩, bay, sny, r1y, r2y, r3y, w1y, w2y, w3y, hcey, hbay, hsny, hr1y, hr2y, hr3y⟩ := hyS.b
        refine call_VR (As := [.int (nI i)]) (rest := []) (n := 1) C h (cA_get l D dA B Z hZ _ e0 ld _ i y.1 hA1 (at_map hy)) (lw_V q364 q365 q366 q133 q367) (by decide +kernel) (o_recv C h (RC := RJ2) (T := TJ2) (N := 3) (hcl1) rfl) (by decide) (by decide) rfl hl rfl (Nat.le_of_ble_eq_true rfl) dX1_isRevoked_21 (by omega) (fun _ H locs _ h => ?_)
        refine o_cast C h (RC := RX17) (T := TX17) (N := 19) (List.mem_append_right _ hcey) rfl q1297 dX1_isRevoked_24 ?_
        refine lv_astore (lv' := [(7, .ref y.1), (0, .ref (A 24)), (1, .ref ka), (2, .ref ka), (3, .int (nI tyy)), (4, .long (lN t)), (6, .int (nI i))]) hx hb dX1_isRevoked_27 hl (by decide) rfl (fun ls hl => ?_)
        refine lv_aload hx hb dX1_isRevoked_29 (lv_at hl 0 rfl) ?_
        refine o_get C h (RC := RX17) (T := TX17) (N := 19) (List.mem_append_right _ hcey) rfl in_X17 1 (by decide) q1308 rfl (v := .int (nI (sType y.2))) rfl dX1_isRevoked_31 ?_
        refine lv_iload_n hx hb dX1_isRevoked_34 rfl (lv_at hl 4 rfl) ?_
        refine n_icmp_ne (tgt := 53) hx hb (by omega) (by omega) dX1_isRevoked_35 (by decide) (fun c35 => ?_) (fun c35 => ?_)
        · refine lv_iinc (v := nI (i + 1)) (lv' := [(6, .int (nI (i + 1))), (7, .ref y.1), (0, .ref (A 24)), (1, .ref ka), (2, .ref ka), (3, .int (nI tyy)), (4, .long (lN t))]) hx hb dX1_isRevoked_53 hl (k := 6) rfl (nI_add i 1) (by decide) rfl (fun ls hl => ?_)
          refine lv_goto (tgt := 3) hx hb dX1_isRevoked_56 (by decide) ?_
          exact ih (i + 1) q1 G1 _ _ (by omega) hq1 hT1 (at_step (f := rvdC (keyMsg kn.2.1) kn.2.1 tyy t) hi1 hy (by unfold rvdC; first | (rw [c48, Bool.and_false]) | (rw [decide_eq_false (show ¬ sType y.2 = tyy by omega)]; rfl))) (by omega) (by omega) (by omega) _ _ h _ (lv_sub hl [2, 3, 4, 5, 6, 0] rfl)
        · refine lv_aload_n hx hb dX1_isRevoked_38 rfl (lv_at hl 1 rfl) ?_
          refine lv_aload hx hb dX1_isRevoked_39 (lv_at hl 0 rfl) ?_
          refine lv_aload_n hx hb dX1_isRevoked_41 rfl (lv_at hl 2 rfl) ?_
          refine lv_aload_n hx hb dX1_isRevoked_42 rfl (lv_at hl 3 rfl) ?_
          refine lv_lload hx hb dX1_isRevoked_43 (lv_at hl 5 rfl) ?_
          refine call_VR (As := [.ref y.1, .ref ka, .ref ka, .long (lN t)]) (rest := []) (n := 4) C h (cQ_revokesK l D dA B Z hZ G1 A O sz dc rg f1 f2 q1 cx y t ka ld.1 a2 a3 kn hzq (hT1.qf hQF) hq1 hyS (hT1.ob (by decide) hk) (hT1.num hkn) hyc ht) (lw_V q1634 q1636 qs29 q129 q1637) (by decide +kernel) (o_recv C h (RC := RX1) (T := TX1) (N := 14) (List.mem_append_right _ (hT1.qf hQF).2.2) rfl) (by decide) (by decide) rfl hl rfl (Nat.le_of_ble_eq_true rfl) dX1_isRevoked_45 (by omega) (fun u9 H locs hu9 h => ?_)
          obtain ⟨q2, G2⟩ := u9
          obtain ⟨hq2, hT2⟩ := hu9
          dsimp only at hq2 hT2 h
          have hT12 := hT1.trans hT2
          refine z_if_eq (tgt := 53) hx hb dX1_isRevoked_48 (by decide) (fun c48 => ?_) (fun c48 => ?_)
          · refine lv_iinc (v := nI (i + 1)) (lv' := [(6, .int (nI (i + 1))), (7, .ref y.1), (0, .ref (A 24)), (1, .ref ka), (2, .ref ka), (3, .int (nI tyy)), (4, .long (lN t))]) hx hb dX1_isRevoked_53 hl (k := 6) rfl (nI_add i 1) (by decide) rfl (fun ls hl => ?_)
            refine lv_goto (tgt := 3) hx hb dX1_isRevoked_56 (by decide) ?_
            exact ih (i + 1) q2 G2 _ _ (by omega) hq2 hT12 (at_step (f := rvdC (keyMsg kn.2.1) kn.2.1 tyy t) hi1 hy (by unfold rvdC; first | (rw [c48, Bool.and_false]) | (rw [decide_eq_false (show ¬ sType y.2 = tyy by omega)]; rfl))) (by omega) (by omega) (by omega) _ _ h _ (lv_sub hl [2, 3, 4, 5, 6, 0] rfl)
          · refine lv_iconst (v := nI 1) hx hb dX1_isRevoked_51 (by decide) ?_
            subst hQ
            refine n_top (y := bZ true) rfl ?_
            exact ret_z C hr hlocks h (q2, G2) (⟨hq2, hT12⟩) (by rw [any_hit (f := rvdC (keyMsg kn.2.1) kn.2.1 tyy t) hy (by unfold rvdC; rw [decide_eq_true (show sType y.2 = tyy by omega), c48]; rfl)]) rfl (by omega) (by omega) dX1_isRevoked_52
  exact loop _ 0 q G _ _ (by omega) hqo TR.rf (fun j y hj => absurd hj (Nat.not_lt_zero _)) (by omega) (by omega) (Nat.lt_succ_self _) _ _ h _ (lv_sub hl [1, 2, 3, 4, 5, 0] rfl)
set_option maxHeartbeats 400000 in
set_option maxRecDepth 100000 in
theorem cQ_isRevokedP (l : Launch) (D : va_G) (dA : Nat → ClassId) (B : Nat) (Z : State → Prop) (hZ : Stab B Z) (G : va_W) (A : Nat → Nat) (O : va_W) (sz dc rg f1 f2 : Nat) (q : QS) (cx : CX) (ka a1 a2 a3 : Nat) (kn : NBr) (oa : Nat) (pn : NBr) (e0 : Nat) (ld : LD) (sls : List SL) (tyy : Nat) (t : Nat) (hzq : ZQ B f1 f2 Z) (hQF : QF dA A sz dc rg G) (hqo : QOk q) (hk : (ka, .inr (6, [.ref a1, .ref kn.1, .ref a2, .ref a3])) ∈ G) (hkn : NumIn dA G kn) (hof : (oa, .inr (8, [.ref ld.1, .ref pn.1])) ∈ G) (hpn : NumIn dA G pn) (hA : LIn dA e0 G ld (sls.map Prod.fst)) (hS : ∀ y ∈ sls, SealT dA cx G y ∧ cx y.1 = (keyMsg kn.2.1 ++ keyMsg pn.2.1, kn.2.1)) (ht : t < 4294967296) (hty : tyy < 256) :
    Ct (S := QS × va_W) l D dA B Z yX1_isRevoked cX1_isRevoked 8 (some .boolean) 11 (4 * sls.length) (512 * sls.length) [.ref (A 24), .ref ka, .ref oa, .int (nI tyy), .long (lN t)] (qW dA A O q ++ G) (fun u => QOk u.1 ∧ TR dA cx G u.2) (fun _ => some (.int (bZ (sls.any (rvdC (keyMsg kn.2.1 ++ keyMsg pn.2.1) kn.2.1 tyy t))))) (fun u => qW dA A O u.1 ++ u.2) := by
  refine Ct.mk2 (by decide) (Nat.le_of_ble_eq_true rfl) hZ ?_
  intro p e R s m args below meth c ls Q C hr hlocks hin hQ hl h
  have C0 := C
  obtain ⟨hx, hb, hml, hown, hts, -⟩ := C0
  have hl : lv_has ls 8 [(0, .ref (A 24)), (1, .ref ka), (2, .ref oa), (3, .int (nI tyy)), (4, .long (lN t))] := hl
  refine lv_iconst (v := nI 0) hx hb dX1_isRevoked_0 (by decide) ?_
  refine lv_istore (lv' := [(6, .int (nI 0)), (0, .ref (A 24)), (1, .ref ka), (2, .ref oa), (3, .int (nI tyy)), (4, .long (lN t))]) hx hb dX1_isRevoked_1 hl (by decide) rfl (fun ls hl => ?_)
  have loop : ∀ (nn : Nat) (i : Nat) (q1 : QS) (G1 : va_W) (cc cs : Nat), (i ≤ sls.length) → (QOk q1) → (TR dA cx G G1) → (∀ j y, j < i → sls[j]? = some y → (rvdC (keyMsg kn.2.1 ++ keyMsg pn.2.1) kn.2.1 tyy t) y = false) → (cc ≤ 4 * i) → (cs ≤ 512 * i) → sls.length - i < nn → ∀ (H : Heap) (locs : List Loc), Wd D B s ((qW dA A O q1 ++ G1)) H locs → ∀ (ls : Array Slot), lv_has ls 8 [(0, .ref (A 24)), (1, .ref ka), (2, .ref oa), (3, .int (nI tyy)), (4, .long (lN t)), (6, .int (nI i))] → W p l e R s m args below meth c H locs cc cs Q (F0 m 3 ls []) := by
    intro nn
    induction nn with
    | zero => intro i  q1  G1  cc cs  hi0 hq1 hT1 hi1 hcc hcs hme; exact absurd hme (Nat.not_lt_zero _)
    | succ nn ih =>
      intro i  q1  G1  cc cs  hi0 hq1 hT1 hi1 hcc hcs hme H locs h ls hl
      have hA1 : LIn dA e0 (qW dA A O q1 ++ G1) ld (sls.map Prod.fst) := (hT1.al hA).sub (fun z hz => List.mem_append_right _ ((hT1.al hA).1 z hz))
      obtain ⟨ed1, hcl1⟩ := hA1.cell
      have hln1 := hA1.len
      rw [List.length_map] at hln1
      refine lv_iload hx hb dX1_isRevoked_3 (lv_at hl 5 rfl) ?_
      refine lv_aload_n hx hb dX1_isRevoked_5 rfl (lv_at hl 2 rfl) ?_
      refine o_get C h (RC := RX11) (T := TX11) (N := 2) (List.mem_append_right _ (hT1.ob (by decide) hof)) rfl in_X11 0 (by decide) q411 rfl (v := .ref ld.1) rfl dX1_isRevoked_6 ?_
      refine call_VR (As := []) (rest := [.int (nI i)]) (n := 0) C h (cA_size l D dA B Z hZ _ e0 ld _ hA1) (lw_V q360 q361 q362 q133 q363) (by decide +kernel) (o_recv C h (RC := RJ2) (T := TJ2) (N := 3) (hcl1) rfl) (by decide) (by decide) rfl hl rfl (Nat.le_of_ble_eq_true rfl) dX1_isRevoked_9 (by omega) (fun _ H locs _ h => ?_)
      refine n_top (y := nI sls.length) (by rw [List.length_map]) ?_
      refine n_icmp_ge (tgt := 59) hx hb (by omega) (by omega) dX1_isRevoked_12 (by decide) (fun c12 => ?_) (fun c12 => ?_)
      · refine lv_iconst (v := nI 0) hx hb dX1_isRevoked_59 (by decide) ?_
        subst hQ
        refine n_top (y := bZ false) rfl ?_
        exact ret_z C hr hlocks h (q1, G1) (⟨hq1, hT1⟩) (by rw [any_miss (f := rvdC (keyMsg kn.2.1 ++ keyMsg pn.2.1) kn.2.1 tyy t) (fun j y hj hy => hi1 j y (by omega) hy)]) rfl (by omega) (by omega) dX1_isRevoked_60
      · refine lv_aload_n hx hb dX1_isRevoked_15 rfl (lv_at hl 2 rfl) ?_
        refine o_get C h (RC := RX11) (T := TX11) (N := 2) (List.mem_append_right _ (hT1.ob (by decide) hof)) rfl in_X11 0 (by decide) q411 rfl (v := .ref ld.1) rfl dX1_isRevoked_16 ?_
        refine lv_iload hx hb dX1_isRevoked_19 (lv_at hl 5 rfl) ?_
        obtain ⟨y, hy⟩ := at_lt (l := sls) (i := i) (by omega)
        have hym := List.mem_of_getElem? hy
        obtain ⟨hyS0, hyc⟩ := hS y hym
        have hyS := hT1.2 y hyS0
        have hST := sT_lt hyS.b
        obtain ⟨ty, ⟨hbby, hbly, hboy, hb0y⟩, bay, sny, r1y, r2y, r3y, w1y, w2y, w3y, hcey, hbay, hsny, hr1y, hr2y, hr3y⟩ := hyS.b
        refine call_VR (As := [.int (nI i)]) (rest := []) (n := 1) C h (cA_get l D dA B Z hZ _ e0 ld _ i y.1 hA1 (at_map hy)) (lw_V q364 q365 q366 q133 q367) (by decide +kernel) (o_recv C h (RC := RJ2) (T := TJ2) (N := 3) (hcl1) rfl) (by decide) (by decide) rfl hl rfl (Nat.le_of_ble_eq_true rfl) dX1_isRevoked_21 (by omega) (fun _ H locs _ h => ?_)
        refine o_cast C h (RC := RX17) (T := TX17) (N := 19) (List.mem_append_right _ hcey) rfl q1297 dX1_isRevoked_24 ?_
        refine lv_astore (lv' := [(7, .ref y.1), (0, .ref (A 24)), (1, .ref ka), (2, .ref oa), (3, .int (nI tyy)), (4, .long (lN t)), (6, .int (nI i))]) hx hb dX1_isRevoked_27 hl (by decide) rfl (fun ls hl => ?_)
        refine lv_aload hx hb dX1_isRevoked_29 (lv_at hl 0 rfl) ?_
        refine o_get C h (RC := RX17) (T := TX17) (N := 19) (List.mem_append_right _ hcey) rfl in_X17 1 (by decide) q1308 rfl (v := .int (nI (sType y.2))) rfl dX1_isRevoked_31 ?_
        refine lv_iload_n hx hb dX1_isRevoked_34 rfl (lv_at hl 4 rfl) ?_
        refine n_icmp_ne (tgt := 53) hx hb (by omega) (by omega) dX1_isRevoked_35 (by decide) (fun c35 => ?_) (fun c35 => ?_)
        · refine lv_iinc (v := nI (i + 1)) (lv' := [(6, .int (nI (i + 1))), (7, .ref y.1), (0, .ref (A 24)), (1, .ref ka), (2, .ref oa), (3, .int (nI tyy)), (4, .long (lN t))]) hx hb dX1_isRevoked_53 hl (k := 6) rfl (nI_add i 1) (by decide) rfl (fun ls hl => ?_)
          refine lv_goto (tgt := 3) hx hb dX1_isRevoked_56 (by decide) ?_
          exact ih (i + 1) q1 G1 _ _ (by omega) hq1 hT1 (at_step (f := rvdC (keyMsg kn.2.1 ++ keyMsg pn.2.1) kn.2.1 tyy t) hi1 hy (by unfold rvdC; first | (rw [c48, Bool.and_false]) | (rw [decide_eq_false (show ¬ sType y.2 = tyy by omega)]; rfl))) (by omega) (by omega) (by omega) _ _ h _ (lv_sub hl [2, 3, 4, 5, 6, 0] rfl)
        · refine lv_aload_n hx hb dX1_isRevoked_38 rfl (lv_at hl 1 rfl) ?_
          refine lv_aload hx hb dX1_isRevoked_39 (lv_at hl 0 rfl) ?_
          refine lv_aload_n hx hb dX1_isRevoked_41 rfl (lv_at hl 2 rfl) ?_
          refine lv_aload_n hx hb dX1_isRevoked_42 rfl (lv_at hl 3 rfl) ?_
          refine lv_lload hx hb dX1_isRevoked_43 (lv_at hl 5 rfl) ?_
          refine call_VR (As := [.ref y.1, .ref ka, .ref oa, .long (lN t)]) (rest := []) (n := 4) C h (cQ_revokesP l D dA B Z hZ G1 A O sz dc rg f1 f2 q1 cx y t ka a1 a2 a3 kn oa ld.1 pn hzq (hT1.qf hQF) hq1 hyS (hT1.ob (by decide) hk) (hT1.num hkn) (hT1.ob (by decide) hof) (hT1.num hpn) hyc ht) (lw_V q1634 q1636 qs29 q129 q1637) (by decide +kernel) (o_recv C h (RC := RX1) (T := TX1) (N := 14) (List.mem_append_right _ (hT1.qf hQF).2.2) rfl) (by decide) (by decide) rfl hl rfl (Nat.le_of_ble_eq_true rfl) dX1_isRevoked_45 (by omega) (fun u9 H locs hu9 h => ?_)
          obtain ⟨q2, G2⟩ := u9
          obtain ⟨hq2, hT2⟩ := hu9
          dsimp only at hq2 hT2 h
          have hT12 := hT1.trans hT2
          refine z_if_eq (tgt := 53) hx hb dX1_isRevoked_48 (by decide) (fun c48 => ?_) (fun c48 => ?_)
          · refine lv_iinc (v := nI (i + 1)) (lv' := [(6, .int (nI (i + 1))), (7, .ref y.1), (0, .ref (A 24)), (1, .ref ka), (2, .ref oa), (3, .int (nI tyy)), (4, .long (lN t))]) hx hb dX1_isRevoked_53 hl (k := 6) rfl (nI_add i 1) (by decide) rfl (fun ls hl => ?_)
            refine lv_goto (tgt := 3) hx hb dX1_isRevoked_56 (by decide) ?_
            exact ih (i + 1) q2 G2 _ _ (by omega) hq2 hT12 (at_step (f := rvdC (keyMsg kn.2.1 ++ keyMsg pn.2.1) kn.2.1 tyy t) hi1 hy (by unfold rvdC; first | (rw [c48, Bool.and_false]) | (rw [decide_eq_false (show ¬ sType y.2 = tyy by omega)]; rfl))) (by omega) (by omega) (by omega) _ _ h _ (lv_sub hl [2, 3, 4, 5, 6, 0] rfl)
          · refine lv_iconst (v := nI 1) hx hb dX1_isRevoked_51 (by decide) ?_
            subst hQ
            refine n_top (y := bZ true) rfl ?_
            exact ret_z C hr hlocks h (q2, G2) (⟨hq2, hT12⟩) (by rw [any_hit (f := rvdC (keyMsg kn.2.1 ++ keyMsg pn.2.1) kn.2.1 tyy t) hy (by unfold rvdC; rw [decide_eq_true (show sType y.2 = tyy by omega), c48]; rfl)]) rfl (by omega) (by omega) dX1_isRevoked_52
  exact loop _ 0 q G _ _ (by omega) hqo TR.rf (fun j y hj => absurd hj (Nat.not_lt_zero _)) (by omega) (by omega) (Nat.lt_succ_self _) _ _ h _ (lv_sub hl [1, 2, 3, 4, 5, 0] rfl)
set_option maxHeartbeats 400000 in
set_option maxRecDepth 100000 in
theorem cQ_isDropped (l : Launch) (D : va_G) (dA : Nat → ClassId) (B : Nat) (Z : State → Prop) (hZ : Stab B Z) (G : va_W) (A : Nat → Nat) (O : va_W) (sz dc rg f1 f2 : Nat) (q : QS) (cx : CX) (ka a1 a2 a3 : Nat) (kn : NBr) (oa : Nat) (ub : List Nat) (e0 : Nat) (ld : LD) (sls : List SL) (z : SL) (t : Nat) (hzq : ZQ B f1 f2 Z) (hQF : QF dA A sz dc rg G) (hqo : QOk q) (hk : (ka, .inr (6, [.ref a1, .ref kn.1, .ref a2, .ref a3])) ∈ G) (hkn : NumIn dA G kn) (hof : UserIn dA G oa ub ld.1) (hA : LIn dA e0 G ld (sls.map Prod.fst)) (hS : ∀ y ∈ sls, SealT dA cx G y ∧ cx y.1 = (keyMsg kn.2.1 ++ ([180] ++ be 4 ub.length ++ ub), kn.2.1)) (ht : t < 4294967296) (hz9 : z ∈ sls) (hvz : sVain z.2 = false) :
    Ct (S := QS × va_W) l D dA B Z yX1_isDropped cX1_isDropped 8 (some .boolean) 10 (2 * sls.length) (256 * sls.length) [.ref (A 24), .ref ka, .ref oa, .ref z.1, .long (lN t)] (qW dA A O q ++ G) (fun u => QOk u.1 ∧ TR dA cx G u.2) (fun _ => some (.int (bZ (sls.any (drpC (keyMsg kn.2.1 ++ ([180] ++ be 4 ub.length ++ ub)) kn.2.1 (mdN z.2) t))))) (fun u => qW dA A O u.1 ++ u.2) := by
  refine Ct.mk2 (by decide) (Nat.le_of_ble_eq_true rfl) hZ ?_
  intro p e R s m args below meth c ls Q C hr hlocks hin hQ hl h
  have C0 := C
  obtain ⟨hx, hb, hml, hown, hts, -⟩ := C0
  have hl : lv_has ls 8 [(0, .ref (A 24)), (1, .ref ka), (2, .ref oa), (3, .ref z.1), (4, .long (lN t))] := hl
  have hof0 := hof
  obtain ⟨_, uba, hcu, _⟩ := hof0
  refine lv_iconst (v := nI 0) hx hb dX1_isDropped_0 (by decide) ?_
  refine lv_istore (lv' := [(6, .int (nI 0)), (0, .ref (A 24)), (1, .ref ka), (2, .ref oa), (3, .ref z.1), (4, .long (lN t))]) hx hb dX1_isDropped_1 hl (by decide) rfl (fun ls hl => ?_)
  have loop : ∀ (nn : Nat) (i : Nat) (q1 : QS) (G1 : va_W) (cc cs : Nat), (i ≤ sls.length) → (QOk q1) → (TR dA cx G G1) → (∀ j y, j < i → sls[j]? = some y → (drpC (keyMsg kn.2.1 ++ ([180] ++ be 4 ub.length ++ ub)) kn.2.1 (mdN z.2) t) y = false) → (cc ≤ 2 * i) → (cs ≤ 256 * i) → sls.length - i < nn → ∀ (H : Heap) (locs : List Loc), Wd D B s ((qW dA A O q1 ++ G1)) H locs → ∀ (ls : Array Slot), lv_has ls 8 [(0, .ref (A 24)), (1, .ref ka), (2, .ref oa), (3, .ref z.1), (4, .long (lN t)), (6, .int (nI i))] → W p l e R s m args below meth c H locs cc cs Q (F0 m 3 ls []) := by
    intro nn
    induction nn with
    | zero => intro i  q1  G1  cc cs  hi0 hq1 hT1 hi1 hcc hcs hme; exact absurd hme (Nat.not_lt_zero _)
    | succ nn ih =>
      intro i  q1  G1  cc cs  hi0 hq1 hT1 hi1 hcc hcs hme H locs h ls hl
      have hA1 : LIn dA e0 (qW dA A O q1 ++ G1) ld (sls.map Prod.fst) := (hT1.al hA).sub (fun z hz => List.mem_append_right _ ((hT1.al hA).1 z hz))
      obtain ⟨ed1, hcl1⟩ := hA1.cell
      have hln1 := hA1.len
      rw [List.length_map] at hln1
      refine lv_iload hx hb dX1_isDropped_3 (lv_at hl 5 rfl) ?_
      refine lv_aload_n hx hb dX1_isDropped_5 rfl (lv_at hl 2 rfl) ?_
      refine o_getS C h (RC := RX10) (T := TX10) (N := 2) (List.mem_append_right _ (hT1.ob (by decide) hcu)) rfl in_X10 0 (by decide) q412 q406 (v := .ref ld.1) rfl dX1_isDropped_6 ?_
      refine call_VR (As := []) (rest := [.int (nI i)]) (n := 0) C h (cA_size l D dA B Z hZ _ e0 ld _ hA1) (lw_V q360 q361 q362 q133 q363) (by decide +kernel) (o_recv C h (RC := RJ2) (T := TJ2) (N := 3) (hcl1) rfl) (by decide) (by decide) rfl hl rfl (Nat.le_of_ble_eq_true rfl) dX1_isDropped_9 (by omega) (fun _ H locs _ h => ?_)
      refine n_top (y := nI sls.length) (by rw [List.length_map]) ?_
      refine n_icmp_ge (tgt := 73) hx hb (by omega) (by omega) dX1_isDropped_12 (by decide) (fun c12 => ?_) (fun c12 => ?_)
      · refine lv_iconst (v := nI 0) hx hb dX1_isDropped_73 (by decide) ?_
        subst hQ
        refine n_top (y := bZ false) rfl ?_
        exact ret_z C hr hlocks h (q1, G1) (⟨hq1, hT1⟩) (by rw [any_miss (f := drpC (keyMsg kn.2.1 ++ ([180] ++ be 4 ub.length ++ ub)) kn.2.1 (mdN z.2) t) (fun j y hj hy => hi1 j y (by omega) hy)]) rfl (by omega) (by omega) dX1_isDropped_74
      · refine lv_aload_n hx hb dX1_isDropped_15 rfl (lv_at hl 2 rfl) ?_
        refine o_getS C h (RC := RX10) (T := TX10) (N := 2) (List.mem_append_right _ (hT1.ob (by decide) hcu)) rfl in_X10 0 (by decide) q412 q406 (v := .ref ld.1) rfl dX1_isDropped_16 ?_
        refine lv_iload hx hb dX1_isDropped_19 (lv_at hl 5 rfl) ?_
        obtain ⟨y, hy⟩ := at_lt (l := sls) (i := i) (by omega)
        have hym := List.mem_of_getElem? hy
        obtain ⟨hyS0, hyc⟩ := hS y hym
        have hyS := hT1.2 y hyS0
        have hST := sT_lt hyS.b
        obtain ⟨ty, ⟨hbby, hbly, hboy, hb0y⟩, bay, sny, r1y, r2y, r3y, w1y, w2y, w3y, hcey, hbay, hsny, hr1y, hr2y, hr3y⟩ := hyS.b
        refine call_VR (As := [.int (nI i)]) (rest := []) (n := 1) C h (cA_get l D dA B Z hZ _ e0 ld _ i y.1 hA1 (at_map hy)) (lw_V q364 q365 q366 q133 q367) (by decide +kernel) (o_recv C h (RC := RJ2) (T := TJ2) (N := 3) (hcl1) rfl) (by decide) (by decide) rfl hl rfl (Nat.le_of_ble_eq_true rfl) dX1_isDropped_21 (by omega) (fun _ H locs _ h => ?_)
        refine o_cast C h (RC := RX17) (T := TX17) (N := 19) (List.mem_append_right _ hcey) rfl q1297 dX1_isDropped_24 ?_
        refine lv_astore (lv' := [(7, .ref y.1), (0, .ref (A 24)), (1, .ref ka), (2, .ref oa), (3, .ref z.1), (4, .long (lN t)), (6, .int (nI i))]) hx hb dX1_isDropped_27 hl (by decide) rfl (fun ls hl => ?_)
        refine lv_aload hx hb dX1_isDropped_29 (lv_at hl 0 rfl) ?_
        refine o_get C h (RC := RX17) (T := TX17) (N := 19) (List.mem_append_right _ hcey) rfl in_X17 1 (by decide) q1308 rfl (v := .int (nI (sType y.2))) rfl dX1_isDropped_31 ?_
        refine lv_bipush (v := nI 48) hx hb dX1_isDropped_34 (by decide) ?_
        refine n_icmp_ne (tgt := 67) hx hb (by omega) (by omega) dX1_isDropped_36 (by decide) (fun c36 => ?_) (fun c36 => ?_)
        · refine lv_iinc (v := nI (i + 1)) (lv' := [(6, .int (nI (i + 1))), (7, .ref y.1), (0, .ref (A 24)), (1, .ref ka), (2, .ref oa), (3, .ref z.1), (4, .long (lN t))]) hx hb dX1_isDropped_67 hl (k := 6) rfl (nI_add i 1) (by decide) rfl (fun ls hl => ?_)
          refine lv_goto (tgt := 3) hx hb dX1_isDropped_70 (by decide) ?_
          exact ih (i + 1) q1 G1 _ _ (by omega) hq1 hT1 (at_step (f := drpC (keyMsg kn.2.1 ++ ([180] ++ be 4 ub.length ++ ub)) kn.2.1 (mdN z.2) t) hi1 hy (by unfold drpC; first | (rw [c62, Bool.and_false, Bool.and_false]) | (rw [hcv, Bool.and_false, Bool.and_false]) | (rw [decide_eq_false (show ¬ sType y.2 = 48 by omega)]; rfl) | (rw [decide_eq_false (show ¬ mdN z.2 ≤ mdN y.2 by omega)]; simp; done))) (by omega) (by omega) (by omega) _ _ h _ (lv_sub hl [2, 3, 4, 5, 6, 0] rfl)
        · by_cases hvs : sVain y.2 = false
          · have hv9y : sVain y.2 = false := hvs
            have hmdy : (sNote y.2).1 = some (mdN y.2) := vain_md hv9y
            have hnby := sNote_nb hbby
            have hm9y := hnby.1 _ hmdy
            have he9y : enN y.2 < 4294967296 := hnby.2.1
            have hcey : (y.1, .inr (14, [.ref bay, .int (nI (sType y.2)), .int (nI (sHash y.2)), .int (nI (sEnd y.2)), .int (nI (sLeft y.2)), .ref sny, .long (lN (mdN y.2)), .long (lN (sNote y.2).2.1), .long (lN (sNote y.2).2.2.1), va_rf r1y, va_rf r2y, .int (oI (sNote y.2).2.2.2.2.2.2.1), .int (oI (sNote y.2).2.2.2.2.2.2.2.1), va_rf r3y, .int (bZ (sVain y.2)), .int ty, .int (bZ w1y), .int (bZ w2y), .int (bZ w3y)])) ∈ G1 := by
              have h9 := hcey
              rw [hmdy] at h9
              exact h9
            refine lv_aload hx hb dX1_isDropped_39 (lv_at hl 0 rfl) ?_
            refine o_get C h (RC := RX17) (T := TX17) (N := 19) (List.mem_append_right _ hcey) rfl in_X17 6 (by decide) q1318 rfl (v := .long (lN (mdN y.2))) rfl dX1_isDropped_41 ?_
            have hzS := hT1.2 z (hS z hz9).1
            obtain ⟨tz, ⟨hbbz, hblz, hboz, hb0z⟩, baz, snz, r1z, r2z, r3z, w1z, w2z, w3z, hcez, hbaz, hsnz, hr1z, hr2z, hr3z⟩ := hzS.b
            have hv9z : sVain z.2 = false := hvz
            have hmdz : (sNote z.2).1 = some (mdN z.2) := vain_md hv9z
            have hnbz := sNote_nb hbbz
            have hm9z := hnbz.1 _ hmdz
            have he9z : enN z.2 < 4294967296 := hnbz.2.1
            have hcez : (z.1, .inr (14, [.ref baz, .int (nI (sType z.2)), .int (nI (sHash z.2)), .int (nI (sEnd z.2)), .int (nI (sLeft z.2)), .ref snz, .long (lN (mdN z.2)), .long (lN (sNote z.2).2.1), .long (lN (sNote z.2).2.2.1), va_rf r1z, va_rf r2z, .int (oI (sNote z.2).2.2.2.2.2.2.1), .int (oI (sNote z.2).2.2.2.2.2.2.2.1), va_rf r3z, .int (bZ (sVain z.2)), .int tz, .int (bZ w1z), .int (bZ w2z), .int (bZ w3z)])) ∈ G1 := by
              have h9 := hcez
              rw [hmdz] at h9
              exact h9
            refine lv_aload_n hx hb dX1_isDropped_44 rfl (lv_at hl 4 rfl) ?_
            refine o_get C h (RC := RX17) (T := TX17) (N := 19) (List.mem_append_right _ hcez) rfl in_X17 6 (by decide) q1318 rfl (v := .long (lN (mdN z.2))) rfl dX1_isDropped_45 ?_
            refine n_lcmp_lt (tgt := 67) hx hb (by omega) (by omega) dX1_isDropped_48 dX1_isDropped_49 (by decide) (fun c48 => ?_) (fun c48 => ?_)
            · refine lv_iinc (v := nI (i + 1)) (lv' := [(6, .int (nI (i + 1))), (7, .ref y.1), (0, .ref (A 24)), (1, .ref ka), (2, .ref oa), (3, .ref z.1), (4, .long (lN t))]) hx hb dX1_isDropped_67 hl (k := 6) rfl (nI_add i 1) (by decide) rfl (fun ls hl => ?_)
              refine lv_goto (tgt := 3) hx hb dX1_isDropped_70 (by decide) ?_
              exact ih (i + 1) q1 G1 _ _ (by omega) hq1 hT1 (at_step (f := drpC (keyMsg kn.2.1 ++ ([180] ++ be 4 ub.length ++ ub)) kn.2.1 (mdN z.2) t) hi1 hy (by unfold drpC; first | (rw [c62, Bool.and_false, Bool.and_false]) | (rw [hcv, Bool.and_false, Bool.and_false]) | (rw [decide_eq_false (show ¬ sType y.2 = 48 by omega)]; rfl) | (rw [decide_eq_false (show ¬ mdN z.2 ≤ mdN y.2 by omega)]; simp; done))) (by omega) (by omega) (by omega) _ _ h _ (lv_sub hl [2, 3, 4, 5, 6, 0] rfl)
            · refine lv_aload_n hx hb dX1_isDropped_52 rfl (lv_at hl 1 rfl) ?_
              refine lv_aload hx hb dX1_isDropped_53 (lv_at hl 0 rfl) ?_
              refine lv_aload_n hx hb dX1_isDropped_55 rfl (lv_at hl 2 rfl) ?_
              refine lv_aload_n hx hb dX1_isDropped_56 rfl (lv_at hl 3 rfl) ?_
              refine lv_lload hx hb dX1_isDropped_57 (lv_at hl 5 rfl) ?_
              refine call_VR (As := [.ref y.1, .ref ka, .ref oa, .long (lN t)]) (rest := []) (n := 4) C h (cQ_countsU l D dA B Z hZ G1 A O sz dc rg f1 f2 q1 cx y t ka a1 a2 a3 kn oa ld.1 ub hzq (hT1.qf hQF) hq1 hyS (hT1.ob (by decide) hk) (hT1.num hkn) (hT1.us hof) hyc ht) (lw_V q1642 q1644 qs31 q129 q1645) (by decide +kernel) (o_recv C h (RC := RX1) (T := TX1) (N := 14) (List.mem_append_right _ (hT1.qf hQF).2.2) rfl) (by decide) (by decide) rfl hl rfl (Nat.le_of_ble_eq_true rfl) dX1_isDropped_59 (by omega) (fun u9 H locs hu9 h => ?_)
              obtain ⟨q2, G2⟩ := u9
              obtain ⟨hq2, hT2⟩ := hu9
              dsimp only at hq2 hT2 h
              have hT12 := hT1.trans hT2
              refine z_if_eq (tgt := 67) hx hb dX1_isDropped_62 (by decide) (fun c62 => ?_) (fun c62 => ?_)
              · refine lv_iinc (v := nI (i + 1)) (lv' := [(6, .int (nI (i + 1))), (7, .ref y.1), (0, .ref (A 24)), (1, .ref ka), (2, .ref oa), (3, .ref z.1), (4, .long (lN t))]) hx hb dX1_isDropped_67 hl (k := 6) rfl (nI_add i 1) (by decide) rfl (fun ls hl => ?_)
                refine lv_goto (tgt := 3) hx hb dX1_isDropped_70 (by decide) ?_
                exact ih (i + 1) q2 G2 _ _ (by omega) hq2 hT12 (at_step (f := drpC (keyMsg kn.2.1 ++ ([180] ++ be 4 ub.length ++ ub)) kn.2.1 (mdN z.2) t) hi1 hy (by unfold drpC; first | (rw [c62, Bool.and_false, Bool.and_false]) | (rw [hcv, Bool.and_false, Bool.and_false]) | (rw [decide_eq_false (show ¬ sType y.2 = 48 by omega)]; rfl) | (rw [decide_eq_false (show ¬ mdN z.2 ≤ mdN y.2 by omega)]; simp; done))) (by omega) (by omega) (by omega) _ _ h _ (lv_sub hl [2, 3, 4, 5, 6, 0] rfl)
              · refine lv_iconst (v := nI 1) hx hb dX1_isDropped_65 (by decide) ?_
                subst hQ
                refine n_top (y := bZ true) rfl ?_
                exact ret_z C hr hlocks h (q2, G2) (⟨hq2, hT12⟩) (by rw [any_hit (f := drpC (keyMsg kn.2.1 ++ ([180] ++ be 4 ub.length ++ ub)) kn.2.1 (mdN z.2) t) hy (by unfold drpC; first | (rw [decide_eq_true (show sType y.2 = 48 by omega), decide_eq_true (show mdN z.2 ≤ mdN y.2 by omega), c62]; rfl) | (rw [hcv] at c62; cases c62))]) rfl (by omega) (by omega) dX1_isDropped_66
          · have hvt : sVain y.2 = true := by cases q9 : sVain y.2 with | true => rfl | false => exact absurd q9 hvs
            have hcv := cntC_v (msg := (keyMsg kn.2.1 ++ ([180] ++ be 4 ub.length ++ ub))) (kb := kn.2.1) (t := t) hvt
            refine lv_aload hx hb dX1_isDropped_39 (lv_at hl 0 rfl) ?_
            refine o_get C h (RC := RX17) (T := TX17) (N := 19) (List.mem_append_right _ hcey) rfl in_X17 6 (by decide) q1318 rfl (v := .long (oL (sNote y.2).1)) rfl dX1_isDropped_41 ?_
            have hzS := hT1.2 z (hS z hz9).1
            obtain ⟨tz, ⟨hbbz, hblz, hboz, hb0z⟩, baz, snz, r1z, r2z, r3z, w1z, w2z, w3z, hcez, hbaz, hsnz, hr1z, hr2z, hr3z⟩ := hzS.b
            have hv9z : sVain z.2 = false := hvz
            have hmdz : (sNote z.2).1 = some (mdN z.2) := vain_md hv9z
            have hnbz := sNote_nb hbbz
            have hm9z := hnbz.1 _ hmdz
            have he9z : enN z.2 < 4294967296 := hnbz.2.1
            have hcez : (z.1, .inr (14, [.ref baz, .int (nI (sType z.2)), .int (nI (sHash z.2)), .int (nI (sEnd z.2)), .int (nI (sLeft z.2)), .ref snz, .long (lN (mdN z.2)), .long (lN (sNote z.2).2.1), .long (lN (sNote z.2).2.2.1), va_rf r1z, va_rf r2z, .int (oI (sNote z.2).2.2.2.2.2.2.1), .int (oI (sNote z.2).2.2.2.2.2.2.2.1), va_rf r3z, .int (bZ (sVain z.2)), .int tz, .int (bZ w1z), .int (bZ w2z), .int (bZ w3z)])) ∈ G1 := by
              have h9 := hcez
              rw [hmdz] at h9
              exact h9
            refine lv_aload_n hx hb dX1_isDropped_44 rfl (lv_at hl 4 rfl) ?_
            refine o_get C h (RC := RX17) (T := TX17) (N := 19) (List.mem_append_right _ hcez) rfl in_X17 6 (by decide) q1318 rfl (v := .long (lN (mdN z.2))) rfl dX1_isDropped_45 ?_
            refine k_lcmp_lt (tgt := 67) hx hb dX1_isDropped_48 dX1_isDropped_49 (by decide) (fun c48 => ?_) (fun c48 => ?_)
            · refine lv_iinc (v := nI (i + 1)) (lv' := [(6, .int (nI (i + 1))), (7, .ref y.1), (0, .ref (A 24)), (1, .ref ka), (2, .ref oa), (3, .ref z.1), (4, .long (lN t))]) hx hb dX1_isDropped_67 hl (k := 6) rfl (nI_add i 1) (by decide) rfl (fun ls hl => ?_)
              refine lv_goto (tgt := 3) hx hb dX1_isDropped_70 (by decide) ?_
              exact ih (i + 1) q1 G1 _ _ (by omega) hq1 hT1 (at_step (f := drpC (keyMsg kn.2.1 ++ ([180] ++ be 4 ub.length ++ ub)) kn.2.1 (mdN z.2) t) hi1 hy (by unfold drpC; first | (rw [c62, Bool.and_false, Bool.and_false]) | (rw [hcv, Bool.and_false, Bool.and_false]) | (rw [decide_eq_false (show ¬ sType y.2 = 48 by omega)]; rfl) | (rw [decide_eq_false (show ¬ mdN z.2 ≤ mdN y.2 by omega)]; simp; done))) (by omega) (by omega) (by omega) _ _ h _ (lv_sub hl [2, 3, 4, 5, 6, 0] rfl)
            · refine lv_aload_n hx hb dX1_isDropped_52 rfl (lv_at hl 1 rfl) ?_
              refine lv_aload hx hb dX1_isDropped_53 (lv_at hl 0 rfl) ?_
              refine lv_aload_n hx hb dX1_isDropped_55 rfl (lv_at hl 2 rfl) ?_
              refine lv_aload_n hx hb dX1_isDropped_56 rfl (lv_at hl 3 rfl) ?_
              refine lv_lload hx hb dX1_isDropped_57 (lv_at hl 5 rfl) ?_
              refine call_VR (As := [.ref y.1, .ref ka, .ref oa, .long (lN t)]) (rest := []) (n := 4) C h (cQ_countsU l D dA B Z hZ G1 A O sz dc rg f1 f2 q1 cx y t ka a1 a2 a3 kn oa ld.1 ub hzq (hT1.qf hQF) hq1 hyS (hT1.ob (by decide) hk) (hT1.num hkn) (hT1.us hof) hyc ht) (lw_V q1642 q1644 qs31 q129 q1645) (by decide +kernel) (o_recv C h (RC := RX1) (T := TX1) (N := 14) (List.mem_append_right _ (hT1.qf hQF).2.2) rfl) (by decide) (by decide) rfl hl rfl (Nat.le_of_ble_eq_true rfl) dX1_isDropped_59 (by omega) (fun u9 H locs hu9 h => ?_)
              obtain ⟨q2, G2⟩ := u9
              obtain ⟨hq2, hT2⟩ := hu9
              dsimp only at hq2 hT2 h
              have hT12 := hT1.trans hT2
              refine z_if_eq (tgt := 67) hx hb dX1_isDropped_62 (by decide) (fun c62 => ?_) (fun c62 => ?_)
              · refine lv_iinc (v := nI (i + 1)) (lv' := [(6, .int (nI (i + 1))), (7, .ref y.1), (0, .ref (A 24)), (1, .ref ka), (2, .ref oa), (3, .ref z.1), (4, .long (lN t))]) hx hb dX1_isDropped_67 hl (k := 6) rfl (nI_add i 1) (by decide) rfl (fun ls hl => ?_)
                refine lv_goto (tgt := 3) hx hb dX1_isDropped_70 (by decide) ?_
                exact ih (i + 1) q2 G2 _ _ (by omega) hq2 hT12 (at_step (f := drpC (keyMsg kn.2.1 ++ ([180] ++ be 4 ub.length ++ ub)) kn.2.1 (mdN z.2) t) hi1 hy (by unfold drpC; first | (rw [c62, Bool.and_false, Bool.and_false]) | (rw [hcv, Bool.and_false, Bool.and_false]) | (rw [decide_eq_false (show ¬ sType y.2 = 48 by omega)]; rfl) | (rw [decide_eq_false (show ¬ mdN z.2 ≤ mdN y.2 by omega)]; simp; done))) (by omega) (by omega) (by omega) _ _ h _ (lv_sub hl [2, 3, 4, 5, 6, 0] rfl)
              · refine lv_iconst (v := nI 1) hx hb dX1_isDropped_65 (by decide) ?_
                subst hQ
                refine n_top (y := bZ true) rfl ?_
                exact ret_z C hr hlocks h (q2, G2) (⟨hq2, hT12⟩) (by rw [any_hit (f := drpC (keyMsg kn.2.1 ++ ([180] ++ be 4 ub.length ++ ub)) kn.2.1 (mdN z.2) t) hy (by unfold drpC; first | (rw [decide_eq_true (show sType y.2 = 48 by omega), decide_eq_true (show mdN z.2 ≤ mdN y.2 by omega), c62]; rfl) | (rw [hcv] at c62; cases c62))]) rfl (by omega) (by omega) dX1_isDropped_66
  exact loop _ 0 q G _ _ (by omega) hqo TR.rf (fun j y hj => absurd hj (Nat.not_lt_zero _)) (by omega) (by omega) (Nat.lt_succ_self _) _ _ h _ (lv_sub hl [1, 2, 3, 4, 5, 0] rfl)
set_option maxHeartbeats 400000 in
set_option maxRecDepth 100000 in
theorem cQ_latestK (l : Launch) (D : va_G) (dA : Nat → ClassId) (B : Nat) (Z : State → Prop) (hZ : Stab B Z) (G : va_W) (A : Nat → Nat) (O : va_W) (sz dc rg f1 f2 : Nat) (q : QS) (cx : CX) (ka a2 a3 : Nat) (kn : NBr) (e0 : Nat) (ld : LD) (sls : List SL) (lo hi t : Nat) (hzq : ZQ B f1 f2 Z) (hQF : QF dA A sz dc rg G) (hqo : QOk q) (hk : (ka, .inr (6, [.ref ld.1, .ref kn.1, .ref a2, .ref a3])) ∈ G) (hkn : NumIn dA G kn) (hA : LIn dA e0 G ld (sls.map Prod.fst)) (hS : ∀ y ∈ sls, SealT dA cx G y ∧ cx y.1 = (keyMsg kn.2.1, kn.2.1)) (ht : t < 4294967296) (hlo : lo < 256) (hhi : hi < 256) :
    Ct (S := QS × va_W) l D dA B Z yX1_latest cX1_latest 10 (some ((.object "SignetRing$Seal"))) 10 (2 * sls.length) (256 * sls.length) [.ref (A 24), .ref ka, .ref ka, .int (nI lo), .int (nI hi), .long (lN t)] (qW dA A O q ++ G) (fun u => QOk u.1 ∧ TR dA cx G u.2) (fun _ => some (va_rf ((latC (keyMsg kn.2.1) kn.2.1 lo hi t sls).map Prod.fst))) (fun u => qW dA A O u.1 ++ u.2) := by
  refine Ct.mk2 (by decide) (Nat.le_of_ble_eq_true rfl) hZ ?_
  intro p e R s m args below meth c ls Q C hr hlocks hin hQ hl h
  have C0 := C
  obtain ⟨hx, hb, hml, hown, hts, -⟩ := C0
  have hl : lv_has ls 10 [(0, .ref (A 24)), (1, .ref ka), (2, .ref ka), (3, .int (nI lo)), (4, .int (nI hi)), (5, .long (lN t))] := hl
  refine lv_null hx hb dX1_latest_0 ?_
  refine lv_astoreN (lv' := [(7, .null), (0, .ref (A 24)), (1, .ref ka), (2, .ref ka), (3, .int (nI lo)), (4, .int (nI hi)), (5, .long (lN t))]) hx hb dX1_latest_1 hl (by decide) rfl (fun ls hl => ?_)
  refine lv_iconst (v := nI 0) hx hb dX1_latest_3 (by decide) ?_
  refine lv_istore (lv' := [(8, .int (nI 0)), (7, .null), (0, .ref (A 24)), (1, .ref ka), (2, .ref ka), (3, .int (nI lo)), (4, .int (nI hi)), (5, .long (lN t))]) hx hb dX1_latest_4 hl (by decide) rfl (fun ls hl => ?_)
  have loop : ∀ (nn : Nat) (i : Nat) (o : Option SL) (q1 : QS) (G1 : va_W) (cc cs : Nat), (i ≤ sls.length) → ((sls.take i).foldl (latF (keyMsg kn.2.1) kn.2.1 lo hi t) none = o) → (∀ b, o = some b → b ∈ sls ∧ sVain b.2 = false) → (QOk q1) → (TR dA cx G G1) → (cc ≤ 2 * i) → (cs ≤ 256 * i) → sls.length - i < nn → ∀ (H : Heap) (locs : List Loc), Wd D B s ((qW dA A O q1 ++ G1)) H locs → ∀ (ls : Array Slot), lv_has ls 10 [(0, .ref (A 24)), (1, .ref ka), (2, .ref ka), (3, .int (nI lo)), (4, .int (nI hi)), (5, .long (lN t)), (7, va_rf (o.map Prod.fst)), (8, .int (nI i))] → W p l e R s m args below meth c H locs cc cs Q (F0 m 6 ls []) := by
    intro nn
    induction nn with
    | zero => intro i  o  q1  G1  cc cs  hi0 hi1 hi2 hq1 hT1 hcc hcs hme; exact absurd hme (Nat.not_lt_zero _)
    | succ nn ih =>
      intro i  o  q1  G1  cc cs  hi0 hi1 hi2 hq1 hT1 hcc hcs hme H locs h ls hl
      have hA1 : LIn dA e0 (qW dA A O q1 ++ G1) ld (sls.map Prod.fst) := (hT1.al hA).sub (fun z hz => List.mem_append_right _ ((hT1.al hA).1 z hz))
      obtain ⟨ed1, hcl1⟩ := hA1.cell
      have hln1 := hA1.len
      rw [List.length_map] at hln1
      refine lv_iload hx hb dX1_latest_6 (lv_at hl 7 rfl) ?_
      refine lv_aload_n hx hb dX1_latest_8 rfl (lv_at hl 2 rfl) ?_
      refine o_get C h (RC := RX9) (T := TX9) (N := 4) (List.mem_append_right _ (hT1.ob (by decide) hk)) rfl in_X9 0 (by decide) q411 rfl (v := .ref ld.1) rfl dX1_latest_9 ?_
      refine call_VR (As := []) (rest := [.int (nI i)]) (n := 0) C h (cA_size l D dA B Z hZ _ e0 ld _ hA1) (lw_V q360 q361 q362 q133 q363) (by decide +kernel) (o_recv C h (RC := RJ2) (T := TJ2) (N := 3) (hcl1) rfl) (by decide) (by decide) rfl hl rfl (Nat.le_of_ble_eq_true rfl) dX1_latest_12 (by omega) (fun _ H locs _ h => ?_)
      refine n_top (y := nI sls.length) (by rw [List.length_map]) ?_
      refine n_icmp_ge (tgt := 93) hx hb (by omega) (by omega) dX1_latest_15 (by decide) (fun c15 => ?_) (fun c15 => ?_)
      · refine q_aload hx hb dX1_latest_93 (lv_at hl 6 rfl) ?_
        subst hQ
        rw [List.take_of_length_le (show sls.length ≤ i by omega)] at hi1
        exact ret_a C hr (Or.inl ⟨_, rfl⟩) hlocks h (q1, G1) (⟨hq1, hT1⟩) (va_rf_or _) (by unfold latC; rw [hi1]) rfl (by omega) (by omega) dX1_latest_95
      · refine lv_aload_n hx hb dX1_latest_18 rfl (lv_at hl 2 rfl) ?_
        refine o_get C h (RC := RX9) (T := TX9) (N := 4) (List.mem_append_right _ (hT1.ob (by decide) hk)) rfl in_X9 0 (by decide) q411 rfl (v := .ref ld.1) rfl dX1_latest_19 ?_
        refine lv_iload hx hb dX1_latest_22 (lv_at hl 7 rfl) ?_
        obtain ⟨y, hy⟩ := at_lt (l := sls) (i := i) (by omega)
        have hym := List.mem_of_getElem? hy
        obtain ⟨hyS0, hyc⟩ := hS y hym
        have hyS := hT1.2 y hyS0
        have hST := sT_lt hyS.b
        obtain ⟨ty, ⟨hbby, hbly, hboy, hb0y⟩, bay, sny, r1y, r2y, r3y, w1y, w2y, w3y, hcey, hbay, hsny, hr1y, hr2y, hr3y⟩ := hyS.b
        refine call_VR (As := [.int (nI i)]) (rest := []) (n := 1) C h (cA_get l D dA B Z hZ _ e0 ld _ i y.1 hA1 (at_map hy)) (lw_V q364 q365 q366 q133 q367) (by decide +kernel) (o_recv C h (RC := RJ2) (T := TJ2) (N := 3) (hcl1) rfl) (by decide) (by decide) rfl hl rfl (Nat.le_of_ble_eq_true rfl) dX1_latest_24 (by omega) (fun _ H locs _ h => ?_)
        refine o_cast C h (RC := RX17) (T := TX17) (N := 19) (List.mem_append_right _ hcey) rfl q1297 dX1_latest_27 ?_
        refine lv_astore (lv' := [(9, .ref y.1), (0, .ref (A 24)), (1, .ref ka), (2, .ref ka), (3, .int (nI lo)), (4, .int (nI hi)), (5, .long (lN t)), (7, va_rf (o.map Prod.fst)), (8, .int (nI i))]) hx hb dX1_latest_30 hl (by decide) rfl (fun ls hl => ?_)
        refine lv_aload hx hb dX1_latest_32 (lv_at hl 0 rfl) ?_
        refine o_get C h (RC := RX17) (T := TX17) (N := 19) (List.mem_append_right _ hcey) rfl in_X17 1 (by decide) q1308 rfl (v := .int (nI (sType y.2))) rfl dX1_latest_34 ?_
        refine lv_iload_n hx hb dX1_latest_37 rfl (lv_at hl 4 rfl) ?_
        refine n_icmp_lt (tgt := 87) hx hb (by omega) (by omega) dX1_latest_38 (by decide) (fun c38 => ?_) (fun c38 => ?_)
        · refine lv_iinc (v := nI (i + 1)) (lv' := [(8, .int (nI (i + 1))), (9, .ref y.1), (0, .ref (A 24)), (1, .ref ka), (2, .ref ka), (3, .int (nI lo)), (4, .int (nI hi)), (5, .long (lN t)), (7, va_rf (o.map Prod.fst))]) hx hb dX1_latest_87 hl (k := 8) rfl (nI_add i 1) (by decide) (by generalize (o.map Prod.fst) = z9; cases z9 <;> rfl) (fun ls hl => ?_)
          refine lv_goto (tgt := 6) hx hb dX1_latest_90 (by decide) ?_
          have hstep : latF (keyMsg kn.2.1) kn.2.1 lo hi t o y = o := by
            unfold latF
            exact if_neg (fun z9 => by
              obtain ⟨⟨z1, z2⟩, z3, z4⟩ := z9
              first | omega | (rw [c80] at z3; cases z3) | (rw [hcv] at z3; cases z3) | (have z5 : mdN b.2 ≤ mdN y.2 := z4; omega))
          exact ih (i + 1) o q1 G1 _ _ (by omega) (by rw [fold_step hy, hi1, hstep]) hi2 hq1 hT1 (by omega) (by omega) (by omega) _ _ h _ (lv_sub hl [2, 3, 4, 5, 6, 7, 8, 0] rfl)
        · refine lv_aload hx hb dX1_latest_41 (lv_at hl 0 rfl) ?_
          refine o_get C h (RC := RX17) (T := TX17) (N := 19) (List.mem_append_right _ hcey) rfl in_X17 1 (by decide) q1308 rfl (v := .int (nI (sType y.2))) rfl dX1_latest_43 ?_
          refine lv_iload hx hb dX1_latest_46 (lv_at hl 5 rfl) ?_
          refine n_icmp_gt (tgt := 87) hx hb (by omega) (by omega) dX1_latest_48 (by decide) (fun c48 => ?_) (fun c48 => ?_)
          · refine lv_iinc (v := nI (i + 1)) (lv' := [(8, .int (nI (i + 1))), (9, .ref y.1), (0, .ref (A 24)), (1, .ref ka), (2, .ref ka), (3, .int (nI lo)), (4, .int (nI hi)), (5, .long (lN t)), (7, va_rf (o.map Prod.fst))]) hx hb dX1_latest_87 hl (k := 8) rfl (nI_add i 1) (by decide) (by generalize (o.map Prod.fst) = z9; cases z9 <;> rfl) (fun ls hl => ?_)
            refine lv_goto (tgt := 6) hx hb dX1_latest_90 (by decide) ?_
            have hstep : latF (keyMsg kn.2.1) kn.2.1 lo hi t o y = o := by
              unfold latF
              exact if_neg (fun z9 => by
                obtain ⟨⟨z1, z2⟩, z3, z4⟩ := z9
                first | omega | (rw [c80] at z3; cases z3) | (rw [hcv] at z3; cases z3) | (have z5 : mdN b.2 ≤ mdN y.2 := z4; omega))
            exact ih (i + 1) o q1 G1 _ _ (by omega) (by rw [fold_step hy, hi1, hstep]) hi2 hq1 hT1 (by omega) (by omega) (by omega) _ _ h _ (lv_sub hl [2, 3, 4, 5, 6, 7, 8, 0] rfl)
          · refine q_aload hx hb dX1_latest_51 (lv_at hl 7 rfl) ?_
            refine q_ifnull (tgt := 70) hx hb dX1_latest_53 (by decide) (fun c53 => ?_) (fun a53 c53 => ?_)
            · have hob : o = none := by cases o with | none => rfl | some b => cases c53
              rw [c53] at hl
              have hl : lv_has ls 10 [(9, .ref y.1), (0, .ref (A 24)), (1, .ref ka), (2, .ref ka), (3, .int (nI lo)), (4, .int (nI hi)), (5, .long (lN t)), (7, va_rf ((none : Option SL).map Prod.fst)), (8, .int (nI i))] := hl
              refine lv_aload_n hx hb dX1_latest_70 rfl (lv_at hl 1 rfl) ?_
              refine lv_aload hx hb dX1_latest_71 (lv_at hl 0 rfl) ?_
              refine lv_aload_n hx hb dX1_latest_73 rfl (lv_at hl 2 rfl) ?_
              refine lv_aload_n hx hb dX1_latest_74 rfl (lv_at hl 3 rfl) ?_
              refine lv_lload hx hb dX1_latest_75 (lv_at hl 6 rfl) ?_
              refine call_VR (As := [.ref y.1, .ref ka, .ref ka, .long (lN t)]) (rest := []) (n := 4) C h (cQ_countsK l D dA B Z hZ G1 A O sz dc rg f1 f2 q1 cx y t ka ld.1 a2 a3 kn hzq (hT1.qf hQF) hq1 hyS (hT1.ob (by decide) hk) (hT1.num hkn) hyc ht) (lw_V q1642 q1644 qs31 q129 q1645) (by decide +kernel) (o_recv C h (RC := RX1) (T := TX1) (N := 14) (List.mem_append_right _ (hT1.qf hQF).2.2) rfl) (by decide) (by decide) rfl hl rfl (Nat.le_of_ble_eq_true rfl) dX1_latest_77 (by omega) (fun u9 H locs hu9 h => ?_)
              obtain ⟨q2, G2⟩ := u9
              obtain ⟨hq2, hT2⟩ := hu9
              dsimp only at hq2 hT2 h
              have hT12 := hT1.trans hT2
              refine z_if_eq (tgt := 87) hx hb dX1_latest_80 (by decide) (fun c80 => ?_) (fun c80 => ?_)
              · refine lv_iinc (v := nI (i + 1)) (lv' := [(8, .int (nI (i + 1))), (9, .ref y.1), (0, .ref (A 24)), (1, .ref ka), (2, .ref ka), (3, .int (nI lo)), (4, .int (nI hi)), (5, .long (lN t)), (7, va_rf ((none : Option SL).map Prod.fst))]) hx hb dX1_latest_87 hl (k := 8) rfl (nI_add i 1) (by decide) (by generalize ((none : Option SL).map Prod.fst) = z9; cases z9 <;> rfl) (fun ls hl => ?_)
                refine lv_goto (tgt := 6) hx hb dX1_latest_90 (by decide) ?_
                rw [hob] at hi1
                have hstep : latF (keyMsg kn.2.1) kn.2.1 lo hi t none y = none := by
                  unfold latF
                  exact if_neg (fun z9 => by
                    obtain ⟨⟨z1, z2⟩, z3, z4⟩ := z9
                    first | omega | (rw [c80] at z3; cases z3) | (rw [hcv] at z3; cases z3) | (have z5 : mdN b.2 ≤ mdN y.2 := z4; omega))
                exact ih (i + 1) none q2 G2 _ _ (by omega) (by rw [fold_step hy, hi1, hstep]) (fun b9 h9 => by cases h9) hq2 hT12 (by omega) (by omega) (by omega) _ _ h _ (lv_sub hl [2, 3, 4, 5, 6, 7, 8, 0] rfl)
              · refine lv_aload hx hb dX1_latest_83 (lv_at hl 0 rfl) ?_
                refine lv_astore (lv' := [(7, .ref y.1), (9, .ref y.1), (0, .ref (A 24)), (1, .ref ka), (2, .ref ka), (3, .int (nI lo)), (4, .int (nI hi)), (5, .long (lN t)), (8, .int (nI i))]) hx hb dX1_latest_85 hl (by decide) rfl (fun ls hl => ?_)
                refine lv_iinc (v := nI (i + 1)) (lv' := [(8, .int (nI (i + 1))), (7, .ref y.1), (9, .ref y.1), (0, .ref (A 24)), (1, .ref ka), (2, .ref ka), (3, .int (nI lo)), (4, .int (nI hi)), (5, .long (lN t))]) hx hb dX1_latest_87 hl (k := 8) rfl (nI_add i 1) (by decide) rfl (fun ls hl => ?_)
                refine lv_goto (tgt := 6) hx hb dX1_latest_90 (by decide) ?_
                rw [hob] at hi1
                have hstep : latF (keyMsg kn.2.1) kn.2.1 lo hi t none y = (some y) := by
                  unfold latF
                  first | exact if_pos ⟨⟨by omega, by omega⟩, c80, by first | exact Nat.zero_le _ | (show mdN b.2 ≤ mdN y.2; omega)⟩ | (exfalso; rw [hcv] at c80; cases c80)
                exact ih (i + 1) (some y) q2 G2 _ _ (by omega) (by rw [fold_step hy, hi1, hstep]) (fun b9 h9 => by rw [← Option.some.inj h9]; exact ⟨hym, cnt_nv c80⟩) hq2 hT12 (by omega) (by omega) (by omega) _ _ h _ (lv_sub hl [3, 4, 5, 6, 7, 8, 1, 0] rfl)
            · obtain ⟨b, hob, hb8⟩ : ∃ b, o = some b ∧ b.1 = a53 := by cases o with | none => cases c53 | some b => exact ⟨b, rfl, Option.some.inj c53⟩
              rw [c53, ← hb8] at hl
              have hl : lv_has ls 10 [(9, .ref y.1), (0, .ref (A 24)), (1, .ref ka), (2, .ref ka), (3, .int (nI lo)), (4, .int (nI hi)), (5, .long (lN t)), (7, .ref b.1), (8, .int (nI i))] := hl
              obtain ⟨hbm, hbv⟩ := hi2 b hob
              have hbS := hT1.2 b (hS b hbm).1
              obtain ⟨tb, ⟨hbbb, hblb, hbob, hb0b⟩, bab, snb, r1b, r2b, r3b, w1b, w2b, w3b, hceb, hbab, hsnb, hr1b, hr2b, hr3b⟩ := hbS.b
              have hv9b : sVain b.2 = false := hbv
              have hmdb : (sNote b.2).1 = some (mdN b.2) := vain_md hv9b
              have hnbb := sNote_nb hbbb
              have hm9b := hnbb.1 _ hmdb
              have he9b : enN b.2 < 4294967296 := hnbb.2.1
              have hceb : (b.1, .inr (14, [.ref bab, .int (nI (sType b.2)), .int (nI (sHash b.2)), .int (nI (sEnd b.2)), .int (nI (sLeft b.2)), .ref snb, .long (lN (mdN b.2)), .long (lN (sNote b.2).2.1), .long (lN (sNote b.2).2.2.1), va_rf r1b, va_rf r2b, .int (oI (sNote b.2).2.2.2.2.2.2.1), .int (oI (sNote b.2).2.2.2.2.2.2.2.1), va_rf r3b, .int (bZ (sVain b.2)), .int tb, .int (bZ w1b), .int (bZ w2b), .int (bZ w3b)])) ∈ G1 := by
                have h9 := hceb
                rw [hmdb] at h9
                exact h9
              by_cases hvs : sVain y.2 = false
              · have hv9y : sVain y.2 = false := hvs
                have hmdy : (sNote y.2).1 = some (mdN y.2) := vain_md hv9y
                have hnby := sNote_nb hbby
                have hm9y := hnby.1 _ hmdy
                have he9y : enN y.2 < 4294967296 := hnby.2.1
                have hcey : (y.1, .inr (14, [.ref bay, .int (nI (sType y.2)), .int (nI (sHash y.2)), .int (nI (sEnd y.2)), .int (nI (sLeft y.2)), .ref sny, .long (lN (mdN y.2)), .long (lN (sNote y.2).2.1), .long (lN (sNote y.2).2.2.1), va_rf r1y, va_rf r2y, .int (oI (sNote y.2).2.2.2.2.2.2.1), .int (oI (sNote y.2).2.2.2.2.2.2.2.1), va_rf r3y, .int (bZ (sVain y.2)), .int ty, .int (bZ w1y), .int (bZ w2y), .int (bZ w3y)])) ∈ G1 := by
                  have h9 := hcey
                  rw [hmdy] at h9
                  exact h9
                refine lv_aload hx hb dX1_latest_56 (lv_at hl 0 rfl) ?_
                refine o_get C h (RC := RX17) (T := TX17) (N := 19) (List.mem_append_right _ hcey) rfl in_X17 6 (by decide) q1318 rfl (v := .long (lN (mdN y.2))) rfl dX1_latest_58 ?_
                refine lv_aload hx hb dX1_latest_61 (lv_at hl 7 rfl) ?_
                refine o_get C h (RC := RX17) (T := TX17) (N := 19) (List.mem_append_right _ hceb) rfl in_X17 6 (by decide) q1318 rfl (v := .long (lN (mdN b.2))) rfl dX1_latest_63 ?_
                refine n_lcmp_lt (tgt := 87) hx hb (by omega) (by omega) dX1_latest_66 dX1_latest_67 (by decide) (fun c66 => ?_) (fun c66 => ?_)
                · refine lv_iinc (v := nI (i + 1)) (lv' := [(8, .int (nI (i + 1))), (9, .ref y.1), (0, .ref (A 24)), (1, .ref ka), (2, .ref ka), (3, .int (nI lo)), (4, .int (nI hi)), (5, .long (lN t)), (7, .ref b.1)]) hx hb dX1_latest_87 hl (k := 8) rfl (nI_add i 1) (by decide) rfl (fun ls hl => ?_)
                  refine lv_goto (tgt := 6) hx hb dX1_latest_90 (by decide) ?_
                  rw [hob] at hi1
                  have hstep : latF (keyMsg kn.2.1) kn.2.1 lo hi t (some b) y = (some b) := by
                    unfold latF
                    exact if_neg (fun z9 => by
                      obtain ⟨⟨z1, z2⟩, z3, z4⟩ := z9
                      first | omega | (rw [c80] at z3; cases z3) | (rw [hcv] at z3; cases z3) | (have z5 : mdN b.2 ≤ mdN y.2 := z4; omega))
                  exact ih (i + 1) (some b) q1 G1 _ _ (by omega) (by rw [fold_step hy, hi1, hstep]) (fun b9 h9 => hi2 b9 (by rw [hob]; exact h9)) hq1 hT1 (by omega) (by omega) (by omega) _ _ h _ (lv_sub hl [2, 3, 4, 5, 6, 7, 8, 0] rfl)
                · refine lv_aload_n hx hb dX1_latest_70 rfl (lv_at hl 1 rfl) ?_
                  refine lv_aload hx hb dX1_latest_71 (lv_at hl 0 rfl) ?_
                  refine lv_aload_n hx hb dX1_latest_73 rfl (lv_at hl 2 rfl) ?_
                  refine lv_aload_n hx hb dX1_latest_74 rfl (lv_at hl 3 rfl) ?_
                  refine lv_lload hx hb dX1_latest_75 (lv_at hl 6 rfl) ?_
                  refine call_VR (As := [.ref y.1, .ref ka, .ref ka, .long (lN t)]) (rest := []) (n := 4) C h (cQ_countsK l D dA B Z hZ G1 A O sz dc rg f1 f2 q1 cx y t ka ld.1 a2 a3 kn hzq (hT1.qf hQF) hq1 hyS (hT1.ob (by decide) hk) (hT1.num hkn) hyc ht) (lw_V q1642 q1644 qs31 q129 q1645) (by decide +kernel) (o_recv C h (RC := RX1) (T := TX1) (N := 14) (List.mem_append_right _ (hT1.qf hQF).2.2) rfl) (by decide) (by decide) rfl hl rfl (Nat.le_of_ble_eq_true rfl) dX1_latest_77 (by omega) (fun u9 H locs hu9 h => ?_)
                  obtain ⟨q2, G2⟩ := u9
                  obtain ⟨hq2, hT2⟩ := hu9
                  dsimp only at hq2 hT2 h
                  have hT12 := hT1.trans hT2
                  refine z_if_eq (tgt := 87) hx hb dX1_latest_80 (by decide) (fun c80 => ?_) (fun c80 => ?_)
                  · refine lv_iinc (v := nI (i + 1)) (lv' := [(8, .int (nI (i + 1))), (9, .ref y.1), (0, .ref (A 24)), (1, .ref ka), (2, .ref ka), (3, .int (nI lo)), (4, .int (nI hi)), (5, .long (lN t)), (7, .ref b.1)]) hx hb dX1_latest_87 hl (k := 8) rfl (nI_add i 1) (by decide) rfl (fun ls hl => ?_)
                    refine lv_goto (tgt := 6) hx hb dX1_latest_90 (by decide) ?_
                    rw [hob] at hi1
                    have hstep : latF (keyMsg kn.2.1) kn.2.1 lo hi t (some b) y = (some b) := by
                      unfold latF
                      exact if_neg (fun z9 => by
                        obtain ⟨⟨z1, z2⟩, z3, z4⟩ := z9
                        first | omega | (rw [c80] at z3; cases z3) | (rw [hcv] at z3; cases z3) | (have z5 : mdN b.2 ≤ mdN y.2 := z4; omega))
                    exact ih (i + 1) (some b) q2 G2 _ _ (by omega) (by rw [fold_step hy, hi1, hstep]) (fun b9 h9 => hi2 b9 (by rw [hob]; exact h9)) hq2 hT12 (by omega) (by omega) (by omega) _ _ h _ (lv_sub hl [2, 3, 4, 5, 6, 7, 8, 0] rfl)
                  · refine lv_aload hx hb dX1_latest_83 (lv_at hl 0 rfl) ?_
                    refine lv_astore (lv' := [(7, .ref y.1), (9, .ref y.1), (0, .ref (A 24)), (1, .ref ka), (2, .ref ka), (3, .int (nI lo)), (4, .int (nI hi)), (5, .long (lN t)), (8, .int (nI i))]) hx hb dX1_latest_85 hl (by decide) rfl (fun ls hl => ?_)
                    refine lv_iinc (v := nI (i + 1)) (lv' := [(8, .int (nI (i + 1))), (7, .ref y.1), (9, .ref y.1), (0, .ref (A 24)), (1, .ref ka), (2, .ref ka), (3, .int (nI lo)), (4, .int (nI hi)), (5, .long (lN t))]) hx hb dX1_latest_87 hl (k := 8) rfl (nI_add i 1) (by decide) rfl (fun ls hl => ?_)
                    refine lv_goto (tgt := 6) hx hb dX1_latest_90 (by decide) ?_
                    rw [hob] at hi1
                    have hstep : latF (keyMsg kn.2.1) kn.2.1 lo hi t (some b) y = (some y) := by
                      unfold latF
                      first | exact if_pos ⟨⟨by omega, by omega⟩, c80, by first | exact Nat.zero_le _ | (show mdN b.2 ≤ mdN y.2; omega)⟩ | (exfalso; rw [hcv] at c80; cases c80)
                    exact ih (i + 1) (some y) q2 G2 _ _ (by omega) (by rw [fold_step hy, hi1, hstep]) (fun b9 h9 => by rw [← Option.some.inj h9]; exact ⟨hym, cnt_nv c80⟩) hq2 hT12 (by omega) (by omega) (by omega) _ _ h _ (lv_sub hl [3, 4, 5, 6, 7, 8, 1, 0] rfl)
              · have hvt : sVain y.2 = true := by cases q9 : sVain y.2 with | true => rfl | false => exact absurd q9 hvs
                have hcv := cntC_v (msg := (keyMsg kn.2.1)) (kb := kn.2.1) (t := t) hvt
                refine lv_aload hx hb dX1_latest_56 (lv_at hl 0 rfl) ?_
                refine o_get C h (RC := RX17) (T := TX17) (N := 19) (List.mem_append_right _ hcey) rfl in_X17 6 (by decide) q1318 rfl (v := .long (oL (sNote y.2).1)) rfl dX1_latest_58 ?_
                refine lv_aload hx hb dX1_latest_61 (lv_at hl 7 rfl) ?_
                refine o_get C h (RC := RX17) (T := TX17) (N := 19) (List.mem_append_right _ hceb) rfl in_X17 6 (by decide) q1318 rfl (v := .long (lN (mdN b.2))) rfl dX1_latest_63 ?_
                refine k_lcmp_lt (tgt := 87) hx hb dX1_latest_66 dX1_latest_67 (by decide) (fun c66 => ?_) (fun c66 => ?_)
                · refine lv_iinc (v := nI (i + 1)) (lv' := [(8, .int (nI (i + 1))), (9, .ref y.1), (0, .ref (A 24)), (1, .ref ka), (2, .ref ka), (3, .int (nI lo)), (4, .int (nI hi)), (5, .long (lN t)), (7, .ref b.1)]) hx hb dX1_latest_87 hl (k := 8) rfl (nI_add i 1) (by decide) rfl (fun ls hl => ?_)
                  refine lv_goto (tgt := 6) hx hb dX1_latest_90 (by decide) ?_
                  rw [hob] at hi1
                  have hstep : latF (keyMsg kn.2.1) kn.2.1 lo hi t (some b) y = (some b) := by
                    unfold latF
                    exact if_neg (fun z9 => by
                      obtain ⟨⟨z1, z2⟩, z3, z4⟩ := z9
                      first | omega | (rw [c80] at z3; cases z3) | (rw [hcv] at z3; cases z3) | (have z5 : mdN b.2 ≤ mdN y.2 := z4; omega))
                  exact ih (i + 1) (some b) q1 G1 _ _ (by omega) (by rw [fold_step hy, hi1, hstep]) (fun b9 h9 => hi2 b9 (by rw [hob]; exact h9)) hq1 hT1 (by omega) (by omega) (by omega) _ _ h _ (lv_sub hl [2, 3, 4, 5, 6, 7, 8, 0] rfl)
                · refine lv_aload_n hx hb dX1_latest_70 rfl (lv_at hl 1 rfl) ?_
                  refine lv_aload hx hb dX1_latest_71 (lv_at hl 0 rfl) ?_
                  refine lv_aload_n hx hb dX1_latest_73 rfl (lv_at hl 2 rfl) ?_
                  refine lv_aload_n hx hb dX1_latest_74 rfl (lv_at hl 3 rfl) ?_
                  refine lv_lload hx hb dX1_latest_75 (lv_at hl 6 rfl) ?_
                  refine call_VR (As := [.ref y.1, .ref ka, .ref ka, .long (lN t)]) (rest := []) (n := 4) C h (cQ_countsK l D dA B Z hZ G1 A O sz dc rg f1 f2 q1 cx y t ka ld.1 a2 a3 kn hzq (hT1.qf hQF) hq1 hyS (hT1.ob (by decide) hk) (hT1.num hkn) hyc ht) (lw_V q1642 q1644 qs31 q129 q1645) (by decide +kernel) (o_recv C h (RC := RX1) (T := TX1) (N := 14) (List.mem_append_right _ (hT1.qf hQF).2.2) rfl) (by decide) (by decide) rfl hl rfl (Nat.le_of_ble_eq_true rfl) dX1_latest_77 (by omega) (fun u9 H locs hu9 h => ?_)
                  obtain ⟨q2, G2⟩ := u9
                  obtain ⟨hq2, hT2⟩ := hu9
                  dsimp only at hq2 hT2 h
                  have hT12 := hT1.trans hT2
                  refine z_if_eq (tgt := 87) hx hb dX1_latest_80 (by decide) (fun c80 => ?_) (fun c80 => ?_)
                  · refine lv_iinc (v := nI (i + 1)) (lv' := [(8, .int (nI (i + 1))), (9, .ref y.1), (0, .ref (A 24)), (1, .ref ka), (2, .ref ka), (3, .int (nI lo)), (4, .int (nI hi)), (5, .long (lN t)), (7, .ref b.1)]) hx hb dX1_latest_87 hl (k := 8) rfl (nI_add i 1) (by decide) rfl (fun ls hl => ?_)
                    refine lv_goto (tgt := 6) hx hb dX1_latest_90 (by decide) ?_
                    rw [hob] at hi1
                    have hstep : latF (keyMsg kn.2.1) kn.2.1 lo hi t (some b) y = (some b) := by
                      unfold latF
                      exact if_neg (fun z9 => by
                        obtain ⟨⟨z1, z2⟩, z3, z4⟩ := z9
                        first | omega | (rw [c80] at z3; cases z3) | (rw [hcv] at z3; cases z3) | (have z5 : mdN b.2 ≤ mdN y.2 := z4; omega))
                    exact ih (i + 1) (some b) q2 G2 _ _ (by omega) (by rw [fold_step hy, hi1, hstep]) (fun b9 h9 => hi2 b9 (by rw [hob]; exact h9)) hq2 hT12 (by omega) (by omega) (by omega) _ _ h _ (lv_sub hl [2, 3, 4, 5, 6, 7, 8, 0] rfl)
                  · refine lv_aload hx hb dX1_latest_83 (lv_at hl 0 rfl) ?_
                    refine lv_astore (lv' := [(7, .ref y.1), (9, .ref y.1), (0, .ref (A 24)), (1, .ref ka), (2, .ref ka), (3, .int (nI lo)), (4, .int (nI hi)), (5, .long (lN t)), (8, .int (nI i))]) hx hb dX1_latest_85 hl (by decide) rfl (fun ls hl => ?_)
                    refine lv_iinc (v := nI (i + 1)) (lv' := [(8, .int (nI (i + 1))), (7, .ref y.1), (9, .ref y.1), (0, .ref (A 24)), (1, .ref ka), (2, .ref ka), (3, .int (nI lo)), (4, .int (nI hi)), (5, .long (lN t))]) hx hb dX1_latest_87 hl (k := 8) rfl (nI_add i 1) (by decide) rfl (fun ls hl => ?_)
                    refine lv_goto (tgt := 6) hx hb dX1_latest_90 (by decide) ?_
                    rw [hob] at hi1
                    have hstep : latF (keyMsg kn.2.1) kn.2.1 lo hi t (some b) y = (some y) := by
                      unfold latF
                      first | exact if_pos ⟨⟨by omega, by omega⟩, c80, by first | exact Nat.zero_le _ | (show mdN b.2 ≤ mdN y.2; omega)⟩ | (exfalso; rw [hcv] at c80; cases c80)
                    exact ih (i + 1) (some y) q2 G2 _ _ (by omega) (by rw [fold_step hy, hi1, hstep]) (fun b9 h9 => by rw [← Option.some.inj h9]; exact ⟨hym, cnt_nv c80⟩) hq2 hT12 (by omega) (by omega) (by omega) _ _ h _ (lv_sub hl [3, 4, 5, 6, 7, 8, 1, 0] rfl)
  exact loop _ 0 none q G _ _ (by omega) rfl (fun b hb => by cases hb) hqo TR.rf (by omega) (by omega) (Nat.lt_succ_self _) _ _ h _ (lv_sub hl [2, 3, 4, 5, 6, 7, 1, 0] rfl)
set_option maxHeartbeats 400000 in
set_option maxRecDepth 100000 in
theorem cQ_latestU (l : Launch) (D : va_G) (dA : Nat → ClassId) (B : Nat) (Z : State → Prop) (hZ : Stab B Z) (G : va_W) (A : Nat → Nat) (O : va_W) (sz dc rg f1 f2 : Nat) (q : QS) (cx : CX) (ka a1 a2 a3 : Nat) (kn : NBr) (oa : Nat) (ub : List Nat) (e0 : Nat) (ld : LD) (sls : List SL) (lo hi t : Nat) (hzq : ZQ B f1 f2 Z) (hQF : QF dA A sz dc rg G) (hqo : QOk q) (hk : (ka, .inr (6, [.ref a1, .ref kn.1, .ref a2, .ref a3])) ∈ G) (hkn : NumIn dA G kn) (hof : UserIn dA G oa ub ld.1) (hA : LIn dA e0 G ld (sls.map Prod.fst)) (hS : ∀ y ∈ sls, SealT dA cx G y ∧ cx y.1 = (keyMsg kn.2.1 ++ ([180] ++ be 4 ub.length ++ ub), kn.2.1)) (ht : t < 4294967296) (hlo : lo < 256) (hhi : hi < 256) :
    Ct (S := QS × va_W) l D dA B Z yX1_latest cX1_latest 10 (some ((.object "SignetRing$Seal"))) 10 (2 * sls.length) (256 * sls.length) [.ref (A 24), .ref ka, .ref oa, .int (nI lo), .int (nI hi), .long (lN t)] (qW dA A O q ++ G) (fun u => QOk u.1 ∧ TR dA cx G u.2) (fun _ => some (va_rf ((latC (keyMsg kn.2.1 ++ ([180] ++ be 4 ub.length ++ ub)) kn.2.1 lo hi t sls).map Prod.fst))) (fun u => qW dA A O u.1 ++ u.2) := by
  refine Ct.mk2 (by decide) (Nat.le_of_ble_eq_true rfl) hZ ?_
  intro p e R s m args below meth c ls Q C hr hlocks hin hQ hl h
  have C0 := C
  obtain ⟨hx, hb, hml, hown, hts, -⟩ := C0
  have hl : lv_has ls 10 [(0, .ref (A 24)), (1, .ref ka), (2, .ref oa), (3, .int (nI lo)), (4, .int (nI hi)), (5, .long (lN t))] := hl
  have hof0 := hof
  obtain ⟨_, uba, hcu, _⟩ := hof0
  refine lv_null hx hb dX1_latest_0 ?_
  refine lv_astoreN (lv' := [(7, .null), (0, .ref (A 24)), (1, .ref ka), (2, .ref oa), (3, .int (nI lo)), (4, .int (nI hi)), (5, .long (lN t))]) hx hb dX1_latest_1 hl (by decide) rfl (fun ls hl => ?_)
  refine lv_iconst (v := nI 0) hx hb dX1_latest_3 (by decide) ?_
  refine lv_istore (lv' := [(8, .int (nI 0)), (7, .null), (0, .ref (A 24)), (1, .ref ka), (2, .ref oa), (3, .int (nI lo)), (4, .int (nI hi)), (5, .long (lN t))]) hx hb dX1_latest_4 hl (by decide) rfl (fun ls hl => ?_)
  have loop : ∀ (nn : Nat) (i : Nat) (o : Option SL) (q1 : QS) (G1 : va_W) (cc cs : Nat), (i ≤ sls.length) → ((sls.take i).foldl (latF (keyMsg kn.2.1 ++ ([180] ++ be 4 ub.length ++ ub)) kn.2.1 lo hi t) none = o) → (∀ b, o = some b → b ∈ sls ∧ sVain b.2 = false) → (QOk q1) → (TR dA cx G G1) → (cc ≤ 2 * i) → (cs ≤ 256 * i) → sls.length - i < nn → ∀ (H : Heap) (locs : List Loc), Wd D B s ((qW dA A O q1 ++ G1)) H locs → ∀ (ls : Array Slot), lv_has ls 10 [(0, .ref (A 24)), (1, .ref ka), (2, .ref oa), (3, .int (nI lo)), (4, .int (nI hi)), (5, .long (lN t)), (7, va_rf (o.map Prod.fst)), (8, .int (nI i))] → W p l e R s m args below meth c H locs cc cs Q (F0 m 6 ls []) := by
    intro nn
    induction nn with
    | zero => intro i  o  q1  G1  cc cs  hi0 hi1 hi2 hq1 hT1 hcc hcs hme; exact absurd hme (Nat.not_lt_zero _)
    | succ nn ih =>
      intro i  o  q1  G1  cc cs  hi0 hi1 hi2 hq1 hT1 hcc hcs hme H locs h ls hl
      have hA1 : LIn dA e0 (qW dA A O q1 ++ G1) ld (sls.map Prod.fst) := (hT1.al hA).sub (fun z hz => List.mem_append_right _ ((hT1.al hA).1 z hz))
      obtain ⟨ed1, hcl1⟩ := hA1.cell
      have hln1 := hA1.len
      rw [List.length_map] at hln1
      refine lv_iload hx hb dX1_latest_6 (lv_at hl 7 rfl) ?_
      refine lv_aload_n hx hb dX1_latest_8 rfl (lv_at hl 2 rfl) ?_
      refine o_get C h (RC := RX10) (T := TX10) (N := 2) (List.mem_append_right _ (hT1.ob (by decide) hcu)) rfl in_X10 0 (by decide) q411 rfl (v := .ref ld.1) rfl dX1_latest_9 ?_
      refine call_VR (As := []) (rest := [.int (nI i)]) (n := 0) C h (cA_size l D dA B Z hZ _ e0 ld _ hA1) (lw_V q360 q361 q362 q133 q363) (by decide +kernel) (o_recv C h (RC := RJ2) (T := TJ2) (N := 3) (hcl1) rfl) (by decide) (by decide) rfl hl rfl (Nat.le_of_ble_eq_true rfl) dX1_latest_12 (by omega) (fun _ H locs _ h => ?_)
      refine n_top (y := nI sls.length) (by rw [List.length_map]) ?_
      refine n_icmp_ge (tgt := 93) hx hb (by omega) (by omega) dX1_latest_15 (by decide) (fun c15 => ?_) (fun c15 => ?_)
      · refine q_aload hx hb dX1_latest_93 (lv_at hl 6 rfl) ?_
        subst hQ
        rw [List.take_of_length_le (show sls.length ≤ i by omega)] at hi1
        exact ret_a C hr (Or.inl ⟨_, rfl⟩) hlocks h (q1, G1) (⟨hq1, hT1⟩) (va_rf_or _) (by unfold latC; rw [hi1]) rfl (by omega) (by omega) dX1_latest_95
      · refine lv_aload_n hx hb dX1_latest_18 rfl (lv_at hl 2 rfl) ?_
        refine o_get C h (RC := RX10) (T := TX10) (N := 2) (List.mem_append_right _ (hT1.ob (by decide) hcu)) rfl in_X10 0 (by decide) q411 rfl (v := .ref ld.1) rfl dX1_latest_19 ?_
        refine lv_iload hx hb dX1_latest_22 (lv_at hl 7 rfl) ?_
        obtain ⟨y, hy⟩ := at_lt (l := sls) (i := i) (by omega)
        have hym := List.mem_of_getElem? hy
        obtain ⟨hyS0, hyc⟩ := hS y hym
        have hyS := hT1.2 y hyS0
        have hST := sT_lt hyS.b
        obtain ⟨ty, ⟨hbby, hbly, hboy, hb0y⟩, bay, sny, r1y, r2y, r3y, w1y, w2y, w3y, hcey, hbay, hsny, hr1y, hr2y, hr3y⟩ := hyS.b
        refine call_VR (As := [.int (nI i)]) (rest := []) (n := 1) C h (cA_get l D dA B Z hZ _ e0 ld _ i y.1 hA1 (at_map hy)) (lw_V q364 q365 q366 q133 q367) (by decide +kernel) (o_recv C h (RC := RJ2) (T := TJ2) (N := 3) (hcl1) rfl) (by decide) (by decide) rfl hl rfl (Nat.le_of_ble_eq_true rfl) dX1_latest_24 (by omega) (fun _ H locs _ h => ?_)
        refine o_cast C h (RC := RX17) (T := TX17) (N := 19) (List.mem_append_right _ hcey) rfl q1297 dX1_latest_27 ?_
        refine lv_astore (lv' := [(9, .ref y.1), (0, .ref (A 24)), (1, .ref ka), (2, .ref oa), (3, .int (nI lo)), (4, .int (nI hi)), (5, .long (lN t)), (7, va_rf (o.map Prod.fst)), (8, .int (nI i))]) hx hb dX1_latest_30 hl (by decide) rfl (fun ls hl => ?_)
        refine lv_aload hx hb dX1_latest_32 (lv_at hl 0 rfl) ?_
        refine o_get C h (RC := RX17) (T := TX17) (N := 19) (List.mem_append_right _ hcey) rfl in_X17 1 (by decide) q1308 rfl (v := .int (nI (sType y.2))) rfl dX1_latest_34 ?_
        refine lv_iload_n hx hb dX1_latest_37 rfl (lv_at hl 4 rfl) ?_
        refine n_icmp_lt (tgt := 87) hx hb (by omega) (by omega) dX1_latest_38 (by decide) (fun c38 => ?_) (fun c38 => ?_)
        · refine lv_iinc (v := nI (i + 1)) (lv' := [(8, .int (nI (i + 1))), (9, .ref y.1), (0, .ref (A 24)), (1, .ref ka), (2, .ref oa), (3, .int (nI lo)), (4, .int (nI hi)), (5, .long (lN t)), (7, va_rf (o.map Prod.fst))]) hx hb dX1_latest_87 hl (k := 8) rfl (nI_add i 1) (by decide) (by generalize (o.map Prod.fst) = z9; cases z9 <;> rfl) (fun ls hl => ?_)
          refine lv_goto (tgt := 6) hx hb dX1_latest_90 (by decide) ?_
          have hstep : latF (keyMsg kn.2.1 ++ ([180] ++ be 4 ub.length ++ ub)) kn.2.1 lo hi t o y = o := by
            unfold latF
            exact if_neg (fun z9 => by
              obtain ⟨⟨z1, z2⟩, z3, z4⟩ := z9
              first | omega | (rw [c80] at z3; cases z3) | (rw [hcv] at z3; cases z3) | (have z5 : mdN b.2 ≤ mdN y.2 := z4; omega))
          exact ih (i + 1) o q1 G1 _ _ (by omega) (by rw [fold_step hy, hi1, hstep]) hi2 hq1 hT1 (by omega) (by omega) (by omega) _ _ h _ (lv_sub hl [2, 3, 4, 5, 6, 7, 8, 0] rfl)
        · refine lv_aload hx hb dX1_latest_41 (lv_at hl 0 rfl) ?_
          refine o_get C h (RC := RX17) (T := TX17) (N := 19) (List.mem_append_right _ hcey) rfl in_X17 1 (by decide) q1308 rfl (v := .int (nI (sType y.2))) rfl dX1_latest_43 ?_
          refine lv_iload hx hb dX1_latest_46 (lv_at hl 5 rfl) ?_
          refine n_icmp_gt (tgt := 87) hx hb (by omega) (by omega) dX1_latest_48 (by decide) (fun c48 => ?_) (fun c48 => ?_)
          · refine lv_iinc (v := nI (i + 1)) (lv' := [(8, .int (nI (i + 1))), (9, .ref y.1), (0, .ref (A 24)), (1, .ref ka), (2, .ref oa), (3, .int (nI lo)), (4, .int (nI hi)), (5, .long (lN t)), (7, va_rf (o.map Prod.fst))]) hx hb dX1_latest_87 hl (k := 8) rfl (nI_add i 1) (by decide) (by generalize (o.map Prod.fst) = z9; cases z9 <;> rfl) (fun ls hl => ?_)
            refine lv_goto (tgt := 6) hx hb dX1_latest_90 (by decide) ?_
            have hstep : latF (keyMsg kn.2.1 ++ ([180] ++ be 4 ub.length ++ ub)) kn.2.1 lo hi t o y = o := by
              unfold latF
              exact if_neg (fun z9 => by
                obtain ⟨⟨z1, z2⟩, z3, z4⟩ := z9
                first | omega | (rw [c80] at z3; cases z3) | (rw [hcv] at z3; cases z3) | (have z5 : mdN b.2 ≤ mdN y.2 := z4; omega))
            exact ih (i + 1) o q1 G1 _ _ (by omega) (by rw [fold_step hy, hi1, hstep]) hi2 hq1 hT1 (by omega) (by omega) (by omega) _ _ h _ (lv_sub hl [2, 3, 4, 5, 6, 7, 8, 0] rfl)
          · refine q_aload hx hb dX1_latest_51 (lv_at hl 7 rfl) ?_
            refine q_ifnull (tgt := 70) hx hb dX1_latest_53 (by decide) (fun c53 => ?_) (fun a53 c53 => ?_)
            · have hob : o = none := by cases o with | none => rfl | some b => cases c53
              rw [c53] at hl
              have hl : lv_has ls 10 [(9, .ref y.1), (0, .ref (A 24)), (1, .ref ka), (2, .ref oa), (3, .int (nI lo)), (4, .int (nI hi)), (5, .long (lN t)), (7, va_rf ((none : Option SL).map Prod.fst)), (8, .int (nI i))] := hl
              refine lv_aload_n hx hb dX1_latest_70 rfl (lv_at hl 1 rfl) ?_
              refine lv_aload hx hb dX1_latest_71 (lv_at hl 0 rfl) ?_
              refine lv_aload_n hx hb dX1_latest_73 rfl (lv_at hl 2 rfl) ?_
              refine lv_aload_n hx hb dX1_latest_74 rfl (lv_at hl 3 rfl) ?_
              refine lv_lload hx hb dX1_latest_75 (lv_at hl 6 rfl) ?_
              refine call_VR (As := [.ref y.1, .ref ka, .ref oa, .long (lN t)]) (rest := []) (n := 4) C h (cQ_countsU l D dA B Z hZ G1 A O sz dc rg f1 f2 q1 cx y t ka a1 a2 a3 kn oa ld.1 ub hzq (hT1.qf hQF) hq1 hyS (hT1.ob (by decide) hk) (hT1.num hkn) (hT1.us hof) hyc ht) (lw_V q1642 q1644 qs31 q129 q1645) (by decide +kernel) (o_recv C h (RC := RX1) (T := TX1) (N := 14) (List.mem_append_right _ (hT1.qf hQF).2.2) rfl) (by decide) (by decide) rfl hl rfl (Nat.le_of_ble_eq_true rfl) dX1_latest_77 (by omega) (fun u9 H locs hu9 h => ?_)
              obtain ⟨q2, G2⟩ := u9
              obtain ⟨hq2, hT2⟩ := hu9
              dsimp only at hq2 hT2 h
              have hT12 := hT1.trans hT2
              refine z_if_eq (tgt := 87) hx hb dX1_latest_80 (by decide) (fun c80 => ?_) (fun c80 => ?_)
              · refine lv_iinc (v := nI (i + 1)) (lv' := [(8, .int (nI (i + 1))), (9, .ref y.1), (0, .ref (A 24)), (1, .ref ka), (2, .ref oa), (3, .int (nI lo)), (4, .int (nI hi)), (5, .long (lN t)), (7, va_rf ((none : Option SL).map Prod.fst))]) hx hb dX1_latest_87 hl (k := 8) rfl (nI_add i 1) (by decide) (by generalize ((none : Option SL).map Prod.fst) = z9; cases z9 <;> rfl) (fun ls hl => ?_)
                refine lv_goto (tgt := 6) hx hb dX1_latest_90 (by decide) ?_
                rw [hob] at hi1
                have hstep : latF (keyMsg kn.2.1 ++ ([180] ++ be 4 ub.length ++ ub)) kn.2.1 lo hi t none y = none := by
                  unfold latF
                  exact if_neg (fun z9 => by
                    obtain ⟨⟨z1, z2⟩, z3, z4⟩ := z9
                    first | omega | (rw [c80] at z3; cases z3) | (rw [hcv] at z3; cases z3) | (have z5 : mdN b.2 ≤ mdN y.2 := z4; omega))
                exact ih (i + 1) none q2 G2 _ _ (by omega) (by rw [fold_step hy, hi1, hstep]) (fun b9 h9 => by cases h9) hq2 hT12 (by omega) (by omega) (by omega) _ _ h _ (lv_sub hl [2, 3, 4, 5, 6, 7, 8, 0] rfl)
              · refine lv_aload hx hb dX1_latest_83 (lv_at hl 0 rfl) ?_
                refine lv_astore (lv' := [(7, .ref y.1), (9, .ref y.1), (0, .ref (A 24)), (1, .ref ka), (2, .ref oa), (3, .int (nI lo)), (4, .int (nI hi)), (5, .long (lN t)), (8, .int (nI i))]) hx hb dX1_latest_85 hl (by decide) rfl (fun ls hl => ?_)
                refine lv_iinc (v := nI (i + 1)) (lv' := [(8, .int (nI (i + 1))), (7, .ref y.1), (9, .ref y.1), (0, .ref (A 24)), (1, .ref ka), (2, .ref oa), (3, .int (nI lo)), (4, .int (nI hi)), (5, .long (lN t))]) hx hb dX1_latest_87 hl (k := 8) rfl (nI_add i 1) (by decide) rfl (fun ls hl => ?_)
                refine lv_goto (tgt := 6) hx hb dX1_latest_90 (by decide) ?_
                rw [hob] at hi1
                have hstep : latF (keyMsg kn.2.1 ++ ([180] ++ be 4 ub.length ++ ub)) kn.2.1 lo hi t none y = (some y) := by
                  unfold latF
                  first | exact if_pos ⟨⟨by omega, by omega⟩, c80, by first | exact Nat.zero_le _ | (show mdN b.2 ≤ mdN y.2; omega)⟩ | (exfalso; rw [hcv] at c80; cases c80)
                exact ih (i + 1) (some y) q2 G2 _ _ (by omega) (by rw [fold_step hy, hi1, hstep]) (fun b9 h9 => by rw [← Option.some.inj h9]; exact ⟨hym, cnt_nv c80⟩) hq2 hT12 (by omega) (by omega) (by omega) _ _ h _ (lv_sub hl [3, 4, 5, 6, 7, 8, 1, 0] rfl)
            · obtain ⟨b, hob, hb8⟩ : ∃ b, o = some b ∧ b.1 = a53 := by cases o with | none => cases c53 | some b => exact ⟨b, rfl, Option.some.inj c53⟩
              rw [c53, ← hb8] at hl
              have hl : lv_has ls 10 [(9, .ref y.1), (0, .ref (A 24)), (1, .ref ka), (2, .ref oa), (3, .int (nI lo)), (4, .int (nI hi)), (5, .long (lN t)), (7, .ref b.1), (8, .int (nI i))] := hl
              obtain ⟨hbm, hbv⟩ := hi2 b hob
              have hbS := hT1.2 b (hS b hbm).1
              obtain ⟨tb, ⟨hbbb, hblb, hbob, hb0b⟩, bab, snb, r1b, r2b, r3b, w1b, w2b, w3b, hceb, hbab, hsnb, hr1b, hr2b, hr3b⟩ := hbS.b
              have hv9b : sVain b.2 = false := hbv
              have hmdb : (sNote b.2).1 = some (mdN b.2) := vain_md hv9b
              have hnbb := sNote_nb hbbb
              have hm9b := hnbb.1 _ hmdb
              have he9b : enN b.2 < 4294967296 := hnbb.2.1
              have hceb : (b.1, .inr (14, [.ref bab, .int (nI (sType b.2)), .int (nI (sHash b.2)), .int (nI (sEnd b.2)), .int (nI (sLeft b.2)), .ref snb, .long (lN (mdN b.2)), .long (lN (sNote b.2).2.1), .long (lN (sNote b.2).2.2.1), va_rf r1b, va_rf r2b, .int (oI (sNote b.2).2.2.2.2.2.2.1), .int (oI (sNote b.2).2.2.2.2.2.2.2.1), va_rf r3b, .int (bZ (sVain b.2)), .int tb, .int (bZ w1b), .int (bZ w2b), .int (bZ w3b)])) ∈ G1 := by
                have h9 := hceb
                rw [hmdb] at h9
                exact h9
              by_cases hvs : sVain y.2 = false
              · have hv9y : sVain y.2 = false := hvs
                have hmdy : (sNote y.2).1 = some (mdN y.2) := vain_md hv9y
                have hnby := sNote_nb hbby
                have hm9y := hnby.1 _ hmdy
                have he9y : enN y.2 < 4294967296 := hnby.2.1
                have hcey : (y.1, .inr (14, [.ref bay, .int (nI (sType y.2)), .int (nI (sHash y.2)), .int (nI (sEnd y.2)), .int (nI (sLeft y.2)), .ref sny, .long (lN (mdN y.2)), .long (lN (sNote y.2).2.1), .long (lN (sNote y.2).2.2.1), va_rf r1y, va_rf r2y, .int (oI (sNote y.2).2.2.2.2.2.2.1), .int (oI (sNote y.2).2.2.2.2.2.2.2.1), va_rf r3y, .int (bZ (sVain y.2)), .int ty, .int (bZ w1y), .int (bZ w2y), .int (bZ w3y)])) ∈ G1 := by
                  have h9 := hcey
                  rw [hmdy] at h9
                  exact h9
                refine lv_aload hx hb dX1_latest_56 (lv_at hl 0 rfl) ?_
                refine o_get C h (RC := RX17) (T := TX17) (N := 19) (List.mem_append_right _ hcey) rfl in_X17 6 (by decide) q1318 rfl (v := .long (lN (mdN y.2))) rfl dX1_latest_58 ?_
                refine lv_aload hx hb dX1_latest_61 (lv_at hl 7 rfl) ?_
                refine o_get C h (RC := RX17) (T := TX17) (N := 19) (List.mem_append_right _ hceb) rfl in_X17 6 (by decide) q1318 rfl (v := .long (lN (mdN b.2))) rfl dX1_latest_63 ?_
                refine n_lcmp_lt (tgt := 87) hx hb (by omega) (by omega) dX1_latest_66 dX1_latest_67 (by decide) (fun c66 => ?_) (fun c66 => ?_)
                · refine lv_iinc (v := nI (i + 1)) (lv' := [(8, .int (nI (i + 1))), (9, .ref y.1), (0, .ref (A 24)), (1, .ref ka), (2, .ref oa), (3, .int (nI lo)), (4, .int (nI hi)), (5, .long (lN t)), (7, .ref b.1)]) hx hb dX1_latest_87 hl (k := 8) rfl (nI_add i 1) (by decide) rfl (fun ls hl => ?_)
                  refine lv_goto (tgt := 6) hx hb dX1_latest_90 (by decide) ?_
                  rw [hob] at hi1
                  have hstep : latF (keyMsg kn.2.1 ++ ([180] ++ be 4 ub.length ++ ub)) kn.2.1 lo hi t (some b) y = (some b) := by
                    unfold latF
                    exact if_neg (fun z9 => by
                      obtain ⟨⟨z1, z2⟩, z3, z4⟩ := z9
                      first | omega | (rw [c80] at z3; cases z3) | (rw [hcv] at z3; cases z3) | (have z5 : mdN b.2 ≤ mdN y.2 := z4; omega))
                  exact ih (i + 1) (some b) q1 G1 _ _ (by omega) (by rw [fold_step hy, hi1, hstep]) (fun b9 h9 => hi2 b9 (by rw [hob]; exact h9)) hq1 hT1 (by omega) (by omega) (by omega) _ _ h _ (lv_sub hl [2, 3, 4, 5, 6, 7, 8, 0] rfl)
                · refine lv_aload_n hx hb dX1_latest_70 rfl (lv_at hl 1 rfl) ?_
                  refine lv_aload hx hb dX1_latest_71 (lv_at hl 0 rfl) ?_
                  refine lv_aload_n hx hb dX1_latest_73 rfl (lv_at hl 2 rfl) ?_
                  refine lv_aload_n hx hb dX1_latest_74 rfl (lv_at hl 3 rfl) ?_
                  refine lv_lload hx hb dX1_latest_75 (lv_at hl 6 rfl) ?_
                  refine call_VR (As := [.ref y.1, .ref ka, .ref oa, .long (lN t)]) (rest := []) (n := 4) C h (cQ_countsU l D dA B Z hZ G1 A O sz dc rg f1 f2 q1 cx y t ka a1 a2 a3 kn oa ld.1 ub hzq (hT1.qf hQF) hq1 hyS (hT1.ob (by decide) hk) (hT1.num hkn) (hT1.us hof) hyc ht) (lw_V q1642 q1644 qs31 q129 q1645) (by decide +kernel) (o_recv C h (RC := RX1) (T := TX1) (N := 14) (List.mem_append_right _ (hT1.qf hQF).2.2) rfl) (by decide) (by decide) rfl hl rfl (Nat.le_of_ble_eq_true rfl) dX1_latest_77 (by omega) (fun u9 H locs hu9 h => ?_)
                  obtain ⟨q2, G2⟩ := u9
                  obtain ⟨hq2, hT2⟩ := hu9
                  dsimp only at hq2 hT2 h
                  have hT12 := hT1.trans hT2
                  refine z_if_eq (tgt := 87) hx hb dX1_latest_80 (by decide) (fun c80 => ?_) (fun c80 => ?_)
                  · refine lv_iinc (v := nI (i + 1)) (lv' := [(8, .int (nI (i + 1))), (9, .ref y.1), (0, .ref (A 24)), (1, .ref ka), (2, .ref oa), (3, .int (nI lo)), (4, .int (nI hi)), (5, .long (lN t)), (7, .ref b.1)]) hx hb dX1_latest_87 hl (k := 8) rfl (nI_add i 1) (by decide) rfl (fun ls hl => ?_)
                    refine lv_goto (tgt := 6) hx hb dX1_latest_90 (by decide) ?_
                    rw [hob] at hi1
                    have hstep : latF (keyMsg kn.2.1 ++ ([180] ++ be 4 ub.length ++ ub)) kn.2.1 lo hi t (some b) y = (some b) := by
                      unfold latF
                      exact if_neg (fun z9 => by
                        obtain ⟨⟨z1, z2⟩, z3, z4⟩ := z9
                        first | omega | (rw [c80] at z3; cases z3) | (rw [hcv] at z3; cases z3) | (have z5 : mdN b.2 ≤ mdN y.2 := z4; omega))
                    exact ih (i + 1) (some b) q2 G2 _ _ (by omega) (by rw [fold_step hy, hi1, hstep]) (fun b9 h9 => hi2 b9 (by rw [hob]; exact h9)) hq2 hT12 (by omega) (by omega) (by omega) _ _ h _ (lv_sub hl [2, 3, 4, 5, 6, 7, 8, 0] rfl)
                  · refine lv_aload hx hb dX1_latest_83 (lv_at hl 0 rfl) ?_
                    refine lv_astore (lv' := [(7, .ref y.1), (9, .ref y.1), (0, .ref (A 24)), (1, .ref ka), (2, .ref oa), (3, .int (nI lo)), (4, .int (nI hi)), (5, .long (lN t)), (8, .int (nI i))]) hx hb dX1_latest_85 hl (by decide) rfl (fun ls hl => ?_)
                    refine lv_iinc (v := nI (i + 1)) (lv' := [(8, .int (nI (i + 1))), (7, .ref y.1), (9, .ref y.1), (0, .ref (A 24)), (1, .ref ka), (2, .ref oa), (3, .int (nI lo)), (4, .int (nI hi)), (5, .long (lN t))]) hx hb dX1_latest_87 hl (k := 8) rfl (nI_add i 1) (by decide) rfl (fun ls hl => ?_)
                    refine lv_goto (tgt := 6) hx hb dX1_latest_90 (by decide) ?_
                    rw [hob] at hi1
                    have hstep : latF (keyMsg kn.2.1 ++ ([180] ++ be 4 ub.length ++ ub)) kn.2.1 lo hi t (some b) y = (some y) := by
                      unfold latF
                      first | exact if_pos ⟨⟨by omega, by omega⟩, c80, by first | exact Nat.zero_le _ | (show mdN b.2 ≤ mdN y.2; omega)⟩ | (exfalso; rw [hcv] at c80; cases c80)
                    exact ih (i + 1) (some y) q2 G2 _ _ (by omega) (by rw [fold_step hy, hi1, hstep]) (fun b9 h9 => by rw [← Option.some.inj h9]; exact ⟨hym, cnt_nv c80⟩) hq2 hT12 (by omega) (by omega) (by omega) _ _ h _ (lv_sub hl [3, 4, 5, 6, 7, 8, 1, 0] rfl)
              · have hvt : sVain y.2 = true := by cases q9 : sVain y.2 with | true => rfl | false => exact absurd q9 hvs
                have hcv := cntC_v (msg := (keyMsg kn.2.1 ++ ([180] ++ be 4 ub.length ++ ub))) (kb := kn.2.1) (t := t) hvt
                refine lv_aload hx hb dX1_latest_56 (lv_at hl 0 rfl) ?_
                refine o_get C h (RC := RX17) (T := TX17) (N := 19) (List.mem_append_right _ hcey) rfl in_X17 6 (by decide) q1318 rfl (v := .long (oL (sNote y.2).1)) rfl dX1_latest_58 ?_
                refine lv_aload hx hb dX1_latest_61 (lv_at hl 7 rfl) ?_
                refine o_get C h (RC := RX17) (T := TX17) (N := 19) (List.mem_append_right _ hceb) rfl in_X17 6 (by decide) q1318 rfl (v := .long (lN (mdN b.2))) rfl dX1_latest_63 ?_
                refine k_lcmp_lt (tgt := 87) hx hb dX1_latest_66 dX1_latest_67 (by decide) (fun c66 => ?_) (fun c66 => ?_)
                · refine lv_iinc (v := nI (i + 1)) (lv' := [(8, .int (nI (i + 1))), (9, .ref y.1), (0, .ref (A 24)), (1, .ref ka), (2, .ref oa), (3, .int (nI lo)), (4, .int (nI hi)), (5, .long (lN t)), (7, .ref b.1)]) hx hb dX1_latest_87 hl (k := 8) rfl (nI_add i 1) (by decide) rfl (fun ls hl => ?_)
                  refine lv_goto (tgt := 6) hx hb dX1_latest_90 (by decide) ?_
                  rw [hob] at hi1
                  have hstep : latF (keyMsg kn.2.1 ++ ([180] ++ be 4 ub.length ++ ub)) kn.2.1 lo hi t (some b) y = (some b) := by
                    unfold latF
                    exact if_neg (fun z9 => by
                      obtain ⟨⟨z1, z2⟩, z3, z4⟩ := z9
                      first | omega | (rw [c80] at z3; cases z3) | (rw [hcv] at z3; cases z3) | (have z5 : mdN b.2 ≤ mdN y.2 := z4; omega))
                  exact ih (i + 1) (some b) q1 G1 _ _ (by omega) (by rw [fold_step hy, hi1, hstep]) (fun b9 h9 => hi2 b9 (by rw [hob]; exact h9)) hq1 hT1 (by omega) (by omega) (by omega) _ _ h _ (lv_sub hl [2, 3, 4, 5, 6, 7, 8, 0] rfl)
                · refine lv_aload_n hx hb dX1_latest_70 rfl (lv_at hl 1 rfl) ?_
                  refine lv_aload hx hb dX1_latest_71 (lv_at hl 0 rfl) ?_
                  refine lv_aload_n hx hb dX1_latest_73 rfl (lv_at hl 2 rfl) ?_
                  refine lv_aload_n hx hb dX1_latest_74 rfl (lv_at hl 3 rfl) ?_
                  refine lv_lload hx hb dX1_latest_75 (lv_at hl 6 rfl) ?_
                  refine call_VR (As := [.ref y.1, .ref ka, .ref oa, .long (lN t)]) (rest := []) (n := 4) C h (cQ_countsU l D dA B Z hZ G1 A O sz dc rg f1 f2 q1 cx y t ka a1 a2 a3 kn oa ld.1 ub hzq (hT1.qf hQF) hq1 hyS (hT1.ob (by decide) hk) (hT1.num hkn) (hT1.us hof) hyc ht) (lw_V q1642 q1644 qs31 q129 q1645) (by decide +kernel) (o_recv C h (RC := RX1) (T := TX1) (N := 14) (List.mem_append_right _ (hT1.qf hQF).2.2) rfl) (by decide) (by decide) rfl hl rfl (Nat.le_of_ble_eq_true rfl) dX1_latest_77 (by omega) (fun u9 H locs hu9 h => ?_)
                  obtain ⟨q2, G2⟩ := u9
                  obtain ⟨hq2, hT2⟩ := hu9
                  dsimp only at hq2 hT2 h
                  have hT12 := hT1.trans hT2
                  refine z_if_eq (tgt := 87) hx hb dX1_latest_80 (by decide) (fun c80 => ?_) (fun c80 => ?_)
                  · refine lv_iinc (v := nI (i + 1)) (lv' := [(8, .int (nI (i + 1))), (9, .ref y.1), (0, .ref (A 24)), (1, .ref ka), (2, .ref oa), (3, .int (nI lo)), (4, .int (nI hi)), (5, .long (lN t)), (7, .ref b.1)]) hx hb dX1_latest_87 hl (k := 8) rfl (nI_add i 1) (by decide) rfl (fun ls hl => ?_)
                    refine lv_goto (tgt := 6) hx hb dX1_latest_90 (by decide) ?_
                    rw [hob] at hi1
                    have hstep : latF (keyMsg kn.2.1 ++ ([180] ++ be 4 ub.length ++ ub)) kn.2.1 lo hi t (some b) y = (some b) := by
                      unfold latF
                      exact if_neg (fun z9 => by
                        obtain ⟨⟨z1, z2⟩, z3, z4⟩ := z9
                        first | omega | (rw [c80] at z3; cases z3) | (rw [hcv] at z3; cases z3) | (have z5 : mdN b.2 ≤ mdN y.2 := z4; omega))
                    exact ih (i + 1) (some b) q2 G2 _ _ (by omega) (by rw [fold_step hy, hi1, hstep]) (fun b9 h9 => hi2 b9 (by rw [hob]; exact h9)) hq2 hT12 (by omega) (by omega) (by omega) _ _ h _ (lv_sub hl [2, 3, 4, 5, 6, 7, 8, 0] rfl)
                  · refine lv_aload hx hb dX1_latest_83 (lv_at hl 0 rfl) ?_
                    refine lv_astore (lv' := [(7, .ref y.1), (9, .ref y.1), (0, .ref (A 24)), (1, .ref ka), (2, .ref oa), (3, .int (nI lo)), (4, .int (nI hi)), (5, .long (lN t)), (8, .int (nI i))]) hx hb dX1_latest_85 hl (by decide) rfl (fun ls hl => ?_)
                    refine lv_iinc (v := nI (i + 1)) (lv' := [(8, .int (nI (i + 1))), (7, .ref y.1), (9, .ref y.1), (0, .ref (A 24)), (1, .ref ka), (2, .ref oa), (3, .int (nI lo)), (4, .int (nI hi)), (5, .long (lN t))]) hx hb dX1_latest_87 hl (k := 8) rfl (nI_add i 1) (by decide) rfl (fun ls hl => ?_)
                    refine lv_goto (tgt := 6) hx hb dX1_latest_90 (by decide) ?_
                    rw [hob] at hi1
                    have hstep : latF (keyMsg kn.2.1 ++ ([180] ++ be 4 ub.length ++ ub)) kn.2.1 lo hi t (some b) y = (some y) := by
                      unfold latF
                      first | exact if_pos ⟨⟨by omega, by omega⟩, c80, by first | exact Nat.zero_le _ | (show mdN b.2 ≤ mdN y.2; omega)⟩ | (exfalso; rw [hcv] at c80; cases c80)
                    exact ih (i + 1) (some y) q2 G2 _ _ (by omega) (by rw [fold_step hy, hi1, hstep]) (fun b9 h9 => by rw [← Option.some.inj h9]; exact ⟨hym, cnt_nv c80⟩) hq2 hT12 (by omega) (by omega) (by omega) _ _ h _ (lv_sub hl [3, 4, 5, 6, 7, 8, 1, 0] rfl)
  exact loop _ 0 none q G _ _ (by omega) rfl (fun b hb => by cases hb) hqo TR.rf (by omega) (by omega) (Nat.lt_succ_self _) _ _ h _ (lv_sub hl [2, 3, 4, 5, 6, 7, 1, 0] rfl)
set_option maxHeartbeats 400000 in
set_option maxRecDepth 100000 in
theorem cQ_latestP (l : Launch) (D : va_G) (dA : Nat → ClassId) (B : Nat) (Z : State → Prop) (hZ : Stab B Z) (G : va_W) (A : Nat → Nat) (O : va_W) (sz dc rg f1 f2 : Nat) (q : QS) (cx : CX) (ka a1 a2 a3 : Nat) (kn : NBr) (oa : Nat) (pn : NBr) (e0 : Nat) (ld : LD) (sls : List SL) (lo hi t : Nat) (hzq : ZQ B f1 f2 Z) (hQF : QF dA A sz dc rg G) (hqo : QOk q) (hk : (ka, .inr (6, [.ref a1, .ref kn.1, .ref a2, .ref a3])) ∈ G) (hkn : NumIn dA G kn) (hof : (oa, .inr (8, [.ref ld.1, .ref pn.1])) ∈ G) (hpn : NumIn dA G pn) (hA : LIn dA e0 G ld (sls.map Prod.fst)) (hS : ∀ y ∈ sls, SealT dA cx G y ∧ cx y.1 = (keyMsg kn.2.1 ++ keyMsg pn.2.1, kn.2.1)) (ht : t < 4294967296) (hlo : lo < 256) (hhi : hi < 256) :
    Ct (S := QS × va_W) l D dA B Z yX1_latest cX1_latest 10 (some ((.object "SignetRing$Seal"))) 10 (2 * sls.length) (256 * sls.length) [.ref (A 24), .ref ka, .ref oa, .int (nI lo), .int (nI hi), .long (lN t)] (qW dA A O q ++ G) (fun u => QOk u.1 ∧ TR dA cx G u.2) (fun _ => some (va_rf ((latC (keyMsg kn.2.1 ++ keyMsg pn.2.1) kn.2.1 lo hi t sls).map Prod.fst))) (fun u => qW dA A O u.1 ++ u.2) := by
  refine Ct.mk2 (by decide) (Nat.le_of_ble_eq_true rfl) hZ ?_
  intro p e R s m args below meth c ls Q C hr hlocks hin hQ hl h
  have C0 := C
  obtain ⟨hx, hb, hml, hown, hts, -⟩ := C0
  have hl : lv_has ls 10 [(0, .ref (A 24)), (1, .ref ka), (2, .ref oa), (3, .int (nI lo)), (4, .int (nI hi)), (5, .long (lN t))] := hl
  refine lv_null hx hb dX1_latest_0 ?_
  refine lv_astoreN (lv' := [(7, .null), (0, .ref (A 24)), (1, .ref ka), (2, .ref oa), (3, .int (nI lo)), (4, .int (nI hi)), (5, .long (lN t))]) hx hb dX1_latest_1 hl (by decide) rfl (fun ls hl => ?_)
  refine lv_iconst (v := nI 0) hx hb dX1_latest_3 (by decide) ?_
  refine lv_istore (lv' := [(8, .int (nI 0)), (7, .null), (0, .ref (A 24)), (1, .ref ka), (2, .ref oa), (3, .int (nI lo)), (4, .int (nI hi)), (5, .long (lN t))]) hx hb dX1_latest_4 hl (by decide) rfl (fun ls hl => ?_)
  have loop : ∀ (nn : Nat) (i : Nat) (o : Option SL) (q1 : QS) (G1 : va_W) (cc cs : Nat), (i ≤ sls.length) → ((sls.take i).foldl (latF (keyMsg kn.2.1 ++ keyMsg pn.2.1) kn.2.1 lo hi t) none = o) → (∀ b, o = some b → b ∈ sls ∧ sVain b.2 = false) → (QOk q1) → (TR dA cx G G1) → (cc ≤ 2 * i) → (cs ≤ 256 * i) → sls.length - i < nn → ∀ (H : Heap) (locs : List Loc), Wd D B s ((qW dA A O q1 ++ G1)) H locs → ∀ (ls : Array Slot), lv_has ls 10 [(0, .ref (A 24)), (1, .ref ka), (2, .ref oa), (3, .int (nI lo)), (4, .int (nI hi)), (5, .long (lN t)), (7, va_rf (o.map Prod.fst)), (8, .int (nI i))] → W p l e R s m args below meth c H locs cc cs Q (F0 m 6 ls []) := by
    intro nn
    induction nn with
    | zero => intro i  o  q1  G1  cc cs  hi0 hi1 hi2 hq1 hT1 hcc hcs hme; exact absurd hme (Nat.not_lt_zero _)
    | succ nn ih =>
      intro i  o  q1  G1  cc cs  hi0 hi1 hi2 hq1 hT1 hcc hcs hme H locs h ls hl
      have hA1 : LIn dA e0 (qW dA A O q1 ++ G1) ld (sls.map Prod.fst) := (hT1.al hA).sub (fun z hz => List.mem_append_right _ ((hT1.al hA).1 z hz))
      obtain ⟨ed1, hcl1⟩ := hA1.cell
      have hln1 := hA1.len
      rw [List.length_map] at hln1
      refine lv_iload hx hb dX1_latest_6 (lv_at hl 7 rfl) ?_
      refine lv_aload_n hx hb dX1_latest_8 rfl (lv_at hl 2 rfl) ?_
      refine o_get C h (RC := RX11) (T := TX11) (N := 2) (List.mem_append_right _ (hT1.ob (by decide) hof)) rfl in_X11 0 (by decide) q411 rfl (v := .ref ld.1) rfl dX1_latest_9 ?_
      refine call_VR (As := []) (rest := [.int (nI i)]) (n := 0) C h (cA_size l D dA B Z hZ _ e0 ld _ hA1) (lw_V q360 q361 q362 q133 q363) (by decide +kernel) (o_recv C h (RC := RJ2) (T := TJ2) (N := 3) (hcl1) rfl) (by decide) (by decide) rfl hl rfl (Nat.le_of_ble_eq_true rfl) dX1_latest_12 (by omega) (fun _ H locs _ h => ?_)
      refine n_top (y := nI sls.length) (by rw [List.length_map]) ?_
      refine n_icmp_ge (tgt := 93) hx hb (by omega) (by omega) dX1_latest_15 (by decide) (fun c15 => ?_) (fun c15 => ?_)
      · refine q_aload hx hb dX1_latest_93 (lv_at hl 6 rfl) ?_
        subst hQ
        rw [List.take_of_length_le (show sls.length ≤ i by omega)] at hi1
        exact ret_a C hr (Or.inl ⟨_, rfl⟩) hlocks h (q1, G1) (⟨hq1, hT1⟩) (va_rf_or _) (by unfold latC; rw [hi1]) rfl (by omega) (by omega) dX1_latest_95
      · refine lv_aload_n hx hb dX1_latest_18 rfl (lv_at hl 2 rfl) ?_
        refine o_get C h (RC := RX11) (T := TX11) (N := 2) (List.mem_append_right _ (hT1.ob (by decide) hof)) rfl in_X11 0 (by decide) q411 rfl (v := .ref ld.1) rfl dX1_latest_19 ?_
        refine lv_iload hx hb dX1_latest_22 (lv_at hl 7 rfl) ?_
        obtain ⟨y, hy⟩ := at_lt (l := sls) (i := i) (by omega)
        have hym := List.mem_of_getElem? hy
        obtain ⟨hyS0, hyc⟩ := hS y hym
        have hyS := hT1.2 y hyS0
        have hST := sT_lt hyS.b
        obtain ⟨ty, ⟨hbby, hbly, hboy, hb0y⟩, bay, sny, r1y, r2y, r3y, w1y, w2y, w3y, hcey, hbay, hsny, hr1y, hr2y, hr3y⟩ := hyS.b
        refine call_VR (As := [.int (nI i)]) (rest := []) (n := 1) C h (cA_get l D dA B Z hZ _ e0 ld _ i y.1 hA1 (at_map hy)) (lw_V q364 q365 q366 q133 q367) (by decide +kernel) (o_recv C h (RC := RJ2) (T := TJ2) (N := 3) (hcl1) rfl) (by decide) (by decide) rfl hl rfl (Nat.le_of_ble_eq_true rfl) dX1_latest_24 (by omega) (fun _ H locs _ h => ?_)
        refine o_cast C h (RC := RX17) (T := TX17) (N := 19) (List.mem_append_right _ hcey) rfl q1297 dX1_latest_27 ?_
        refine lv_astore (lv' := [(9, .ref y.1), (0, .ref (A 24)), (1, .ref ka), (2, .ref oa), (3, .int (nI lo)), (4, .int (nI hi)), (5, .long (lN t)), (7, va_rf (o.map Prod.fst)), (8, .int (nI i))]) hx hb dX1_latest_30 hl (by decide) rfl (fun ls hl => ?_)
        refine lv_aload hx hb dX1_latest_32 (lv_at hl 0 rfl) ?_
        refine o_get C h (RC := RX17) (T := TX17) (N := 19) (List.mem_append_right _ hcey) rfl in_X17 1 (by decide) q1308 rfl (v := .int (nI (sType y.2))) rfl dX1_latest_34 ?_
        refine lv_iload_n hx hb dX1_latest_37 rfl (lv_at hl 4 rfl) ?_
        refine n_icmp_lt (tgt := 87) hx hb (by omega) (by omega) dX1_latest_38 (by decide) (fun c38 => ?_) (fun c38 => ?_)
        · refine lv_iinc (v := nI (i + 1)) (lv' := [(8, .int (nI (i + 1))), (9, .ref y.1), (0, .ref (A 24)), (1, .ref ka), (2, .ref oa), (3, .int (nI lo)), (4, .int (nI hi)), (5, .long (lN t)), (7, va_rf (o.map Prod.fst))]) hx hb dX1_latest_87 hl (k := 8) rfl (nI_add i 1) (by decide) (by generalize (o.map Prod.fst) = z9; cases z9 <;> rfl) (fun ls hl => ?_)
          refine lv_goto (tgt := 6) hx hb dX1_latest_90 (by decide) ?_
          have hstep : latF (keyMsg kn.2.1 ++ keyMsg pn.2.1) kn.2.1 lo hi t o y = o := by
            unfold latF
            exact if_neg (fun z9 => by
              obtain ⟨⟨z1, z2⟩, z3, z4⟩ := z9
              first | omega | (rw [c80] at z3; cases z3) | (rw [hcv] at z3; cases z3) | (have z5 : mdN b.2 ≤ mdN y.2 := z4; omega))
          exact ih (i + 1) o q1 G1 _ _ (by omega) (by rw [fold_step hy, hi1, hstep]) hi2 hq1 hT1 (by omega) (by omega) (by omega) _ _ h _ (lv_sub hl [2, 3, 4, 5, 6, 7, 8, 0] rfl)
        · refine lv_aload hx hb dX1_latest_41 (lv_at hl 0 rfl) ?_
          refine o_get C h (RC := RX17) (T := TX17) (N := 19) (List.mem_append_right _ hcey) rfl in_X17 1 (by decide) q1308 rfl (v := .int (nI (sType y.2))) rfl dX1_latest_43 ?_
          refine lv_iload hx hb dX1_latest_46 (lv_at hl 5 rfl) ?_
          refine n_icmp_gt (tgt := 87) hx hb (by omega) (by omega) dX1_latest_48 (by decide) (fun c48 => ?_) (fun c48 => ?_)
          · refine lv_iinc (v := nI (i + 1)) (lv' := [(8, .int (nI (i + 1))), (9, .ref y.1), (0, .ref (A 24)), (1, .ref ka), (2, .ref oa), (3, .int (nI lo)), (4, .int (nI hi)), (5, .long (lN t)), (7, va_rf (o.map Prod.fst))]) hx hb dX1_latest_87 hl (k := 8) rfl (nI_add i 1) (by decide) (by generalize (o.map Prod.fst) = z9; cases z9 <;> rfl) (fun ls hl => ?_)
            refine lv_goto (tgt := 6) hx hb dX1_latest_90 (by decide) ?_
            have hstep : latF (keyMsg kn.2.1 ++ keyMsg pn.2.1) kn.2.1 lo hi t o y = o := by
              unfold latF
              exact if_neg (fun z9 => by
                obtain ⟨⟨z1, z2⟩, z3, z4⟩ := z9
                first | omega | (rw [c80] at z3; cases z3) | (rw [hcv] at z3; cases z3) | (have z5 : mdN b.2 ≤ mdN y.2 := z4; omega))
            exact ih (i + 1) o q1 G1 _ _ (by omega) (by rw [fold_step hy, hi1, hstep]) hi2 hq1 hT1 (by omega) (by omega) (by omega) _ _ h _ (lv_sub hl [2, 3, 4, 5, 6, 7, 8, 0] rfl)
          · refine q_aload hx hb dX1_latest_51 (lv_at hl 7 rfl) ?_
            refine q_ifnull (tgt := 70) hx hb dX1_latest_53 (by decide) (fun c53 => ?_) (fun a53 c53 => ?_)
            · have hob : o = none := by cases o with | none => rfl | some b => cases c53
              rw [c53] at hl
              have hl : lv_has ls 10 [(9, .ref y.1), (0, .ref (A 24)), (1, .ref ka), (2, .ref oa), (3, .int (nI lo)), (4, .int (nI hi)), (5, .long (lN t)), (7, va_rf ((none : Option SL).map Prod.fst)), (8, .int (nI i))] := hl
              refine lv_aload_n hx hb dX1_latest_70 rfl (lv_at hl 1 rfl) ?_
              refine lv_aload hx hb dX1_latest_71 (lv_at hl 0 rfl) ?_
              refine lv_aload_n hx hb dX1_latest_73 rfl (lv_at hl 2 rfl) ?_
              refine lv_aload_n hx hb dX1_latest_74 rfl (lv_at hl 3 rfl) ?_
              refine lv_lload hx hb dX1_latest_75 (lv_at hl 6 rfl) ?_
              refine call_VR (As := [.ref y.1, .ref ka, .ref oa, .long (lN t)]) (rest := []) (n := 4) C h (cQ_countsP l D dA B Z hZ G1 A O sz dc rg f1 f2 q1 cx y t ka a1 a2 a3 kn oa ld.1 pn hzq (hT1.qf hQF) hq1 hyS (hT1.ob (by decide) hk) (hT1.num hkn) (hT1.ob (by decide) hof) (hT1.num hpn) hyc ht) (lw_V q1642 q1644 qs31 q129 q1645) (by decide +kernel) (o_recv C h (RC := RX1) (T := TX1) (N := 14) (List.mem_append_right _ (hT1.qf hQF).2.2) rfl) (by decide) (by decide) rfl hl rfl (Nat.le_of_ble_eq_true rfl) dX1_latest_77 (by omega) (fun u9 H locs hu9 h => ?_)
              obtain ⟨q2, G2⟩ := u9
              obtain ⟨hq2, hT2⟩ := hu9
              dsimp only at hq2 hT2 h
              have hT12 := hT1.trans hT2
              refine z_if_eq (tgt := 87) hx hb dX1_latest_80 (by decide) (fun c80 => ?_) (fun c80 => ?_)
              · refine lv_iinc (v := nI (i + 1)) (lv' := [(8, .int (nI (i + 1))), (9, .ref y.1), (0, .ref (A 24)), (1, .ref ka), (2, .ref oa), (3, .int (nI lo)), (4, .int (nI hi)), (5, .long (lN t)), (7, va_rf ((none : Option SL).map Prod.fst))]) hx hb dX1_latest_87 hl (k := 8) rfl (nI_add i 1) (by decide) (by generalize ((none : Option SL).map Prod.fst) = z9; cases z9 <;> rfl) (fun ls hl => ?_)
                refine lv_goto (tgt := 6) hx hb dX1_latest_90 (by decide) ?_
                rw [hob] at hi1
                have hstep : latF (keyMsg kn.2.1 ++ keyMsg pn.2.1) kn.2.1 lo hi t none y = none := by
                  unfold latF
                  exact if_neg (fun z9 => by
                    obtain ⟨⟨z1, z2⟩, z3, z4⟩ := z9
                    first | omega | (rw [c80] at z3; cases z3) | (rw [hcv] at z3; cases z3) | (have z5 : mdN b.2 ≤ mdN y.2 := z4; omega))
                exact ih (i + 1) none q2 G2 _ _ (by omega) (by rw [fold_step hy, hi1, hstep]) (fun b9 h9 => by cases h9) hq2 hT12 (by omega) (by omega) (by omega) _ _ h _ (lv_sub hl [2, 3, 4, 5, 6, 7, 8, 0] rfl)
              · refine lv_aload hx hb dX1_latest_83 (lv_at hl 0 rfl) ?_
                refine lv_astore (lv' := [(7, .ref y.1), (9, .ref y.1), (0, .ref (A 24)), (1, .ref ka), (2, .ref oa), (3, .int (nI lo)), (4, .int (nI hi)), (5, .long (lN t)), (8, .int (nI i))]) hx hb dX1_latest_85 hl (by decide) rfl (fun ls hl => ?_)
                refine lv_iinc (v := nI (i + 1)) (lv' := [(8, .int (nI (i + 1))), (7, .ref y.1), (9, .ref y.1), (0, .ref (A 24)), (1, .ref ka), (2, .ref oa), (3, .int (nI lo)), (4, .int (nI hi)), (5, .long (lN t))]) hx hb dX1_latest_87 hl (k := 8) rfl (nI_add i 1) (by decide) rfl (fun ls hl => ?_)
                refine lv_goto (tgt := 6) hx hb dX1_latest_90 (by decide) ?_
                rw [hob] at hi1
                have hstep : latF (keyMsg kn.2.1 ++ keyMsg pn.2.1) kn.2.1 lo hi t none y = (some y) := by
                  unfold latF
                  first | exact if_pos ⟨⟨by omega, by omega⟩, c80, by first | exact Nat.zero_le _ | (show mdN b.2 ≤ mdN y.2; omega)⟩ | (exfalso; rw [hcv] at c80; cases c80)
                exact ih (i + 1) (some y) q2 G2 _ _ (by omega) (by rw [fold_step hy, hi1, hstep]) (fun b9 h9 => by rw [← Option.some.inj h9]; exact ⟨hym, cnt_nv c80⟩) hq2 hT12 (by omega) (by omega) (by omega) _ _ h _ (lv_sub hl [3, 4, 5, 6, 7, 8, 1, 0] rfl)
            · obtain ⟨b, hob, hb8⟩ : ∃ b, o = some b ∧ b.1 = a53 := by cases o with | none => cases c53 | some b => exact ⟨b, rfl, Option.some.inj c53⟩
              rw [c53, ← hb8] at hl
              have hl : lv_has ls 10 [(9, .ref y.1), (0, .ref (A 24)), (1, .ref ka), (2, .ref oa), (3, .int (nI lo)), (4, .int (nI hi)), (5, .long (lN t)), (7, .ref b.1), (8, .int (nI i))] := hl
              obtain ⟨hbm, hbv⟩ := hi2 b hob
              have hbS := hT1.2 b (hS b hbm).1
              obtain ⟨tb, ⟨hbbb, hblb, hbob, hb0b⟩, bab, snb, r1b, r2b, r3b, w1b, w2b, w3b, hceb, hbab, hsnb, hr1b, hr2b, hr3b⟩ := hbS.b
              have hv9b : sVain b.2 = false := hbv
              have hmdb : (sNote b.2).1 = some (mdN b.2) := vain_md hv9b
              have hnbb := sNote_nb hbbb
              have hm9b := hnbb.1 _ hmdb
              have he9b : enN b.2 < 4294967296 := hnbb.2.1
              have hceb : (b.1, .inr (14, [.ref bab, .int (nI (sType b.2)), .int (nI (sHash b.2)), .int (nI (sEnd b.2)), .int (nI (sLeft b.2)), .ref snb, .long (lN (mdN b.2)), .long (lN (sNote b.2).2.1), .long (lN (sNote b.2).2.2.1), va_rf r1b, va_rf r2b, .int (oI (sNote b.2).2.2.2.2.2.2.1), .int (oI (sNote b.2).2.2.2.2.2.2.2.1), va_rf r3b, .int (bZ (sVain b.2)), .int tb, .int (bZ w1b), .int (bZ w2b), .int (bZ w3b)])) ∈ G1 := by
                have h9 := hceb
                rw [hmdb] at h9
                exact h9
              by_cases hvs : sVain y.2 = false
              · have hv9y : sVain y.2 = false := hvs
                have hmdy : (sNote y.2).1 = some (mdN y.2) := vain_md hv9y
                have hnby := sNote_nb hbby
                have hm9y := hnby.1 _ hmdy
                have he9y : enN y.2 < 4294967296 := hnby.2.1
                have hcey : (y.1, .inr (14, [.ref bay, .int (nI (sType y.2)), .int (nI (sHash y.2)), .int (nI (sEnd y.2)), .int (nI (sLeft y.2)), .ref sny, .long (lN (mdN y.2)), .long (lN (sNote y.2).2.1), .long (lN (sNote y.2).2.2.1), va_rf r1y, va_rf r2y, .int (oI (sNote y.2).2.2.2.2.2.2.1), .int (oI (sNote y.2).2.2.2.2.2.2.2.1), va_rf r3y, .int (bZ (sVain y.2)), .int ty, .int (bZ w1y), .int (bZ w2y), .int (bZ w3y)])) ∈ G1 := by
                  have h9 := hcey
                  rw [hmdy] at h9
                  exact h9
                refine lv_aload hx hb dX1_latest_56 (lv_at hl 0 rfl) ?_
                refine o_get C h (RC := RX17) (T := TX17) (N := 19) (List.mem_append_right _ hcey) rfl in_X17 6 (by decide) q1318 rfl (v := .long (lN (mdN y.2))) rfl dX1_latest_58 ?_
                refine lv_aload hx hb dX1_latest_61 (lv_at hl 7 rfl) ?_
                refine o_get C h (RC := RX17) (T := TX17) (N := 19) (List.mem_append_right _ hceb) rfl in_X17 6 (by decide) q1318 rfl (v := .long (lN (mdN b.2))) rfl dX1_latest_63 ?_
                refine n_lcmp_lt (tgt := 87) hx hb (by omega) (by omega) dX1_latest_66 dX1_latest_67 (by decide) (fun c66 => ?_) (fun c66 => ?_)
                · refine lv_iinc (v := nI (i + 1)) (lv' := [(8, .int (nI (i + 1))), (9, .ref y.1), (0, .ref (A 24)), (1, .ref ka), (2, .ref oa), (3, .int (nI lo)), (4, .int (nI hi)), (5, .long (lN t)), (7, .ref b.1)]) hx hb dX1_latest_87 hl (k := 8) rfl (nI_add i 1) (by decide) rfl (fun ls hl => ?_)
                  refine lv_goto (tgt := 6) hx hb dX1_latest_90 (by decide) ?_
                  rw [hob] at hi1
                  have hstep : latF (keyMsg kn.2.1 ++ keyMsg pn.2.1) kn.2.1 lo hi t (some b) y = (some b) := by
                    unfold latF
                    exact if_neg (fun z9 => by
                      obtain ⟨⟨z1, z2⟩, z3, z4⟩ := z9
                      first | omega | (rw [c80] at z3; cases z3) | (rw [hcv] at z3; cases z3) | (have z5 : mdN b.2 ≤ mdN y.2 := z4; omega))
                  exact ih (i + 1) (some b) q1 G1 _ _ (by omega) (by rw [fold_step hy, hi1, hstep]) (fun b9 h9 => hi2 b9 (by rw [hob]; exact h9)) hq1 hT1 (by omega) (by omega) (by omega) _ _ h _ (lv_sub hl [2, 3, 4, 5, 6, 7, 8, 0] rfl)
                · refine lv_aload_n hx hb dX1_latest_70 rfl (lv_at hl 1 rfl) ?_
                  refine lv_aload hx hb dX1_latest_71 (lv_at hl 0 rfl) ?_
                  refine lv_aload_n hx hb dX1_latest_73 rfl (lv_at hl 2 rfl) ?_
                  refine lv_aload_n hx hb dX1_latest_74 rfl (lv_at hl 3 rfl) ?_
                  refine lv_lload hx hb dX1_latest_75 (lv_at hl 6 rfl) ?_
                  refine call_VR (As := [.ref y.1, .ref ka, .ref oa, .long (lN t)]) (rest := []) (n := 4) C h (cQ_countsP l D dA B Z hZ G1 A O sz dc rg f1 f2 q1 cx y t ka a1 a2 a3 kn oa ld.1 pn hzq (hT1.qf hQF) hq1 hyS (hT1.ob (by decide) hk) (hT1.num hkn) (hT1.ob (by decide) hof) (hT1.num hpn) hyc ht) (lw_V q1642 q1644 qs31 q129 q1645) (by decide +kernel) (o_recv C h (RC := RX1) (T := TX1) (N := 14) (List.mem_append_right _ (hT1.qf hQF).2.2) rfl) (by decide) (by decide) rfl hl rfl (Nat.le_of_ble_eq_true rfl) dX1_latest_77 (by omega) (fun u9 H locs hu9 h => ?_)
                  obtain ⟨q2, G2⟩ := u9
                  obtain ⟨hq2, hT2⟩ := hu9
                  dsimp only at hq2 hT2 h
                  have hT12 := hT1.trans hT2
                  refine z_if_eq (tgt := 87) hx hb dX1_latest_80 (by decide) (fun c80 => ?_) (fun c80 => ?_)
                  · refine lv_iinc (v := nI (i + 1)) (lv' := [(8, .int (nI (i + 1))), (9, .ref y.1), (0, .ref (A 24)), (1, .ref ka), (2, .ref oa), (3, .int (nI lo)), (4, .int (nI hi)), (5, .long (lN t)), (7, .ref b.1)]) hx hb dX1_latest_87 hl (k := 8) rfl (nI_add i 1) (by decide) rfl (fun ls hl => ?_)
                    refine lv_goto (tgt := 6) hx hb dX1_latest_90 (by decide) ?_
                    rw [hob] at hi1
                    have hstep : latF (keyMsg kn.2.1 ++ keyMsg pn.2.1) kn.2.1 lo hi t (some b) y = (some b) := by
                      unfold latF
                      exact if_neg (fun z9 => by
                        obtain ⟨⟨z1, z2⟩, z3, z4⟩ := z9
                        first | omega | (rw [c80] at z3; cases z3) | (rw [hcv] at z3; cases z3) | (have z5 : mdN b.2 ≤ mdN y.2 := z4; omega))
                    exact ih (i + 1) (some b) q2 G2 _ _ (by omega) (by rw [fold_step hy, hi1, hstep]) (fun b9 h9 => hi2 b9 (by rw [hob]; exact h9)) hq2 hT12 (by omega) (by omega) (by omega) _ _ h _ (lv_sub hl [2, 3, 4, 5, 6, 7, 8, 0] rfl)
                  · refine lv_aload hx hb dX1_latest_83 (lv_at hl 0 rfl) ?_
                    refine lv_astore (lv' := [(7, .ref y.1), (9, .ref y.1), (0, .ref (A 24)), (1, .ref ka), (2, .ref oa), (3, .int (nI lo)), (4, .int (nI hi)), (5, .long (lN t)), (8, .int (nI i))]) hx hb dX1_latest_85 hl (by decide) rfl (fun ls hl => ?_)
                    refine lv_iinc (v := nI (i + 1)) (lv' := [(8, .int (nI (i + 1))), (7, .ref y.1), (9, .ref y.1), (0, .ref (A 24)), (1, .ref ka), (2, .ref oa), (3, .int (nI lo)), (4, .int (nI hi)), (5, .long (lN t))]) hx hb dX1_latest_87 hl (k := 8) rfl (nI_add i 1) (by decide) rfl (fun ls hl => ?_)
                    refine lv_goto (tgt := 6) hx hb dX1_latest_90 (by decide) ?_
                    rw [hob] at hi1
                    have hstep : latF (keyMsg kn.2.1 ++ keyMsg pn.2.1) kn.2.1 lo hi t (some b) y = (some y) := by
                      unfold latF
                      first | exact if_pos ⟨⟨by omega, by omega⟩, c80, by first | exact Nat.zero_le _ | (show mdN b.2 ≤ mdN y.2; omega)⟩ | (exfalso; rw [hcv] at c80; cases c80)
                    exact ih (i + 1) (some y) q2 G2 _ _ (by omega) (by rw [fold_step hy, hi1, hstep]) (fun b9 h9 => by rw [← Option.some.inj h9]; exact ⟨hym, cnt_nv c80⟩) hq2 hT12 (by omega) (by omega) (by omega) _ _ h _ (lv_sub hl [3, 4, 5, 6, 7, 8, 1, 0] rfl)
              · have hvt : sVain y.2 = true := by cases q9 : sVain y.2 with | true => rfl | false => exact absurd q9 hvs
                have hcv := cntC_v (msg := (keyMsg kn.2.1 ++ keyMsg pn.2.1)) (kb := kn.2.1) (t := t) hvt
                refine lv_aload hx hb dX1_latest_56 (lv_at hl 0 rfl) ?_
                refine o_get C h (RC := RX17) (T := TX17) (N := 19) (List.mem_append_right _ hcey) rfl in_X17 6 (by decide) q1318 rfl (v := .long (oL (sNote y.2).1)) rfl dX1_latest_58 ?_
                refine lv_aload hx hb dX1_latest_61 (lv_at hl 7 rfl) ?_
                refine o_get C h (RC := RX17) (T := TX17) (N := 19) (List.mem_append_right _ hceb) rfl in_X17 6 (by decide) q1318 rfl (v := .long (lN (mdN b.2))) rfl dX1_latest_63 ?_
                refine k_lcmp_lt (tgt := 87) hx hb dX1_latest_66 dX1_latest_67 (by decide) (fun c66 => ?_) (fun c66 => ?_)
                · refine lv_iinc (v := nI (i + 1)) (lv' := [(8, .int (nI (i + 1))), (9, .ref y.1), (0, .ref (A 24)), (1, .ref ka), (2, .ref oa), (3, .int (nI lo)), (4, .int (nI hi)), (5, .long (lN t)), (7, .ref b.1)]) hx hb dX1_latest_87 hl (k := 8) rfl (nI_add i 1) (by decide) rfl (fun ls hl => ?_)
                  refine lv_goto (tgt := 6) hx hb dX1_latest_90 (by decide) ?_
                  rw [hob] at hi1
                  have hstep : latF (keyMsg kn.2.1 ++ keyMsg pn.2.1) kn.2.1 lo hi t (some b) y = (some b) := by
                    unfold latF
                    exact if_neg (fun z9 => by
                      obtain ⟨⟨z1, z2⟩, z3, z4⟩ := z9
                      first | omega | (rw [c80] at z3; cases z3) | (rw [hcv] at z3; cases z3) | (have z5 : mdN b.2 ≤ mdN y.2 := z4; omega))
                  exact ih (i + 1) (some b) q1 G1 _ _ (by omega) (by rw [fold_step hy, hi1, hstep]) (fun b9 h9 => hi2 b9 (by rw [hob]; exact h9)) hq1 hT1 (by omega) (by omega) (by omega) _ _ h _ (lv_sub hl [2, 3, 4, 5, 6, 7, 8, 0] rfl)
                · refine lv_aload_n hx hb dX1_latest_70 rfl (lv_at hl 1 rfl) ?_
                  refine lv_aload hx hb dX1_latest_71 (lv_at hl 0 rfl) ?_
                  refine lv_aload_n hx hb dX1_latest_73 rfl (lv_at hl 2 rfl) ?_
                  refine lv_aload_n hx hb dX1_latest_74 rfl (lv_at hl 3 rfl) ?_
                  refine lv_lload hx hb dX1_latest_75 (lv_at hl 6 rfl) ?_
                  refine call_VR (As := [.ref y.1, .ref ka, .ref oa, .long (lN t)]) (rest := []) (n := 4) C h (cQ_countsP l D dA B Z hZ G1 A O sz dc rg f1 f2 q1 cx y t ka a1 a2 a3 kn oa ld.1 pn hzq (hT1.qf hQF) hq1 hyS (hT1.ob (by decide) hk) (hT1.num hkn) (hT1.ob (by decide) hof) (hT1.num hpn) hyc ht) (lw_V q1642 q1644 qs31 q129 q1645) (by decide +kernel) (o_recv C h (RC := RX1) (T := TX1) (N := 14) (List.mem_append_right _ (hT1.qf hQF).2.2) rfl) (by decide) (by decide) rfl hl rfl (Nat.le_of_ble_eq_true rfl) dX1_latest_77 (by omega) (fun u9 H locs hu9 h => ?_)
                  obtain ⟨q2, G2⟩ := u9
                  obtain ⟨hq2, hT2⟩ := hu9
                  dsimp only at hq2 hT2 h
                  have hT12 := hT1.trans hT2
                  refine z_if_eq (tgt := 87) hx hb dX1_latest_80 (by decide) (fun c80 => ?_) (fun c80 => ?_)
                  · refine lv_iinc (v := nI (i + 1)) (lv' := [(8, .int (nI (i + 1))), (9, .ref y.1), (0, .ref (A 24)), (1, .ref ka), (2, .ref oa), (3, .int (nI lo)), (4, .int (nI hi)), (5, .long (lN t)), (7, .ref b.1)]) hx hb dX1_latest_87 hl (k := 8) rfl (nI_add i 1) (by decide) rfl (fun ls hl => ?_)
                    refine lv_goto (tgt := 6) hx hb dX1_latest_90 (by decide) ?_
                    rw [hob] at hi1
                    have hstep : latF (keyMsg kn.2.1 ++ keyMsg pn.2.1) kn.2.1 lo hi t (some b) y = (some b) := by
                      unfold latF
                      exact if_neg (fun z9 => by
                        obtain ⟨⟨z1, z2⟩, z3, z4⟩ := z9
                        first | omega | (rw [c80] at z3; cases z3) | (rw [hcv] at z3; cases z3) | (have z5 : mdN b.2 ≤ mdN y.2 := z4; omega))
                    exact ih (i + 1) (some b) q2 G2 _ _ (by omega) (by rw [fold_step hy, hi1, hstep]) (fun b9 h9 => hi2 b9 (by rw [hob]; exact h9)) hq2 hT12 (by omega) (by omega) (by omega) _ _ h _ (lv_sub hl [2, 3, 4, 5, 6, 7, 8, 0] rfl)
                  · refine lv_aload hx hb dX1_latest_83 (lv_at hl 0 rfl) ?_
                    refine lv_astore (lv' := [(7, .ref y.1), (9, .ref y.1), (0, .ref (A 24)), (1, .ref ka), (2, .ref oa), (3, .int (nI lo)), (4, .int (nI hi)), (5, .long (lN t)), (8, .int (nI i))]) hx hb dX1_latest_85 hl (by decide) rfl (fun ls hl => ?_)
                    refine lv_iinc (v := nI (i + 1)) (lv' := [(8, .int (nI (i + 1))), (7, .ref y.1), (9, .ref y.1), (0, .ref (A 24)), (1, .ref ka), (2, .ref oa), (3, .int (nI lo)), (4, .int (nI hi)), (5, .long (lN t))]) hx hb dX1_latest_87 hl (k := 8) rfl (nI_add i 1) (by decide) rfl (fun ls hl => ?_)
                    refine lv_goto (tgt := 6) hx hb dX1_latest_90 (by decide) ?_
                    rw [hob] at hi1
                    have hstep : latF (keyMsg kn.2.1 ++ keyMsg pn.2.1) kn.2.1 lo hi t (some b) y = (some y) := by
                      unfold latF
                      first | exact if_pos ⟨⟨by omega, by omega⟩, c80, by first | exact Nat.zero_le _ | (show mdN b.2 ≤ mdN y.2; omega)⟩ | (exfalso; rw [hcv] at c80; cases c80)
                    exact ih (i + 1) (some y) q2 G2 _ _ (by omega) (by rw [fold_step hy, hi1, hstep]) (fun b9 h9 => by rw [← Option.some.inj h9]; exact ⟨hym, cnt_nv c80⟩) hq2 hT12 (by omega) (by omega) (by omega) _ _ h _ (lv_sub hl [3, 4, 5, 6, 7, 8, 1, 0] rfl)
  exact loop _ 0 none q G _ _ (by omega) rfl (fun b hb => by cases hb) hqo TR.rf (by omega) (by omega) (Nat.lt_succ_self _) _ _ h _ (lv_sub hl [2, 3, 4, 5, 6, 7, 1, 0] rfl)
