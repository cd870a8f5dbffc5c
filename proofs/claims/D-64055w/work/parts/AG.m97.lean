set_option maxRecDepth 100000

def bckC (msg pb sb : List Nat) (t : Nat) : Bool := match bkN sb with
  | none => false
  | some bk => decide (4 ≤ bk.length) && (oursL bk && (sealOk bk && (decide (sType bk = 25) && (!sVain bk && (decide (mdN bk ≤ t) && trueS msg bk pb)))))
theorem bckC_n {msg pb sb : List Nat} {t : Nat} (h : bkN sb = none) : bckC msg pb sb t = false := by unfold bckC; rw [h]
theorem bckC_s {msg pb sb bk : List Nat} {t : Nat} (h : bkN sb = some bk) : bckC msg pb sb t = (decide (4 ≤ bk.length) && (oursL bk && (sealOk bk && (decide (sType bk = 25) && (!sVain bk && (decide (mdN bk ≤ t) && trueS msg bk pb)))))) := by unfold bckC; rw [h]
theorem ROb_n {dA : Nat → ClassId} {F : va_W} {o : Option (List Nat)} {r : Option Nat} (h : ROb dA F r o) (hr : r = none) : o = none := by
  cases o with
  | none => rfl
  | some b => obtain ⟨q, h1, _⟩ := h; rw [hr] at h1; cases h1
theorem ROb_s {dA : Nat → ClassId} {F : va_W} {o : Option (List Nat)} {r : Option Nat} {a : Nat} (h : ROb dA F r o) (hr : r = some a) : ∃ b, o = some b ∧ (a, bal dA b) ∈ F := by
  cases o with
  | none => have h : r = none := h; rw [hr] at h; cases h
  | some b =>
    obtain ⟨q, h1, h2⟩ := h
    rw [hr] at h1
    exact ⟨b, rfl, (Option.some.inj h1) ▸ h2⟩
/-- the first cell's place is no other's -/
theorem Wd.fresh1 {D : va_G} {B : Nat} {s : State} {ws : va_W} {H : Heap} {locs : List Loc} {a : Nat} {x : va_E} (h : Wd D B s ((a, x) :: ws) H locs) {y : va_E} (hb : (a, y) ∈ ws) : False := by
  obtain ⟨j, hj⟩ := List.getElem?_of_mem hb
  have := h.2.1.1 0 (j + 1) (a, x) (a, y) rfl hj rfl
  exact absurd this (by omega)
/-- a question about a new seal leaves the others as they are -/
theorem TR.fresh {dA : Nat → ClassId} {cx : CX} {se : Nat} {v : List Nat × List Nat} {G E G2 : va_W} {c : va_E} (hf : ∀ y, (se, y) ∈ G → False) (h : TR dA (fun a => if a = se then v else cx a) ([(se, c)] ++ (G ++ E)) G2) : TR dA cx G G2 := by
  refine ⟨fun a e h1 h2 => h.1 a e (List.mem_append_right _ (List.mem_append_left _ h1)) h2, fun y hy => ?_⟩
  have hne : y.1 ≠ se := by
    intro q
    obtain ⟨fs, hfs⟩ := hy.b.cl
    rw [q] at hfs
    exact hf _ hfs
  obtain ⟨t, h1, h2⟩ := hy
  obtain ⟨t', h3, h4⟩ := h.2 y ⟨t, h1.sub (fun b q hq => List.mem_append_right _ (List.mem_append_left _ hq)) (fun a fs hq => List.mem_append_right _ (List.mem_append_left _ hq)), by
    dsimp only
    rw [if_neg hne]; exact h2⟩
  refine ⟨t', h3, ?_⟩
  dsimp only at h4
  rw [if_neg hne] at h4
  exact h4


theorem memW {α : Type} {z c d : α} {E G : List α} (h : z ∈ [c] ++ ([d] ++ E)) (hd : d ∈ G) : z ∈ [c] ++ (G ++ E) := by
  rcases List.mem_append.mp h with h | h
  · exact List.mem_append_left _ h
  · rcases List.mem_append.mp h with h | h
    · rw [List.mem_singleton.mp h]; exact List.mem_append_right _ (List.mem_append_left _ hd)
    · exact List.mem_append_right _ (List.mem_append_right _ h)
theorem TR.app9 {dA : Nat → ClassId} {cx : CX} {G E : va_W} {z : Nat × va_E} : TR dA cx G ([z] ++ (G ++ E)) := ⟨fun _ _ h _ => List.mem_append_right _ (List.mem_append_left _ h), fun y hy => by
  obtain ⟨t, h1, h2⟩ := hy
  exact ⟨t, h1.sub (fun b q hq => List.mem_append_right _ (List.mem_append_left _ hq)) (fun a fs hq => List.mem_append_right _ (List.mem_append_left _ hq)), h2⟩⟩

set_option maxHeartbeats 400000 in
set_option maxRecDepth 100000 in
theorem cQ_isBacked (l : Launch) (D : va_G) (dA : Nat → ClassId) (B : Nat) (Z : State → Prop) (hZ : Stab B Z) (G : va_W) (A : Nat → Nat) (O : va_W) (sz dc rg f1 f2 : Nat) (q : QS) (cx : CX) (ka a1 a2 a3 : Nat) (kn : NBr) (oa la : Nat) (pn : NBr) (x : SL) (t : Nat) (hzq : ZQ B f1 f2 Z) (hQF : QF dA A sz dc rg G) (hqo : QOk q) (hk : (ka, .inr (6, [.ref a1, .ref kn.1, .ref a2, .ref a3])) ∈ G) (hkn : NumIn dA G kn) (hof : (oa, .inr (8, [.ref la, .ref pn.1])) ∈ G) (hpn : NumIn dA G pn) (hS : SealT dA cx G x) (ht : t < 4294967296) :
    Ct (S := QS × va_W) l D dA B Z yX1_isBacked cX1_isBacked 8 (some .boolean) 9 (x.2.length / 2 + 5) (5 * x.2.length + 278) [.ref (A 24), .ref ka, .ref oa, .ref x.1, .long (lN t)] (qW dA A O q ++ G) (fun u => QOk u.1 ∧ TR dA cx G u.2) (fun _ => some (.int (bZ (bckC (keyMsg kn.2.1 ++ keyMsg pn.2.1) pn.2.1 x.2 t)))) (fun u => qW dA A O u.1 ++ u.2) := by
  refine Ct.mk2 (by decide) (Nat.le_of_ble_eq_true rfl) hZ ?_
  intro p e R s m args below meth c ls Q C hr hlocks hin hQ hl h
  have C0 := C
  obtain ⟨hx, hb, hml, hown, hts, -⟩ := C0
  have hl : lv_has ls 8 [(0, .ref (A 24)), (1, .ref ka), (2, .ref oa), (3, .ref x.1), (4, .long (lN t))] := hl
  obtain ⟨tx, ⟨hbbx, hblx, hbox, hb0x⟩, bax, snx, r1x, r2x, r3x, w1x, w2x, w3x, hcex, hbax, hsnx, hr1x, hr2x, hr3x⟩ := hS.b
  have hnbx := sNote_nb hbbx
  refine lv_aload_n hx hb dX1_isBacked_0 rfl (lv_at hl 3 rfl) ?_
  refine o_get C h (RC := RX17) (T := TX17) (N := 19) (List.mem_append_right _ hcex) rfl in_X17 13 (by decide) q1331 rfl (v := va_rf r3x) rfl dX1_isBacked_1 ?_
  refine q_astore (lv' := [(6, va_rf r3x), (0, .ref (A 24)), (1, .ref ka), (2, .ref oa), (3, .ref x.1), (4, .long (lN t))]) hx hb dX1_isBacked_4 hl (by decide) rfl (fun ls hl => ?_)
  refine q_aload hx hb dX1_isBacked_6 (lv_at hl 0 rfl) ?_
  refine q_ifnull (tgt := 26) hx hb dX1_isBacked_8 (by decide) (fun c8 => ?_) (fun a8 c8 => ?_)
  · have hbn : bkN x.2 = none := ROb_n hr3x c8
    refine lv_iconst (v := nI 0) hx hb dX1_isBacked_26 (by decide) ?_
    subst hQ
    have hfin : bckC (keyMsg kn.2.1 ++ keyMsg pn.2.1) pn.2.1 x.2 t = false := bckC_n hbn
    refine n_top (y := bZ false) rfl ?_
    exact ret_z C hr hlocks h (q, G) (⟨hqo, TR.rf⟩) (by rw [hfin]) rfl (by omega) (by omega) dX1_isBacked_27
  · obtain ⟨bk, hbk, hbkm⟩ := ROb_s hr3x c8
    have hbn : bkN x.2 = some bk := hbk
    obtain ⟨hbkb, hbkl⟩ := hnbx.2.2.2.2.2.1 bk hbk
    rw [c8] at hl
    have hl : lv_has ls 8 [(6, .ref a8), (0, .ref (A 24)), (1, .ref ka), (2, .ref oa), (3, .ref x.1), (4, .long (lN t))] := hl
    refine lv_aload hx hb dX1_isBacked_11 (lv_at hl 0 rfl) ?_
    refine n_balen C h (List.mem_append_right _ hbkm) dX1_isBacked_13 ?_
    refine lv_iconst (v := nI 4) hx hb dX1_isBacked_14 (by decide) ?_
    refine n_icmp_lt (tgt := 26) hx hb (by omega) (by omega) dX1_isBacked_15 (by decide) (fun c15 => ?_) (fun c15 => ?_)
    · refine lv_iconst (v := nI 0) hx hb dX1_isBacked_26 (by decide) ?_
      subst hQ
      have hfin : bckC (keyMsg kn.2.1 ++ keyMsg pn.2.1) pn.2.1 x.2 t = false := by
        rw [bckC_s hbn]
        first
        | (rw [decide_eq_false (show ¬ 4 ≤ bk.length by omega)]; rfl)
        | (rw [c44]; simp; done)
        | (rw [decide_eq_false (show ¬ sType bk = 25 by omega)]; simp; done)
        | (rw [c62]; simp; done)
        | (rw [decide_eq_false (show ¬ mdN bk ≤ t by omega)]; simp; done)
        | (rw [c23]; simp; done)
      refine n_top (y := bZ false) rfl ?_
      exact ret_z C hr hlocks h (q, G) (⟨hqo, TR.rf⟩) (by rw [hfin]) rfl (by omega) (by omega) dX1_isBacked_27
    · refine lv_aload hx hb dX1_isBacked_18 (lv_at hl 0 rfl) ?_
      refine call_S (As := [.ref a8]) (rest := []) (n := 1) C h (c17_isOurs l D dA B Z hZ _ a8 bk (List.mem_append_right _ hbkm) (by omega) hbkb (by omega)) (lw_S q1294 q1295 q165 q1296) (by decide +kernel) (by decide) (by decide) rfl hl rfl (Nat.le_of_ble_eq_true rfl) dX1_isBacked_20 (by omega) (fun _ H locs _ h => ?_)
      refine z_if_ne (tgt := 28) hx hb dX1_isBacked_23 (by decide) (fun c23 => ?_) (fun c23 => ?_)
      · refine o_new C h (RC := RX17) (T := TX17) (N := 19) (ci := 14) (fs := [.null, .int 0, .int 0, .int 0, .int 0, .null, .long 0, .long 0, .long 0, .null, .null, .int 0, .int 0, .null, .int (bZ false), .int 0, .int (bZ false), .int (bZ false), .int (bZ false)]) rfl in_X17 tyX17_ok q1297 q1298 q165 dv_X17 (by omega) (by omega) dX1_isBacked_28 (fun o1 H h => ?_)
        have h := Wd.toFront h
        have h : Wd D B s ([(o1, .inr (14, [.null, .int 0, .int 0, .int 0, .int 0, .null, .long 0, .long 0, .long 0, .null, .null, .int 0, .int 0, .null, .int (bZ false), .int 0, .int (bZ false), .int (bZ false), .int (bZ false)]))] ++ (qW dA A O q ++ G)) H locs := h
        refine lv_dup hx hb dX1_isBacked_31 rfl ?_
        refine lv_aload hx hb dX1_isBacked_32 (lv_at hl 0 rfl) ?_
        refine call_I (As := [.ref a8]) (rest := [.ref o1]) (n := 1) C h (c17_init l D dA B Z hZ (qW dA A O q ++ G) o1 a8) (lw_meth q1301) q165 q1299 q1300 rfl (by decide +kernel) (by decide) (by decide) rfl hl rfl (Nat.le_of_ble_eq_true rfl) dX1_isBacked_34 (by omega) (fun _ H locs _ h => ?_)
        have h : Wd D B s ((slC o1 a8 0 0 0 0 none nt0 none none none 0 ++ (qW dA A O q ++ G))) H locs := h
        refine lv_astore (lv' := [(7, .ref o1), (6, .ref a8), (0, .ref (A 24)), (1, .ref ka), (2, .ref oa), (3, .ref x.1), (4, .long (lN t))]) hx hb dX1_isBacked_37 hl (by decide) rfl (fun ls hl => ?_)
        refine lv_aload hx hb dX1_isBacked_39 (lv_at hl 0 rfl) ?_
        refine call_VR (As := []) (rest := []) (n := 0) C h (c17_read l D dA B Z hZ (qW dA A O q ++ G) o1 a8 bk (List.mem_append_right _ hbkm) hbkb (by omega) (by omega)) (lw_V q1377 q1378 q1379 q165 q1380) (by decide +kernel) (o_recv C h (RC := RX17) (T := TX17) (N := 19) (List.mem_append_left _ List.mem_cons_self) rfl) (by decide) (by decide) rfl hl rfl (Nat.le_of_ble_eq_true rfl) dX1_isBacked_41 (by omega) (fun u9 H locs hu9 h => ?_)
        obtain ⟨fs9, E9⟩ := u9
        dsimp only at hu9 h
        have h : Wd D B s (([(o1, .inr (14, fs9))] ++ ((qW dA A O q ++ G) ++ E9))) H locs := h
        refine z_if_eq (tgt := 76) hx hb dX1_isBacked_44 (by decide) (fun c44 => ?_) (fun c44 => ?_)
        · refine lv_iconst (v := nI 0) hx hb dX1_isBacked_76 (by decide) ?_
          subst hQ
          have h : Wd D B s (qW dA A O q ++ ([(o1, .inr (14, fs9))] ++ (G ++ E9))) H locs := h.permL (perm_add (fun g f p0 p1 p2 => by (try simp only [p0, p1, p2]) <;> omega))
          have hfin : bckC (keyMsg kn.2.1 ++ keyMsg pn.2.1) pn.2.1 x.2 t = false := by
            rw [bckC_s hbn]
            first
            | (rw [decide_eq_false (show ¬ 4 ≤ bk.length by omega)]; rfl)
            | (rw [c44]; simp; done)
            | (rw [decide_eq_false (show ¬ sType bk = 25 by omega)]; simp; done)
            | (rw [c62]; simp; done)
            | (rw [decide_eq_false (show ¬ mdN bk ≤ t by omega)]; simp; done)
            | (rw [c23]; simp; done)
          refine n_top (y := bZ false) rfl ?_
          exact ret_z C hr hlocks h (q, [(o1, .inr (14, fs9))] ++ (G ++ E9)) (⟨hqo, TR.app9⟩) (by rw [hfin]) rfl (by omega) (by omega) dX1_isBacked_77
        · have hSi0 := hu9 c44
          have hSi : SealIn dA ([(o1, .inr (14, fs9))] ++ ((qW dA A O q ++ G) ++ E9)) (o1, bk) 0 := hSi0.sub (fun b q9 hq => memW hq (List.mem_append_right _ hbkm)) (fun a fs hq => memW hq (List.mem_append_right _ hbkm))
          obtain ⟨⟨hbbz, hblz, hboz, hb0z⟩, baz, snz, r1z, r2z, r3z, w1z, w2z, w3z, hcez, hbaz, hsnz, hr1z, hr2z, hr3z⟩ := hSi
          have hST := oneS_lt hbbz (sU1 bk).2
          have hST : sType bk < 256 := hST
          try dsimp only at hcez
          refine lv_aload hx hb dX1_isBacked_47 (lv_at hl 0 rfl) ?_
          refine o_get C h (RC := RX17) (T := TX17) (N := 19) (hcez) rfl in_X17 1 (by decide) q1308 rfl (v := .int (nI (sType bk))) rfl dX1_isBacked_49 ?_
          refine lv_bipush (v := nI 25) hx hb dX1_isBacked_52 (by decide) ?_
          refine n_icmp_ne (tgt := 76) hx hb (by omega) (by omega) dX1_isBacked_54 (by decide) (fun c54 => ?_) (fun c54 => ?_)
          · refine lv_iconst (v := nI 0) hx hb dX1_isBacked_76 (by decide) ?_
            subst hQ
            have h : Wd D B s (qW dA A O q ++ ([(o1, .inr (14, fs9))] ++ (G ++ E9))) H locs := h.permL (perm_add (fun g f p0 p1 p2 => by (try simp only [p0, p1, p2]) <;> omega))
            have hfin : bckC (keyMsg kn.2.1 ++ keyMsg pn.2.1) pn.2.1 x.2 t = false := by
              rw [bckC_s hbn]
              first
              | (rw [decide_eq_false (show ¬ 4 ≤ bk.length by omega)]; rfl)
              | (rw [c44]; simp; done)
              | (rw [decide_eq_false (show ¬ sType bk = 25 by omega)]; simp; done)
              | (rw [c62]; simp; done)
              | (rw [decide_eq_false (show ¬ mdN bk ≤ t by omega)]; simp; done)
              | (rw [c23]; simp; done)
            refine n_top (y := bZ false) rfl ?_
            exact ret_z C hr hlocks h (q, [(o1, .inr (14, fs9))] ++ (G ++ E9)) (⟨hqo, TR.app9⟩) (by rw [hfin]) rfl (by omega) (by omega) dX1_isBacked_77
          · refine lv_aload hx hb dX1_isBacked_57 (lv_at hl 0 rfl) ?_
            refine o_get C h (RC := RX17) (T := TX17) (N := 19) (hcez) rfl in_X17 14 (by decide) q1333 rfl (v := .int (bZ (sVain bk))) rfl dX1_isBacked_59 ?_
            refine z_if_ne (tgt := 76) hx hb dX1_isBacked_62 (by decide) (fun c62 => ?_) (fun c62 => ?_)
            · refine lv_iconst (v := nI 0) hx hb dX1_isBacked_76 (by decide) ?_
              subst hQ
              have h : Wd D B s (qW dA A O q ++ ([(o1, .inr (14, fs9))] ++ (G ++ E9))) H locs := h.permL (perm_add (fun g f p0 p1 p2 => by (try simp only [p0, p1, p2]) <;> omega))
              have hfin : bckC (keyMsg kn.2.1 ++ keyMsg pn.2.1) pn.2.1 x.2 t = false := by
                rw [bckC_s hbn]
                first
                | (rw [decide_eq_false (show ¬ 4 ≤ bk.length by omega)]; rfl)
                | (rw [c44]; simp; done)
                | (rw [decide_eq_false (show ¬ sType bk = 25 by omega)]; simp; done)
                | (rw [c62]; simp; done)
                | (rw [decide_eq_false (show ¬ mdN bk ≤ t by omega)]; simp; done)
                | (rw [c23]; simp; done)
              refine n_top (y := bZ false) rfl ?_
              exact ret_z C hr hlocks h (q, [(o1, .inr (14, fs9))] ++ (G ++ E9)) (⟨hqo, TR.app9⟩) (by rw [hfin]) rfl (by omega) (by omega) dX1_isBacked_77
            · have hmdz : (sNote bk).1 = some (mdN bk) := vain_md c62
              have hm9z := (sNote_nb hbbz).1 _ hmdz
              have hcez : (o1, .inr (14, [.ref baz, .int (nI (sType bk)), .int (nI (sHash bk)), .int (nI (sEnd bk)), .int (nI (sLeft bk)), .ref snz, .long (lN (mdN bk)), .long (lN (sNote bk).2.1), .long (lN (sNote bk).2.2.1), va_rf r1z, va_rf r2z, .int (oI (sNote bk).2.2.2.2.2.2.1), .int (oI (sNote bk).2.2.2.2.2.2.2.1), va_rf r3z, .int (bZ (sVain bk)), .int 0, .int (bZ w1z), .int (bZ w2z), .int (bZ w3z)])) ∈ ([(o1, .inr (14, fs9))] ++ ((qW dA A O q ++ G) ++ E9)) := by
                have h9 := hcez
                rw [hmdz] at h9
                exact h9
              refine lv_aload hx hb dX1_isBacked_65 (lv_at hl 0 rfl) ?_
              refine o_get C h (RC := RX17) (T := TX17) (N := 19) (hcez) rfl in_X17 6 (by decide) q1318 rfl (v := .long (lN (mdN bk))) rfl dX1_isBacked_67 ?_
              refine lv_lload hx hb dX1_isBacked_70 (lv_at hl 6 rfl) ?_
              refine n_lcmp_le (tgt := 78) hx hb (by omega) (by omega) dX1_isBacked_72 dX1_isBacked_73 (by decide) (fun c72 => ?_) (fun c72 => ?_)
              · refine lv_aload_n hx hb dX1_isBacked_78 rfl (lv_at hl 2 rfl) ?_
                refine lv_aload hx hb dX1_isBacked_79 (lv_at hl 0 rfl) ?_
                refine lv_aload_n hx hb dX1_isBacked_81 rfl (lv_at hl 3 rfl) ?_
                refine lv_aload_n hx hb dX1_isBacked_82 rfl (lv_at hl 4 rfl) ?_
                refine lv_aload_n hx hb dX1_isBacked_83 rfl (lv_at hl 4 rfl) ?_
                refine o_get C h (RC := RX11) (T := TX11) (N := 2) (List.mem_append_right _ (List.mem_append_left _ (List.mem_append_right _ hof))) rfl in_X11 1 (by decide) q542 rfl (v := .ref pn.1) rfl dX1_isBacked_84 ?_
                have hfr : ∀ y, (o1, y) ∈ G → False := fun y hy => Wd.fresh1 (ws := (qW dA A O q ++ G) ++ E9) h (List.mem_append_left _ (List.mem_append_right _ hy))
                have h : Wd D B s (qW dA A O q ++ ([(o1, .inr (14, fs9))] ++ (G ++ E9))) H locs := h.permL (perm_add (fun g f p0 p1 p2 => by (try simp only [p0, p1, p2]) <;> omega))
                have hSN : SealT dA (fun a => if a = o1 then (keyMsg kn.2.1 ++ keyMsg pn.2.1, pn.2.1) else cx a) ([(o1, .inr (14, fs9))] ++ (G ++ E9)) (o1, bk) := ⟨0, hSi0.sub (fun b q9 hq => memW hq hbkm) (fun a fs hq => memW hq hbkm), Or.inl rfl⟩
                refine call_VR (As := [.ref o1, .ref ka, .ref oa, .ref pn.1]) (rest := []) (n := 4) C h (cQ_isTrueP l D dA B Z hZ ([(o1, .inr (14, fs9))] ++ (G ++ E9)) A O sz dc rg f1 f2 ka a1 a2 a3 q (fun a => if a = o1 then (keyMsg kn.2.1 ++ keyMsg pn.2.1, pn.2.1) else cx a) (o1, bk) kn oa la pn pn hzq ⟨(List.mem_append_right _ (List.mem_append_left _ hQF.1)), (List.mem_append_right _ (List.mem_append_left _ hQF.2.1)), (List.mem_append_right _ (List.mem_append_left _ hQF.2.2))⟩ hqo hSN (List.mem_append_right _ (List.mem_append_left _ hk)) (hkn.sub (fun b q9 hq => List.mem_append_right _ (List.mem_append_left _ hq)) (fun a fs hq => List.mem_append_right _ (List.mem_append_left _ hq))) (List.mem_append_right _ (List.mem_append_left _ hof)) (hpn.sub (fun b q9 hq => List.mem_append_right _ (List.mem_append_left _ hq)) (fun a fs hq => List.mem_append_right _ (List.mem_append_left _ hq))) (hpn.sub (fun b q9 hq => List.mem_append_right _ (List.mem_append_left _ hq)) (fun a fs hq => List.mem_append_right _ (List.mem_append_left _ hq))) (if_pos rfl)) (lw_V q1638 q1640 qs30 q129 q1641) (by decide +kernel) (o_recv C h (RC := RX1) (T := TX1) (N := 14) (List.mem_append_right _ (List.mem_append_right _ (List.mem_append_left _ hQF.2.2))) rfl) (by decide) (by decide) rfl hl rfl (Nat.le_of_ble_eq_true rfl) dX1_isBacked_87 (by omega) (fun u8 H locs hu8 h => ?_)
                obtain ⟨q3, G3⟩ := u8
                obtain ⟨hq3, hT3⟩ := hu8
                dsimp only at hq3 hT3 h
                subst hQ
                exact ret_z C hr hlocks h (q3, G3) (⟨hq3, TR.fresh hfr hT3⟩) (by rw [show bckC (keyMsg kn.2.1 ++ keyMsg pn.2.1) pn.2.1 x.2 t = trueS (keyMsg kn.2.1 ++ keyMsg pn.2.1) bk pn.2.1 from by rw [bckC_s hbn, decide_eq_true (show 4 ≤ bk.length by omega), c23, c44, decide_eq_true (show sType bk = 25 by omega), c62, decide_eq_true (show mdN bk ≤ t by omega)]; rfl]) rfl (by omega) (by omega) dX1_isBacked_90
              · refine lv_iconst (v := nI 0) hx hb dX1_isBacked_76 (by decide) ?_
                subst hQ
                have h : Wd D B s (qW dA A O q ++ ([(o1, .inr (14, fs9))] ++ (G ++ E9))) H locs := h.permL (perm_add (fun g f p0 p1 p2 => by (try simp only [p0, p1, p2]) <;> omega))
                have hfin : bckC (keyMsg kn.2.1 ++ keyMsg pn.2.1) pn.2.1 x.2 t = false := by
                  rw [bckC_s hbn]
                  first
                  | (rw [decide_eq_false (show ¬ 4 ≤ bk.length by omega)]; rfl)
                  | (rw [c44]; simp; done)
                  | (rw [decide_eq_false (show ¬ sType bk = 25 by omega)]; simp; done)
                  | (rw [c62]; simp; done)
                  | (rw [decide_eq_false (show ¬ mdN bk ≤ t by omega)]; simp; done)
                  | (rw [c23]; simp; done)
                refine n_top (y := bZ false) rfl ?_
                exact ret_z C hr hlocks h (q, [(o1, .inr (14, fs9))] ++ (G ++ E9)) (⟨hqo, TR.app9⟩) (by rw [hfin]) rfl (by omega) (by omega) dX1_isBacked_77
      · refine lv_iconst (v := nI 0) hx hb dX1_isBacked_26 (by decide) ?_
        subst hQ
        have hfin : bckC (keyMsg kn.2.1 ++ keyMsg pn.2.1) pn.2.1 x.2 t = false := by
          rw [bckC_s hbn]
          first
          | (rw [decide_eq_false (show ¬ 4 ≤ bk.length by omega)]; rfl)
          | (rw [c44]; simp; done)
          | (rw [decide_eq_false (show ¬ sType bk = 25 by omega)]; simp; done)
          | (rw [c62]; simp; done)
          | (rw [decide_eq_false (show ¬ mdN bk ≤ t by omega)]; simp; done)
          | (rw [c23]; simp; done)
        refine n_top (y := bZ false) rfl ?_
        exact ret_z C hr hlocks h (q, G) (⟨hqo, TR.rf⟩) (by rw [hfin]) rfl (by omega) (by omega) dX1_isBacked_27
