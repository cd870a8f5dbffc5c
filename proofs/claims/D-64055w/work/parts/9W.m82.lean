set_option maxRecDepth 100000
set_option maxHeartbeats 400000 in
set_option maxRecDepth 100000 in
theorem c10_copy (l : Launch) (D : va_G) (dA : Nat → ClassId) (B : Nat) (Z : State → Prop) (hZ : Stab B Z) (F : va_W) (ua ba e0 mi : Nat) (x : LD) (sls : List SL) (hzs : ZS dA B Z) (hza : ZA B e0 mi Z) (hcu : (ua, .inr (7, [.ref x.1, .ref ba])) ∈ F) (hA : ∀ z ∈ lW dA e0 x sls.length, z ∈ F) (hS : SlOk dA F x sls) :
    Ct (S := Nat × LD × va_W) l D dA B Z yX10_copy cX10_copy 2 (some ((.object "SignetRing$User"))) 7 4 (2 * sls.length + 15) [.ref ua] (F) (fun u => (u.1, .inr (7, [.ref u.2.1.1, .ref ba])) ∈ u.2.2 ∧ SlOk dA F u.2.1 sls) (fun u => some (.ref u.1)) (fun u => lW dA e0 u.2.1 sls.length ++ (F ++ u.2.2)) := by
  refine Ct.mk2 (by decide) (Nat.le_of_ble_eq_true rfl) hZ ?_
  intro p e R s m args below meth c ls Q C hr hlocks hin hQ hl h
  have C0 := C
  obtain ⟨hx, hb, hml, hown, hts, -⟩ := C0
  have hl : lv_has ls 2 [(0, .ref ua)] := hl
  have hlin := hS.lin hA
  have hlm : (sls.map Prod.fst).length = sls.length := List.length_map ..
  have hs16 := hS.2.2.1
  refine o_new C h (RC := RX10) (T := TX10) (N := 2) (ci := 7) (fs := [.null, .null]) rfl in_X10 tyX10_ok q503 q504 q147 dv_X10 (by omega) (by omega) dX10_copy_0 (fun o1 H h => ?_)
  have h := Wd.toFront h
  have h : Wd D B s ([(o1, .inr (7, [.null, .null]))] ++ F) H [] := h
  refine lv_dup hx hb dX10_copy_3 rfl ?_
  refine lv_aload_n hx hb dX10_copy_4 rfl (lv_at hl 0 rfl) ?_
  refine o_get C h (RC := RX10) (T := TX10) (N := 2) (List.mem_append_right _ hcu) rfl in_X10 1 (by decide) q509 rfl (v := .ref ba) rfl dX10_copy_5 ?_
  refine call_I (As := [.ref ba]) (rest := [.ref o1]) (n := 1) C h (c10_init l D dA B Z hZ F o1 ba e0 mi hzs hza) (lw_meth q507) q147 q505 q506 rfl (by decide +kernel) (by decide) (by decide) rfl hl rfl (Nat.le_of_ble_eq_true rfl) dX10_copy_8 (by omega) (fun q9 H locs _ h => ?_)
  have h : Wd D B s ([(o1, .inr (7, [.ref q9, .ref ba])), (q9, .inr (16, [.int (nI 0), .ref e0, .int (nI 0)]))] ++ F) H locs := h
  refine lv_astore_n (lv' := [(1, .ref o1), (0, .ref ua)]) hx hb dX10_copy_11 rfl hl (by decide) rfl (fun ls hl => ?_)
  refine lv_aload_n hx hb dX10_copy_12 rfl (lv_at hl 0 rfl) ?_
  refine o_getS C h (RC := RX10) (T := TX10) (N := 2) (List.mem_of_getElem? (i := 0) rfl) rfl in_X10 0 (by decide) q405 q406 (v := .ref q9) rfl dX10_copy_13 ?_
  refine lv_aload_n hx hb dX10_copy_16 rfl (lv_at hl 1 rfl) ?_
  refine o_getS C h (RC := RX10) (T := TX10) (N := 2) (List.mem_append_right _ hcu) rfl in_X10 0 (by decide) q405 q406 (v := .ref x.1) rfl dX10_copy_17 ?_
  have h : Wd D B s ([(q9, .inr (16, [.int (nI 0), .ref e0, .int (nI 0)])), (o1, .inr (7, [.ref q9, .ref ba]))] ++ F) H locs := h.perm [1, 0] rfl rfl
  refine call_VR (As := [.ref x.1]) (rest := []) (n := 1) C h (cA_addAll l D dA B Z hZ ([(o1, .inr (7, [.ref q9, .ref ba]))] ++ F) q9 e0 mi (nI 0) x (sls.map Prod.fst) 14 _ rfl q2637 hzs hza (hlin.sub (fun z hz => List.mem_append_right _ (hlin.1 z hz))) (hlm ▸ hS.2.1) (by omega) (fun y hy => by obtain ⟨fs, hfs⟩ := hS.el y hy; exact ⟨fs, List.mem_append_right _ hfs⟩)) (lw_V q516 q423 q424 q133 q425) (by decide +kernel) (o_recv C h (RC := RJ2) (T := TJ2) (N := 3) (List.mem_of_getElem? (i := 0) rfl) rfl) (by decide) (by decide) rfl hl rfl (Nat.le_of_ble_eq_true rfl) dX10_copy_20 (by omega) (fun u9 H locs hu9 h => ?_)
  obtain ⟨x9, E9⟩ := u9
  obtain ⟨hx1, hx2⟩ := hu9
  dsimp only at hx1 hx2
  rw [hlm] at h
  have h : Wd D B s ((lW dA e0 (q9, nI 0 + nI 1, x9) sls.length ++ (([(o1, .inr (7, [.ref q9, .ref ba]))] ++ F) ++ E9))) H locs := h
  refine lv_pop hx hb dX10_copy_23 rfl ?_
  refine lv_aload_n hx hb dX10_copy_24 rfl (lv_at hl 0 rfl) ?_
  subst hQ
  have h : Wd D B s (lW dA e0 (q9, nI 0 + nI 1, x9) sls.length ++ (F ++ ([(o1, .inr (7, [.ref q9, .ref ba]))] ++ E9))) H locs := h.permL (perm_add (fun g f p0 p1 p2 => by (try simp only [p0, p1, p2]) <;> omega))
  exact ret_a C hr (Or.inl ⟨_, rfl⟩) hlocks h (o1, (q9, nI 0 + nI 1, x9), [(o1, .inr (7, [.ref q9, .ref ba]))] ++ E9) (⟨List.mem_append_left _ List.mem_cons_self, ⟨hx1, hlm ▸ hx2, hS.2.2⟩⟩) (Or.inr ⟨_, rfl⟩) rfl rfl (by omega) (by omega) dX10_copy_25
set_option maxHeartbeats 400000 in
set_option maxRecDepth 100000 in
theorem c11_copy (l : Launch) (D : va_G) (dA : Nat → ClassId) (B : Nat) (Z : State → Prop) (hZ : Stab B Z) (F : va_W) (pa na e0 mi : Nat) (x : LD) (sls : List SL) (hzs : ZS dA B Z) (hza : ZA B e0 mi Z) (hcu : (pa, .inr (8, [.ref x.1, .ref na])) ∈ F) (hA : ∀ z ∈ lW dA e0 x sls.length, z ∈ F) (hS : SlOk dA F x sls) :
    Ct (S := Nat × LD × va_W) l D dA B Z yX11_copy cX11_copy 2 (some ((.object "SignetRing$Part"))) 7 4 (2 * sls.length + 15) [.ref pa] (F) (fun u => SlOk dA F u.2.1 sls) (fun u => some (.ref u.1)) (fun u => [(u.1, .inr (8, [.ref u.2.1.1, .ref na]))] ++ (lW dA e0 u.2.1 sls.length ++ (F ++ u.2.2))) := by
  refine Ct.mk2 (by decide) (Nat.le_of_ble_eq_true rfl) hZ ?_
  intro p e R s m args below meth c ls Q C hr hlocks hin hQ hl h
  have C0 := C
  obtain ⟨hx, hb, hml, hown, hts, -⟩ := C0
  have hl : lv_has ls 2 [(0, .ref pa)] := hl
  have hlin := hS.lin hA
  have hlm : (sls.map Prod.fst).length = sls.length := List.length_map ..
  have hs16 := hS.2.2.1
  refine o_new C h (RC := RX11) (T := TX11) (N := 2) (ci := 8) (fs := [.null, .null]) rfl in_X11 tyX11_ok q534 q535 q148 dv_X11 (by omega) (by omega) dX11_copy_0 (fun o1 H h => ?_)
  have h := Wd.toFront h
  have h : Wd D B s ([(o1, .inr (8, [.null, .null]))] ++ F) H [] := h
  refine lv_dup hx hb dX11_copy_3 rfl ?_
  refine lv_aload_n hx hb dX11_copy_4 rfl (lv_at hl 0 rfl) ?_
  refine o_get C h (RC := RX11) (T := TX11) (N := 2) (List.mem_append_right _ hcu) rfl in_X11 1 (by decide) q540 rfl (v := .ref na) rfl dX11_copy_5 ?_
  refine call_I (As := [.ref na]) (rest := [.ref o1]) (n := 1) C h (c11_init l D dA B Z hZ F o1 na e0 mi hzs hza) (lw_meth q538) q148 q536 q537 rfl (by decide +kernel) (by decide) (by decide) rfl hl rfl (Nat.le_of_ble_eq_true rfl) dX11_copy_8 (by omega) (fun q9 H locs _ h => ?_)
  have h : Wd D B s ([(o1, .inr (8, [.ref q9, .ref na])), (q9, .inr (16, [.int (nI 0), .ref e0, .int (nI 0)]))] ++ F) H locs := h
  refine lv_astore_n (lv' := [(1, .ref o1), (0, .ref pa)]) hx hb dX11_copy_11 rfl hl (by decide) rfl (fun ls hl => ?_)
  refine lv_aload_n hx hb dX11_copy_12 rfl (lv_at hl 0 rfl) ?_
  refine o_getS C h (RC := RX11) (T := TX11) (N := 2) (List.mem_of_getElem? (i := 0) rfl) rfl in_X11 0 (by decide) q407 q408 (v := .ref q9) rfl dX11_copy_13 ?_
  refine lv_aload_n hx hb dX11_copy_16 rfl (lv_at hl 1 rfl) ?_
  refine o_getS C h (RC := RX11) (T := TX11) (N := 2) (List.mem_append_right _ hcu) rfl in_X11 0 (by decide) q407 q408 (v := .ref x.1) rfl dX11_copy_17 ?_
  have h : Wd D B s ([(q9, .inr (16, [.int (nI 0), .ref e0, .int (nI 0)])), (o1, .inr (8, [.ref q9, .ref na]))] ++ F) H locs := h.perm [1, 0] rfl rfl
  refine call_VR (As := [.ref x.1]) (rest := []) (n := 1) C h (cA_addAll l D dA B Z hZ ([(o1, .inr (8, [.ref q9, .ref na]))] ++ F) q9 e0 mi (nI 0) x (sls.map Prod.fst) 14 _ rfl q2637 hzs hza (hlin.sub (fun z hz => List.mem_append_right _ (hlin.1 z hz))) (hlm ▸ hS.2.1) (by omega) (fun y hy => by obtain ⟨fs, hfs⟩ := hS.el y hy; exact ⟨fs, List.mem_append_right _ hfs⟩)) (lw_V q547 q423 q424 q133 q425) (by decide +kernel) (o_recv C h (RC := RJ2) (T := TJ2) (N := 3) (List.mem_of_getElem? (i := 0) rfl) rfl) (by decide) (by decide) rfl hl rfl (Nat.le_of_ble_eq_true rfl) dX11_copy_20 (by omega) (fun u9 H locs hu9 h => ?_)
  obtain ⟨x9, E9⟩ := u9
  obtain ⟨hx1, hx2⟩ := hu9
  dsimp only at hx1 hx2
  rw [hlm] at h
  have h : Wd D B s ((lW dA e0 (q9, nI 0 + nI 1, x9) sls.length ++ (([(o1, .inr (8, [.ref q9, .ref na]))] ++ F) ++ E9))) H locs := h
  refine lv_pop hx hb dX11_copy_23 rfl ?_
  refine lv_aload_n hx hb dX11_copy_24 rfl (lv_at hl 0 rfl) ?_
  subst hQ
  have h : Wd D B s ([(o1, .inr (8, [.ref q9, .ref na]))] ++ (lW dA e0 (q9, nI 0 + nI 1, x9) sls.length ++ (F ++ E9))) H locs := h.permL (perm_add (fun g f p0 p1 p2 => by (try simp only [p0, p1, p2]) <;> omega))
  exact ret_a C hr (Or.inl ⟨_, rfl⟩) hlocks h (o1, (q9, nI 0 + nI 1, x9), E9) (⟨hx1, hlm ▸ hx2, hS.2.2⟩) (Or.inr ⟨_, rfl⟩) rfl rfl (by omega) (by omega) dX11_copy_25

def ptHas (lb : List Nat) (y : PTt) : Bool := decide (sha1 (keyMsg y.2.1.2.1) = lb)
theorem ptHf {lb : List Nat} {y : PTt} (h : decide (sha1 (keyMsg y.2.1.2.1) = lb) = false) : ptHas lb y = false := h
theorem ptHt {lb : List Nat} {y : PTt} (h : decide (sha1 (keyMsg y.2.1.2.1) = lb) = true) : ptHas lb y = true := h

set_option maxHeartbeats 400000 in
set_option maxRecDepth 100000 in
theorem c9_user (l : Launch) (D : va_G) (dA : Nat → ClassId) (B : Nat) (Z : State → Prop) (hZ : Stab B Z) (ws : va_W) (ka a1 na a3 e0 b : Nat) (x : LD) (us : List US) (lb : List Nat) (hk : (ka, .inr (6, [.ref a1, .ref na, .ref x.1, .ref a3])) ∈ ws) (hA : LIn dA e0 ws x (us.map Prod.fst)) (hU : ∀ u ∈ us, UserIn dA ws u.1 u.2.1 u.2.2.1.1) (hb9 : (b, bal dA lb) ∈ ws) (hB : byt lb) (hL : lb.length ≤ 4096) :
    Ct (S := Unit) l D dA B Z yX9_user cX9_user 3 (some ((.object "SignetRing$User"))) 4 0 0 [.ref ka, .ref b] (ws) (fun _ => True) (fun _ => some (va_rf ((us.find? (fun u => decide (u.2.1 = lb))).map Prod.fst))) (fun _ => ws) := by
  refine Ct.mk2 (by decide) (Nat.le_of_ble_eq_true rfl) hZ ?_
  intro p e R s m args below meth c ls Q C hr hlocks hin hQ hl h
  have C0 := C
  obtain ⟨hx, hb, hml, hown, hts, -⟩ := C0
  have hl : lv_has ls 3 [(0, .ref ka), (1, .ref b)] := hl
  obtain ⟨ed9, hcl⟩ := hA.cell
  have hln := hA.len
  rw [List.length_map] at hln
  refine lv_iconst (v := nI 0) hx hb dX9_user_0 (by decide) ?_
  refine lv_istore_n (lv' := [(2, .int (nI 0)), (0, .ref ka), (1, .ref b)]) hx hb dX9_user_1 rfl hl (by decide) rfl (fun ls hl => ?_)
  have loop : ∀ (nn : Nat) (i : Nat), (i ≤ us.length) → (∀ j y, j < i → us[j]? = some y → decide (y.2.1 = lb) = false) → us.length - i < nn → ∀ (H : Heap) (locs : List Loc), Wd D B s (ws) H locs → ∀ (ls : Array Slot), lv_has ls 3 [(0, .ref ka), (1, .ref b), (2, .int (nI i))] → W p l e R s m args below meth c H locs 0 0 Q (F0 m 2 ls []) := by
    intro nn
    induction nn with
    | zero => intro i  hi0 hi1 hme; exact absurd hme (Nat.not_lt_zero _)
    | succ nn ih =>
      intro i  hi0 hi1 hme H locs h ls hl
      refine lv_iload_n hx hb dX9_user_2 rfl (lv_at hl 2 rfl) ?_
      refine lv_aload_n hx hb dX9_user_3 rfl (lv_at hl 0 rfl) ?_
      refine o_get C h (RC := RX9) (T := TX9) (N := 4) (hk) rfl in_X9 2 (by decide) q398 rfl (v := .ref x.1) rfl dX9_user_4 ?_
      refine call_VR (As := []) (rest := [.int (nI i)]) (n := 0) C h (cA_size l D dA B Z hZ ws e0 x _ hA) (lw_V q496 q361 q362 q133 q363) (by decide +kernel) (o_recv C h (RC := RJ2) (T := TJ2) (N := 3) (hcl) rfl) (by decide) (by decide) rfl hl rfl (Nat.le_of_ble_eq_true rfl) dX9_user_7 (by omega) (fun _ H locs _ h => ?_)
      refine n_top (y := nI us.length) (by rw [List.length_map]) ?_
      refine n_icmp_ge (tgt := 52) hx hb (by omega) (by omega) dX9_user_10 (by decide) (fun c10 => ?_) (fun c10 => ?_)
      · refine lv_null hx hb dX9_user_52 ?_
        subst hQ
        exact ret_a C hr (Or.inl ⟨_, rfl⟩) hlocks h () trivial (Or.inl rfl) (by rw [find_miss (f := fun y => decide (y.2.1 = lb)) (fun j y hj hy => hi1 j y (by omega) hy)]; rfl) rfl (by omega) (by omega) dX9_user_53
      · refine lv_aload_n hx hb dX9_user_13 rfl (lv_at hl 0 rfl) ?_
        refine o_get C h (RC := RX9) (T := TX9) (N := 4) (hk) rfl in_X9 2 (by decide) q398 rfl (v := .ref x.1) rfl dX9_user_14 ?_
        refine lv_iload_n hx hb dX9_user_17 rfl (lv_at hl 2 rfl) ?_
        obtain ⟨y, hy⟩ := at_lt (l := us) (i := i) (by omega)
        obtain ⟨⟨hyb, hyl⟩, bay, hcy, hay⟩ := hU y (List.mem_of_getElem? hy)
        refine call_VR (As := [.int (nI i)]) (rest := []) (n := 1) C h (cA_get l D dA B Z hZ ws e0 x _ i y.1 hA (at_map hy)) (lw_V q497 q365 q366 q133 q367) (by decide +kernel) (o_recv C h (RC := RJ2) (T := TJ2) (N := 3) (hcl) rfl) (by decide) (by decide) rfl hl rfl (Nat.le_of_ble_eq_true rfl) dX9_user_18 (by omega) (fun _ H locs _ h => ?_)
        refine o_cast C h (RC := RX10) (T := TX10) (N := 2) (hcy) rfl q498 dX9_user_21 ?_
        refine o_get C h (RC := RX10) (T := TX10) (N := 2) (hcy) rfl in_X10 1 (by decide) q510 rfl (v := .ref bay) rfl dX9_user_24 ?_
        refine lv_aload_n hx hb dX9_user_27 rfl (lv_at hl 1 rfl) ?_
        refine call_SN (As := [.ref bay, .ref b]) (rest := []) (n := 2) C h (c1_areAlike l D dA B Z hZ ws bay b y.2.1 lb hay hb9 (by omega) (by omega) hyb hB) (lw_meth q1262) q1288 q1261 q129 (by decide +kernel) (by decide) (by decide) rfl hl rfl (Nat.le_of_ble_eq_true rfl) dX9_user_28 (by omega) (fun _ H locs _ h => ?_)
        refine z_if_eq (tgt := 46) hx hb dX9_user_31 (by decide) (fun c31 => ?_) (fun c31 => ?_)
        · refine lv_iinc (v := nI (i + 1)) (lv' := [(2, .int (nI (i + 1))), (0, .ref ka), (1, .ref b)]) hx hb dX9_user_46 hl (k := 2) rfl (nI_add i 1) (by decide) rfl (fun ls hl => ?_)
          refine lv_goto (tgt := 2) hx hb dX9_user_49 (by decide) ?_
          exact ih (i + 1) (by omega) (at_step (f := fun y => decide (y.2.1 = lb)) hi1 hy c31) (by omega) _ _ h _ (lv_sub hl [1, 2, 0] rfl)
        · refine lv_aload_n hx hb dX9_user_34 rfl (lv_at hl 0 rfl) ?_
          refine o_get C h (RC := RX9) (T := TX9) (N := 4) (hk) rfl in_X9 2 (by decide) q398 rfl (v := .ref x.1) rfl dX9_user_35 ?_
          refine lv_iload_n hx hb dX9_user_38 rfl (lv_at hl 2 rfl) ?_
          refine call_VR (As := [.int (nI i)]) (rest := []) (n := 1) C h (cA_get l D dA B Z hZ ws e0 x _ i y.1 hA (at_map hy)) (lw_V q497 q365 q366 q133 q367) (by decide +kernel) (o_recv C h (RC := RJ2) (T := TJ2) (N := 3) (hcl) rfl) (by decide) (by decide) rfl hl rfl (Nat.le_of_ble_eq_true rfl) dX9_user_39 (by omega) (fun _ H locs _ h => ?_)
          refine o_cast C h (RC := RX10) (T := TX10) (N := 2) (hcy) rfl q498 dX9_user_42 ?_
          subst hQ
          exact ret_a C hr (Or.inl ⟨_, rfl⟩) hlocks h () trivial (Or.inr ⟨_, rfl⟩) (by rw [find_hit (f := fun y => decide (y.2.1 = lb)) hi1 hy c31]; rfl) rfl (by omega) (by omega) dX9_user_45
  exact loop _ 0 (by omega) (fun j y hj => absurd hj (Nat.not_lt_zero _)) (Nat.lt_succ_self _) _ _ h _ (lv_sub hl [1, 2, 0] rfl)
set_option maxHeartbeats 400000 in
set_option maxRecDepth 100000 in
theorem c9_part (l : Launch) (D : va_G) (dA : Nat → ClassId) (B : Nat) (Z : State → Prop) (hZ : Stab B Z) (ws : va_W) (ka a1 na a2 e0 b : Nat) (x : LD) (ps : List PTt) (lb : List Nat) (hk : (ka, .inr (6, [.ref a1, .ref na, .ref a2, .ref x.1])) ∈ ws) (hA : LIn dA e0 ws x (ps.map Prod.fst)) (hP : ∀ y ∈ ps, NumIn dA ws y.2.1 ∧ (y.1, .inr (8, [.ref y.2.2.1.1, .ref y.2.1.1])) ∈ ws) (hb9 : (b, bal dA lb) ∈ ws) (hB : byt lb) (hL : lb.length ≤ 4096) :
    Ct (S := Unit) l D dA B Z yX9_part cX9_part 3 (some ((.object "SignetRing$Part"))) 4 0 0 [.ref ka, .ref b] (ws) (fun _ => True) (fun _ => some (va_rf ((ps.find? (ptHas lb)).map Prod.fst))) (fun _ => ws) := by
  refine Ct.mk2 (by decide) (Nat.le_of_ble_eq_true rfl) hZ ?_
  intro p e R s m args below meth c ls Q C hr hlocks hin hQ hl h
  have C0 := C
  obtain ⟨hx, hb, hml, hown, hts, -⟩ := C0
  have hl : lv_has ls 3 [(0, .ref ka), (1, .ref b)] := hl
  obtain ⟨ed9, hcl⟩ := hA.cell
  have hln := hA.len
  rw [List.length_map] at hln
  refine lv_iconst (v := nI 0) hx hb dX9_part_0 (by decide) ?_
  refine lv_istore_n (lv' := [(2, .int (nI 0)), (0, .ref ka), (1, .ref b)]) hx hb dX9_part_1 rfl hl (by decide) rfl (fun ls hl => ?_)
  have loop : ∀ (nn : Nat) (i : Nat), (i ≤ ps.length) → (∀ j y, j < i → ps[j]? = some y → ptHas lb y = false) → ps.length - i < nn → ∀ (H : Heap) (locs : List Loc), Wd D B s (ws) H locs → ∀ (ls : Array Slot), lv_has ls 3 [(0, .ref ka), (1, .ref b), (2, .int (nI i))] → W p l e R s m args below meth c H locs 0 0 Q (F0 m 2 ls []) := by
    intro nn
    induction nn with
    | zero => intro i  hi0 hi1 hme; exact absurd hme (Nat.not_lt_zero _)
    | succ nn ih =>
      intro i  hi0 hi1 hme H locs h ls hl
      refine lv_iload_n hx hb dX9_part_2 rfl (lv_at hl 2 rfl) ?_
      refine lv_aload_n hx hb dX9_part_3 rfl (lv_at hl 0 rfl) ?_
      refine o_get C h (RC := RX9) (T := TX9) (N := 4) (hk) rfl in_X9 3 (by decide) q400 rfl (v := .ref x.1) rfl dX9_part_4 ?_
      refine call_VR (As := []) (rest := [.int (nI i)]) (n := 0) C h (cA_size l D dA B Z hZ ws e0 x _ hA) (lw_V q496 q361 q362 q133 q363) (by decide +kernel) (o_recv C h (RC := RJ2) (T := TJ2) (N := 3) (hcl) rfl) (by decide) (by decide) rfl hl rfl (Nat.le_of_ble_eq_true rfl) dX9_part_7 (by omega) (fun _ H locs _ h => ?_)
      refine n_top (y := nI ps.length) (by rw [List.length_map]) ?_
      refine n_icmp_ge (tgt := 52) hx hb (by omega) (by omega) dX9_part_10 (by decide) (fun c10 => ?_) (fun c10 => ?_)
      · refine lv_null hx hb dX9_part_52 ?_
        subst hQ
        exact ret_a C hr (Or.inl ⟨_, rfl⟩) hlocks h () trivial (Or.inl rfl) (by rw [find_miss (f := ptHas lb) (fun j y hj hy => hi1 j y (by omega) hy)]; rfl) rfl (by omega) (by omega) dX9_part_53
      · refine lv_aload_n hx hb dX9_part_13 rfl (lv_at hl 0 rfl) ?_
        refine o_get C h (RC := RX9) (T := TX9) (N := 4) (hk) rfl in_X9 3 (by decide) q400 rfl (v := .ref x.1) rfl dX9_part_14 ?_
        refine lv_iload_n hx hb dX9_part_17 rfl (lv_at hl 2 rfl) ?_
        obtain ⟨y, hy⟩ := at_lt (l := ps) (i := i) (by omega)
        obtain ⟨hyN, hcy⟩ := hP y (List.mem_of_getElem? hy)
        refine call_VR (As := [.int (nI i)]) (rest := []) (n := 1) C h (cA_get l D dA B Z hZ ws e0 x _ i y.1 hA (at_map hy)) (lw_V q497 q365 q366 q133 q367) (by decide +kernel) (o_recv C h (RC := RJ2) (T := TJ2) (N := 3) (hcl) rfl) (by decide) (by decide) rfl hl rfl (Nat.le_of_ble_eq_true rfl) dX9_part_18 (by omega) (fun _ H locs _ h => ?_)
        refine o_cast C h (RC := RX11) (T := TX11) (N := 2) (hcy) rfl q529 dX9_part_21 ?_
        refine o_get C h (RC := RX11) (T := TX11) (N := 2) (hcy) rfl in_X11 1 (by decide) q541 rfl (v := .ref y.2.1.1) rfl dX9_part_24 ?_
        refine lv_aload_n hx hb dX9_part_27 rfl (lv_at hl 1 rfl) ?_
        have hnn := hyN
        obtain ⟨_, _, _, _, _, _, hnn, _⟩ := hnn
        refine call_VR (As := [.ref b]) (rest := []) (n := 1) C h (c16_hasPrint l D dA B Z hZ ws y.2.1 b lb hyN hb9 (by omega) hB) (lw_V q1278 q1257 q1258 q164 q1259) (by decide +kernel) (o_recv C h (RC := RX16) (T := TX16) (N := 6) (hnn) rfl) (by decide) (by decide) rfl hl rfl (Nat.le_of_ble_eq_true rfl) dX9_part_28 (by omega) (fun _ H locs _ h => ?_)
        refine z_if_eq (tgt := 46) hx hb dX9_part_31 (by decide) (fun c31 => ?_) (fun c31 => ?_)
        · refine lv_iinc (v := nI (i + 1)) (lv' := [(2, .int (nI (i + 1))), (0, .ref ka), (1, .ref b)]) hx hb dX9_part_46 hl (k := 2) rfl (nI_add i 1) (by decide) rfl (fun ls hl => ?_)
          refine lv_goto (tgt := 2) hx hb dX9_part_49 (by decide) ?_
          exact ih (i + 1) (by omega) (at_step (f := ptHas lb) hi1 hy (ptHf c31)) (by omega) _ _ h _ (lv_sub hl [1, 2, 0] rfl)
        · refine lv_aload_n hx hb dX9_part_34 rfl (lv_at hl 0 rfl) ?_
          refine o_get C h (RC := RX9) (T := TX9) (N := 4) (hk) rfl in_X9 3 (by decide) q400 rfl (v := .ref x.1) rfl dX9_part_35 ?_
          refine lv_iload_n hx hb dX9_part_38 rfl (lv_at hl 2 rfl) ?_
          refine call_VR (As := [.int (nI i)]) (rest := []) (n := 1) C h (cA_get l D dA B Z hZ ws e0 x _ i y.1 hA (at_map hy)) (lw_V q497 q365 q366 q133 q367) (by decide +kernel) (o_recv C h (RC := RJ2) (T := TJ2) (N := 3) (hcl) rfl) (by decide) (by decide) rfl hl rfl (Nat.le_of_ble_eq_true rfl) dX9_part_39 (by omega) (fun _ H locs _ h => ?_)
          refine o_cast C h (RC := RX11) (T := TX11) (N := 2) (hcy) rfl q529 dX9_part_42 ?_
          subst hQ
          exact ret_a C hr (Or.inl ⟨_, rfl⟩) hlocks h () trivial (Or.inr ⟨_, rfl⟩) (by rw [find_hit (f := ptHas lb) hi1 hy (ptHt c31)]; rfl) rfl (by omega) (by omega) dX9_part_45
  exact loop _ 0 (by omega) (fun j y hj => absurd hj (Nat.not_lt_zero _)) (Nat.lt_succ_self _) _ _ h _ (lv_sub hl [1, 2, 0] rfl)
set_option maxHeartbeats 400000 in
set_option maxRecDepth 100000 in
theorem c9_numbersOfK (l : Launch) (D : va_G) (dA : Nat → ClassId) (B : Nat) (Z : State → Prop) (hZ : Stab B Z) (ws : va_W) (ka a1 na a2 a3 : Nat) (hk : (ka, .inr (6, [.ref a1, .ref na, .ref a2, .ref a3])) ∈ ws) :
    Ct (S := Unit) l D dA B Z yX9_numbersOf cX9_numbersOf 2 (some ((.object "SignetRing$Numbers"))) 4 0 0 [.ref ka, .int (-1)] (ws) (fun _ => True) (fun _ => some (.ref na)) (fun _ => ws) := by
  refine Ct.mk2 (by decide) (Nat.le_of_ble_eq_true rfl) hZ ?_
  intro p e R s m args below meth c ls Q C hr hlocks hin hQ hl h
  have C0 := C
  obtain ⟨hx, hb, hml, hown, hts, -⟩ := C0
  have hl : lv_has ls 2 [(0, .ref ka), (1, .int (-1))] := hl
  refine lv_iload_n hx hb dX9_numbersOf_0 rfl (lv_at hl 1 rfl) ?_
  refine lv_if_ge (tgt := 11) hx hb dX9_numbersOf_1 (by decide) (fun c1 => by exfalso; exact absurd c1 (by decide)) (fun c1 => ?_)
  refine lv_aload_n hx hb dX9_numbersOf_4 rfl (lv_at hl 0 rfl) ?_
  refine o_get C h (RC := RX9) (T := TX9) (N := 4) (hk) rfl in_X9 1 (by decide) q396 rfl (v := .ref na) rfl dX9_numbersOf_5 ?_
  refine lv_goto (tgt := 25) hx hb dX9_numbersOf_8 (by decide) ?_
  subst hQ
  exact ret_a C hr (Or.inl ⟨_, rfl⟩) hlocks h () trivial (Or.inr ⟨_, rfl⟩) rfl rfl (by omega) (by omega) dX9_numbersOf_25
set_option maxHeartbeats 400000 in
set_option maxRecDepth 100000 in
theorem c9_numbersOf (l : Launch) (D : va_G) (dA : Nat → ClassId) (B : Nat) (Z : State → Prop) (hZ : Stab B Z) (ws : va_W) (ka a1 na a2 e0 i : Nat) (x : LD) (ps : List PTt) (y : PTt) (hk : (ka, .inr (6, [.ref a1, .ref na, .ref a2, .ref x.1])) ∈ ws) (hA : LIn dA e0 ws x (ps.map Prod.fst)) (hP : ∀ y ∈ ps, NumIn dA ws y.2.1 ∧ (y.1, .inr (8, [.ref y.2.2.1.1, .ref y.2.1.1])) ∈ ws) (hy : ps[i]? = some y) (hi : i < 10000) :
    Ct (S := Unit) l D dA B Z yX9_numbersOf cX9_numbersOf 2 (some ((.object "SignetRing$Numbers"))) 4 0 0 [.ref ka, .int (nI i)] (ws) (fun _ => True) (fun _ => some (.ref y.2.1.1)) (fun _ => ws) := by
  refine Ct.mk2 (by decide) (Nat.le_of_ble_eq_true rfl) hZ ?_
  intro p e R s m args below meth c ls Q C hr hlocks hin hQ hl h
  have C0 := C
  obtain ⟨hx, hb, hml, hown, hts, -⟩ := C0
  have hl : lv_has ls 2 [(0, .ref ka), (1, .int (nI i))] := hl
  obtain ⟨ed9, hcl⟩ := hA.cell
  have hln := hA.len
  rw [List.length_map] at hln
  obtain ⟨hyN, hcy⟩ := hP y (List.mem_of_getElem? hy)
  refine lv_iload_n hx hb dX9_numbersOf_0 rfl (lv_at hl 1 rfl) ?_
  refine n_if_ge (tgt := 11) hx hb (by omega) dX9_numbersOf_1 (by decide) ?_
  refine lv_aload_n hx hb dX9_numbersOf_11 rfl (lv_at hl 0 rfl) ?_
  refine o_get C h (RC := RX9) (T := TX9) (N := 4) (hk) rfl in_X9 3 (by decide) q400 rfl (v := .ref x.1) rfl dX9_numbersOf_12 ?_
  refine lv_iload_n hx hb dX9_numbersOf_15 rfl (lv_at hl 1 rfl) ?_
  refine call_VR (As := [.int (nI i)]) (rest := []) (n := 1) C h (cA_get l D dA B Z hZ ws e0 x _ i y.1 hA (at_map hy)) (lw_V q497 q365 q366 q133 q367) (by decide +kernel) (o_recv C h (RC := RJ2) (T := TJ2) (N := 3) (hcl) rfl) (by decide) (by decide) rfl hl rfl (Nat.le_of_ble_eq_true rfl) dX9_numbersOf_16 (by omega) (fun _ H locs _ h => ?_)
  refine o_cast C h (RC := RX11) (T := TX11) (N := 2) (hcy) rfl q529 dX9_numbersOf_19 ?_
  refine o_get C h (RC := RX11) (T := TX11) (N := 2) (hcy) rfl in_X11 1 (by decide) q541 rfl (v := .ref y.2.1.1) rfl dX9_numbersOf_22 ?_
  subst hQ
  exact ret_a C hr (Or.inl ⟨_, rfl⟩) hlocks h () trivial (Or.inr ⟨_, rfl⟩) rfl rfl (by omega) (by omega) dX9_numbersOf_25
