set_option maxRecDepth 100000
theorem sl_cg9 {g k : Nat → Nat} {a n : Nat} (h : ∀ j, j < n → g (a + j) = k (a + j)) : sl g a n = sl k a n := by
  unfold sl
  exact List.map_congr_left (fun j hj => h j (List.mem_range.mp hj))
set_option maxHeartbeats 400000 in
set_option maxRecDepth 100000 in
theorem c1_own (l : Launch) (D : va_G) (dA : Nat → ClassId) (B : Nat) (Z : State → Prop) (hZ : Stab B Z) (F : va_W) (pk pb sz nx pl kd pm : Nat) (bo : Option Nat) (bd : List Nat) (hlt : l.stackTraces = false) (hzx : ZX B Z) (hpk : (pk, .inr (11, [.ref pb, .int (nI sz), .int (nI nx), .int (nI pl), .int (nI kd), va_rf bo, .ref pm])) ∈ F) (hkd : kd < 256) (hbo : kd = 2 → ∃ q, bo = some q ∧ (q, bal dA bd) ∈ F) (hbd : byt bd) (hbl : bd.length ≤ 4096) :
    CtX (S := Nat × va_W) (SX := Nat × va_W) l D dA B Z yX1_own cX1_own 2 (some ((.object "SignetRing$Seal"))) 8 (bd.length / 2 + 4) (5 * bd.length + 29) [.ref pk] (F) (fun u => ownOk kd bd = true ∧ ∀ q, bo = some q → SealIn dA ([(q, bal dA bd)] ++ u.2) (u.1, bd) 0) (fun u => some (.ref u.1)) (fun u => F ++ u.2) (fun u => ownOk kd bd = false ∧ FaultIn u.2 u.1 (-1 - nI pl)) (fun u => u.1) (fun _ => "SignetRing$Fault") (fun u => F ++ u.2) := by
  refine CtX.mk2 (by decide) (Nat.le_of_ble_eq_true rfl) hZ ?_
  intro p e R s m args below meth c ls Q C hr hlocks hin hex hQ hl h
  have C0 := C
  obtain ⟨hx, hb, hml, hown, hts, -⟩ := C0
  have hl : lv_has ls 2 [(0, .ref pk)] := hl
  refine lv_aload_n hx hb dX1_own_0 rfl (lv_at hl 0 rfl) ?_
  refine o_get C h (RC := RX14) (T := TX14) (N := 7) (hpk) rfl in_X14 4 (by decide) q1031 rfl (v := .int (nI kd)) rfl dX1_own_1 ?_
  refine lv_iconst (v := nI 2) hx hb dX1_own_4 (by decide) ?_
  refine n_icmp_ne (tgt := 26) hx hb (by omega) (by omega) dX1_own_5 (by decide) (fun c5 => ?_) (fun c5 => ?_)
  · have hno : ownOk kd bd = false := by unfold ownOk; rw [decide_eq_false c5] <;> rfl
    refine lv_aload_n hx hb dX1_own_26 rfl (lv_at hl 0 rfl) ?_
    refine call_VR (As := []) (rest := []) (n := 0) C h (c14_fault l D dA B Z hZ _ pk pb sz nx pl kd pm bo hlt hzx (hpk)) (lw_V q1088 q1064 q1065 q162 q1066) (by decide +kernel) (o_recv C h (RC := RX14) (T := TX14) (N := 7) (hpk) rfl) (by decide) (by decide) rfl hl rfl (Nat.le_of_ble_eq_true rfl) dX1_own_27 (by omega) (fun u9 H locs _ h => ?_)
    obtain ⟨q9, x9⟩ := u9
    have h : Wd D B s ([(q9, .inr (10, fts x9 (-1 - nI pl)))] ++ F) H locs := h
    subst hQ
    have h : Wd D B s (F ++ ([(q9, .inr (10, fts x9 (-1 - nI pl)))] ++ [])) H locs := h.permL (perm_add (fun g f p0 p1 p2 => by (try simp only [p0, p1, p2]) <;> omega))
    exact x_athrow C hex hlocks h (List.mem_append_right _ (List.mem_append_left _ List.mem_cons_self)) rfl (q9, [(q9, .inr (10, fts x9 (-1 - nI pl)))] ++ []) rfl rfl (⟨hno, x9, List.mem_append_left _ List.mem_cons_self⟩) rfl (by omega) (by omega) dX1_own_30
  · obtain ⟨q0, hq, hq0⟩ := hbo c5
    subst hq
    refine lv_aload_n hx hb dX1_own_8 rfl (lv_at hl 0 rfl) ?_
    refine o_get C h (RC := RX14) (T := TX14) (N := 7) (hpk) rfl in_X14 5 (by decide) q1033 rfl (v := .ref q0) rfl dX1_own_9 ?_
    refine n_balen C h (hq0) dX1_own_12 ?_
    refine n_if_eq (tgt := 26) hx hb (by omega) dX1_own_13 (by decide) (fun c13 => ?_) (fun c13 => ?_)
    · have hno : ownOk kd bd = false := by unfold ownOk; rw [decide_eq_false (fun q9 : bd.length ≠ 0 => q9 c13), Bool.false_and, Bool.and_false]
      refine lv_aload_n hx hb dX1_own_26 rfl (lv_at hl 0 rfl) ?_
      refine call_VR (As := []) (rest := []) (n := 0) C h (c14_fault l D dA B Z hZ _ pk pb sz nx pl kd pm (some q0) hlt hzx (hpk)) (lw_V q1088 q1064 q1065 q162 q1066) (by decide +kernel) (o_recv C h (RC := RX14) (T := TX14) (N := 7) (hpk) rfl) (by decide) (by decide) rfl hl rfl (Nat.le_of_ble_eq_true rfl) dX1_own_27 (by omega) (fun u9 H locs _ h => ?_)
      obtain ⟨q9, x9⟩ := u9
      have h : Wd D B s ([(q9, .inr (10, fts x9 (-1 - nI pl)))] ++ F) H locs := h
      subst hQ
      have h : Wd D B s (F ++ ([(q9, .inr (10, fts x9 (-1 - nI pl)))] ++ [])) H locs := h.permL (perm_add (fun g f p0 p1 p2 => by (try simp only [p0, p1, p2]) <;> omega))
      exact x_athrow C hex hlocks h (List.mem_append_right _ (List.mem_append_left _ List.mem_cons_self)) rfl (q9, [(q9, .inr (10, fts x9 (-1 - nI pl)))] ++ []) rfl rfl (⟨hno, x9, List.mem_append_left _ List.mem_cons_self⟩) rfl (by omega) (by omega) dX1_own_30
    · refine lv_aload_n hx hb dX1_own_16 rfl (lv_at hl 0 rfl) ?_
      refine o_get C h (RC := RX14) (T := TX14) (N := 7) (hpk) rfl in_X14 5 (by decide) q1033 rfl (v := .ref q0) rfl dX1_own_17 ?_
      refine call_S (As := [.ref q0]) (rest := []) (n := 1) C h (c17_isOurs l D dA B Z hZ _ q0 bd hq0 (by omega) hbd (by omega)) (lw_S q1294 q1295 q165 q1296) (by decide +kernel) (by decide) (by decide) rfl hl rfl (Nat.le_of_ble_eq_true rfl) dX1_own_20 (by omega) (fun _ H locs _ h => ?_)
      refine z_if_ne (tgt := 31) hx hb dX1_own_23 (by decide) (fun c23 => ?_) (fun c23 => ?_)
      · refine o_new C h (RC := RX17) (T := TX17) (N := 19) (ci := 14) (fs := [.null, .int 0, .int 0, .int 0, .int 0, .null, .long 0, .long 0, .long 0, .null, .null, .int 0, .int 0, .null, .int (bZ false), .int 0, .int (bZ false), .int (bZ false), .int (bZ false)]) rfl in_X17 tyX17_ok q1297 q1298 q165 dv_X17 (by omega) (by omega) dX1_own_31 (fun o1 H h => ?_)
        have h := Wd.toFront h
        have h : Wd D B s ([(o1, .inr (14, [.null, .int 0, .int 0, .int 0, .int 0, .null, .long 0, .long 0, .long 0, .null, .null, .int 0, .int 0, .null, .int (bZ false), .int 0, .int (bZ false), .int (bZ false), .int (bZ false)]))] ++ F) H locs := h
        refine lv_dup hx hb dX1_own_34 rfl ?_
        refine lv_aload_n hx hb dX1_own_35 rfl (lv_at hl 0 rfl) ?_
        refine o_get C h (RC := RX14) (T := TX14) (N := 7) (List.mem_append_right _ hpk) rfl in_X14 5 (by decide) q1033 rfl (v := .ref q0) rfl dX1_own_36 ?_
        refine call_I (As := [.ref q0]) (rest := [.ref o1]) (n := 1) C h (c17_init l D dA B Z hZ F o1 q0) (lw_meth q1301) q165 q1299 q1300 rfl (by decide +kernel) (by decide) (by decide) rfl hl rfl (Nat.le_of_ble_eq_true rfl) dX1_own_39 (by omega) (fun _ H locs _ h => ?_)
        have h : Wd D B s ((slC o1 q0 0 0 0 0 none nt0 none none none 0 ++ F)) H locs := h
        refine lv_astore_n (lv' := [(1, .ref o1), (0, .ref pk)]) hx hb dX1_own_42 rfl hl (by decide) rfl (fun ls hl => ?_)
        refine lv_aload_n hx hb dX1_own_43 rfl (lv_at hl 0 rfl) ?_
        refine call_VR (As := []) (rest := []) (n := 0) C h (c17_read l D dA B Z hZ F o1 q0 bd hq0 hbd (by omega) (by omega)) (lw_V q1377 q1378 q1379 q165 q1380) (by decide +kernel) (o_recv C h (RC := RX17) (T := TX17) (N := 19) (List.mem_append_left _ List.mem_cons_self) rfl) (by decide) (by decide) rfl hl rfl (Nat.le_of_ble_eq_true rfl) dX1_own_44 (by omega) (fun u9 H locs hu9 h => ?_)
        obtain ⟨fs9, E9⟩ := u9
        dsimp only at hu9 h
        have h : Wd D B s (([(o1, .inr (14, fs9))] ++ (F ++ E9))) H locs := h
        refine z_if_eq (tgt := 58) hx hb dX1_own_47 (by decide) (fun c47 => ?_) (fun c47 => ?_)
        · have hno : ownOk kd bd = false := by unfold ownOk; rw [c47, Bool.false_and, Bool.and_false, Bool.and_false, Bool.and_false]
          refine lv_aload_n hx hb dX1_own_58 rfl (lv_at hl 1 rfl) ?_
          refine call_VR (As := []) (rest := []) (n := 0) C h (c14_fault l D dA B Z hZ _ pk pb sz nx pl kd pm (some q0) hlt hzx (List.mem_append_right _ (List.mem_append_left _ hpk))) (lw_V q1088 q1064 q1065 q162 q1066) (by decide +kernel) (o_recv C h (RC := RX14) (T := TX14) (N := 7) (List.mem_append_right _ (List.mem_append_left _ hpk)) rfl) (by decide) (by decide) rfl hl rfl (Nat.le_of_ble_eq_true rfl) dX1_own_59 (by omega) (fun u9 H locs _ h => ?_)
          obtain ⟨q9, x9⟩ := u9
          have h : Wd D B s ([(q9, .inr (10, fts x9 (-1 - nI pl)))] ++ ([(o1, .inr (14, fs9))] ++ (F ++ E9))) H locs := h
          subst hQ
          have h : Wd D B s (F ++ ([(q9, .inr (10, fts x9 (-1 - nI pl)))] ++ ([(o1, .inr (14, fs9))] ++ E9))) H locs := h.permL (perm_add (fun g f p0 p1 p2 => by (try simp only [p0, p1, p2]) <;> omega))
          exact x_athrow C hex hlocks h (List.mem_append_right _ (List.mem_append_left _ List.mem_cons_self)) rfl (q9, [(q9, .inr (10, fts x9 (-1 - nI pl)))] ++ ([(o1, .inr (14, fs9))] ++ E9)) rfl rfl (⟨hno, x9, List.mem_append_left _ List.mem_cons_self⟩) rfl (by omega) (by omega) dX1_own_62
        · have hSI := hu9 c47
          have hms : ∀ z ∈ [(o1, .inr (14, fs9))] ++ ([(q0, bal dA bd)] ++ E9), z ∈ [(q0, bal dA bd)] ++ ([(o1, .inr (14, fs9))] ++ E9) := by
            intro z hz
            rcases List.mem_append.mp hz with q | q
            · exact List.mem_append_right _ (List.mem_append_left _ q)
            · rcases List.mem_append.mp q with q | q
              · exact List.mem_append_left _ q
              · exact List.mem_append_right _ (List.mem_append_right _ q)
          have hS8 : SealIn dA ([(q0, bal dA bd)] ++ ([(o1, .inr (14, fs9))] ++ E9)) (o1, bd) 0 := hSI.sub (fun b q hq => hms _ hq) (fun a fs hq => hms _ hq)
          have hms2 : ∀ z ∈ [(q0, bal dA bd)] ++ ([(o1, .inr (14, fs9))] ++ E9), z ∈ ([(o1, .inr (14, fs9))] ++ (F ++ E9)) := by
            intro z hz
            refine ((perm_add (fun g f p0 p1 p2 => by (try simp only [p0, p1, p2]) <;> omega)) : List.Perm (α := Nat × va_E) (([(o1, .inr (14, fs9))] ++ (F ++ E9))) (F ++ ([(o1, .inr (14, fs9))] ++ E9))).mem_iff.mpr ?_
            rcases List.mem_append.mp hz with q | q
            · rw [List.mem_singleton.mp q]; exact List.mem_append_left _ hq0
            · exact List.mem_append_right _ q
          have hS7 : SealIn dA (([(o1, .inr (14, fs9))] ++ (F ++ E9))) (o1, bd) 0 := hS8.sub (fun b q hq => hms2 _ hq) (fun a fs hq => hms2 _ hq)
          obtain ⟨⟨hbby, hbly, hboy, hb0y⟩, bay, sny, r1y, r2y, r3y, w1y, w2y, w3y, hcey, hbay, hsny, hr1y, hr2y, hr3y⟩ := hS7
          have hst9 : sType bd < 256 := sType_lt hbd
          refine lv_aload_n hx hb dX1_own_50 rfl (lv_at hl 0 rfl) ?_
          refine o_get C h (RC := RX17) (T := TX17) (N := 19) (hcey) rfl in_X17 1 (by decide) q1308 rfl (v := .int (nI (sType bd))) rfl dX1_own_51 ?_
          refine lv_iconst (v := nI 1) hx hb dX1_own_54 (by decide) ?_
          refine n_icmp_le (tgt := 63) hx hb (by omega) (by omega) dX1_own_55 (by decide) (fun c55 => ?_) (fun c55 => ?_)
          · have hyes : ownOk kd bd = true := by unfold ownOk; rw [decide_eq_true c5, decide_eq_true (show bd.length ≠ 0 from c13), c23, c47, decide_eq_true c55] <;> rfl
            refine lv_aload_n hx hb dX1_own_63 rfl (lv_at hl 0 rfl) ?_
            subst hQ
            have h : Wd D B s (F ++ ([(o1, .inr (14, fs9))] ++ E9)) H locs := h.permL (perm_add (fun g f p0 p1 p2 => by (try simp only [p0, p1, p2]) <;> omega))
            refine vy_ret ?_
            exact ret_a C hr (Or.inl ⟨_, rfl⟩) hlocks h (o1, ([(o1, .inr (14, fs9))] ++ E9)) (⟨hyes, fun q hq => by cases hq; exact hS8⟩) (Or.inr ⟨_, rfl⟩) rfl rfl (by omega) (by omega) dX1_own_64
          · have hno : ownOk kd bd = false := by unfold ownOk; rw [decide_eq_false (show ¬ sType bd ≤ 1 by omega), Bool.and_false, Bool.and_false, Bool.and_false, Bool.and_false]
            refine lv_aload_n hx hb dX1_own_58 rfl (lv_at hl 1 rfl) ?_
            refine call_VR (As := []) (rest := []) (n := 0) C h (c14_fault l D dA B Z hZ _ pk pb sz nx pl kd pm (some q0) hlt hzx (List.mem_append_right _ (List.mem_append_left _ hpk))) (lw_V q1088 q1064 q1065 q162 q1066) (by decide +kernel) (o_recv C h (RC := RX14) (T := TX14) (N := 7) (List.mem_append_right _ (List.mem_append_left _ hpk)) rfl) (by decide) (by decide) rfl hl rfl (Nat.le_of_ble_eq_true rfl) dX1_own_59 (by omega) (fun u9 H locs _ h => ?_)
            obtain ⟨q9, x9⟩ := u9
            have h : Wd D B s ([(q9, .inr (10, fts x9 (-1 - nI pl)))] ++ ([(o1, .inr (14, fs9))] ++ (F ++ E9))) H locs := h
            subst hQ
            have h : Wd D B s (F ++ ([(q9, .inr (10, fts x9 (-1 - nI pl)))] ++ ([(o1, .inr (14, fs9))] ++ E9))) H locs := h.permL (perm_add (fun g f p0 p1 p2 => by (try simp only [p0, p1, p2]) <;> omega))
            exact x_athrow C hex hlocks h (List.mem_append_right _ (List.mem_append_left _ List.mem_cons_self)) rfl (q9, [(q9, .inr (10, fts x9 (-1 - nI pl)))] ++ ([(o1, .inr (14, fs9))] ++ E9)) rfl rfl (⟨hno, x9, List.mem_append_left _ List.mem_cons_self⟩) rfl (by omega) (by omega) dX1_own_62
      · have hno : ownOk kd bd = false := by unfold ownOk; rw [c23, Bool.false_and, Bool.and_false, Bool.and_false]
        refine lv_aload_n hx hb dX1_own_26 rfl (lv_at hl 0 rfl) ?_
        refine call_VR (As := []) (rest := []) (n := 0) C h (c14_fault l D dA B Z hZ _ pk pb sz nx pl kd pm (some q0) hlt hzx (hpk)) (lw_V q1088 q1064 q1065 q162 q1066) (by decide +kernel) (o_recv C h (RC := RX14) (T := TX14) (N := 7) (hpk) rfl) (by decide) (by decide) rfl hl rfl (Nat.le_of_ble_eq_true rfl) dX1_own_27 (by omega) (fun u9 H locs _ h => ?_)
        obtain ⟨q9, x9⟩ := u9
        have h : Wd D B s ([(q9, .inr (10, fts x9 (-1 - nI pl)))] ++ F) H locs := h
        subst hQ
        have h : Wd D B s (F ++ ([(q9, .inr (10, fts x9 (-1 - nI pl)))] ++ [])) H locs := h.permL (perm_add (fun g f p0 p1 p2 => by (try simp only [p0, p1, p2]) <;> omega))
        exact x_athrow C hex hlocks h (List.mem_append_right _ (List.mem_append_left _ List.mem_cons_self)) rfl (q9, [(q9, .inr (10, fts x9 (-1 - nI pl)))] ++ []) rfl rfl (⟨hno, x9, List.mem_append_left _ List.mem_cons_self⟩) rfl (by omega) (by omega) dX1_own_30
set_option maxHeartbeats 400000 in
set_option maxRecDepth 100000 in
theorem c1_end (l : Launch) (D : va_G) (dA : Nat → ClassId) (B : Nat) (Z : State → Prop) (hZ : Stab B Z) (F : va_W) (po rb n0 pk : Nat) (gq : Nat → Nat) (lw : List Nat) (nx plc kd : Nat) (bo : Option Nat) (b cap : Nat) (g : Nat → Nat) (lr : List Nat) (hlt : l.stackTraces = false) (hzx : ZX B Z) (hrb : (rb, bar dA n0 gq) ∈ F) (hsb : SBis gq n0 lw) (hbt : byt lw) (hn0 : n0 < 400000) (hl4 : lw.length ≤ 4096) (hnx : nx ≤ lw.length) (hsr : SBis g cap lr) (hcap : 64 ≤ cap) (hcm : cap < 400000) :
    CtX (S := Unit) (SX := Nat × (Nat × Nat × Option Nat) × RowS × va_W) l D dA B Z yX1_end cX1_end 1 none 11 (rC cap lw.length + 3) (rS cap lw.length + lw.length + 21) [.ref po] ([(po, .inr (11, [.ref rb, .int (nI lw.length), .int (nI nx), .int (nI plc), .int (nI kd), va_rf bo, .ref pk])), (pk, .inr (1, [.ref b, .int (nI lr.length)])), (b, bar dA cap g)] ++ F) (fun _ => lw.length ≤ nx) (fun _ => none) (fun _ => [(po, .inr (11, [.ref rb, .int (nI lw.length), .int (nI nx), .int (nI plc), .int (nI kd), va_rf bo, .ref pk])), (pk, .inr (1, [.ref b, .int (nI lr.length)])), (b, bar dA cap g)] ++ F) (fun u => nx < lw.length ∧ FaultIn u.2.2.2 u.1 (-1 - nI nx) ∧ SBis u.2.2.1.2.2.1 u.2.2.1.2.1 u.2.2.1.2.2.2 ∧ GrOk cap lw.length u.2.2.1.2.1 ∧ ∀ x ∈ F, x ∈ u.2.2.2) (fun u => u.1) (fun _ => "SignetRing$Fault") (fun u => [(po, .inr (11, [.ref rb, .int (nI lw.length), .int (nI u.2.1.1), .int (nI nx), .int (nI u.2.1.2.1), va_rf u.2.1.2.2, .ref pk])), (pk, .inr (1, [.ref u.2.2.1.1, .int (nI u.2.2.1.2.2.2.length)])), (u.2.2.1.1, bar dA u.2.2.1.2.1 u.2.2.1.2.2.1)] ++ u.2.2.2) := by
  refine CtX.mk2 (by decide) (Nat.le_of_ble_eq_true rfl) hZ ?_
  intro p e R s m args below meth c ls Q C hr hlocks hin hex hQ hl h
  have C0 := C
  obtain ⟨hx, hb, hml, hown, hts, -⟩ := C0
  have hl : lv_has ls 1 [(0, .ref po)] := hl
  have hgb := gro_b (cap := cap) (m := lw.length) (by omega)
  have hrCc : rC cap lw.length = (gro cap lw.length - cap) / 64 := rfl
  have hrSc : rS cap lw.length = 2 * (gro cap lw.length - cap) := rfl
  refine lv_aload_n hx hb dX1_end_0 rfl (lv_at hl 0 rfl) ?_
  refine call_VR (As := []) (rest := []) (n := 0) C h (c14_more l D dA B Z hZ ([(pk, .inr (1, [.ref b, .int (nI lr.length)])), (b, bar dA cap g)] ++ F) po rb pk lw.length nx plc kd bo (by omega) (by omega)) (lw_V q1051 q1052 q1053 q162 q1054) (by decide +kernel) (o_recv C h (RC := RX14) (T := TX14) (N := 7) (List.mem_of_getElem? (i := 0) rfl) rfl) (by decide) (by decide) rfl hl rfl (Nat.le_of_ble_eq_true rfl) dX1_end_1 (by omega) (fun _ H locs _ h => ?_)
  have h : Wd D B s ([(po, .inr (11, [.ref rb, .int (nI lw.length), .int (nI nx), .int (nI plc), .int (nI kd), va_rf bo, .ref pk])), (pk, .inr (1, [.ref b, .int (nI lr.length)])), (b, bar dA cap g)] ++ F) H locs := h
  refine z_if_ne (tgt := 8) hx hb dX1_end_4 (by decide) (fun c4 => ?_) (fun c4 => ?_)
  · have hnl : nx < lw.length := of_decide_eq_true c4
    refine lv_aload_n hx hb dX1_end_8 rfl (lv_at hl 0 rfl) ?_
    cases hpk9 : pktS lw nx with
    | none =>
      refine call_VX (As := []) (rest := []) (n := 0) C h (c14_nextX l D dA B Z hZ F po rb n0 pk gq lw nx plc kd bo b cap g lr hlt hzx hrb hsb hbt hn0 hl4 (by omega) hsr hcap hcm hpk9) (lw_V q1055 q1056 q1057 q162 q1058) (by decide +kernel) (o_recv C h (RC := RX14) (T := TX14) (N := 7) (List.mem_of_getElem? (i := 0) rfl) rfl) (by decide) (by decide) rfl hl rfl (Nat.le_of_ble_eq_true rfl) dX1_end_9 (by omega) (fun ux ce9 H locs hux h hce9 hcv9 hcl9 => ?_) (fun _ H locs hu h => ?_)
      · obtain ⟨q8, n8, k8, b8, c8, g8, l8, W8⟩ := ux
        obtain ⟨hx1, hx2, hx3, hx4⟩ := hux
        dsimp only at hx1 hx2 hx3 hx4 h
        subst hQ
        exact thr_out C hex hlocks h (q8, (n8, k8, bo), (b8, c8, g8, l8), W8) rfl rfl (⟨hnl, hx1, hx2, hx3, hx4⟩) rfl hce9 hcv9 hcl9 (by omega) (by omega)
      exact hu.elim
    | some q9 =>
      obtain ⟨k2, bd, n2⟩ := q9
      have hadv := pktS_adv hbt hpk9
      obtain ⟨hv1, hv2, hv3, hv4⟩ := hadv
      dsimp only at hv1 hv2 hv3 hv4
      have hrcb := rC_mono (cap := cap) (m := bd.length) (m' := lw.length) (by omega) (by omega)
      have hgb2 := gro_b (cap := cap) (m := bd.length) (by omega)
      refine call_VR (As := []) (rest := []) (n := 0) C h (c14_next l D dA B Z hZ F po rb n0 pk gq lw nx plc kd bo b cap g lr k2 n2 bd hrb hsb hbt hn0 hl4 (by omega) hsr hcap hcm hpk9) (lw_V q1055 q1056 q1057 q162 q1058) (by decide +kernel) (o_recv C h (RC := RX14) (T := TX14) (N := 7) (List.mem_of_getElem? (i := 0) rfl) rfl) (by decide) (by decide) rfl hl rfl (Nat.le_of_ble_eq_true rfl) dX1_end_9 (by omega) (fun u8 H locs hu8 h => ?_)
      obtain ⟨bo8, b8, g8, W8⟩ := u8
      obtain ⟨hx1, hx2, hx3⟩ := hu8
      dsimp only at hx1 hx2 hx3 h
      have h : Wd D B s ([(po, .inr (11, [.ref rb, .int (nI lw.length), .int (nI n2), .int (nI nx), .int (nI k2), va_rf bo8, .ref pk])), (pk, .inr (1, [.ref b8, .int (nI bd.length)])), (b8, bar dA (gro cap bd.length) g8)] ++ W8) H locs := h
      refine lv_aload_n hx hb dX1_end_12 rfl (lv_at hl 0 rfl) ?_
      refine call_VR (As := []) (rest := []) (n := 0) C h (c14_fault l D dA B Z hZ ([(po, .inr (11, [.ref rb, .int (nI lw.length), .int (nI n2), .int (nI nx), .int (nI k2), va_rf bo8, .ref pk])), (pk, .inr (1, [.ref b8, .int (nI bd.length)])), (b8, bar dA (gro cap bd.length) g8)] ++ W8) po rb lw.length n2 nx k2 pk bo8 hlt hzx (List.mem_of_getElem? (i := 0) rfl)) (lw_V q1088 q1064 q1065 q162 q1066) (by decide +kernel) (o_recv C h (RC := RX14) (T := TX14) (N := 7) (List.mem_of_getElem? (i := 0) rfl) rfl) (by decide) (by decide) rfl hl rfl (Nat.le_of_ble_eq_true rfl) dX1_end_13 (by omega) (fun u9 H locs _ h => ?_)
      obtain ⟨q9, x9⟩ := u9
      have h : Wd D B s ([(q9, .inr (10, fts x9 (-1 - nI nx))), (po, .inr (11, [.ref rb, .int (nI lw.length), .int (nI n2), .int (nI nx), .int (nI k2), va_rf bo8, .ref pk])), (pk, .inr (1, [.ref b8, .int (nI bd.length)])), (b8, bar dA (gro cap bd.length) g8)] ++ W8) H locs := h
      subst hQ
      have h : Wd D B s ([(po, .inr (11, [.ref rb, .int (nI lw.length), .int (nI n2), .int (nI nx), .int (nI k2), va_rf bo8, .ref pk])), (pk, .inr (1, [.ref b8, .int (nI bd.length)])), (b8, bar dA (gro cap bd.length) g8)] ++ ([(q9, .inr (10, fts x9 (-1 - nI nx)))] ++ W8)) H locs := h.permL (perm_add (fun g f p0 p1 p2 => by (try simp only [p0, p1, p2]) <;> omega))
      exact x_athrow C hex hlocks h (List.mem_append_right _ (List.mem_append_left _ List.mem_cons_self)) rfl (q9, (n2, k2, bo8), (b8, gro cap bd.length, g8, bd), [(q9, .inr (10, fts x9 (-1 - nI nx)))] ++ W8) rfl rfl (⟨hnl, ⟨x9, List.mem_append_left _ List.mem_cons_self⟩, hx1, GrOk.of hcap (by omega), fun x hx => List.mem_append_right _ (hx3 x hx)⟩) rfl (by omega) (by omega) dX1_end_16
  · have hne : lw.length ≤ nx := Nat.le_of_not_lt (of_decide_eq_false c4)
    subst hQ
    refine vy_ret ?_
    exact ret_v C hr hlocks h () hne rfl rfl (by omega) (by omega) dX1_end_7
set_option maxHeartbeats 400000 in
set_option maxRecDepth 100000 in
theorem c1_letter (l : Launch) (D : va_G) (dA : Nat → ClassId) (B : Nat) (Z : State → Prop) (hZ : Stab B Z) (F : va_W) (me bs dc ou rg h1 h2 dg po9 tk pl pk tx sd : Nat) (sz : Nat) (po rb sz2 nx plc b cap : Nat) (g : Nat → Nat) (bd : List Nat) (tb tc : Nat) (tg : Nat → Nat) (tl : List Nat) (hlt : l.stackTraces = false) (hzx : ZX B Z) (hme : (me, .inr (0, [.ref bs, .int (nI sz), .ref dc, .ref ou, .ref rg, .ref h1, .ref h2, .ref dg, .ref po9, .ref tk, .ref pl, .ref pk, .ref tx, .ref sd])) ∈ F) (hpo : (po, .inr (11, [.ref rb, .int (nI sz2), .int (nI nx), .int (nI plc), .int (nI 11), va_rf none, .ref pk])) ∈ F) (hrk : (pk, .inr (1, [.ref b, .int (nI bd.length)])) ∈ F) (hrkb : (b, bar dA cap g) ∈ F) (hsb : SBis g cap bd) (hcm : cap < 400000) (hbd : byt bd) (hbl : bd.length ≤ 4096) (htc : 64 ≤ tc) (htm : tc < 400000) :
    CtX (S := Nat × (Nat → Nat) × va_W) (SX := Nat × (Nat → Value)) l D dA B Z yX1_letter cX1_letter 4 none 8 (rC tc bd.length + 1) (rS tc bd.length + 7) [.ref me, .ref po] ([(tx, .inr (1, [.ref tb, .int (nI tl.length)])), (tb, bar dA tc tg)] ++ F) (fun u => letOk 11 bd = true ∧ SBis u.2.1 (gro tc (letT 11 bd).length) (letT 11 bd)) (fun _ => none) (fun u => [(tx, .inr (1, [.ref u.1, .int (nI ((letT 11 bd).length))])), (u.1, bar dA (gro tc (letT 11 bd).length) u.2.1)] ++ (F ++ u.2.2)) (fun u => letOk 11 bd = false) (fun u => u.1) (fun _ => "SignetRing$Fault") (fun u => [(tx, .inr (1, [.ref tb, .int (nI tl.length)])), (tb, bar dA tc tg)] ++ (F ++ [(u.1, .inr (10, fts u.2 (-1 - nI plc)))])) := by
  refine CtX.mk2 (by decide) (Nat.le_of_ble_eq_true rfl) hZ ?_
  intro p e R s m args below meth c ls Q C hr hlocks hin hex hQ hl h
  have C0 := C
  obtain ⟨hx, hb, hml, hown, hts, -⟩ := C0
  have hl : lv_has ls 4 [(0, .ref me), (1, .ref po)] := hl
  have hgd0 := byt_gD hbd 0
  have hgd1 := byt_gD hbd 1
  refine lv_aload_n hx hb dX1_letter_0 rfl (lv_at hl 1 rfl) ?_
  refine o_get C h (RC := RX14) (T := TX14) (N := 7) (List.mem_append_right _ hpo) rfl in_X14 6 (by decide) q1035 rfl (v := .ref pk) rfl dX1_letter_1 ?_
  refine lv_astore_n (lv' := [(2, .ref pk), (0, .ref me), (1, .ref po)]) hx hb dX1_letter_4 rfl hl (by decide) rfl (fun ls hl => ?_)
  refine lv_aload_n hx hb dX1_letter_5 rfl (lv_at hl 0 rfl) ?_
  refine o_get C h (RC := RX2) (T := TX2) (N := 2) (List.mem_append_right _ hrk) rfl in_X2 1 (by decide) q192 rfl (v := .int (nI bd.length)) rfl dX1_letter_6 ?_
  refine lv_iconst (v := nI 2) hx hb dX1_letter_9 (by decide) ?_
  have jn : ∀ (H : Heap) (locs : List Loc), Wd D B s ([(tx, .inr (1, [.ref tb, .int (nI tl.length)])), (tb, bar dA tc tg)] ++ F) H locs → ∀ (ls : Array Slot), lv_has ls 4 [(2, .ref pk), (0, .ref me), (1, .ref po)] → W p l e R s m args below meth c H locs 0 0 Q (F0 m 26 ls [.int (nI (6 + namN 11 bd))]) := by
    intro   H locs h ls hl
    have hnm : namN 11 bd < 256 := by unfold namN; split <;> omega
    refine lv_istore_n (lv' := [(3, .int (nI (6 + namN 11 bd))), (2, .ref pk), (0, .ref me), (1, .ref po)]) hx hb dX1_letter_26 rfl hl (by decide) rfl (fun ls hl => ?_)
    refine lv_iload_n hx hb dX1_letter_27 rfl (lv_at hl 0 rfl) ?_
    refine lv_aload_n hx hb dX1_letter_28 rfl (lv_at hl 1 rfl) ?_
    refine o_get C h (RC := RX2) (T := TX2) (N := 2) (List.mem_append_right _ hrk) rfl in_X2 1 (by decide) q192 rfl (v := .int (nI bd.length)) rfl dX1_letter_29 ?_
    refine n_icmp_gt (tgt := 65) hx hb (by omega) (by omega) dX1_letter_32 (by decide) (fun c32 => ?_) (fun c32 => ?_)
    · have hno : letOk 11 bd = false := by unfold letOk; rw [decide_eq_false (show ¬ 6 + namN 11 bd ≤ bd.length by omega), Bool.false_and, Bool.and_false]
      refine lv_aload_n hx hb dX1_letter_65 rfl (lv_at hl 3 rfl) ?_
      refine call_VR (As := []) (rest := []) (n := 0) C h (c14_fault l D dA B Z hZ ([(tx, .inr (1, [.ref tb, .int (nI tl.length)])), (tb, bar dA tc tg)] ++ F) po rb sz2 nx plc 11 pk none hlt hzx (List.mem_append_right _ hpo)) (lw_V q1088 q1064 q1065 q162 q1066) (by decide +kernel) (o_recv C h (RC := RX14) (T := TX14) (N := 7) (List.mem_append_right _ hpo) rfl) (by decide) (by decide) rfl hl rfl (Nat.le_of_ble_eq_true rfl) dX1_letter_66 (by omega) (fun u9 H locs _ h => ?_)
      obtain ⟨q9, x9⟩ := u9
      have h : Wd D B s ([(q9, .inr (10, fts x9 (-1 - nI plc))), (tx, .inr (1, [.ref tb, .int (nI tl.length)])), (tb, bar dA tc tg)] ++ F) H locs := h
      subst hQ
      have h : Wd D B s ([(tx, .inr (1, [.ref tb, .int (nI tl.length)])), (tb, bar dA tc tg)] ++ (F ++ [(q9, .inr (10, fts x9 (-1 - nI plc)))])) H locs := h.permL (perm_add (fun g f p0 p1 p2 => by (try simp only [p0, p1, p2]) <;> omega))
      exact x_athrow C hex hlocks h (List.mem_append_right _ (List.mem_append_right _ List.mem_cons_self)) rfl (q9, x9) rfl rfl hno rfl (by omega) (by omega) dX1_letter_69
    · refine lv_aload_n hx hb dX1_letter_35 rfl (lv_at hl 1 rfl) ?_
      refine lv_iconst (v := nI 0) hx hb dX1_letter_36 (by decide) ?_
      refine call_VR (As := [.int (nI 0)]) (rest := []) (n := 1) C h (cM_at l D dA B Z hZ _ pk b cap g bd 0 (List.mem_append_right _ hrk) (List.mem_append_right _ hrkb) (by have := hsb.1; omega) (by omega) (by rw [hsb.2 0 (by omega)]; omega)) (lw_V q579 q580 q581 q130 q582) (by decide +kernel) (o_recv C h (RC := RX2) (T := TX2) (N := 2) (List.mem_append_right _ hrk) rfl) (by decide) (by decide) rfl hl rfl (Nat.le_of_ble_eq_true rfl) dX1_letter_37 (by omega) (fun _ H locs _ h => ?_)
      refine n_top (y := nI (gD bd 0)) (by rw [hsb.2 0 (by omega)]) ?_
      refine lv_bipush (v := nI 98) hx hb dX1_letter_40 (by decide) ?_
      refine n_icmp_eq (tgt := 70) hx hb (by omega) (by omega) dX1_letter_42 (by decide) (fun c42 => ?_) (fun c42 => ?_)
      · have hyes : letOk 11 bd = true := by unfold letOk; rw [decide_eq_true (show 6 + namN 11 bd ≤ bd.length by omega)]; simp [c42]
        refine lv_aload_n hx hb dX1_letter_70 rfl (lv_at hl 2 rfl) ?_
        refine o_get C h (RC := RX1) (T := TX1) (N := 14) (List.mem_append_right _ hme) rfl in_X1 12 (by decide) q320 rfl (v := .ref tx) rfl dX1_letter_71 ?_
        refine call_VR (As := []) (rest := []) (n := 0) C h (c2_clear l D dA B Z hZ F tx tb tc tg tl) (lw_V q553 q554 q555 q130 q556) (by decide +kernel) (o_recv C h (RC := RX2) (T := TX2) (N := 2) (List.mem_of_getElem? (i := 0) rfl) rfl) (by decide) (by decide) rfl hl rfl (Nat.le_of_ble_eq_true rfl) dX1_letter_74 (by omega) (fun _ H locs _ h => ?_)
        have h : Wd D B s ([(tx, .inr (1, [.ref tb, .int (nI (([] : List Nat).length))])), (tb, bar dA tc tg)] ++ F) H locs := h
        refine lv_aload_n hx hb dX1_letter_77 rfl (lv_at hl 2 rfl) ?_
        refine o_get C h (RC := RX1) (T := TX1) (N := 14) (List.mem_append_right _ hme) rfl in_X1 12 (by decide) q320 rfl (v := .ref tx) rfl dX1_letter_78 ?_
        refine lv_aload_n hx hb dX1_letter_81 rfl (lv_at hl 1 rfl) ?_
        refine o_get C h (RC := RX2) (T := TX2) (N := 2) (List.mem_append_right _ hrk) rfl in_X2 0 (by decide) q188 rfl (v := .ref b) rfl dX1_letter_82 ?_
        refine lv_iload_n hx hb dX1_letter_85 rfl (lv_at hl 0 rfl) ?_
        refine lv_aload_n hx hb dX1_letter_86 rfl (lv_at hl 1 rfl) ?_
        refine o_get C h (RC := RX2) (T := TX2) (N := 2) (List.mem_append_right _ hrk) rfl in_X2 1 (by decide) q192 rfl (v := .int (nI bd.length)) rfl dX1_letter_87 ?_
        have hnil : ([] : List Nat).length = 0 := rfl
        have hle9 : 6 + namN 11 bd ≤ bd.length := Classical.byContradiction (fun q9 => by
          have z9 : letOk 11 bd = false := by unfold letOk; rw [decide_eq_false q9, Bool.false_and, Bool.and_false]
          rw [z9] at hyes; cases hyes)
        have hT9 : sl g (6 + namN 11 bd) (bd.length - (6 + namN 11 bd)) = letT 11 bd := by
          unfold letT
          rw [show bd.length - 6 - namN 11 bd = bd.length - (6 + namN 11 bd) by omega]
          exact sl_cg9 (fun j hj => hsb.2 _ (by omega))
        have hcall := c2_putA l D dA B Z hZ F tx tb tc tg ([] : List Nat) b cap (6 + namN 11 bd) bd.length g ⟨Nat.zero_le _, fun j hj => absurd hj (Nat.not_lt_zero _)⟩ htc hrkb hle9 hsb.1 (by omega) (by rw [hnil]; omega) (by omega) (fun j hj => by rw [hsb.2 j hj]; exact byt_gD hbd j)
        rw [List.nil_append, hT9] at hcall
        have hTl : (letT 11 bd).length ≤ bd.length := by unfold letT; rw [sl_len]; omega
        have hrm := rC_mono (cap := tc) (m := (letT 11 bd).length) (m' := bd.length) (by omega) hTl
        refine call_VR (As := [.ref b, .int (nI (6 + namN 11 bd)), .int (nI bd.length)]) (rest := []) (n := 3) C h hcall (lw_V q557 q558 q559 q130 q560) (by decide +kernel) (o_recv C h (RC := RX2) (T := TX2) (N := 2) (List.mem_of_getElem? (i := 0) rfl) rfl) (by decide) (by decide) rfl hl rfl (Nat.le_of_ble_eq_true rfl) dX1_letter_90 (by omega) (fun u8 H locs hu8 h => ?_)
        obtain ⟨b2, g2, E2⟩ := u8
        dsimp only at hu8 h
        have h : Wd D B s ([(tx, .inr (1, [.ref b2, .int (nI ((letT 11 bd).length))])), (b2, bar dA (gro tc (letT 11 bd).length) g2)] ++ (F ++ E2)) H locs := h
        subst hQ
        refine vy_ret ?_
        exact ret_v C hr hlocks h (b2, g2, E2) (⟨hyes, hu8⟩) rfl rfl (by omega) (by omega) dX1_letter_93
      · refine lv_aload_n hx hb dX1_letter_45 rfl (lv_at hl 1 rfl) ?_
        refine lv_iconst (v := nI 0) hx hb dX1_letter_46 (by decide) ?_
        refine call_VR (As := [.int (nI 0)]) (rest := []) (n := 1) C h (cM_at l D dA B Z hZ _ pk b cap g bd 0 (List.mem_append_right _ hrk) (List.mem_append_right _ hrkb) (by have := hsb.1; omega) (by omega) (by rw [hsb.2 0 (by omega)]; omega)) (lw_V q579 q580 q581 q130 q582) (by decide +kernel) (o_recv C h (RC := RX2) (T := TX2) (N := 2) (List.mem_append_right _ hrk) rfl) (by decide) (by decide) rfl hl rfl (Nat.le_of_ble_eq_true rfl) dX1_letter_47 (by omega) (fun _ H locs _ h => ?_)
        refine n_top (y := nI (gD bd 0)) (by rw [hsb.2 0 (by omega)]) ?_
        refine lv_bipush (v := nI 116) hx hb dX1_letter_50 (by decide) ?_
        refine n_icmp_eq (tgt := 70) hx hb (by omega) (by omega) dX1_letter_52 (by decide) (fun c52 => ?_) (fun c52 => ?_)
        · have hyes : letOk 11 bd = true := by unfold letOk; rw [decide_eq_true (show 6 + namN 11 bd ≤ bd.length by omega)]; simp [c52]
          refine lv_aload_n hx hb dX1_letter_70 rfl (lv_at hl 2 rfl) ?_
          refine o_get C h (RC := RX1) (T := TX1) (N := 14) (List.mem_append_right _ hme) rfl in_X1 12 (by decide) q320 rfl (v := .ref tx) rfl dX1_letter_71 ?_
          refine call_VR (As := []) (rest := []) (n := 0) C h (c2_clear l D dA B Z hZ F tx tb tc tg tl) (lw_V q553 q554 q555 q130 q556) (by decide +kernel) (o_recv C h (RC := RX2) (T := TX2) (N := 2) (List.mem_of_getElem? (i := 0) rfl) rfl) (by decide) (by decide) rfl hl rfl (Nat.le_of_ble_eq_true rfl) dX1_letter_74 (by omega) (fun _ H locs _ h => ?_)
          have h : Wd D B s ([(tx, .inr (1, [.ref tb, .int (nI (([] : List Nat).length))])), (tb, bar dA tc tg)] ++ F) H locs := h
          refine lv_aload_n hx hb dX1_letter_77 rfl (lv_at hl 2 rfl) ?_
          refine o_get C h (RC := RX1) (T := TX1) (N := 14) (List.mem_append_right _ hme) rfl in_X1 12 (by decide) q320 rfl (v := .ref tx) rfl dX1_letter_78 ?_
          refine lv_aload_n hx hb dX1_letter_81 rfl (lv_at hl 1 rfl) ?_
          refine o_get C h (RC := RX2) (T := TX2) (N := 2) (List.mem_append_right _ hrk) rfl in_X2 0 (by decide) q188 rfl (v := .ref b) rfl dX1_letter_82 ?_
          refine lv_iload_n hx hb dX1_letter_85 rfl (lv_at hl 0 rfl) ?_
          refine lv_aload_n hx hb dX1_letter_86 rfl (lv_at hl 1 rfl) ?_
          refine o_get C h (RC := RX2) (T := TX2) (N := 2) (List.mem_append_right _ hrk) rfl in_X2 1 (by decide) q192 rfl (v := .int (nI bd.length)) rfl dX1_letter_87 ?_
          have hnil : ([] : List Nat).length = 0 := rfl
          have hle9 : 6 + namN 11 bd ≤ bd.length := Classical.byContradiction (fun q9 => by
            have z9 : letOk 11 bd = false := by unfold letOk; rw [decide_eq_false q9, Bool.false_and, Bool.and_false]
            rw [z9] at hyes; cases hyes)
          have hT9 : sl g (6 + namN 11 bd) (bd.length - (6 + namN 11 bd)) = letT 11 bd := by
            unfold letT
            rw [show bd.length - 6 - namN 11 bd = bd.length - (6 + namN 11 bd) by omega]
            exact sl_cg9 (fun j hj => hsb.2 _ (by omega))
          have hcall := c2_putA l D dA B Z hZ F tx tb tc tg ([] : List Nat) b cap (6 + namN 11 bd) bd.length g ⟨Nat.zero_le _, fun j hj => absurd hj (Nat.not_lt_zero _)⟩ htc hrkb hle9 hsb.1 (by omega) (by rw [hnil]; omega) (by omega) (fun j hj => by rw [hsb.2 j hj]; exact byt_gD hbd j)
          rw [List.nil_append, hT9] at hcall
          have hTl : (letT 11 bd).length ≤ bd.length := by unfold letT; rw [sl_len]; omega
          have hrm := rC_mono (cap := tc) (m := (letT 11 bd).length) (m' := bd.length) (by omega) hTl
          refine call_VR (As := [.ref b, .int (nI (6 + namN 11 bd)), .int (nI bd.length)]) (rest := []) (n := 3) C h hcall (lw_V q557 q558 q559 q130 q560) (by decide +kernel) (o_recv C h (RC := RX2) (T := TX2) (N := 2) (List.mem_of_getElem? (i := 0) rfl) rfl) (by decide) (by decide) rfl hl rfl (Nat.le_of_ble_eq_true rfl) dX1_letter_90 (by omega) (fun u8 H locs hu8 h => ?_)
          obtain ⟨b2, g2, E2⟩ := u8
          dsimp only at hu8 h
          have h : Wd D B s ([(tx, .inr (1, [.ref b2, .int (nI ((letT 11 bd).length))])), (b2, bar dA (gro tc (letT 11 bd).length) g2)] ++ (F ++ E2)) H locs := h
          subst hQ
          refine vy_ret ?_
          exact ret_v C hr hlocks h (b2, g2, E2) (⟨hyes, hu8⟩) rfl rfl (by omega) (by omega) dX1_letter_93
        · refine lv_aload_n hx hb dX1_letter_55 rfl (lv_at hl 1 rfl) ?_
          refine lv_iconst (v := nI 0) hx hb dX1_letter_56 (by decide) ?_
          refine call_VR (As := [.int (nI 0)]) (rest := []) (n := 1) C h (cM_at l D dA B Z hZ _ pk b cap g bd 0 (List.mem_append_right _ hrk) (List.mem_append_right _ hrkb) (by have := hsb.1; omega) (by omega) (by rw [hsb.2 0 (by omega)]; omega)) (lw_V q579 q580 q581 q130 q582) (by decide +kernel) (o_recv C h (RC := RX2) (T := TX2) (N := 2) (List.mem_append_right _ hrk) rfl) (by decide) (by decide) rfl hl rfl (Nat.le_of_ble_eq_true rfl) dX1_letter_57 (by omega) (fun _ H locs _ h => ?_)
          refine n_top (y := nI (gD bd 0)) (by rw [hsb.2 0 (by omega)]) ?_
          refine lv_bipush (v := nI 117) hx hb dX1_letter_60 (by decide) ?_
          refine n_icmp_eq (tgt := 70) hx hb (by omega) (by omega) dX1_letter_62 (by decide) (fun c62 => ?_) (fun c62 => ?_)
          · have hyes : letOk 11 bd = true := by unfold letOk; rw [decide_eq_true (show 6 + namN 11 bd ≤ bd.length by omega)]; simp [c62]
            refine lv_aload_n hx hb dX1_letter_70 rfl (lv_at hl 2 rfl) ?_
            refine o_get C h (RC := RX1) (T := TX1) (N := 14) (List.mem_append_right _ hme) rfl in_X1 12 (by decide) q320 rfl (v := .ref tx) rfl dX1_letter_71 ?_
            refine call_VR (As := []) (rest := []) (n := 0) C h (c2_clear l D dA B Z hZ F tx tb tc tg tl) (lw_V q553 q554 q555 q130 q556) (by decide +kernel) (o_recv C h (RC := RX2) (T := TX2) (N := 2) (List.mem_of_getElem? (i := 0) rfl) rfl) (by decide) (by decide) rfl hl rfl (Nat.le_of_ble_eq_true rfl) dX1_letter_74 (by omega) (fun _ H locs _ h => ?_)
            have h : Wd D B s ([(tx, .inr (1, [.ref tb, .int (nI (([] : List Nat).length))])), (tb, bar dA tc tg)] ++ F) H locs := h
            refine lv_aload_n hx hb dX1_letter_77 rfl (lv_at hl 2 rfl) ?_
            refine o_get C h (RC := RX1) (T := TX1) (N := 14) (List.mem_append_right _ hme) rfl in_X1 12 (by decide) q320 rfl (v := .ref tx) rfl dX1_letter_78 ?_
            refine lv_aload_n hx hb dX1_letter_81 rfl (lv_at hl 1 rfl) ?_
            refine o_get C h (RC := RX2) (T := TX2) (N := 2) (List.mem_append_right _ hrk) rfl in_X2 0 (by decide) q188 rfl (v := .ref b) rfl dX1_letter_82 ?_
            refine lv_iload_n hx hb dX1_letter_85 rfl (lv_at hl 0 rfl) ?_
            refine lv_aload_n hx hb dX1_letter_86 rfl (lv_at hl 1 rfl) ?_
            refine o_get C h (RC := RX2) (T := TX2) (N := 2) (List.mem_append_right _ hrk) rfl in_X2 1 (by decide) q192 rfl (v := .int (nI bd.length)) rfl dX1_letter_87 ?_
            have hnil : ([] : List Nat).length = 0 := rfl
            have hle9 : 6 + namN 11 bd ≤ bd.length := Classical.byContradiction (fun q9 => by
              have z9 : letOk 11 bd = false := by unfold letOk; rw [decide_eq_false q9, Bool.false_and, Bool.and_false]
              rw [z9] at hyes; cases hyes)
            have hT9 : sl g (6 + namN 11 bd) (bd.length - (6 + namN 11 bd)) = letT 11 bd := by
              unfold letT
              rw [show bd.length - 6 - namN 11 bd = bd.length - (6 + namN 11 bd) by omega]
              exact sl_cg9 (fun j hj => hsb.2 _ (by omega))
            have hcall := c2_putA l D dA B Z hZ F tx tb tc tg ([] : List Nat) b cap (6 + namN 11 bd) bd.length g ⟨Nat.zero_le _, fun j hj => absurd hj (Nat.not_lt_zero _)⟩ htc hrkb hle9 hsb.1 (by omega) (by rw [hnil]; omega) (by omega) (fun j hj => by rw [hsb.2 j hj]; exact byt_gD hbd j)
            rw [List.nil_append, hT9] at hcall
            have hTl : (letT 11 bd).length ≤ bd.length := by unfold letT; rw [sl_len]; omega
            have hrm := rC_mono (cap := tc) (m := (letT 11 bd).length) (m' := bd.length) (by omega) hTl
            refine call_VR (As := [.ref b, .int (nI (6 + namN 11 bd)), .int (nI bd.length)]) (rest := []) (n := 3) C h hcall (lw_V q557 q558 q559 q130 q560) (by decide +kernel) (o_recv C h (RC := RX2) (T := TX2) (N := 2) (List.mem_of_getElem? (i := 0) rfl) rfl) (by decide) (by decide) rfl hl rfl (Nat.le_of_ble_eq_true rfl) dX1_letter_90 (by omega) (fun u8 H locs hu8 h => ?_)
            obtain ⟨b2, g2, E2⟩ := u8
            dsimp only at hu8 h
            have h : Wd D B s ([(tx, .inr (1, [.ref b2, .int (nI ((letT 11 bd).length))])), (b2, bar dA (gro tc (letT 11 bd).length) g2)] ++ (F ++ E2)) H locs := h
            subst hQ
            refine vy_ret ?_
            exact ret_v C hr hlocks h (b2, g2, E2) (⟨hyes, hu8⟩) rfl rfl (by omega) (by omega) dX1_letter_93
          · have hno : letOk 11 bd = false := by unfold letOk; rw [decide_eq_false c42, decide_eq_false c52, decide_eq_false c62, Bool.false_or, Bool.false_or, Bool.and_false, Bool.and_false]
            refine lv_aload_n hx hb dX1_letter_65 rfl (lv_at hl 3 rfl) ?_
            refine call_VR (As := []) (rest := []) (n := 0) C h (c14_fault l D dA B Z hZ ([(tx, .inr (1, [.ref tb, .int (nI tl.length)])), (tb, bar dA tc tg)] ++ F) po rb sz2 nx plc 11 pk none hlt hzx (List.mem_append_right _ hpo)) (lw_V q1088 q1064 q1065 q162 q1066) (by decide +kernel) (o_recv C h (RC := RX14) (T := TX14) (N := 7) (List.mem_append_right _ hpo) rfl) (by decide) (by decide) rfl hl rfl (Nat.le_of_ble_eq_true rfl) dX1_letter_66 (by omega) (fun u9 H locs _ h => ?_)
            obtain ⟨q9, x9⟩ := u9
            have h : Wd D B s ([(q9, .inr (10, fts x9 (-1 - nI plc))), (tx, .inr (1, [.ref tb, .int (nI tl.length)])), (tb, bar dA tc tg)] ++ F) H locs := h
            subst hQ
            have h : Wd D B s ([(tx, .inr (1, [.ref tb, .int (nI tl.length)])), (tb, bar dA tc tg)] ++ (F ++ [(q9, .inr (10, fts x9 (-1 - nI plc)))])) H locs := h.permL (perm_add (fun g f p0 p1 p2 => by (try simp only [p0, p1, p2]) <;> omega))
            exact x_athrow C hex hlocks h (List.mem_append_right _ (List.mem_append_right _ List.mem_cons_self)) rfl (q9, x9) rfl rfl hno rfl (by omega) (by omega) dX1_letter_69
  refine n_icmp_ge (tgt := 18) hx hb (by omega) (by omega) dX1_letter_10 (by decide) (fun c10 => ?_) (fun c10 => ?_)
  · refine lv_bipush (v := nI 6) hx hb dX1_letter_18 (by decide) ?_
    refine lv_aload_n hx hb dX1_letter_20 rfl (lv_at hl 0 rfl) ?_
    refine lv_iconst (v := nI 1) hx hb dX1_letter_21 (by decide) ?_
    refine call_VR (As := [.int (nI 1)]) (rest := [.int (nI 6)]) (n := 1) C h (cM_at l D dA B Z hZ _ pk b cap g bd 1 (List.mem_append_right _ hrk) (List.mem_append_right _ hrkb) (by have := hsb.1; omega) (by omega) (by rw [hsb.2 1 (by omega)]; omega)) (lw_V q579 q580 q581 q130 q582) (by decide +kernel) (o_recv C h (RC := RX2) (T := TX2) (N := 2) (List.mem_append_right _ hrk) rfl) (by decide) (by decide) rfl hl rfl (Nat.le_of_ble_eq_true rfl) dX1_letter_22 (by omega) (fun _ H locs _ h => ?_)
    refine n_top (y := nI (gD bd 1)) (by rw [hsb.2 1 (by omega)]) ?_
    refine lv_iadd hx hb dX1_letter_25 (n_top (y := nI (6 + gD bd 1)) (nI_add 6 (gD bd 1)) ?_)
    refine n_top (y := nI (6 + namN 11 bd)) (by unfold namN; rw [if_pos ⟨rfl, by omega⟩]) ?_
    exact jn   _ _ h _ (lv_sub hl [0, 1, 2] rfl)
  · refine lv_bipush (v := nI 6) hx hb dX1_letter_13 (by decide) ?_
    refine lv_goto (tgt := 26) hx hb dX1_letter_15 (by decide) ?_
    refine n_top (y := nI (6 + namN 11 bd)) (by unfold namN; rw [if_neg (by omega)]) ?_
    exact jn   _ _ h _ (lv_sub hl [0, 1, 2] rfl)
