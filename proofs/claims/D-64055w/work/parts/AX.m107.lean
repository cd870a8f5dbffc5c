set_option maxRecDepth 100000
set_option maxHeartbeats 400000 in
set_option maxRecDepth 100000 in
theorem c9_copyO (l : Launch) (D : va_G) (dA : Nat → ClassId) (B : Nat) (Z : State → Prop) (hZ : Stab B Z) (O F : va_W) (k : KY) (e0 mi : Nat) (hzs : ZS dA B Z) (hza : ZA B e0 mi Z) (hk : ∀ z ∈ kyW dA e0 k, z ∈ F) (hK : KyIn dA F k) :
    Ct (S := KY × va_W) l D dA B Z yX9_copy cX9_copy 3 (some ((.object "SignetRing$Key"))) 8 (6 + 5 * k.2.2.2.1.2.length + 5 * k.2.2.2.2.2.length) (55 + 74 * k.2.2.2.1.2.length + 74 * k.2.2.2.2.2.length) [.ref k.1] (O ++ F) (fun u => u.1.2.1 = k.2.1 ∧ u.1.2.2.1.2 = k.2.2.1.2 ∧ u.1.2.2.2.1.2.map usC = k.2.2.2.1.2.map usC ∧ u.1.2.2.2.2.2.map ptC = k.2.2.2.2.2.map ptC ∧ KyIn dA (F ++ u.2) u.1) (fun u => some (.ref u.1.1)) (fun u => kyW dA e0 u.1 ++ (O ++ (F ++ u.2))) := by
  refine Ct.mk2 (by decide) (Nat.le_of_ble_eq_true rfl) hZ ?_
  intro p e R s m args below meth c ls Q C hr hlocks hin hQ hl h
  have C0 := C
  obtain ⟨hx, hb, hml, hown, hts, -⟩ := C0
  have hl : lv_has ls 3 [(0, .ref k.1)] := hl
  have hkc := KyIn.kc hk
  have hsl := hK.sl hk
  have hul := hK.ul hk
  have hpl := hK.pl hk
  obtain ⟨edsl, hcsl⟩ := hsl.cell
  have hnsl := hsl.len
  rw [List.length_map] at hnsl
  obtain ⟨edul, hcul⟩ := hul.cell
  have hnul := hul.len
  rw [List.length_map] at hnul
  obtain ⟨edpl, hcpl⟩ := hpl.cell
  have hnpl := hpl.len
  rw [List.length_map] at hnpl
  obtain ⟨hkN, hkS, hkU, hkP, hkUs, hkPs⟩ := hK
  have hlm : (k.2.2.1.2.map Prod.fst).length = k.2.2.1.2.length := List.length_map ..
  have hs16 := hkS.2.2.1
  have hu8 := hkU.2.2
  have hp8 := hkP.2.2
  refine o_new C h (RC := RX9) (T := TX9) (N := 4) (ci := 6) (fs := [.null, .null, .null, .null]) rfl in_X9 tyX9_ok q383 q384 q142 dv_X9 (by omega) (by omega) dX9_copy_0 (fun o1 H h => ?_)
  have h := Wd.toFront h
  have h : Wd D B s ([(o1, .inr (6, [.null, .null, .null, .null]))] ++ (O ++ F)) H [] := h
  refine lv_dup hx hb dX9_copy_3 rfl ?_
  refine lv_aload_n hx hb dX9_copy_4 rfl (lv_at hl 0 rfl) ?_
  refine o_get C h (RC := RX9) (T := TX9) (N := 4) (List.mem_append_right _ (List.mem_append_right _ hkc)) rfl in_X9 1 (by decide) q396 rfl (v := .ref k.2.1.1) rfl dX9_copy_5 ?_
  refine call_I (As := [.ref k.2.1.1]) (rest := [.ref o1]) (n := 1) C h (c9_init l D dA B Z hZ (O ++ F) o1 k.2.1.1 e0 mi hzs hza) (lw_meth q387) q142 q385 q386 rfl (by decide +kernel) (by decide) (by decide) rfl hl rfl (Nat.le_of_ble_eq_true rfl) dX9_copy_8 (by omega) (fun u3 H locs _ h => ?_)
  obtain ⟨q1, q2, q3⟩ := u3
  have h : Wd D B s ([(o1, .inr (6, [.ref q1, .ref k.2.1.1, .ref q2, .ref q3])), (q1, .inr (16, [.int (nI 0), .ref e0, .int (nI 0)])), (q2, .inr (16, [.int (nI 0), .ref e0, .int (nI 0)])), (q3, .inr (16, [.int (nI 0), .ref e0, .int (nI 0)]))] ++ (O ++ F)) H locs := h
  refine lv_astore_n (lv' := [(1, .ref o1), (0, .ref k.1)]) hx hb dX9_copy_11 rfl hl (by decide) rfl (fun ls hl => ?_)
  refine lv_aload_n hx hb dX9_copy_12 rfl (lv_at hl 0 rfl) ?_
  refine o_getS C h (RC := RX9) (T := TX9) (N := 4) (List.mem_of_getElem? (i := 0) rfl) rfl in_X9 0 (by decide) q403 q404 (v := .ref q1) rfl dX9_copy_13 ?_
  refine lv_aload_n hx hb dX9_copy_16 rfl (lv_at hl 1 rfl) ?_
  refine o_getS C h (RC := RX9) (T := TX9) (N := 4) (List.mem_append_right _ (List.mem_append_right _ hkc)) rfl in_X9 0 (by decide) q403 q404 (v := .ref k.2.2.1.1.1) rfl dX9_copy_17 ?_
  have h : Wd D B s ([(q1, .inr (16, [.int (nI 0), .ref e0, .int (nI 0)])), (o1, .inr (6, [.ref q1, .ref k.2.1.1, .ref q2, .ref q3])), (q2, .inr (16, [.int (nI 0), .ref e0, .int (nI 0)])), (q3, .inr (16, [.int (nI 0), .ref e0, .int (nI 0)]))] ++ (O ++ F)) H locs := h.perm [1, 0, 2, 3] rfl rfl
  refine call_VR (As := [.ref k.2.2.1.1.1]) (rest := []) (n := 1) C h (cA_addAll l D dA B Z hZ ([(o1, .inr (6, [.ref q1, .ref k.2.1.1, .ref q2, .ref q3])), (q2, .inr (16, [.int (nI 0), .ref e0, .int (nI 0)])), (q3, .inr (16, [.int (nI 0), .ref e0, .int (nI 0)]))] ++ (O ++ F)) q1 e0 mi (nI 0) k.2.2.1.1 (k.2.2.1.2.map Prod.fst) 14 _ rfl q2637 hzs hza (hsl.sub (fun z hz => List.mem_append_right _ (List.mem_append_right _ (hsl.1 z hz)))) (hlm ▸ hkS.2.1) (by omega) (fun y hy => by obtain ⟨fs, hfs⟩ := hkS.el y hy; exact ⟨fs, List.mem_append_right _ (List.mem_append_right _ hfs)⟩)) (lw_V q422 q423 q424 q133 q425) (by decide +kernel) (o_recv C h (RC := RJ2) (T := TJ2) (N := 3) (List.mem_of_getElem? (i := 0) rfl) rfl) (by decide) (by decide) rfl hl rfl (Nat.le_of_ble_eq_true rfl) dX9_copy_20 (by omega) (fun u9 H locs hu9 h => ?_)
  obtain ⟨x9, E9⟩ := u9
  obtain ⟨hx1, hx2⟩ := hu9
  dsimp only at hx1 hx2
  rw [hlm] at h
  have h : Wd D B s ([(o1, .inr (6, [.ref q1, .ref k.2.1.1, .ref q2, .ref q3]))] ++ (lW dA e0 (q1, nI 0 + nI 1, x9) k.2.2.1.2.length ++ ([(q2, .inr (16, [.int (nI 0), .ref e0, .int (nI 0)]))] ++ ([(q3, .inr (16, [.int (nI 0), .ref e0, .int (nI 0)]))] ++ ([] ++ ([] ++ (O ++ (F ++ E9)))))))) H locs := h.permL (perm_add (fun g f p0 p1 p2 => by (try simp only [p0, p1, p2]) <;> omega))
  have h : Wd D B s ([(o1, .inr (6, [.ref q1, .ref k.2.1.1, .ref q2, .ref q3]))] ++ (lW dA e0 (q1, nI 0 + nI 1, x9) k.2.2.1.2.length ++ (lW dA e0 (q2, nI 0, none) 0 ++ (lW dA e0 (q3, nI 0, none) 0 ++ (([] : List US).flatMap (usW dA e0) ++ (([] : List PTt).flatMap (ptW dA e0) ++ (O ++ (F ++ E9)))))))) H locs := h
  refine lv_pop hx hb dX9_copy_23 rfl ?_
  refine lv_iconst (v := nI 0) hx hb dX9_copy_24 (by decide) ?_
  refine lv_istore_n (lv' := [(2, .int (nI 0)), (1, .ref o1), (0, .ref k.1)]) hx hb dX9_copy_25 rfl hl (by decide) rfl (fun ls hl => ?_)
  have loop : ∀ (nn : Nat) (i : Nat) (us9 : List US) (um : Int32) (ux : LX) (E : va_W) (cc cs : Nat), (i ≤ k.2.2.2.1.2.length) → (us9.length = i) → (us9.map usC = (k.2.2.2.1.2.take i).map usC) → (∀ u ∈ us9, UsIn dA (F ++ E) u) → (ALis ux (us9.map Prod.fst)) → (ux = none ∨ 0 < us9.length) → (cc ≤ 6 + 5 * i) → (cs ≤ 55 + 74 * i) → k.2.2.2.1.2.length - i < nn → ∀ (H : Heap) (locs : List Loc), Wd D B s ([(o1, .inr (6, [.ref q1, .ref k.2.1.1, .ref q2, .ref q3]))] ++ (lW dA e0 (q1, nI 0 + nI 1, x9) k.2.2.1.2.length ++ (lW dA e0 (q2, um, ux) i ++ (lW dA e0 (q3, nI 0, none) 0 ++ (us9.flatMap (usW dA e0) ++ (([] : List PTt).flatMap (ptW dA e0) ++ (O ++ (F ++ E)))))))) H locs → ∀ (ls : Array Slot), lv_has ls 3 [(0, .ref k.1), (1, .ref o1), (2, .int (nI i))] → W p l e R s m args below meth c H locs cc cs Q (F0 m 26 ls []) := by
    intro nn
    induction nn with
    | zero => intro i  us9  um  ux  E  cc cs  hi0 hi1 hi2 hi3 hi4 hi5 hi6 hi7 hme; exact absurd hme (Nat.not_lt_zero _)
    | succ nn ih =>
      intro i  us9  um  ux  E  cc cs  hi0 hi1 hi2 hi3 hi4 hi5 hi6 hi7 hme H locs h ls hl
      have hsF : ∀ z ∈ F, z ∈ ([(o1, .inr (6, [.ref q1, .ref k.2.1.1, .ref q2, .ref q3]))] ++ (lW dA e0 (q1, nI 0 + nI 1, x9) k.2.2.1.2.length ++ (lW dA e0 (q2, um, ux) i ++ (lW dA e0 (q3, nI 0, none) 0 ++ (us9.flatMap (usW dA e0) ++ (([] : List PTt).flatMap (ptW dA e0) ++ (O ++ (F ++ E)))))))) := fun z hz => List.mem_append_right _ (List.mem_append_right _ (List.mem_append_right _ (List.mem_append_right _ (List.mem_append_right _ (List.mem_append_right _ (List.mem_append_right _ (List.mem_append_left _ hz)))))))
      refine lv_iload_n hx hb dX9_copy_26 rfl (lv_at hl 2 rfl) ?_
      refine lv_aload_n hx hb dX9_copy_27 rfl (lv_at hl 0 rfl) ?_
      refine o_get C h (RC := RX9) (T := TX9) (N := 4) (List.mem_append_right _ (List.mem_append_right _ (List.mem_append_right _ (List.mem_append_right _ (List.mem_append_right _ (List.mem_append_right _ (List.mem_append_right _ (List.mem_append_left _ hkc)))))))) rfl in_X9 2 (by decide) q398 rfl (v := .ref k.2.2.2.1.1.1) rfl dX9_copy_28 ?_
      refine call_VR (As := []) (rest := [.int (nI i)]) (n := 0) C h (cA_size l D dA B Z hZ _ e0 k.2.2.2.1.1 _ (hul.sub (fun z hz => hsF z (hul.1 z hz)))) (lw_V q496 q361 q362 q133 q363) (by decide +kernel) (o_recv C h (RC := RJ2) (T := TJ2) (N := 3) (hsF _ hcul) rfl) (by decide) (by decide) rfl hl rfl (Nat.le_of_ble_eq_true rfl) dX9_copy_31 (by omega) (fun _ H locs _ h => ?_)
      refine n_top (y := nI k.2.2.2.1.2.length) (by rw [List.length_map]) ?_
      refine n_icmp_ge (tgt := 65) hx hb (by omega) (by omega) dX9_copy_34 (by decide) (fun c34 => ?_) (fun c34 => ?_)
      · refine lv_iconst (v := nI 0) hx hb dX9_copy_65 (by decide) ?_
        refine lv_istore_n (lv' := [(2, .int (nI 0)), (0, .ref k.1), (1, .ref o1)]) hx hb dX9_copy_66 rfl hl (by decide) rfl (fun ls hl => ?_)
        have hiu : i = k.2.2.2.1.2.length := by omega
        have loop2 : ∀ (nn2 : Nat) (j : Nat) (ps9 : List PTt) (pm : Int32) (px : LX) (E5 : va_W) (cc5 cs5 : Nat), (j ≤ k.2.2.2.2.2.length) → (ps9.length = j) → (ps9.map ptC = (k.2.2.2.2.2.take j).map ptC) → (∀ u ∈ ps9, PtIn dA (F ++ E5) u) → (ALis px (ps9.map Prod.fst)) → (px = none ∨ 0 < ps9.length) → (cc5 ≤ 6 + 5 * k.2.2.2.1.2.length + 5 * j) → (cs5 ≤ 55 + 74 * k.2.2.2.1.2.length + 74 * j) → (∀ u ∈ us9, UsIn dA (F ++ E5) u) → k.2.2.2.2.2.length - j < nn2 → ∀ (H : Heap) (locs : List Loc), Wd D B s ([(o1, .inr (6, [.ref q1, .ref k.2.1.1, .ref q2, .ref q3]))] ++ (lW dA e0 (q1, nI 0 + nI 1, x9) k.2.2.1.2.length ++ (lW dA e0 (q2, um, ux) i ++ (lW dA e0 (q3, pm, px) j ++ (us9.flatMap (usW dA e0) ++ (ps9.flatMap (ptW dA e0) ++ (O ++ (F ++ E5)))))))) H locs → ∀ (ls : Array Slot), lv_has ls 3 [(0, .ref k.1), (1, .ref o1), (2, .int (nI j))] → W p l e R s m args below meth c H locs cc5 cs5 Q (F0 m 67 ls []) := by
          intro nn2
          induction nn2 with
          | zero => intro j  ps9  pm  px  E5  cc5 cs5  hj0 hj1 hj2 hj3 hj4 hj5 hj6 hj7 hj8 hme; exact absurd hme (Nat.not_lt_zero _)
          | succ nn2 ih2 =>
            intro j  ps9  pm  px  E5  cc5 cs5  hj0 hj1 hj2 hj3 hj4 hj5 hj6 hj7 hj8 hme H locs h ls hl
            have hsF : ∀ z ∈ F, z ∈ ([(o1, .inr (6, [.ref q1, .ref k.2.1.1, .ref q2, .ref q3]))] ++ (lW dA e0 (q1, nI 0 + nI 1, x9) k.2.2.1.2.length ++ (lW dA e0 (q2, um, ux) i ++ (lW dA e0 (q3, pm, px) j ++ (us9.flatMap (usW dA e0) ++ (ps9.flatMap (ptW dA e0) ++ (O ++ (F ++ E5)))))))) := fun z hz => List.mem_append_right _ (List.mem_append_right _ (List.mem_append_right _ (List.mem_append_right _ (List.mem_append_right _ (List.mem_append_right _ (List.mem_append_right _ (List.mem_append_left _ hz)))))))
            refine lv_iload_n hx hb dX9_copy_67 rfl (lv_at hl 2 rfl) ?_
            refine lv_aload_n hx hb dX9_copy_68 rfl (lv_at hl 0 rfl) ?_
            refine o_get C h (RC := RX9) (T := TX9) (N := 4) (List.mem_append_right _ (List.mem_append_right _ (List.mem_append_right _ (List.mem_append_right _ (List.mem_append_right _ (List.mem_append_right _ (List.mem_append_right _ (List.mem_append_left _ hkc)))))))) rfl in_X9 3 (by decide) q400 rfl (v := .ref k.2.2.2.2.1.1) rfl dX9_copy_69 ?_
            refine call_VR (As := []) (rest := [.int (nI j)]) (n := 0) C h (cA_size l D dA B Z hZ _ e0 k.2.2.2.2.1 _ (hpl.sub (fun z hz => hsF z (hpl.1 z hz)))) (lw_V q496 q361 q362 q133 q363) (by decide +kernel) (o_recv C h (RC := RJ2) (T := TJ2) (N := 3) (hsF _ hcpl) rfl) (by decide) (by decide) rfl hl rfl (Nat.le_of_ble_eq_true rfl) dX9_copy_72 (by omega) (fun _ H locs _ h => ?_)
            refine n_top (y := nI k.2.2.2.2.2.length) (by rw [List.length_map]) ?_
            refine n_icmp_ge (tgt := 106) hx hb (by omega) (by omega) dX9_copy_75 (by decide) (fun c75 => ?_) (fun c75 => ?_)
            · refine lv_aload_n hx hb dX9_copy_106 rfl (lv_at hl 1 rfl) ?_
              subst hQ
              have hjp : j = k.2.2.2.2.2.length := by omega
              have h : Wd D B s (kyW dA e0 (o1, k.2.1, ((q1, nI 0 + nI 1, x9), k.2.2.1.2), ((q2, um, ux), us9), ((q3, pm, px), ps9)) ++ (O ++ (F ++ E5))) H locs := by
                unfold kyW kyW0; dsimp only; rw [hi1, hj1]; exact h.permL (perm_add (fun g f p0 p1 p2 => by (try simp only [p0, p1, p2]) <;> omega))
              exact ret_a C hr (Or.inl ⟨_, rfl⟩) hlocks h ((o1, k.2.1, ((q1, nI 0 + nI 1, x9), k.2.2.1.2), ((q2, um, ux), us9), ((q3, pm, px), ps9)), E5) (⟨rfl, rfl, by show us9.map usC = _; rw [hi2, List.take_of_length_le (by omega)], by show ps9.map ptC = _; rw [hj2, List.take_of_length_le (by omega)], hkN.sub (fun b q hq => List.mem_append_left _ hq) (fun a fs hq => List.mem_append_left _ hq), ⟨hx1, hlm ▸ hx2, hs16, fun z hz => (hkS.2.2.2 z hz).sub (fun z hz => List.mem_append_left _ hz)⟩, ⟨hi4, hi5, by show us9.length ≤ 8; omega⟩, ⟨hj4, hj5, by show ps9.length ≤ 8; omega⟩, hj8, hj3⟩) (Or.inr ⟨_, rfl⟩) rfl rfl (by omega) (by omega) dX9_copy_107
            · refine lv_aload_n hx hb dX9_copy_78 rfl (lv_at hl 1 rfl) ?_
              refine o_get C h (RC := RX9) (T := TX9) (N := 4) (List.mem_of_getElem? (i := 0) rfl) rfl in_X9 3 (by decide) q400 rfl (v := .ref q3) rfl dX9_copy_79 ?_
              refine lv_aload_n hx hb dX9_copy_82 rfl (lv_at hl 0 rfl) ?_
              refine o_get C h (RC := RX9) (T := TX9) (N := 4) (List.mem_append_right _ (List.mem_append_right _ (List.mem_append_right _ (List.mem_append_right _ (List.mem_append_right _ (List.mem_append_right _ (List.mem_append_right _ (List.mem_append_left _ hkc)))))))) rfl in_X9 3 (by decide) q400 rfl (v := .ref k.2.2.2.2.1.1) rfl dX9_copy_83 ?_
              refine lv_iload_n hx hb dX9_copy_86 rfl (lv_at hl 2 rfl) ?_
              obtain ⟨y, hy⟩ := at_lt (l := k.2.2.2.2.2) (i := j) (by omega)
              have hym := List.mem_of_getElem? hy
              obtain ⟨hyN, hyS⟩ := hkPs y hym
              have hcy := KyIn.ptc hk hym
              refine call_VR (As := [.int (nI j)]) (rest := [.ref q3]) (n := 1) C h (cA_get l D dA B Z hZ _ e0 k.2.2.2.2.1 _ j y.1 (hpl.sub (fun z hz => hsF z (hpl.1 z hz))) (at_map hy)) (lw_V q497 q365 q366 q133 q367) (by decide +kernel) (o_recv C h (RC := RJ2) (T := TJ2) (N := 3) (hsF _ hcpl) rfl) (by decide) (by decide) rfl hl rfl (Nat.le_of_ble_eq_true rfl) dX9_copy_87 (by omega) (fun _ H locs _ h => ?_)
              refine o_cast C h (RC := RX11) (T := TX11) (N := 2) (List.mem_append_right _ (List.mem_append_right _ (List.mem_append_right _ (List.mem_append_right _ (List.mem_append_right _ (List.mem_append_right _ (List.mem_append_right _ (List.mem_append_left _ hcy)))))))) rfl q529 dX9_copy_90 ?_
              have hs16y := hyS.2.2.1
              refine call_VR (As := []) (rest := [.ref q3]) (n := 0) C h (c11_copy l D dA B Z hZ ([(o1, .inr (6, [.ref q1, .ref k.2.1.1, .ref q2, .ref q3]))] ++ (lW dA e0 (q1, nI 0 + nI 1, x9) k.2.2.1.2.length ++ (lW dA e0 (q2, um, ux) i ++ (lW dA e0 (q3, pm, px) j ++ (us9.flatMap (usW dA e0) ++ (ps9.flatMap (ptW dA e0) ++ (O ++ (F ++ E5)))))))) y.1 y.2.1.1 e0 mi y.2.2.1 y.2.2.2 hzs hza (hsF _ hcy) (fun z hz => hsF z (KyIn.ptw hk hym z (List.mem_append_right _ hz))) (hyS.sub hsF)) (lw_V q530 q531 q532 q148 q533) (by decide +kernel) (o_recv C h (RC := RX11) (T := TX11) (N := 2) (hsF _ hcy) rfl) (by decide) (by decide) rfl hl rfl (Nat.le_of_ble_eq_true rfl) dX9_copy_93 (by omega) (fun u9 H locs hu9 h => ?_)
              obtain ⟨ua2, xd2, E2⟩ := u9
              have hu3 := hu9
              dsimp only at hu3
              have h : Wd D B s (lW dA e0 (q3, pm, px) (ps9.map Prod.fst).length ++ ([(o1, .inr (6, [.ref q1, .ref k.2.1.1, .ref q2, .ref q3]))] ++ (lW dA e0 (q1, nI 0 + nI 1, x9) k.2.2.1.2.length ++ (lW dA e0 (q2, um, ux) i ++ (us9.flatMap (usW dA e0) ++ ((ps9.flatMap (ptW dA e0) ++ ([(ua2, .inr (8, [.ref xd2.1, .ref y.2.1.1]))] ++ lW dA e0 xd2 y.2.2.2.length)) ++ (O ++ (F ++ (E5 ++ E2))))))))) H locs := by
                rw [List.length_map, hj1]; exact h.permL (perm_add (fun g f p0 p1 p2 => by (try simp only [p0, p1, p2]) <;> omega))
              have hml9 : (ps9.map Prod.fst).length = j := by rw [List.length_map, hj1]
              obtain ⟨ed8, hr8⟩ := lW_cell dA e0 (q3, pm, px) (ps9.map Prod.fst).length
              refine call_VR (As := [.ref ua2]) (rest := []) (n := 1) C h (cA_add l D dA B Z hZ ([(o1, .inr (6, [.ref q1, .ref k.2.1.1, .ref q2, .ref q3]))] ++ (lW dA e0 (q1, nI 0 + nI 1, x9) k.2.2.1.2.length ++ (lW dA e0 (q2, um, ux) i ++ (us9.flatMap (usW dA e0) ++ ((ps9.flatMap (ptW dA e0) ++ ([(ua2, .inr (8, [.ref xd2.1, .ref y.2.1.1]))] ++ lW dA e0 xd2 y.2.2.2.length)) ++ (O ++ (F ++ (E5 ++ E2)))))))) e0 mi (q3, pm, px) (ps9.map Prod.fst) ua2 _ 8 _ rfl q2629 hzs hza (List.mem_append_right _ (List.mem_append_right _ (List.mem_append_right _ (List.mem_append_right _ (List.mem_append_left _ (List.mem_append_right _ (List.mem_append_left _ List.mem_cons_self))))))) hj4 (by rw [List.length_map, hj1]; omega) (fun v hv => by
                obtain ⟨u, hu, e9⟩ := List.mem_map.mp hv
                rw [← e9]
                exact ⟨_, List.mem_append_right _ (List.mem_append_right _ (List.mem_append_right _ (List.mem_append_right _ (List.mem_append_left _ (List.mem_append_left _ (List.mem_flatMap.mpr ⟨u, hu, List.mem_append_left _ List.mem_cons_self⟩))))))⟩)) (lw_V q517 q518 q519 q133 q520) (by decide +kernel) (o_recv C h (RC := RJ2) (T := TJ2) (N := 3) (List.mem_append_left _ hr8) rfl) (by decide) (by decide) rfl hl rfl (Nat.le_of_ble_eq_true rfl) dX9_copy_96 (by omega) (fun u8 H locs hu8b h => ?_)
              obtain ⟨pm2, px2, E3⟩ := u8
              obtain ⟨hv1, hv2⟩ := hu8b
              dsimp only at hv1 hv2
              rw [show (ps9.map Prod.fst ++ [ua2]).length = j + 1 by rw [List.length_append, List.length_map, hj1]; rfl] at h
              refine lv_pop hx hb dX9_copy_99 rfl ?_
              refine lv_iinc (v := nI (j + 1)) (lv' := [(2, .int (nI (j + 1))), (0, .ref k.1), (1, .ref o1)]) hx hb dX9_copy_100 hl (k := 2) rfl (nI_add j 1) (by decide) rfl (fun ls hl => ?_)
              refine lv_goto (tgt := 67) hx hb dX9_copy_103 (by decide) ?_
              have hfm : (ps9 ++ [(ua2, y.2.1, xd2, y.2.2.2)]).flatMap (ptW dA e0) = ps9.flatMap (ptW dA e0) ++ ([(ua2, .inr (8, [.ref xd2.1, .ref y.2.1.1]))] ++ lW dA e0 xd2 y.2.2.2.length) := by rw [List.flatMap_append]; exact congrArg _ (List.append_nil _)
              have h : Wd D B s ([(o1, .inr (6, [.ref q1, .ref k.2.1.1, .ref q2, .ref q3]))] ++ (lW dA e0 (q1, nI 0 + nI 1, x9) k.2.2.1.2.length ++ (lW dA e0 (q2, um, ux) i ++ (lW dA e0 (q3, pm2, px2) (j + 1) ++ (us9.flatMap (usW dA e0) ++ ((ps9 ++ [(ua2, y.2.1, xd2, y.2.2.2)]).flatMap (ptW dA e0) ++ (O ++ (F ++ (E5 ++ (E2 ++ E3)))))))))) H locs := by
                rw [hfm]; exact h.permL (perm_add (fun g f p0 p1 p2 => by (try simp only [p0, p1, p2]) <;> omega))
              have hE2 : ∀ z ∈ F ++ E5, z ∈ F ++ (E5 ++ (E2 ++ E3)) := fun z hz => (List.mem_append.mp hz).elim (fun q => List.mem_append_left _ q) (fun q => List.mem_append_right _ (List.mem_append_left _ q))
              have hnu : PtIn dA (F ++ (E5 ++ (E2 ++ E3))) (ua2, y.2.1, xd2, y.2.2.2) := ⟨hyN.sub (fun b q hq => List.mem_append_left _ hq) (fun a fs hq => List.mem_append_left _ hq), ⟨hu3.1, hu3.2.1, hu3.2.2.1, fun z hz => (hyS.2.2.2 z hz).sub (fun z hz => List.mem_append_left _ hz)⟩⟩
              exact ih2 (j + 1) (ps9 ++ [(ua2, y.2.1, xd2, y.2.2.2)]) pm2 px2 (E5 ++ (E2 ++ E3)) _ _ (by omega) (by rw [List.length_append, hj1]; rfl) (by rw [take_map_step hy, List.map_append, hj2]; rfl) (fun u hu => (List.mem_append.mp hu).elim (fun q => (hj3 u q).sub hE2) (fun q => by rw [List.mem_singleton.mp q]; exact hnu)) (by rw [List.map_append]; exact hv1) (Or.inr (by rw [List.length_append]; exact Nat.succ_pos _)) (by omega) (by omega) (fun u hu => (hj8 u hu).sub hE2) (by omega) _ _ h _ (lv_sub hl [1, 2, 0] rfl)
        exact loop2 _ 0 [] (nI 0) none E _ _ (by omega) rfl rfl (fun u hu => absurd hu List.not_mem_nil) rfl (Or.inl rfl) (by omega) (by omega) hi3 (Nat.lt_succ_self _) _ _ h _ (lv_sub hl [1, 2, 0] rfl)
      · refine lv_aload_n hx hb dX9_copy_37 rfl (lv_at hl 1 rfl) ?_
        refine o_get C h (RC := RX9) (T := TX9) (N := 4) (List.mem_of_getElem? (i := 0) rfl) rfl in_X9 2 (by decide) q398 rfl (v := .ref q2) rfl dX9_copy_38 ?_
        refine lv_aload_n hx hb dX9_copy_41 rfl (lv_at hl 0 rfl) ?_
        refine o_get C h (RC := RX9) (T := TX9) (N := 4) (List.mem_append_right _ (List.mem_append_right _ (List.mem_append_right _ (List.mem_append_right _ (List.mem_append_right _ (List.mem_append_right _ (List.mem_append_right _ (List.mem_append_left _ hkc)))))))) rfl in_X9 2 (by decide) q398 rfl (v := .ref k.2.2.2.1.1.1) rfl dX9_copy_42 ?_
        refine lv_iload_n hx hb dX9_copy_45 rfl (lv_at hl 2 rfl) ?_
        obtain ⟨y, hy⟩ := at_lt (l := k.2.2.2.1.2) (i := i) (by omega)
        have hym := List.mem_of_getElem? hy
        obtain ⟨hyU, hyS⟩ := hkUs y hym
        have hyU0 := hyU
        obtain ⟨⟨hyb, hyl⟩, bay, hcy, hay⟩ := hyU
        refine call_VR (As := [.int (nI i)]) (rest := [.ref q2]) (n := 1) C h (cA_get l D dA B Z hZ _ e0 k.2.2.2.1.1 _ i y.1 (hul.sub (fun z hz => hsF z (hul.1 z hz))) (at_map hy)) (lw_V q497 q365 q366 q133 q367) (by decide +kernel) (o_recv C h (RC := RJ2) (T := TJ2) (N := 3) (hsF _ hcul) rfl) (by decide) (by decide) rfl hl rfl (Nat.le_of_ble_eq_true rfl) dX9_copy_46 (by omega) (fun _ H locs _ h => ?_)
        refine o_cast C h (RC := RX10) (T := TX10) (N := 2) (List.mem_append_right _ (List.mem_append_right _ (List.mem_append_right _ (List.mem_append_right _ (List.mem_append_right _ (List.mem_append_right _ (List.mem_append_right _ (List.mem_append_left _ hcy)))))))) rfl q498 dX9_copy_49 ?_
        have hs16y := hyS.2.2.1
        refine call_VR (As := []) (rest := [.ref q2]) (n := 0) C h (c10_copy l D dA B Z hZ ([(o1, .inr (6, [.ref q1, .ref k.2.1.1, .ref q2, .ref q3]))] ++ (lW dA e0 (q1, nI 0 + nI 1, x9) k.2.2.1.2.length ++ (lW dA e0 (q2, um, ux) i ++ (lW dA e0 (q3, nI 0, none) 0 ++ (us9.flatMap (usW dA e0) ++ (([] : List PTt).flatMap (ptW dA e0) ++ (O ++ (F ++ E)))))))) y.1 bay e0 mi y.2.2.1 y.2.2.2 hzs hza (hsF _ hcy) (fun z hz => hsF z (KyIn.usw hk hym z hz)) (hyS.sub hsF)) (lw_V q499 q500 q501 q147 q502) (by decide +kernel) (o_recv C h (RC := RX10) (T := TX10) (N := 2) (hsF _ hcy) rfl) (by decide) (by decide) rfl hl rfl (Nat.le_of_ble_eq_true rfl) dX9_copy_52 (by omega) (fun u9 H locs hu9 h => ?_)
        obtain ⟨ua2, xd2, E2⟩ := u9
        obtain ⟨hu1, hu3⟩ := hu9
        dsimp only at hu1 hu3
        have h : Wd D B s (lW dA e0 (q2, um, ux) (us9.map Prod.fst).length ++ ([(o1, .inr (6, [.ref q1, .ref k.2.1.1, .ref q2, .ref q3]))] ++ (lW dA e0 (q1, nI 0 + nI 1, x9) k.2.2.1.2.length ++ (lW dA e0 (q3, nI 0, none) 0 ++ ((us9.flatMap (usW dA e0) ++ lW dA e0 xd2 y.2.2.2.length) ++ (([] : List PTt).flatMap (ptW dA e0) ++ (O ++ (F ++ (E ++ E2))))))))) H locs := by
          rw [List.length_map, hi1]; exact h.permL (perm_add (fun g f p0 p1 p2 => by (try simp only [p0, p1, p2]) <;> omega))
        have hml9 : (us9.map Prod.fst).length = i := by rw [List.length_map, hi1]
        obtain ⟨ed8, hr8⟩ := lW_cell dA e0 (q2, um, ux) (us9.map Prod.fst).length
        refine call_VR (As := [.ref ua2]) (rest := []) (n := 1) C h (cA_add l D dA B Z hZ ([(o1, .inr (6, [.ref q1, .ref k.2.1.1, .ref q2, .ref q3]))] ++ (lW dA e0 (q1, nI 0 + nI 1, x9) k.2.2.1.2.length ++ (lW dA e0 (q3, nI 0, none) 0 ++ ((us9.flatMap (usW dA e0) ++ lW dA e0 xd2 y.2.2.2.length) ++ (([] : List PTt).flatMap (ptW dA e0) ++ (O ++ (F ++ (E ++ E2)))))))) e0 mi (q2, um, ux) (us9.map Prod.fst) ua2 _ 7 _ rfl q2628 hzs hza (List.mem_append_right _ (List.mem_append_right _ (List.mem_append_right _ (List.mem_append_right _ (List.mem_append_right _ (List.mem_append_right _ (List.mem_append_right _ (List.mem_append_right _ hu1)))))))) hi4 (by rw [List.length_map, hi1]; omega) (fun v hv => by
          obtain ⟨u, hu, e9⟩ := List.mem_map.mp hv
          obtain ⟨⟨_, b9, hb9, _⟩, _⟩ := hi3 u hu
          rw [← e9]
          exact ⟨_, List.mem_append_right _ (List.mem_append_right _ (List.mem_append_right _ (List.mem_append_right _ (List.mem_append_right _ (List.mem_append_right _ ((List.mem_append.mp hb9).elim (fun q => List.mem_append_left _ q) (fun q => List.mem_append_right _ (List.mem_append_left _ q))))))))⟩)) (lw_V q517 q518 q519 q133 q520) (by decide +kernel) (o_recv C h (RC := RJ2) (T := TJ2) (N := 3) (List.mem_append_left _ hr8) rfl) (by decide) (by decide) rfl hl rfl (Nat.le_of_ble_eq_true rfl) dX9_copy_55 (by omega) (fun u8 H locs hu8b h => ?_)
        obtain ⟨um2, ux2, E3⟩ := u8
        obtain ⟨hv1, hv2⟩ := hu8b
        dsimp only at hv1 hv2
        rw [show (us9.map Prod.fst ++ [ua2]).length = i + 1 by rw [List.length_append, List.length_map, hi1]; rfl] at h
        refine lv_pop hx hb dX9_copy_58 rfl ?_
        refine lv_iinc (v := nI (i + 1)) (lv' := [(2, .int (nI (i + 1))), (0, .ref k.1), (1, .ref o1)]) hx hb dX9_copy_59 hl (k := 2) rfl (nI_add i 1) (by decide) rfl (fun ls hl => ?_)
        refine lv_goto (tgt := 26) hx hb dX9_copy_62 (by decide) ?_
        have hfm : (us9 ++ [(ua2, y.2.1, xd2, y.2.2.2)]).flatMap (usW dA e0) = us9.flatMap (usW dA e0) ++ lW dA e0 xd2 y.2.2.2.length := by rw [List.flatMap_append]; exact congrArg _ (List.append_nil _)
        have h : Wd D B s ([(o1, .inr (6, [.ref q1, .ref k.2.1.1, .ref q2, .ref q3]))] ++ (lW dA e0 (q1, nI 0 + nI 1, x9) k.2.2.1.2.length ++ (lW dA e0 (q2, um2, ux2) (i + 1) ++ (lW dA e0 (q3, nI 0, none) 0 ++ ((us9 ++ [(ua2, y.2.1, xd2, y.2.2.2)]).flatMap (usW dA e0) ++ (([] : List PTt).flatMap (ptW dA e0) ++ (O ++ (F ++ (E ++ (E2 ++ E3)))))))))) H locs := by
          rw [hfm]; exact h.permL (perm_add (fun g f p0 p1 p2 => by (try simp only [p0, p1, p2]) <;> omega))
        have hE2 : ∀ z ∈ F ++ E, z ∈ F ++ (E ++ (E2 ++ E3)) := fun z hz => (List.mem_append.mp hz).elim (fun q => List.mem_append_left _ q) (fun q => List.mem_append_right _ (List.mem_append_left _ q))
        have hnu : UsIn dA (F ++ (E ++ (E2 ++ E3))) (ua2, y.2.1, xd2, y.2.2.2) := ⟨⟨⟨hyb, hyl⟩, bay, List.mem_append_right _ (List.mem_append_right _ (List.mem_append_left _ hu1)), List.mem_append_left _ hay⟩, ⟨hu3.1, hu3.2.1, hu3.2.2.1, fun z hz => (hyS.2.2.2 z hz).sub (fun z hz => List.mem_append_left _ hz)⟩⟩
        exact ih (i + 1) (us9 ++ [(ua2, y.2.1, xd2, y.2.2.2)]) um2 ux2 (E ++ (E2 ++ E3)) _ _ (by omega) (by rw [List.length_append, hi1]; rfl) (by rw [take_map_step hy, List.map_append, hi2]; rfl) (fun u hu => (List.mem_append.mp hu).elim (fun q => (hi3 u q).sub hE2) (fun q => by rw [List.mem_singleton.mp q]; exact hnu)) (by rw [List.map_append]; exact hv1) (Or.inr (by rw [List.length_append]; exact Nat.succ_pos _)) (by omega) (by omega) (by omega) _ _ h _ (lv_sub hl [1, 2, 0] rfl)
  exact loop _ 0 [] (nI 0) none E9 _ _ (by omega) rfl rfl (fun u hu => absurd hu List.not_mem_nil) rfl (Or.inl rfl) (by omega) (by omega) (Nat.lt_succ_self _) _ _ h _ (lv_sub hl [2, 1, 0] rfl)
