set_option maxRecDepth 100000

theorem oI_eq {o : Option Nat} {n : Nat} (h : ∀ v, o = some v → v < 256) (hn : n < 256) : oI o = nI n ↔ o = some n := by
  cases o with
  | none => exact ⟨fun q => absurd ((oI_ne (o := some n) (fun i hi => by cases hi; omega)).mp q.symm) (by simp), fun q => by cases q⟩
  | some v =>
    have := h v rfl
    constructor
    · intro q
      have e : nI v = nI n := q
      rw [(nI_eq (by omega) (by omega)).mp e]
    · intro q; cases q; rfl
def whyN (b : List Nat) : Option Nat := (sNote b).2.2.2.2.2.2.2.1
def mild (b : List Nat) : Bool := decide (whyN b = some 1 ∨ whyN b = some 3)
def revN (L : List PK) (kx tx : PK) (ty t p : Nat) (b : Bool) : Bool :=
  match L[p]? with
  | none => b
  | some x => if gD x.2.1 1 = ty ∧ sVain x.2.1 = false then (b || (trueS (atMsg kx tx) x.2.1 kx.2.1 && (!mild x.2.1 || countS kx tx x.2.1 t))) else b
def revS (L : List PK) (kx tx : PK) (ty t i : Nat) : Nat → Bool
  | 0 => false
  | n + 1 => revN L kx tx ty t (i + 1 + n) (revS L kx tx ty t i n)
theorem revN_s {L : List PK} {kx tx x : PK} {ty t p : Nat} {b : Bool} (h : L[p]? = some x) : revN L kx tx ty t p b = if gD x.2.1 1 = ty ∧ sVain x.2.1 = false then (b || (trueS (atMsg kx tx) x.2.1 kx.2.1 && (!mild x.2.1 || countS kx tx x.2.1 t))) else b := by
  unfold revN; rw [h]

set_option maxHeartbeats 400000 in
set_option maxRecDepth 100000 in
theorem c7_isRevoked (l : Launch) (D : va_G) (dA : Nat → ClassId) (B : Nat) (Z : State → Prop) (hZ : Stab B Z) (h0 : Nat) (ad : Nat → Nat) (M : MS) (F : va_W) (L : List PK) (q i ty t ns : Nat) (kx tx9 : PK) (hzR : ∀ U : State, Z U → ∃ t, va_Z "SignetRingModel" "ROUNDS" "[I" (.ref t) (bA B) U U.heap ∧ va_T .int t 64 (fun j => .int (K2 j)) (bA B) U U.heap) (hI : MI M) (hR : CurR dA F ad M L) (hPK : PKs L) (hLl : L.length ≤ 4650) (hkx : L[q]? = some kx) (hk5 : 5 ≤ kx.2.1.length) (hk142 : kx.2.1.length ≤ 142) (htx : L[i]? = some tx9) (hty : ty < 256) (ht : t < 4294967296) (hns : sk (isK 2) L (i + 1) = i + 1 + ns) :
    Ct (S := MS × va_W) l D dA B Z yX7_isRevoked cX7_isRevoked 9 (some .boolean) 9 (3 * lsm L ns (i + 1)) (202 * lsm L ns (i + 1)) [.ref h0, .int (nI q), .int (nI i), .int (nI ty), .long (lN t)] (mw dA h0 ad M ++ F) (fun u => MI u.1 ∧ Kp M u.1) (fun _ => some (.int (bZ (revS L kx tx9 ty t i ns)))) (fun u => mw dA h0 ad u.1 ++ (F ++ u.2)) := by
  refine Ct.mk2 (by decide) (Nat.le_of_ble_eq_true rfl) hZ ?_
  intro p e R s m args below meth c ls Q C hr hlocks hin hQ hl h
  have C0 := C
  obtain ⟨hx, hb, hml, hown, hts, -⟩ := C0
  have hl : lv_has ls 9 [(0, .ref h0), (1, .int (nI q)), (2, .int (nI i)), (3, .int (nI ty)), (4, .long (lN t))] := hl
  have hql := (List.getElem?_eq_some_iff.mp hkx).1
  have hil := (List.getElem?_eq_some_iff.mp htx).1
  obtain ⟨hkxk, ⟨qkx, hqkx, hqkxF⟩, hkxs⟩ := hR.1 _ _ hkx
  have hkxo := hPK.at hkx
  have hkx1 := hkxo.1
  have hkxl := hkxo.2.2.1
  have hsl := sk_le (P := isK 2) (L := L) (q := i + 1) (by omega)
  rw [hns] at hsl
  refine lv_iconst (v := nI 0) hx hb dX7_isRevoked_0 (by decide) ?_
  refine lv_istore (lv' := [(6, .int (nI 0)), (0, .ref h0), (1, .int (nI q)), (2, .int (nI i)), (3, .int (nI ty)), (4, .long (lN t))]) hx hb dX7_isRevoked_1 hl (by decide) rfl (fun ls hl => ?_)
  refine lv_iload_n hx hb dX7_isRevoked_3 rfl (lv_at hl 3 rfl) ?_
  refine lv_iconst (v := nI 1) hx hb dX7_isRevoked_4 (by decide) ?_
  refine lv_iadd hx hb dX7_isRevoked_5 (n_top (y := nI (i + 1)) (nI_add i 1) ?_)
  refine lv_istore (lv' := [(7, .int (nI (i + 1))), (6, .int (nI 0)), (0, .ref h0), (1, .int (nI q)), (2, .int (nI i)), (3, .int (nI ty)), (4, .long (lN t))]) hx hb dX7_isRevoked_6 hl (by decide) rfl (fun ls hl => ?_)
  have h : Wd D B s (mw dA h0 ad M ++ (F ++ [])) s.heap [] := by rw [List.append_nil]; exact h
  have hl : lv_has ls 9 [(7, .int (nI (i + 1 + 0))), (6, .int (bZ false)), (0, .ref h0), (1, .int (nI q)), (2, .int (nI i)), (3, .int (nI ty)), (4, .long (lN t))] := hl
  have loop : ∀ (nn : Nat) (k cc cs : Nat) (bb : Bool) (M1 : MS) (E : va_W), (MI M1) → (Kp M M1) → (revS L kx tx9 ty t i k = bb) → (sk (isK 2) L (i + 1 + k) = i + 1 + ns) → (k ≤ ns) → (cc ≤ 3 * lsm L k (i + 1)) → (cs ≤ 202 * lsm L k (i + 1)) → ns - k < nn → ∀ (H : Heap) (locs : List Loc), Wd D B s (mw dA h0 ad M1 ++ (F ++ E)) H locs → ∀ (ls : Array Slot), lv_has ls 9 [(0, .ref h0), (1, .int (nI q)), (2, .int (nI i)), (3, .int (nI ty)), (4, .long (lN t)), (6, .int (bZ bb)), (7, .int (nI (i + 1 + k)))] → W p l e R s m args below meth c H locs cc cs Q (F0 m 8 ls []) := by
    intro nn
    induction nn with
    | zero => intro k cc cs  bb  M1  E  hI1 hK1 ho hsk hkn hcc hcs hme; exact absurd hme (Nat.not_lt_zero _)
    | succ nn ih =>
      intro k cc cs  bb  M1  E  hI1 hK1 ho hsk hkn hcc hcs hme H locs h ls hl
      have hR1 : CurR dA (F ++ E) ad M1 L := hR.kp hK1 (fun z hz => List.mem_append_left _ hz)
      refine lv_iload hx hb dX7_isRevoked_8 (lv_at hl 6 rfl) ?_
      refine lv_aload_n hx hb dX7_isRevoked_10 rfl (lv_at hl 0 rfl) ?_
      refine m_gi C h 12 (by decide) rfl rfl q1882 (v := nI L.length) hR1.2.1 dX7_isRevoked_11 ?_
      refine n_icmp_ge (tgt := 140) hx hb (by omega) (by omega) dX7_isRevoked_14 (by decide) (fun c14 => ?_) (fun c14 => ?_)
      · refine lv_iload hx hb dX7_isRevoked_140 (lv_at hl 5 rfl) ?_
        subst hQ
        have hfin : ns = k := by
          first
          | (have e9 := sk_end (P := isK 2) (L := L) (q := i + 1 + k) (by omega)
             omega)
          | (have e9 := sk_stop (P := isK 2) hx9 (by simp [isK]; omega)
             omega)
        subst hfin
        exact ret_z C hr hlocks h (M1, E) (⟨hI1, hK1⟩) (by rw [ho]) rfl (by omega) (by omega) dX7_isRevoked_142
      · obtain ⟨x9, hx9⟩ : ∃ z, L[i + 1 + k]? = some z := ⟨_, List.getElem?_eq_getElem (by omega)⟩
        obtain ⟨hx9k, ⟨qx9, hqx9, hqx9F⟩, hx9s⟩ := hR1.1 _ _ hx9
        have hx9o := hPK.at hx9
        have hx91 := hx9o.1
        have hx9l := hx9o.2.2.1
        refine lv_aload_n hx hb dX7_isRevoked_17 rfl (lv_at hl 0 rfl) ?_
        refine m_gr C h 13 (by decide) rfl rfl q1883 (v := some (ad 13)) hR1.2.2.1 dX7_isRevoked_18 ?_
        refine lv_iload hx hb dX7_isRevoked_21 (lv_at hl 6 rfl) ?_
        refine n_iald C h (v := (mG M1 13) (i + 1 + k)) (mw_memG (k := 13) (by decide)) (show i + 1 + k < 4700 by omega) (by decide) rfl dX7_isRevoked_23 ?_
        refine n_top (y := nI x9.1) (congrArg nI hx9k) ?_
        refine lv_iconst (v := nI 2) hx hb dX7_isRevoked_24 (by decide) ?_
        refine n_icmp_ne (tgt := 140) hx hb (by omega) (by omega) dX7_isRevoked_25 (by decide) (fun c25 => ?_) (fun c25 => ?_)
        · refine lv_iload hx hb dX7_isRevoked_140 (lv_at hl 5 rfl) ?_
          subst hQ
          have hfin : ns = k := by
            first
            | (have e9 := sk_end (P := isK 2) (L := L) (q := i + 1 + k) (by omega)
               omega)
            | (have e9 := sk_stop (P := isK 2) hx9 (by simp [isK]; omega)
               omega)
          subst hfin
          exact ret_z C hr hlocks h (M1, E) (⟨hI1, hK1⟩) (by rw [ho]) rfl (by omega) (by omega) dX7_isRevoked_142
        · have hx92 : x9.1 = 2 := c25
          have hx9g := hx9o.2.2.2.2.1 hx92
          have hsk9 := hx9g.2.1
          have hlen9 := (sealOk_len hx9o.2.1 hsk9).1
          have hb9 : gD x9.2.1 1 < 256 := byt_gD hx9o.2.1 1
          have hsk1 : sk (isK 2) L (i + 1 + (k + 1)) = i + 1 + ns := by rw [← hsk, sk_go hx9 (by simp [isK, hx92])]; rfl
          have hsk2 := sk_le (P := isK 2) (L := L) (q := i + 1 + (k + 1)) (by omega)
          rw [hsk1] at hsk2
          have hls := lsm_s (n := k) (a := i + 1) hx9
          have hlm := lsm_mono L (i + 1) (show k + 1 ≤ ns by omega)
          rw [hls] at hlm
          have hst : revS L kx tx9 ty t i (k + 1) = if gD x9.2.1 1 = ty ∧ sVain x9.2.1 = false then (bb || (trueS (atMsg kx tx9) x9.2.1 kx.2.1 && (!mild x9.2.1 || countS kx tx9 x9.2.1 t))) else bb := by rw [revS, ho, revN_s hx9]
          have jz : ∀ (cd cs2 : Nat) (b2 : Bool) (M5 : MS) (E5 : va_W), (MI M5) → (Kp M M5) → (revS L kx tx9 ty t i (k + 1) = b2) → (cd ≤ cc + 3 * x9.2.1.length) → (cs2 ≤ cs + 202 * x9.2.1.length) → ∀ (H : Heap) (locs : List Loc), Wd D B s (mw dA h0 ad M5 ++ (F ++ E5)) H locs → ∀ (ls : Array Slot), lv_has ls 9 [(0, .ref h0), (1, .int (nI q)), (2, .int (nI i)), (3, .int (nI ty)), (4, .long (lN t)), (6, .int (bZ b2)), (7, .int (nI (i + 1 + k)))] → W p l e R s m args below meth c H locs cd cs2 Q (F0 m 134 ls []) := by
            intro cd cs2  b2  M5  E5  hI5 hK5 ho2 hcd hcs2 H locs h ls hl
            refine lv_iinc (v := nI (i + 1 + k + 1)) (lv' := [(7, .int (nI (i + 1 + k + 1))), (0, .ref h0), (1, .int (nI q)), (2, .int (nI i)), (3, .int (nI ty)), (4, .long (lN t)), (6, .int (bZ b2))]) hx hb dX7_isRevoked_134 hl (k := 6) rfl (nI_add (i + 1 + k) 1) (by decide) rfl (fun ls hl => ?_)
            refine lv_goto (tgt := 8) hx hb dX7_isRevoked_137 (by decide) ?_
            exact ih (k + 1) _ _ b2 M5 E5 hI5 hK5 ho2 hsk1 (by omega) (by omega) (by omega) (by omega) _ _ h _ (lv_sub hl [1, 2, 3, 4, 5, 6, 0] rfl)
          refine lv_aload_n hx hb dX7_isRevoked_28 rfl (lv_at hl 0 rfl) ?_
          refine lv_iload hx hb dX7_isRevoked_29 (lv_at hl 6 rfl) ?_
          refine call_V (As := [.int (nI (i + 1 + k))]) (rest := []) (n := 1) C h (c7_typeAt l D dA B Z hZ h0 ad M1 (F ++ E) L (i + 1 + k) x9 hR1 hPK hLl hx9 (by omega)) (lw_V q2456 q2458 qs105 q138 q2459) (by decide +kernel) (ci := 5) rfl rfl mw_mem0 (by decide) (by decide) rfl hl rfl (Nat.le_of_ble_eq_true rfl) dX7_isRevoked_31 (by omega) (fun _ H locs _ h => ?_)
          refine lv_iload_n hx hb dX7_isRevoked_34 rfl (lv_at hl 3 rfl) ?_
          refine n_icmp_ne (tgt := 134) hx hb (by omega) (by omega) dX7_isRevoked_35 (by decide) (fun c35 => ?_) (fun c35 => ?_)
          · exact jz _ _ bb M1 E hI1 hK1 (by rw [hst, if_neg (by first | (intro z; exact absurd z.1 c35) | (intro z; rw [c56] at z; cases z.2))]) (by omega) (by omega) _ _ h _ (lv_sub hl [0, 1, 2, 3, 4, 5, 6] rfl)
          · refine lv_aload_n hx hb dX7_isRevoked_38 rfl (lv_at hl 0 rfl) ?_
            refine lv_aload_n hx hb dX7_isRevoked_39 rfl (lv_at hl 0 rfl) ?_
            refine m_gr C h 14 (by decide) rfl rfl q1884 (v := some (ad 14)) hR1.2.2.2.1 dX7_isRevoked_40 ?_
            refine lv_iload hx hb dX7_isRevoked_43 (lv_at hl 6 rfl) ?_
            refine n_aald C h (v := (mA M1 14) (i + 1 + k)) (mw_memA (k := 14) (by decide)) (show i + 1 + k < 4700 by omega) (by decide) rfl dX7_isRevoked_45 ?_
            refine n_topv (y := .ref qx9) (congrArg va_rf hqx9) ?_
            refine call_V (As := [.ref qx9]) (rest := []) (n := 1) C h (c7_readSeal l D dA B Z hZ h0 ad M1 (F ++ E) qx9 x9.2.1 hI1 hqx9F hx9o.2.1 (by omega)) (lw_V q2344 q2346 qs83 q138 q2347) (by decide +kernel) (ci := 5) rfl rfl mw_mem0 (by decide) (by decide) rfl hl rfl (Nat.le_of_ble_eq_true rfl) dX7_isRevoked_46 (by omega) (fun ur H locs hur h => ?_)
            obtain ⟨M3, E3⟩ := ur
            obtain ⟨hI3, hK13, hS3⟩ := hur
            have hI3 : MI M3 := hI3
            have hK3 : Kp M M3 := hK1.trans hK13
            have hS3 := hS3 hsk9
            have h : Wd D B s (mw dA h0 ad M3 ++ (F ++ (E ++ E3))) H locs := by rw [← List.append_assoc F]; exact h
            have hS3 : SealIs dA (F ++ (E ++ E3)) M3 x9.2.1 := by rw [← List.append_assoc]; exact hS3
            have hR3 : CurR dA (F ++ (E ++ E3)) ad M3 L := hR.kp hK3 (fun z hz => List.mem_append_left _ hz)
            have hqx93 : mA M3 14 (i + 1 + k) = some qx9 := by
              have e9 := hK13.2.2.2.2
              rw [e9]; exact hqx9
            have hqkx3 : mA M3 14 q = some qkx := by rw [hK3.2.2.2.2]; exact hqkx
            have hqx9G : (qx9, ial dA x9.2.1) ∈ F ++ (E ++ E3) := by rw [← List.append_assoc]; exact List.mem_append_left _ hqx9F
            have h683 : mI M3 68 = oI (whyN x9.2.1) := hS3.2.2.2.2.2.2.2.2.2.2.1
            have hwy : ∀ v, whyN x9.2.1 = some v → v < 256 := (sNote_nb hx9o.2.1).2.2.2.2.2.2.2
            refine z_if_eq (tgt := 134) hx hb dX7_isRevoked_49 (by decide) (fun c49 => by exfalso; rw [hsk9] at c49; cases c49) (fun c49 => ?_)
            refine lv_aload_n hx hb dX7_isRevoked_52 rfl (lv_at hl 0 rfl) ?_
            refine m_gi C h 69 (by decide) rfl rfl q1939 (v := bZ (sVain x9.2.1)) hS3.2.2.2.2.2.2.2.2.2.2.2 dX7_isRevoked_53 ?_
            refine z_if_ne (tgt := 134) hx hb dX7_isRevoked_56 (by decide) (fun c56 => ?_) (fun c56 => ?_)
            · exact jz _ _ bb M3 (E ++ E3) hI3 hK3 (by rw [hst, if_neg (by first | (intro z; exact absurd z.1 c35) | (intro z; rw [c56] at z; cases z.2))]) (by omega) (by omega) _ _ h _ (lv_sub hl [0, 1, 2, 3, 4, 5, 6] rfl)
            · have jm : ∀ (tjm : Bool), (tjm = decide (whyN x9.2.1 = some 1 ∨ whyN x9.2.1 = some 3)) → ∀ (H : Heap) (locs : List Loc), Wd D B s (mw dA h0 ad M3 ++ (F ++ (E ++ E3))) H locs → ∀ (ls : Array Slot), lv_has ls 9 [(0, .ref h0), (1, .int (nI q)), (2, .int (nI i)), (3, .int (nI ty)), (4, .long (lN t)), (6, .int (bZ bb)), (7, .int (nI (i + 1 + k)))] → W p l e R s m args below meth c H locs (cc + 0 + (x9.2.1.length / 2 + 1)) (cs + 0 + (5 * x9.2.1.length)) Q (F0 m 80 ls [.int (bZ tjm)]) := by
                intro tjm  hjm H locs h ls hl
                refine lv_istore (lv' := [(8, .int (bZ tjm)), (0, .ref h0), (1, .int (nI q)), (2, .int (nI i)), (3, .int (nI ty)), (4, .long (lN t)), (6, .int (bZ bb)), (7, .int (nI (i + 1 + k)))]) hx hb dX7_isRevoked_80 hl (by decide) rfl (fun ls hl => ?_)
                refine lv_iload hx hb dX7_isRevoked_82 (lv_at hl 6 rfl) ?_
                refine z_if_ne (tgt := 127) hx hb dX7_isRevoked_84 (by decide) (fun c84 => ?_) (fun c84 => ?_)
                · refine lv_iconst (v := nI 1) hx hb dX7_isRevoked_127 (by decide) ?_
                  refine lv_goto (tgt := 132) hx hb dX7_isRevoked_128 (by decide) ?_
                  refine n_top (y := bZ true) rfl ?_
                  refine lv_istore (lv' := [(6, .int (bZ true)), (8, .int (bZ tjm)), (0, .ref h0), (1, .int (nI q)), (2, .int (nI i)), (3, .int (nI ty)), (4, .long (lN t)), (7, .int (nI (i + 1 + k)))]) hx hb dX7_isRevoked_132 hl (by decide) rfl (fun ls hl => ?_)
                  exact jz _ _ true M3 (E ++ E3) hI3 hK3 (by rw [hst, if_pos ⟨c35, c56⟩, c84]; first | (rw [Bool.true_or]; done) | (rw [c106]; rfl) | (rw [c106, show mild x9.2.1 = false from hjm.symm.trans c111]; rfl) | (rw [c106, show mild x9.2.1 = true from hjm.symm.trans c111, c124]; rfl)) (by omega) (by omega) _ _ h _ (lv_sub hl [2, 3, 4, 5, 6, 0, 7] rfl)
                · refine lv_aload_n hx hb dX7_isRevoked_87 rfl (lv_at hl 1 rfl) ?_
                  refine lv_aload_n hx hb dX7_isRevoked_88 rfl (lv_at hl 1 rfl) ?_
                  refine m_gr C h 14 (by decide) rfl rfl q1884 (v := some (ad 14)) hR3.2.2.2.1 dX7_isRevoked_89 ?_
                  refine lv_iload hx hb dX7_isRevoked_92 (lv_at hl 7 rfl) ?_
                  refine n_aald C h (v := (mA M3 14) (i + 1 + k)) (mw_memA (k := 14) (by decide)) (show i + 1 + k < 4700 by omega) (by decide) rfl dX7_isRevoked_94 ?_
                  refine n_topv (y := .ref qx9) (congrArg va_rf hqx93) ?_
                  refine lv_iload_n hx hb dX7_isRevoked_95 rfl (lv_at hl 2 rfl) ?_
                  refine lv_iload_n hx hb dX7_isRevoked_96 rfl (lv_at hl 3 rfl) ?_
                  refine lv_aload_n hx hb dX7_isRevoked_97 rfl (lv_at hl 1 rfl) ?_
                  refine m_gr C h 14 (by decide) rfl rfl q1884 (v := some (ad 14)) hR3.2.2.2.1 dX7_isRevoked_98 ?_
                  refine lv_iload_n hx hb dX7_isRevoked_101 rfl (lv_at hl 2 rfl) ?_
                  refine n_aald C h (v := (mA M3 14) q) (mw_memA (k := 14) (by decide)) (show q < 4700 by omega) (by decide) rfl dX7_isRevoked_102 ?_
                  refine n_topv (y := .ref qkx) (congrArg va_rf hqkx3) ?_
                  refine call_V (As := [.ref qx9, .int (nI q), .int (nI i), .ref qkx]) (rest := []) (n := 4) C h (c7_isTrueAt l D dA B Z hZ h0 ad M3 (F ++ (E ++ E3)) L q i qx9 qkx kx tx9 x9.2.1 kx.2.1 hzR hI3 hR3 hPK hLl hkx htx hS3 hqx9G hx9o.2.1 (by omega) (List.mem_append_left _ hqkxF) hkxo.2.1 (by omega)) (lw_V q2460 q2462 qs106 q138 q2463) (by decide +kernel) (ci := 5) rfl rfl mw_mem0 (by decide) (by decide) rfl hl rfl (Nat.le_of_ble_eq_true rfl) dX7_isRevoked_103 (by omega) (fun ut H locs hut h => ?_)
                  obtain ⟨M4, E4⟩ := ut
                  have hI4 : MI M4 := hut.1
                  have hK4 : Kp M M4 := hK3.trans hut.2
                  have h : Wd D B s (mw dA h0 ad M4 ++ (F ++ (E ++ (E3 ++ E4)))) H locs := by rw [← List.append_assoc E, ← List.append_assoc F]; exact h
                  have hR4 : CurR dA (F ++ (E ++ (E3 ++ E4))) ad M4 L := hR.kp hK4 (fun z hz => List.mem_append_left _ hz)
                  refine z_if_eq (tgt := 131) hx hb dX7_isRevoked_106 (by decide) (fun c106 => ?_) (fun c106 => ?_)
                  · refine lv_iconst (v := nI 0) hx hb dX7_isRevoked_131 (by decide) ?_
                    refine n_top (y := bZ false) rfl ?_
                    refine lv_istore (lv' := [(6, .int (bZ false)), (8, .int (bZ tjm)), (0, .ref h0), (1, .int (nI q)), (2, .int (nI i)), (3, .int (nI ty)), (4, .long (lN t)), (7, .int (nI (i + 1 + k)))]) hx hb dX7_isRevoked_132 hl (by decide) rfl (fun ls hl => ?_)
                    exact jz _ _ false M4 (E ++ (E3 ++ E4)) hI4 hK4 (by rw [hst, if_pos ⟨c35, c56⟩, c84]; first | (rw [Bool.true_or]; done) | (rw [c106]; rfl) | (rw [c106, show mild x9.2.1 = false from hjm.symm.trans c111]; rfl) | (rw [c106, show mild x9.2.1 = true from hjm.symm.trans c111, c124]; rfl)) (by omega) (by omega) _ _ h _ (lv_sub hl [2, 3, 4, 5, 6, 0, 7] rfl)
                  · refine lv_iload hx hb dX7_isRevoked_109 (lv_at hl 0 rfl) ?_
                    refine z_if_eq (tgt := 127) hx hb dX7_isRevoked_111 (by decide) (fun c111 => ?_) (fun c111 => ?_)
                    · refine lv_iconst (v := nI 1) hx hb dX7_isRevoked_127 (by decide) ?_
                      refine lv_goto (tgt := 132) hx hb dX7_isRevoked_128 (by decide) ?_
                      refine n_top (y := bZ true) rfl ?_
                      refine lv_istore (lv' := [(6, .int (bZ true)), (8, .int (bZ tjm)), (0, .ref h0), (1, .int (nI q)), (2, .int (nI i)), (3, .int (nI ty)), (4, .long (lN t)), (7, .int (nI (i + 1 + k)))]) hx hb dX7_isRevoked_132 hl (by decide) rfl (fun ls hl => ?_)
                      exact jz _ _ true M4 (E ++ (E3 ++ E4)) hI4 hK4 (by rw [hst, if_pos ⟨c35, c56⟩, c84]; first | (rw [Bool.true_or]; done) | (rw [c106]; rfl) | (rw [c106, show mild x9.2.1 = false from hjm.symm.trans c111]; rfl) | (rw [c106, show mild x9.2.1 = true from hjm.symm.trans c111, c124]; rfl)) (by omega) (by omega) _ _ h _ (lv_sub hl [2, 3, 4, 5, 6, 0, 7] rfl)
                    · refine lv_aload_n hx hb dX7_isRevoked_114 rfl (lv_at hl 1 rfl) ?_
                      refine lv_iload hx hb dX7_isRevoked_115 (lv_at hl 7 rfl) ?_
                      refine lv_iload_n hx hb dX7_isRevoked_117 rfl (lv_at hl 2 rfl) ?_
                      refine lv_iload_n hx hb dX7_isRevoked_118 rfl (lv_at hl 3 rfl) ?_
                      refine lv_lload hx hb dX7_isRevoked_119 (lv_at hl 5 rfl) ?_
                      refine call_V (As := [.int (nI (i + 1 + k)), .int (nI q), .int (nI i), .long (lN t)]) (rest := []) (n := 4) C h (c7_counts l D dA B Z hZ h0 ad M4 (F ++ (E ++ (E3 ++ E4))) L (i + 1 + k) q i t x9 kx tx9 hzR hI4 hR4 hPK hLl hx9 hsk9 hkx hk5 htx ht) (lw_V q2464 q2466 qs107 q138 q2467) (by decide +kernel) (ci := 5) rfl rfl mw_mem0 (by decide) (by decide) rfl hl rfl (Nat.le_of_ble_eq_true rfl) dX7_isRevoked_121 (by omega) (fun uc H locs huc h => ?_)
                      obtain ⟨M6, E6⟩ := uc
                      have hI6 : MI M6 := huc.1
                      have hK6 : Kp M M6 := hK4.trans huc.2
                      have h : Wd D B s (mw dA h0 ad M6 ++ (F ++ (E ++ (E3 ++ (E4 ++ E6))))) H locs := by rw [← List.append_assoc E3, ← List.append_assoc E, ← List.append_assoc F]; exact h
                      refine z_if_eq (tgt := 131) hx hb dX7_isRevoked_124 (by decide) (fun c124 => ?_) (fun c124 => ?_)
                      · refine lv_iconst (v := nI 0) hx hb dX7_isRevoked_131 (by decide) ?_
                        refine n_top (y := bZ false) rfl ?_
                        refine lv_istore (lv' := [(6, .int (bZ false)), (8, .int (bZ tjm)), (0, .ref h0), (1, .int (nI q)), (2, .int (nI i)), (3, .int (nI ty)), (4, .long (lN t)), (7, .int (nI (i + 1 + k)))]) hx hb dX7_isRevoked_132 hl (by decide) rfl (fun ls hl => ?_)
                        exact jz _ _ false M6 (E ++ (E3 ++ (E4 ++ E6))) hI6 hK6 (by rw [hst, if_pos ⟨c35, c56⟩, c84]; first | (rw [Bool.true_or]; done) | (rw [c106]; rfl) | (rw [c106, show mild x9.2.1 = false from hjm.symm.trans c111]; rfl) | (rw [c106, show mild x9.2.1 = true from hjm.symm.trans c111, c124]; rfl)) (by omega) (by omega) _ _ h _ (lv_sub hl [2, 3, 4, 5, 6, 0, 7] rfl)
                      · refine lv_iconst (v := nI 1) hx hb dX7_isRevoked_127 (by decide) ?_
                        refine lv_goto (tgt := 132) hx hb dX7_isRevoked_128 (by decide) ?_
                        refine n_top (y := bZ true) rfl ?_
                        refine lv_istore (lv' := [(6, .int (bZ true)), (8, .int (bZ tjm)), (0, .ref h0), (1, .int (nI q)), (2, .int (nI i)), (3, .int (nI ty)), (4, .long (lN t)), (7, .int (nI (i + 1 + k)))]) hx hb dX7_isRevoked_132 hl (by decide) rfl (fun ls hl => ?_)
                        exact jz _ _ true M6 (E ++ (E3 ++ (E4 ++ E6))) hI6 hK6 (by rw [hst, if_pos ⟨c35, c56⟩, c84]; first | (rw [Bool.true_or]; done) | (rw [c106]; rfl) | (rw [c106, show mild x9.2.1 = false from hjm.symm.trans c111]; rfl) | (rw [c106, show mild x9.2.1 = true from hjm.symm.trans c111, c124]; rfl)) (by omega) (by omega) _ _ h _ (lv_sub hl [2, 3, 4, 5, 6, 0, 7] rfl)
              refine lv_aload_n hx hb dX7_isRevoked_59 rfl (lv_at hl 0 rfl) ?_
              refine m_gi C h 68 (by decide) rfl rfl q1938 (v := oI (whyN x9.2.1)) h683 dX7_isRevoked_60 ?_
              refine lv_iconst (v := nI 1) hx hb dX7_isRevoked_63 (by decide) ?_
              refine lv_icmp_eq (tgt := 75) hx hb dX7_isRevoked_64 (by decide) (fun c64 => ?_) (fun c64 => ?_)
              · refine lv_iconst (v := nI 1) hx hb dX7_isRevoked_75 (by decide) ?_
                refine lv_goto (tgt := 80) hx hb dX7_isRevoked_76 (by decide) ?_
                refine n_top (y := bZ true) rfl ?_
                exact jm true ((decide_eq_true (by first | exact Or.inl ((oI_eq hwy (by decide)).mp c64) | exact Or.inr ((oI_eq hwy (by decide)).mp c72))).symm) _ _ h _ (lv_sub hl [0, 1, 2, 3, 4, 5, 6] rfl)
              · refine lv_aload_n hx hb dX7_isRevoked_67 rfl (lv_at hl 0 rfl) ?_
                refine m_gi C h 68 (by decide) rfl rfl q1938 (v := oI (whyN x9.2.1)) h683 dX7_isRevoked_68 ?_
                refine lv_iconst (v := nI 3) hx hb dX7_isRevoked_71 (by decide) ?_
                refine lv_icmp_ne (tgt := 79) hx hb dX7_isRevoked_72 (by decide) (fun c72 => ?_) (fun c72 => ?_)
                · refine lv_iconst (v := nI 0) hx hb dX7_isRevoked_79 (by decide) ?_
                  refine n_top (y := bZ false) rfl ?_
                  exact jm false ((decide_eq_false (by intro z; rcases z with z | z; exact c64 ((oI_eq hwy (by decide)).mpr z); exact c72 ((oI_eq hwy (by decide)).mpr z))).symm) _ _ h _ (lv_sub hl [0, 1, 2, 3, 4, 5, 6] rfl)
                · refine lv_iconst (v := nI 1) hx hb dX7_isRevoked_75 (by decide) ?_
                  refine lv_goto (tgt := 80) hx hb dX7_isRevoked_76 (by decide) ?_
                  refine n_top (y := bZ true) rfl ?_
                  exact jm true ((decide_eq_true (by first | exact Or.inl ((oI_eq hwy (by decide)).mp c64) | exact Or.inr ((oI_eq hwy (by decide)).mp c72))).symm) _ _ h _ (lv_sub hl [0, 1, 2, 3, 4, 5, 6] rfl)
  exact loop _ 0 _ _ false M [] hI (Kp.rfl' M) rfl hns (by omega) (by omega) (by omega) (Nat.lt_succ_self _) _ _ h _ (lv_sub hl [2, 3, 4, 5, 6, 1, 0] rfl)

theorem oL_lt {a : Option Nat} {y : Nat} (h : ∀ v, a = some v → v < 4294967296) (hy : y < 4294967296) : oL a < lN y ↔ (a = none ∨ a.getD 0 < y) := by
  cases a with
  | none =>
    refine ⟨fun _ => Or.inl rfl, fun _ => ?_⟩
    show (-1 : Int64) < lN y
    have h1 : lN 0 ≤ lN y := (pk_lLE (by decide) (by omega)).mpr (Nat.zero_le _)
    have h2 : (-1 : Int64) < lN 0 := by decide
    exact Int64.lt_of_lt_of_le h2 h1
  | some v =>
    have hv := h v rfl
    constructor
    · intro q; have q : lN v < lN y := q; have q2 : v < y := (pk_lLT (by omega) (by omega)).mp q; exact Or.inr q2
    · intro q
      rcases q with q | q
      · cases q
      · exact (pk_lLT (by omega) (by omega)).mpr q
def drpN (L : List PK) (kx tx : PK) (my t p : Nat) (b : Bool) : Bool :=
  match L[p]? with
  | none => b
  | some x => b || decide (gD x.2.1 1 = 48 ∧ my ≤ mdN x.2.1 ∧ countS kx tx x.2.1 t = true)
def drpS (L : List PK) (kx tx : PK) (my t i : Nat) : Nat → Bool
  | 0 => false
  | n + 1 => drpN L kx tx my t (i + 1 + n) (drpS L kx tx my t i n)
theorem drpN_s {L : List PK} {kx tx x : PK} {my t p : Nat} {b : Bool} (h : L[p]? = some x) : drpN L kx tx my t p b = (b || decide (gD x.2.1 1 = 48 ∧ my ≤ mdN x.2.1 ∧ countS kx tx x.2.1 t = true)) := by
  unfold drpN; rw [h]

set_option maxHeartbeats 400000 in
set_option maxRecDepth 100000 in
theorem c7_isDropped (l : Launch) (D : va_G) (dA : Nat → ClassId) (B : Nat) (Z : State → Prop) (hZ : Stab B Z) (h0 : Nat) (ad : Nat → Nat) (M : MS) (F : va_W) (L : List PK) (q i bo t ns pa pb : Nat) (kx tx9 y9 : PK) (hzR : ∀ U : State, Z U → ∃ t, va_Z "SignetRingModel" "ROUNDS" "[I" (.ref t) (bA B) U U.heap ∧ va_T .int t 64 (fun j => .int (K2 j)) (bA B) U U.heap) (hI : MI M) (hR : CurR dA F ad M L) (hPK : PKs L) (hLl : L.length ≤ 4650) (hkx : L[q]? = some kx) (hk5 : 5 ≤ kx.2.1.length) (hk142 : kx.2.1.length ≤ 142) (htx : L[i]? = some tx9) (hpa : (y9.2.1.length / 2 + 1) ≤ pa) (hpb : (5 * y9.2.1.length) ≤ pb) (hy9 : L[bo]? = some y9) (hyk : sealOk y9.2.1 = true) (hym : (sNote y9.2.1).1 = some (mdN y9.2.1)) (ht : t < 4294967296) (hns : sk (isK 2) L (i + 1) = i + 1 + ns) :
    Ct (S := MS × va_W) l D dA B Z yX7_isDropped cX7_isDropped 8 (some .boolean) 9 (2 * lsm L ns (i + 1) + ns * pa) (106 * lsm L ns (i + 1) + ns * pb) [.ref h0, .int (nI q), .int (nI i), .int (nI bo), .long (lN t)] (mw dA h0 ad M ++ F) (fun u => MI u.1 ∧ Kp M u.1) (fun _ => some (.int (bZ (drpS L kx tx9 (mdN y9.2.1) t i ns)))) (fun u => mw dA h0 ad u.1 ++ (F ++ u.2)) := by
  refine Ct.mk2 (by decide) (Nat.le_of_ble_eq_true rfl) hZ ?_
  intro p e R s m args below meth c ls Q C hr hlocks hin hQ hl h
  have C0 := C
  obtain ⟨hx, hb, hml, hown, hts, -⟩ := C0
  have hl : lv_has ls 8 [(0, .ref h0), (1, .int (nI q)), (2, .int (nI i)), (3, .int (nI bo)), (4, .long (lN t))] := hl
  have hql := (List.getElem?_eq_some_iff.mp hkx).1
  have hil := (List.getElem?_eq_some_iff.mp htx).1
  have hbl := (List.getElem?_eq_some_iff.mp hy9).1
  obtain ⟨hkxk, ⟨qkx, hqkx, hqkxF⟩, hkxs⟩ := hR.1 _ _ hkx
  have hkxo := hPK.at hkx
  have hkx1 := hkxo.1
  have hkxl := hkxo.2.2.1
  have hsl := sk_le (P := isK 2) (L := L) (q := i + 1) (by omega)
  rw [hns] at hsl
  have hmy := mdN_lt (hPK.at hy9).2.1
  have hmo : ∀ {a b : Nat}, a ≤ b → a * pa ≤ b * pa ∧ a * pb ≤ b * pb := fun z => ⟨Nat.mul_le_mul_right _ z, Nat.mul_le_mul_right _ z⟩
  refine lv_iconst (v := nI 0) hx hb dX7_isDropped_0 (by decide) ?_
  refine lv_istore (lv' := [(6, .int (nI 0)), (0, .ref h0), (1, .int (nI q)), (2, .int (nI i)), (3, .int (nI bo)), (4, .long (lN t))]) hx hb dX7_isDropped_1 hl (by decide) rfl (fun ls hl => ?_)
  refine lv_iload_n hx hb dX7_isDropped_3 rfl (lv_at hl 3 rfl) ?_
  refine lv_iconst (v := nI 1) hx hb dX7_isDropped_4 (by decide) ?_
  refine lv_iadd hx hb dX7_isDropped_5 (n_top (y := nI (i + 1)) (nI_add i 1) ?_)
  refine lv_istore (lv' := [(7, .int (nI (i + 1))), (6, .int (nI 0)), (0, .ref h0), (1, .int (nI q)), (2, .int (nI i)), (3, .int (nI bo)), (4, .long (lN t))]) hx hb dX7_isDropped_6 hl (by decide) rfl (fun ls hl => ?_)
  have h : Wd D B s (mw dA h0 ad M ++ (F ++ [])) s.heap [] := by rw [List.append_nil]; exact h
  have hl : lv_has ls 8 [(7, .int (nI (i + 1 + 0))), (6, .int (bZ false)), (0, .ref h0), (1, .int (nI q)), (2, .int (nI i)), (3, .int (nI bo)), (4, .long (lN t))] := hl
  have loop : ∀ (nn : Nat) (k cc cs : Nat) (bb : Bool) (M1 : MS) (E : va_W), (MI M1) → (Kp M M1) → (drpS L kx tx9 (mdN y9.2.1) t i k = bb) → (sk (isK 2) L (i + 1 + k) = i + 1 + ns) → (k ≤ ns) → (cc ≤ 2 * lsm L k (i + 1) + k * pa) → (cs ≤ 106 * lsm L k (i + 1) + k * pb) → ns - k < nn → ∀ (H : Heap) (locs : List Loc), Wd D B s (mw dA h0 ad M1 ++ (F ++ E)) H locs → ∀ (ls : Array Slot), lv_has ls 8 [(0, .ref h0), (1, .int (nI q)), (2, .int (nI i)), (3, .int (nI bo)), (4, .long (lN t)), (6, .int (bZ bb)), (7, .int (nI (i + 1 + k)))] → W p l e R s m args below meth c H locs cc cs Q (F0 m 8 ls []) := by
    intro nn
    induction nn with
    | zero => intro k cc cs  bb  M1  E  hI1 hK1 ho hsk hkn hcc hcs hme; exact absurd hme (Nat.not_lt_zero _)
    | succ nn ih =>
      intro k cc cs  bb  M1  E  hI1 hK1 ho hsk hkn hcc hcs hme H locs h ls hl
      have hR1 : CurR dA (F ++ E) ad M1 L := hR.kp hK1 (fun z hz => List.mem_append_left _ hz)
      refine lv_iload hx hb dX7_isDropped_8 (lv_at hl 6 rfl) ?_
      refine lv_aload_n hx hb dX7_isDropped_10 rfl (lv_at hl 0 rfl) ?_
      refine m_gi C h 12 (by decide) rfl rfl q1882 (v := nI L.length) hR1.2.1 dX7_isDropped_11 ?_
      refine n_icmp_ge (tgt := 85) hx hb (by omega) (by omega) dX7_isDropped_14 (by decide) (fun c14 => ?_) (fun c14 => ?_)
      · refine lv_iload hx hb dX7_isDropped_85 (lv_at hl 5 rfl) ?_
        subst hQ
        have hfin : ns = k := by
          first
          | (have e9 := sk_end (P := isK 2) (L := L) (q := i + 1 + k) (by omega)
             omega)
          | (have e9 := sk_stop (P := isK 2) hx9 (by simp [isK]; omega)
             omega)
        subst hfin
        exact ret_z C hr hlocks h (M1, E) (⟨hI1, hK1⟩) (by rw [ho]) rfl (by omega) (by omega) dX7_isDropped_87
      · obtain ⟨x9, hx9⟩ : ∃ z, L[i + 1 + k]? = some z := ⟨_, List.getElem?_eq_getElem (by omega)⟩
        obtain ⟨hx9k, ⟨qx9, hqx9, hqx9F⟩, hx9s⟩ := hR1.1 _ _ hx9
        have hx9o := hPK.at hx9
        have hx91 := hx9o.1
        have hx9l := hx9o.2.2.1
        refine lv_aload_n hx hb dX7_isDropped_17 rfl (lv_at hl 0 rfl) ?_
        refine m_gr C h 13 (by decide) rfl rfl q1883 (v := some (ad 13)) hR1.2.2.1 dX7_isDropped_18 ?_
        refine lv_iload hx hb dX7_isDropped_21 (lv_at hl 6 rfl) ?_
        refine n_iald C h (v := (mG M1 13) (i + 1 + k)) (mw_memG (k := 13) (by decide)) (show i + 1 + k < 4700 by omega) (by decide) rfl dX7_isDropped_23 ?_
        refine n_top (y := nI x9.1) (congrArg nI hx9k) ?_
        refine lv_iconst (v := nI 2) hx hb dX7_isDropped_24 (by decide) ?_
        refine n_icmp_ne (tgt := 85) hx hb (by omega) (by omega) dX7_isDropped_25 (by decide) (fun c25 => ?_) (fun c25 => ?_)
        · refine lv_iload hx hb dX7_isDropped_85 (lv_at hl 5 rfl) ?_
          subst hQ
          have hfin : ns = k := by
            first
            | (have e9 := sk_end (P := isK 2) (L := L) (q := i + 1 + k) (by omega)
               omega)
            | (have e9 := sk_stop (P := isK 2) hx9 (by simp [isK]; omega)
               omega)
          subst hfin
          exact ret_z C hr hlocks h (M1, E) (⟨hI1, hK1⟩) (by rw [ho]) rfl (by omega) (by omega) dX7_isDropped_87
        · have hx92 : x9.1 = 2 := c25
          have hx9g := hx9o.2.2.2.2.1 hx92
          have hsk9 := hx9g.2.1
          have hlen9 := (sealOk_len hx9o.2.1 hsk9).1
          have hb9 : gD x9.2.1 1 < 256 := byt_gD hx9o.2.1 1
          have hsk1 : sk (isK 2) L (i + 1 + (k + 1)) = i + 1 + ns := by rw [← hsk, sk_go hx9 (by simp [isK, hx92])]; rfl
          have hsk2 := sk_le (P := isK 2) (L := L) (q := i + 1 + (k + 1)) (by omega)
          rw [hsk1] at hsk2
          have hls := lsm_s (n := k) (a := i + 1) hx9
          have hlm := lsm_mono L (i + 1) (show k + 1 ≤ ns by omega)
          rw [hls] at hlm
          have hmo1 := hmo (show k + 1 ≤ ns by omega)
          have hmo2 := Nat.succ_mul k pa
          have hmo3 := Nat.succ_mul k pb
          have hmo2 : (k + 1) * pa = k * pa + pa := hmo2
          have hmo3 : (k + 1) * pb = k * pb + pb := hmo3
          have hst : drpS L kx tx9 (mdN y9.2.1) t i (k + 1) = (bb || decide (gD x9.2.1 1 = 48 ∧ mdN y9.2.1 ≤ mdN x9.2.1 ∧ countS kx tx9 x9.2.1 t = true)) := by rw [drpS, ho, drpN_s hx9]
          have jz : ∀ (cd cs2 : Nat) (b2 : Bool) (M5 : MS) (E5 : va_W), (MI M5) → (Kp M M5) → (drpS L kx tx9 (mdN y9.2.1) t i (k + 1) = b2) → (cd ≤ cc + 2 * x9.2.1.length + pa) → (cs2 ≤ cs + 106 * x9.2.1.length + pb) → ∀ (H : Heap) (locs : List Loc), Wd D B s (mw dA h0 ad M5 ++ (F ++ E5)) H locs → ∀ (ls : Array Slot), lv_has ls 8 [(0, .ref h0), (1, .int (nI q)), (2, .int (nI i)), (3, .int (nI bo)), (4, .long (lN t)), (6, .int (bZ b2)), (7, .int (nI (i + 1 + k)))] → W p l e R s m args below meth c H locs cd cs2 Q (F0 m 79 ls []) := by
            intro cd cs2  b2  M5  E5  hI5 hK5 ho2 hcd hcs2 H locs h ls hl
            refine lv_iinc (v := nI (i + 1 + k + 1)) (lv' := [(7, .int (nI (i + 1 + k + 1))), (0, .ref h0), (1, .int (nI q)), (2, .int (nI i)), (3, .int (nI bo)), (4, .long (lN t)), (6, .int (bZ b2))]) hx hb dX7_isDropped_79 hl (k := 6) rfl (nI_add (i + 1 + k) 1) (by decide) rfl (fun ls hl => ?_)
            refine lv_goto (tgt := 8) hx hb dX7_isDropped_82 (by decide) ?_
            exact ih (k + 1) _ _ b2 M5 E5 hI5 hK5 ho2 hsk1 (by omega) (by omega) (by omega) (by omega) _ _ h _ (lv_sub hl [1, 2, 3, 4, 5, 6, 0] rfl)
          refine lv_iload hx hb dX7_isDropped_28 (lv_at hl 5 rfl) ?_
          refine z_if_ne (tgt := 72) hx hb dX7_isDropped_30 (by decide) (fun c30 => ?_) (fun c30 => ?_)
          · refine lv_iconst (v := nI 1) hx hb dX7_isDropped_72 (by decide) ?_
            refine lv_goto (tgt := 77) hx hb dX7_isDropped_73 (by decide) ?_
            refine n_top (y := bZ true) rfl ?_
            refine lv_istore (lv' := [(6, .int (bZ true)), (0, .ref h0), (1, .int (nI q)), (2, .int (nI i)), (3, .int (nI bo)), (4, .long (lN t)), (7, .int (nI (i + 1 + k)))]) hx hb dX7_isDropped_77 hl (by decide) rfl (fun ls hl => ?_)
            exact jz _ _ true M1 E hI1 hK1 (by rw [hst, c30]; first | (rw [Bool.true_or]; done) | exact decide_eq_false (fun z => absurd z.1 c41) | exact decide_eq_true ⟨c41, hge, c69⟩ | exact decide_eq_false (fun z => by rw [c69] at z; exact absurd z.2.2 (by decide)) | exact decide_eq_false (fun z => hlt z.2.1 z.2.2)) (by omega) (by omega) _ _ h _ (lv_sub hl [1, 2, 3, 4, 5, 0, 6] rfl)
          · refine lv_aload_n hx hb dX7_isDropped_33 rfl (lv_at hl 0 rfl) ?_
            refine lv_iload hx hb dX7_isDropped_34 (lv_at hl 6 rfl) ?_
            refine call_V (As := [.int (nI (i + 1 + k))]) (rest := []) (n := 1) C h (c7_typeAt l D dA B Z hZ h0 ad M1 (F ++ E) L (i + 1 + k) x9 hR1 hPK hLl hx9 (by omega)) (lw_V q2456 q2458 qs105 q138 q2459) (by decide +kernel) (ci := 5) rfl rfl mw_mem0 (by decide) (by decide) rfl hl rfl (Nat.le_of_ble_eq_true rfl) dX7_isDropped_36 (by omega) (fun _ H locs _ h => ?_)
            refine lv_bipush (v := nI 48) hx hb dX7_isDropped_39 (by decide) ?_
            refine n_icmp_ne (tgt := 76) hx hb (by omega) (by omega) dX7_isDropped_41 (by decide) (fun c41 => ?_) (fun c41 => ?_)
            · refine lv_iconst (v := nI 0) hx hb dX7_isDropped_76 (by decide) ?_
              refine n_top (y := bZ false) rfl ?_
              refine lv_istore (lv' := [(6, .int (bZ false)), (0, .ref h0), (1, .int (nI q)), (2, .int (nI i)), (3, .int (nI bo)), (4, .long (lN t)), (7, .int (nI (i + 1 + k)))]) hx hb dX7_isDropped_77 hl (by decide) rfl (fun ls hl => ?_)
              exact jz _ _ false M1 E hI1 hK1 (by rw [hst, c30]; first | (rw [Bool.true_or]; done) | exact decide_eq_false (fun z => absurd z.1 c41) | exact decide_eq_true ⟨c41, hge, c69⟩ | exact decide_eq_false (fun z => by rw [c69] at z; exact absurd z.2.2 (by decide)) | exact decide_eq_false (fun z => hlt z.2.1 z.2.2)) (by omega) (by omega) _ _ h _ (lv_sub hl [1, 2, 3, 4, 5, 0, 6] rfl)
            · refine lv_aload_n hx hb dX7_isDropped_44 rfl (lv_at hl 0 rfl) ?_
              refine lv_iload hx hb dX7_isDropped_45 (lv_at hl 6 rfl) ?_
              refine call_V (As := [.int (nI (i + 1 + k))]) (rest := []) (n := 1) C h (c7_madeAt l D dA B Z hZ h0 ad M1 (F ++ E) L (i + 1 + k) x9 hI1 hR1 hPK hLl hx9 hsk9) (lw_V q2484 q2486 qs112 q138 q2487) (by decide +kernel) (ci := 5) rfl rfl mw_mem0 (by decide) (by decide) rfl hl rfl (Nat.le_of_ble_eq_true rfl) dX7_isDropped_47 (by omega) (fun ua H locs hua h => ?_)
              obtain ⟨M3, E3⟩ := ua
              have hI3 : MI M3 := hua.1
              have hK3 : Kp M M3 := hK1.trans hua.2
              have h : Wd D B s (mw dA h0 ad M3 ++ (F ++ (E ++ E3))) H locs := by rw [← List.append_assoc F]; exact h
              have hR3 : CurR dA (F ++ (E ++ E3)) ad M3 L := hR.kp hK3 (fun z hz => List.mem_append_left _ hz)
              refine lv_aload_n hx hb dX7_isDropped_50 rfl (lv_at hl 0 rfl) ?_
              refine lv_iload_n hx hb dX7_isDropped_51 rfl (lv_at hl 3 rfl) ?_
              refine call_V (As := [.int (nI bo)]) (rest := [.long (oL (sNote x9.2.1).1)]) (n := 1) C h (c7_madeAt l D dA B Z hZ h0 ad M3 (F ++ (E ++ E3)) L bo y9 hI3 hR3 hPK hLl hy9 hyk) (lw_V q2484 q2486 qs112 q138 q2487) (by decide +kernel) (ci := 5) rfl rfl mw_mem0 (by decide) (by decide) rfl hl rfl (Nat.le_of_ble_eq_true rfl) dX7_isDropped_52 (by omega) (fun ue H locs hue h => ?_)
              obtain ⟨M4, E4⟩ := ue
              have hI4 : MI M4 := hue.1
              have hK4 : Kp M M4 := hK3.trans hue.2
              have h : Wd D B s (mw dA h0 ad M4 ++ (F ++ (E ++ (E3 ++ E4)))) H locs := by rw [← List.append_assoc E, ← List.append_assoc F]; exact h
              have hR4 : CurR dA (F ++ (E ++ (E3 ++ E4))) ad M4 L := hR.kp hK4 (fun z hz => List.mem_append_left _ hz)
              refine k_lcmp_lt (tgt := 76) hx hb dX7_isDropped_55 dX7_isDropped_56 (by decide) (fun c55 => ?_) (fun c55 => ?_)
              · rw [hym] at c55
                have hlt : mdN y9.2.1 ≤ mdN x9.2.1 → ¬ countS kx tx9 x9.2.1 t = true := by
                  intro z1 z2
                  rcases (oL_lt (a := (sNote x9.2.1).1) (sNote_nb hx9o.2.1).1 hmy).mp c55 with z | z
                  · have e9 := sVain_f (countS_v z2)
                    rw [z] at e9; cases e9
                  · have z3 : mdN x9.2.1 < mdN y9.2.1 := z
                    omega
                refine lv_iconst (v := nI 0) hx hb dX7_isDropped_76 (by decide) ?_
                refine n_top (y := bZ false) rfl ?_
                refine lv_istore (lv' := [(6, .int (bZ false)), (0, .ref h0), (1, .int (nI q)), (2, .int (nI i)), (3, .int (nI bo)), (4, .long (lN t)), (7, .int (nI (i + 1 + k)))]) hx hb dX7_isDropped_77 hl (by decide) rfl (fun ls hl => ?_)
                exact jz _ _ false M4 (E ++ (E3 ++ E4)) hI4 hK4 (by rw [hst, c30]; first | (rw [Bool.true_or]; done) | exact decide_eq_false (fun z => absurd z.1 c41) | exact decide_eq_true ⟨c41, hge, c69⟩ | exact decide_eq_false (fun z => by rw [c69] at z; exact absurd z.2.2 (by decide)) | exact decide_eq_false (fun z => hlt z.2.1 z.2.2)) (by omega) (by omega) _ _ h _ (lv_sub hl [1, 2, 3, 4, 5, 0, 6] rfl)
              · rw [hym] at c55
                have hge : mdN y9.2.1 ≤ mdN x9.2.1 := Nat.not_lt.mp (fun z => c55 ((oL_lt (a := (sNote x9.2.1).1) (sNote_nb hx9o.2.1).1 hmy).mpr (Or.inr z)))
                refine lv_aload_n hx hb dX7_isDropped_59 rfl (lv_at hl 0 rfl) ?_
                refine lv_iload hx hb dX7_isDropped_60 (lv_at hl 6 rfl) ?_
                refine lv_iload_n hx hb dX7_isDropped_62 rfl (lv_at hl 1 rfl) ?_
                refine lv_iload_n hx hb dX7_isDropped_63 rfl (lv_at hl 2 rfl) ?_
                refine lv_lload hx hb dX7_isDropped_64 (lv_at hl 4 rfl) ?_
                refine call_V (As := [.int (nI (i + 1 + k)), .int (nI q), .int (nI i), .long (lN t)]) (rest := []) (n := 4) C h (c7_counts l D dA B Z hZ h0 ad M4 (F ++ (E ++ (E3 ++ E4))) L (i + 1 + k) q i t x9 kx tx9 hzR hI4 hR4 hPK hLl hx9 hsk9 hkx hk5 htx ht) (lw_V q2464 q2466 qs107 q138 q2467) (by decide +kernel) (ci := 5) rfl rfl mw_mem0 (by decide) (by decide) rfl hl rfl (Nat.le_of_ble_eq_true rfl) dX7_isDropped_66 (by omega) (fun uc H locs huc h => ?_)
                obtain ⟨M6, E6⟩ := uc
                have hI6 : MI M6 := huc.1
                have hK6 : Kp M M6 := hK4.trans huc.2
                have h : Wd D B s (mw dA h0 ad M6 ++ (F ++ (E ++ (E3 ++ (E4 ++ E6))))) H locs := by rw [← List.append_assoc E3, ← List.append_assoc E, ← List.append_assoc F]; exact h
                refine z_if_eq (tgt := 76) hx hb dX7_isDropped_69 (by decide) (fun c69 => ?_) (fun c69 => ?_)
                · refine lv_iconst (v := nI 0) hx hb dX7_isDropped_76 (by decide) ?_
                  refine n_top (y := bZ false) rfl ?_
                  refine lv_istore (lv' := [(6, .int (bZ false)), (0, .ref h0), (1, .int (nI q)), (2, .int (nI i)), (3, .int (nI bo)), (4, .long (lN t)), (7, .int (nI (i + 1 + k)))]) hx hb dX7_isDropped_77 hl (by decide) rfl (fun ls hl => ?_)
                  exact jz _ _ false M6 (E ++ (E3 ++ (E4 ++ E6))) hI6 hK6 (by rw [hst, c30]; first | (rw [Bool.true_or]; done) | exact decide_eq_false (fun z => absurd z.1 c41) | exact decide_eq_true ⟨c41, hge, c69⟩ | exact decide_eq_false (fun z => by rw [c69] at z; exact absurd z.2.2 (by decide)) | exact decide_eq_false (fun z => hlt z.2.1 z.2.2)) (by omega) (by omega) _ _ h _ (lv_sub hl [1, 2, 3, 4, 5, 0, 6] rfl)
                · refine lv_iconst (v := nI 1) hx hb dX7_isDropped_72 (by decide) ?_
                  refine lv_goto (tgt := 77) hx hb dX7_isDropped_73 (by decide) ?_
                  refine n_top (y := bZ true) rfl ?_
                  refine lv_istore (lv' := [(6, .int (bZ true)), (0, .ref h0), (1, .int (nI q)), (2, .int (nI i)), (3, .int (nI bo)), (4, .long (lN t)), (7, .int (nI (i + 1 + k)))]) hx hb dX7_isDropped_77 hl (by decide) rfl (fun ls hl => ?_)
                  exact jz _ _ true M6 (E ++ (E3 ++ (E4 ++ E6))) hI6 hK6 (by rw [hst, c30]; first | (rw [Bool.true_or]; done) | exact decide_eq_false (fun z => absurd z.1 c41) | exact decide_eq_true ⟨c41, hge, c69⟩ | exact decide_eq_false (fun z => by rw [c69] at z; exact absurd z.2.2 (by decide)) | exact decide_eq_false (fun z => hlt z.2.1 z.2.2)) (by omega) (by omega) _ _ h _ (lv_sub hl [1, 2, 3, 4, 5, 0, 6] rfl)
  exact loop _ 0 _ _ false M [] hI (Kp.rfl' M) rfl hns (by omega) (by omega) (by omega) (Nat.lt_succ_self _) _ _ h _ (lv_sub hl [2, 3, 4, 5, 6, 1, 0] rfl)
