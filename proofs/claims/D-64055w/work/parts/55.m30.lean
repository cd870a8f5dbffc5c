set_option maxRecDepth 100000

def lsm (L : List PK) : Nat → Nat → Nat
  | 0, _ => 0
  | n + 1, a => lsm L n a + (L[a + n]?.map (fun x => x.2.1.length)).getD 0
theorem lsm_mono (L : List PK) (a : Nat) : ∀ {n m : Nat}, n ≤ m → lsm L n a ≤ lsm L m a := by
  intro n m h
  induction m with
  | zero => rw [Nat.le_zero.mp h]; exact Nat.le_refl _
  | succ m ih =>
    by_cases q : n = m + 1
    · rw [q]; exact Nat.le_refl _
    · have := ih (by omega)
      rw [lsm]
      omega
theorem lsm_s {L : List PK} {n a : Nat} {x : PK} (h : L[a + n]? = some x) : lsm L (n + 1) a = lsm L n a + x.2.1.length := by
  rw [lsm, h]; rfl
abbrev LO := Option (Nat × Nat)
def latM (o : Option (Nat × Nat)) : Nat := match o with | none => 0 | some z => z.2
def latP (o : Option (Nat × Nat)) : Option Nat := match o with | none => none | some z => some z.1
def latN (L : List PK) (kx tx : PK) (lo hi t p : Nat) (o : Option (Nat × Nat)) : Option (Nat × Nat) :=
  match L[p]? with
  | none => o
  | some x => if (lo ≤ gD x.2.1 1 ∧ gD x.2.1 1 ≤ hi) ∧ countS kx tx x.2.1 t = true then (if latM o ≤ mdN x.2.1 then some (p, mdN x.2.1) else o) else o
def latS (L : List PK) (kx tx : PK) (lo hi t i : Nat) : Nat → Option (Nat × Nat)
  | 0 => none
  | n + 1 => latN L kx tx lo hi t (i + 1 + n) (latS L kx tx lo hi t i n)
theorem latN_s {L : List PK} {kx tx x : PK} {lo hi t p : Nat} {o : Option (Nat × Nat)} (h : L[p]? = some x) : latN L kx tx lo hi t p o = if (lo ≤ gD x.2.1 1 ∧ gD x.2.1 1 ≤ hi) ∧ countS kx tx x.2.1 t = true then (if latM o ≤ mdN x.2.1 then some (p, mdN x.2.1) else o) else o := by
  unfold latN; rw [h]
theorem countS_v {kx tx : PK} {b : List Nat} {t : Nat} (h : countS kx tx b t = true) : sVain b = false := by
  cases q : sVain b with
  | false => rfl
  | true => unfold countS mayS at h; rw [q] at h; simp at h
/-- what the latest seal tells -/
theorem latS_ok {L : List PK} {kx tx : PK} {lo hi t i : Nat} : ∀ {n : Nat} {z : Nat × Nat}, latS L kx tx lo hi t i n = some z → i < z.1 ∧ z.1 < i + 1 + n ∧ ∃ x, L[z.1]? = some x ∧ z.2 = mdN x.2.1 ∧ countS kx tx x.2.1 t = true ∧ lo ≤ gD x.2.1 1 ∧ gD x.2.1 1 ≤ hi := by
  intro n
  induction n with
  | zero => intro z h; cases h
  | succ n ih =>
    intro z h
    rw [latS] at h
    cases q : L[i + 1 + n]? with
    | none => unfold latN at h; rw [q] at h; have := ih h; exact ⟨this.1, by omega, this.2.2⟩
    | some x =>
      rw [latN_s q] at h
      split at h
      · next q1 =>
        split at h
        · cases h; exact ⟨by show i < i + 1 + n; omega, by show i + 1 + n < _; omega, x, q, rfl, q1.2, q1.1.1, q1.1.2⟩
        · have := ih h; exact ⟨this.1, by omega, this.2.2⟩
      · have := ih h; exact ⟨this.1, by omega, this.2.2⟩

set_option maxHeartbeats 400000 in
set_option maxRecDepth 100000 in
theorem c7_latestOf (l : Launch) (D : va_G) (dA : Nat → ClassId) (B : Nat) (Z : State → Prop) (hZ : Stab B Z) (h0 : Nat) (ad : Nat → Nat) (M : MS) (F : va_W) (L : List PK) (q i lo hi t ns : Nat) (kx tx9 : PK) (hzR : ∀ U : State, Z U → ∃ t, va_Z "SignetRingModel" "ROUNDS" "[I" (.ref t) (bA B) U U.heap ∧ va_T .int t 64 (fun j => .int (K2 j)) (bA B) U U.heap) (hI : MI M) (hR : CurR dA F ad M L) (hPK : PKs L) (hLl : L.length ≤ 4650) (hkx : L[q]? = some kx) (hk5 : 5 ≤ kx.2.1.length) (hk142 : kx.2.1.length ≤ 142) (htx : L[i]? = some tx9) (hlo : lo < 256) (hhi : hi < 256) (ht : t < 4294967296) (hns : sk (isK 2) L (i + 1) = i + 1 + ns) :
    Ct (S := MS × va_W) l D dA B Z yX7_latestOf cX7_latestOf 12 (some .int) 9 (2 * lsm L ns (i + 1)) (106 * lsm L ns (i + 1)) [.ref h0, .int (nI q), .int (nI i), .int (nI lo), .int (nI hi), .long (lN t)] (mw dA h0 ad M ++ F) (fun u => MI u.1 ∧ Kp M u.1) (fun _ => some (.int (oI (latP (latS L kx tx9 lo hi t i ns))))) (fun u => mw dA h0 ad u.1 ++ (F ++ u.2)) := by
  refine Ct.mk2 (by decide) (Nat.le_of_ble_eq_true rfl) hZ ?_
  intro p e R s m args below meth c ls Q C hr hlocks hin hQ hl h
  have C0 := C
  obtain ⟨hx, hb, hml, hown, hts, -⟩ := C0
  have hl : lv_has ls 12 [(0, .ref h0), (1, .int (nI q)), (2, .int (nI i)), (3, .int (nI lo)), (4, .int (nI hi)), (5, .long (lN t))] := hl
  have hql := (List.getElem?_eq_some_iff.mp hkx).1
  have hil := (List.getElem?_eq_some_iff.mp htx).1
  have hsl := sk_le (P := isK 2) (L := L) (q := i + 1) (by omega)
  rw [hns] at hsl
  refine lv_iconst (v := -1) hx hb dX7_latestOf_0 (by decide) ?_
  refine lv_istore (lv' := [(7, .int (-1)), (0, .ref h0), (1, .int (nI q)), (2, .int (nI i)), (3, .int (nI lo)), (4, .int (nI hi)), (5, .long (lN t))]) hx hb dX7_latestOf_1 hl (by decide) rfl (fun ls hl => ?_)
  refine lv_lconst (v := lN 0) hx hb dX7_latestOf_3 (by decide) ?_
  refine lv_lstore (lv' := [(8, .long (lN 0)), (7, .int (-1)), (0, .ref h0), (1, .int (nI q)), (2, .int (nI i)), (3, .int (nI lo)), (4, .int (nI hi)), (5, .long (lN t))]) hx hb dX7_latestOf_4 hl (by decide) rfl (fun ls hl => ?_)
  refine lv_iload_n hx hb dX7_latestOf_6 rfl (lv_at hl 4 rfl) ?_
  refine lv_iconst (v := nI 1) hx hb dX7_latestOf_7 (by decide) ?_
  refine lv_iadd hx hb dX7_latestOf_8 (n_top (y := nI (i + 1)) (nI_add i 1) ?_)
  refine lv_istore (lv' := [(10, .int (nI (i + 1))), (8, .long (lN 0)), (7, .int (-1)), (0, .ref h0), (1, .int (nI q)), (2, .int (nI i)), (3, .int (nI lo)), (4, .int (nI hi)), (5, .long (lN t))]) hx hb dX7_latestOf_9 hl (by decide) rfl (fun ls hl => ?_)
  have h : Wd D B s (mw dA h0 ad M ++ (F ++ [])) s.heap [] := by rw [List.append_nil]; exact h
  have hl : lv_has ls 12 [(10, .int (nI (i + 1 + 0))), (8, .long (lN (latM none))), (7, .int (oI (latP none))), (0, .ref h0), (1, .int (nI q)), (2, .int (nI i)), (3, .int (nI lo)), (4, .int (nI hi)), (5, .long (lN t))] := hl
  have loop : ∀ (nn : Nat) (k cc cs : Nat) (o : LO) (M1 : MS) (E : va_W), (MI M1) → (Kp M M1) → (latS L kx tx9 lo hi t i k = o) → (sk (isK 2) L (i + 1 + k) = i + 1 + ns) → (k ≤ ns) → (cc ≤ 2 * lsm L k (i + 1)) → (cs ≤ 106 * lsm L k (i + 1)) → ns - k < nn → ∀ (H : Heap) (locs : List Loc), Wd D B s (mw dA h0 ad M1 ++ (F ++ E)) H locs → ∀ (ls : Array Slot), lv_has ls 12 [(0, .ref h0), (1, .int (nI q)), (2, .int (nI i)), (3, .int (nI lo)), (4, .int (nI hi)), (5, .long (lN t)), (7, .int (oI (latP o))), (8, .long (lN (latM o))), (10, .int (nI (i + 1 + k)))] → W p l e R s m args below meth c H locs cc cs Q (F0 m 11 ls []) := by
    intro nn
    induction nn with
    | zero => intro k cc cs  o  M1  E  hI1 hK1 ho hsk hkn hcc hcs hme; exact absurd hme (Nat.not_lt_zero _)
    | succ nn ih =>
      intro k cc cs  o  M1  E  hI1 hK1 ho hsk hkn hcc hcs hme H locs h ls hl
      have hR1 : CurR dA (F ++ E) ad M1 L := hR.kp hK1 (fun z hz => List.mem_append_left _ hz)
      refine lv_iload hx hb dX7_latestOf_11 (lv_at hl 8 rfl) ?_
      refine lv_aload_n hx hb dX7_latestOf_13 rfl (lv_at hl 0 rfl) ?_
      refine m_gi C h 12 (by decide) rfl rfl q1882 (v := nI L.length) hR1.2.1 dX7_latestOf_14 ?_
      refine n_icmp_ge (tgt := 127) hx hb (by omega) (by omega) dX7_latestOf_17 (by decide) (fun c17 => ?_) (fun c17 => ?_)
      · refine lv_iload hx hb dX7_latestOf_127 (lv_at hl 6 rfl) ?_
        subst hQ
        have hfin : ns = k := by
          first
          | (have e9 := sk_end (P := isK 2) (L := L) (q := i + 1 + k) (by omega)
             omega)
          | (have e9 := sk_stop (P := isK 2) hx9 (by simp [isK]; omega)
             omega)
        subst hfin
        exact ret_i C hr hlocks h (M1, E) (⟨hI1, hK1⟩) (by rw [ho]) rfl (by omega) (by omega) dX7_latestOf_129
      · obtain ⟨x9, hx9⟩ : ∃ z, L[i + 1 + k]? = some z := ⟨_, List.getElem?_eq_getElem (by omega)⟩
        obtain ⟨hx9k, ⟨qx9, hqx9, hqx9F⟩, hx9s⟩ := hR1.1 _ _ hx9
        have hx9o := hPK.at hx9
        have hx91 := hx9o.1
        have hx9l := hx9o.2.2.1
        refine lv_aload_n hx hb dX7_latestOf_20 rfl (lv_at hl 0 rfl) ?_
        refine m_gr C h 13 (by decide) rfl rfl q1883 (v := some (ad 13)) hR1.2.2.1 dX7_latestOf_21 ?_
        refine lv_iload hx hb dX7_latestOf_24 (lv_at hl 8 rfl) ?_
        refine n_iald C h (v := (mG M1 13) (i + 1 + k)) (mw_memG (k := 13) (by decide)) (show i + 1 + k < 4700 by omega) (by decide) rfl dX7_latestOf_26 ?_
        refine n_top (y := nI x9.1) (congrArg nI hx9k) ?_
        refine lv_iconst (v := nI 2) hx hb dX7_latestOf_27 (by decide) ?_
        refine n_icmp_ne (tgt := 127) hx hb (by omega) (by omega) dX7_latestOf_28 (by decide) (fun c28 => ?_) (fun c28 => ?_)
        · refine lv_iload hx hb dX7_latestOf_127 (lv_at hl 6 rfl) ?_
          subst hQ
          have hfin : ns = k := by
            first
            | (have e9 := sk_end (P := isK 2) (L := L) (q := i + 1 + k) (by omega)
               omega)
            | (have e9 := sk_stop (P := isK 2) hx9 (by simp [isK]; omega)
               omega)
          subst hfin
          exact ret_i C hr hlocks h (M1, E) (⟨hI1, hK1⟩) (by rw [ho]) rfl (by omega) (by omega) dX7_latestOf_129
        · have hx92 : x9.1 = 2 := c28
          have hx9g := hx9o.2.2.2.2.1 hx92
          have hsk9 := hx9g.2.1
          have hlen9 := (sealOk_len hx9o.2.1 hsk9).1
          have hb9 : gD x9.2.1 1 < 256 := byt_gD hx9o.2.1 1
          have hsk1 : sk (isK 2) L (i + 1 + (k + 1)) = i + 1 + ns := by rw [← hsk, sk_go hx9 (by simp [isK, hx92])]; rfl
          have hsk2 := sk_le (P := isK 2) (L := L) (q := i + 1 + (k + 1)) (by omega)
          rw [hsk1] at hsk2
          have hls := lsm_s (n := k) (a := i + 1) hx9
          have hlm := lsm_mono L (i + 1) (show k + 1 ≤ ns by omega)
          rw [hls] at hlm
          have hst : latS L kx tx9 lo hi t i (k + 1) = if (lo ≤ gD x9.2.1 1 ∧ gD x9.2.1 1 ≤ hi) ∧ countS kx tx9 x9.2.1 t = true then (if latM o ≤ mdN x9.2.1 then some (i + 1 + k, mdN x9.2.1) else o) else o := by rw [latS, ho, latN_s hx9]
          have hom : latM o < 4294967296 := by
            cases q9 : o with
            | none => decide
            | some z =>
              obtain ⟨_, _, x8, hx8, e8, _⟩ := latS_ok (ho.trans q9)
              show z.2 < _
              rw [e8]; exact mdN_lt (hPK.at hx8).2.1
          have jz : ∀ (cd cs2 : Nat) (o2 : LO) (M5 : MS) (E5 : va_W), (MI M5) → (Kp M M5) → (latS L kx tx9 lo hi t i (k + 1) = o2) → (cd ≤ cc + 2 * x9.2.1.length) → (cs2 ≤ cs + 106 * x9.2.1.length) → ∀ (H : Heap) (locs : List Loc), Wd D B s (mw dA h0 ad M5 ++ (F ++ E5)) H locs → ∀ (ls : Array Slot), lv_has ls 12 [(0, .ref h0), (1, .int (nI q)), (2, .int (nI i)), (3, .int (nI lo)), (4, .int (nI hi)), (5, .long (lN t)), (7, .int (oI (latP o2))), (8, .long (lN (latM o2))), (10, .int (nI (i + 1 + k)))] → W p l e R s m args below meth c H locs cd cs2 Q (F0 m 121 ls []) := by
            intro cd cs2  o2  M5  E5  hI5 hK5 ho2 hcd hcs2 H locs h ls hl
            refine lv_iinc (v := nI (i + 1 + k + 1)) (lv' := [(10, .int (nI (i + 1 + k + 1))), (0, .ref h0), (1, .int (nI q)), (2, .int (nI i)), (3, .int (nI lo)), (4, .int (nI hi)), (5, .long (lN t)), (7, .int (oI (latP o2))), (8, .long (lN (latM o2)))]) hx hb dX7_latestOf_121 hl (k := 8) rfl (nI_add (i + 1 + k) 1) (by decide) rfl (fun ls hl => ?_)
            refine lv_goto (tgt := 11) hx hb dX7_latestOf_124 (by decide) ?_
            exact ih (k + 1) _ _ o2 M5 E5 hI5 hK5 ho2 hsk1 (by omega) (by omega) (by omega) (by omega) _ _ h _ (lv_sub hl [1, 2, 3, 4, 5, 6, 7, 8, 0] rfl)
          refine lv_aload_n hx hb dX7_latestOf_31 rfl (lv_at hl 0 rfl) ?_
          refine lv_iload hx hb dX7_latestOf_32 (lv_at hl 8 rfl) ?_
          refine call_V (As := [.int (nI (i + 1 + k))]) (rest := []) (n := 1) C h (c7_typeAt l D dA B Z hZ h0 ad M1 (F ++ E) L (i + 1 + k) x9 hR1 hPK hLl hx9 (by omega)) (lw_V q2456 q2458 qs105 q138 q2459) (by decide +kernel) (ci := 5) rfl rfl mw_mem0 (by decide) (by decide) rfl hl rfl (Nat.le_of_ble_eq_true rfl) dX7_latestOf_34 (by omega) (fun _ H locs _ h => ?_)
          refine lv_iload_n hx hb dX7_latestOf_37 rfl (lv_at hl 3 rfl) ?_
          refine n_icmp_lt (tgt := 121) hx hb (by omega) (by omega) dX7_latestOf_38 (by decide) (fun c38 => ?_) (fun c38 => ?_)
          · exact jz _ _ o M1 E hI1 hK1 (by rw [hst, if_neg (by first | (intro z; exact absurd z.1 (by omega)) | (intro z; rw [c62] at z; cases z.2))]) (by omega) (by omega) _ _ h _ (lv_sub hl [0, 1, 2, 3, 4, 5, 6, 7, 8] rfl)
          · refine lv_aload_n hx hb dX7_latestOf_41 rfl (lv_at hl 0 rfl) ?_
            refine lv_iload hx hb dX7_latestOf_42 (lv_at hl 8 rfl) ?_
            refine call_V (As := [.int (nI (i + 1 + k))]) (rest := []) (n := 1) C h (c7_typeAt l D dA B Z hZ h0 ad M1 (F ++ E) L (i + 1 + k) x9 hR1 hPK hLl hx9 (by omega)) (lw_V q2456 q2458 qs105 q138 q2459) (by decide +kernel) (ci := 5) rfl rfl mw_mem0 (by decide) (by decide) rfl hl rfl (Nat.le_of_ble_eq_true rfl) dX7_latestOf_44 (by omega) (fun _ H locs _ h => ?_)
            refine lv_iload hx hb dX7_latestOf_47 (lv_at hl 4 rfl) ?_
            refine n_icmp_gt (tgt := 121) hx hb (by omega) (by omega) dX7_latestOf_49 (by decide) (fun c49 => ?_) (fun c49 => ?_)
            · exact jz _ _ o M1 E hI1 hK1 (by rw [hst, if_neg (by first | (intro z; exact absurd z.1 (by omega)) | (intro z; rw [c62] at z; cases z.2))]) (by omega) (by omega) _ _ h _ (lv_sub hl [0, 1, 2, 3, 4, 5, 6, 7, 8] rfl)
            · refine lv_aload_n hx hb dX7_latestOf_52 rfl (lv_at hl 0 rfl) ?_
              refine lv_iload hx hb dX7_latestOf_53 (lv_at hl 8 rfl) ?_
              refine lv_iload_n hx hb dX7_latestOf_55 rfl (lv_at hl 1 rfl) ?_
              refine lv_iload_n hx hb dX7_latestOf_56 rfl (lv_at hl 2 rfl) ?_
              refine lv_lload hx hb dX7_latestOf_57 (lv_at hl 5 rfl) ?_
              refine call_V (As := [.int (nI (i + 1 + k)), .int (nI q), .int (nI i), .long (lN t)]) (rest := []) (n := 4) C h (c7_counts l D dA B Z hZ h0 ad M1 (F ++ E) L (i + 1 + k) q i t x9 kx tx9 hzR hI1 hR1 hPK hLl hx9 hsk9 hkx hk5 htx ht) (lw_V q2464 q2466 qs107 q138 q2467) (by decide +kernel) (ci := 5) rfl rfl mw_mem0 (by decide) (by decide) rfl hl rfl (Nat.le_of_ble_eq_true rfl) dX7_latestOf_59 (by omega) (fun uc H locs huc h => ?_)
              obtain ⟨M3, E3⟩ := uc
              have hI3 : MI M3 := huc.1
              have hK3 : Kp M M3 := hK1.trans huc.2
              have h : Wd D B s (mw dA h0 ad M3 ++ (F ++ (E ++ E3))) H locs := by rw [← List.append_assoc F]; exact h
              have hR3 : CurR dA (F ++ (E ++ E3)) ad M3 L := hR.kp hK3 (fun z hz => List.mem_append_left _ hz)
              have hqx93 : mA M3 14 (i + 1 + k) = some qx9 := by rw [huc.2.2.2.2.2]; exact hqx9
              have hqx9G : (qx9, ial dA x9.2.1) ∈ F ++ (E ++ E3) := by rw [← List.append_assoc]; exact List.mem_append_left _ hqx9F
              refine z_if_eq (tgt := 121) hx hb dX7_latestOf_62 (by decide) (fun c62 => ?_) (fun c62 => ?_)
              · exact jz _ _ o M3 (E ++ E3) hI3 hK3 (by rw [hst, if_neg (by first | (intro z; exact absurd z.1 (by omega)) | (intro z; rw [c62] at z; cases z.2))]) (by omega) (by omega) _ _ h _ (lv_sub hl [0, 1, 2, 3, 4, 5, 6, 7, 8] rfl)
              · refine lv_aload_n hx hb dX7_latestOf_65 rfl (lv_at hl 0 rfl) ?_
                refine lv_aload_n hx hb dX7_latestOf_66 rfl (lv_at hl 0 rfl) ?_
                refine m_gr C h 14 (by decide) rfl rfl q1884 (v := some (ad 14)) hR3.2.2.2.1 dX7_latestOf_67 ?_
                refine lv_iload hx hb dX7_latestOf_70 (lv_at hl 8 rfl) ?_
                refine n_aald C h (v := (mA M3 14) (i + 1 + k)) (mw_memA (k := 14) (by decide)) (show i + 1 + k < 4700 by omega) (by decide) rfl dX7_latestOf_72 ?_
                refine n_topv (y := .ref qx9) (congrArg va_rf hqx93) ?_
                refine call_V (As := [.ref qx9]) (rest := []) (n := 1) C h (c7_readSeal l D dA B Z hZ h0 ad M3 (F ++ (E ++ E3)) qx9 x9.2.1 hI3 hqx9G hx9o.2.1 (by omega)) (lw_V q2344 q2346 qs83 q138 q2347) (by decide +kernel) (ci := 5) rfl rfl mw_mem0 (by decide) (by decide) rfl hl rfl (Nat.le_of_ble_eq_true rfl) dX7_latestOf_73 (by omega) (fun ur H locs hur h => ?_)
                obtain ⟨M4, E4⟩ := ur
                obtain ⟨hI4, hK34, hS4⟩ := hur
                have hI4 : MI M4 := hI4
                have hK4 : Kp M M4 := hK3.trans hK34
                have hS4 := hS4 hsk9
                have h : Wd D B s (mw dA h0 ad M4 ++ (F ++ (E ++ (E3 ++ E4)))) H locs := by rw [← List.append_assoc E, ← List.append_assoc F]; exact h
                have h61 : mL M4 61 = lN (mdN x9.2.1) := by rw [hS4.2.2.2.2.2.1, sVain_f (countS_v c62)]; rfl
                have hmd := mdN_lt hx9o.2.1
                refine lv_istore (lv' := [(11, .int (bZ (sealOk x9.2.1))), (0, .ref h0), (1, .int (nI q)), (2, .int (nI i)), (3, .int (nI lo)), (4, .int (nI hi)), (5, .long (lN t)), (7, .int (oI (latP o))), (8, .long (lN (latM o))), (10, .int (nI (i + 1 + k)))]) hx hb dX7_latestOf_76 hl (by decide) rfl (fun ls hl => ?_)
                by_cases con : o = none
                · subst con
                  have hl : lv_has ls 12 [(11, .int (bZ (sealOk x9.2.1))), (0, .ref h0), (1, .int (nI q)), (2, .int (nI i)), (3, .int (nI lo)), (4, .int (nI hi)), (5, .long (lN t)), (7, .int (-1)), (8, .long (lN 0)), (10, .int (nI (i + 1 + k)))] := hl
                  refine lv_iload hx hb dX7_latestOf_78 (lv_at hl 7 rfl) ?_
                  refine lv_iconst (v := -1) hx hb dX7_latestOf_80 (by decide) ?_
                  refine lv_icmp_eq (tgt := 94) hx hb dX7_latestOf_81 (by decide) (fun c81 => ?_) (fun c81 => by exfalso; exact c81 rfl)
                  refine lv_iload hx hb dX7_latestOf_94 (lv_at hl 9 rfl) ?_
                  refine lv_goto (tgt := 101) hx hb dX7_latestOf_96 (by decide) ?_
                  refine lv_istore (lv' := [(7, .int (nI (i + 1 + k))), (11, .int (bZ (sealOk x9.2.1))), (0, .ref h0), (1, .int (nI q)), (2, .int (nI i)), (3, .int (nI lo)), (4, .int (nI hi)), (5, .long (lN t)), (8, .long (lN 0)), (10, .int (nI (i + 1 + k)))]) hx hb dX7_latestOf_101 hl (by decide) rfl (fun ls hl => ?_)
                  refine lv_iload hx hb dX7_latestOf_103 (lv_at hl 0 rfl) ?_
                  refine lv_iload hx hb dX7_latestOf_105 (lv_at hl 9 rfl) ?_
                  refine n_icmp_ne (tgt := 117) hx hb (by omega) (by omega) dX7_latestOf_107 (by decide) (fun c107 => by exfalso; exact c107 rfl) (fun c107 => ?_)
                  refine lv_aload_n hx hb dX7_latestOf_110 rfl (lv_at hl 2 rfl) ?_
                  refine m_gl C h 61 (by decide) rfl rfl q1931 (v := lN (mdN x9.2.1)) h61 dX7_latestOf_111 ?_
                  refine lv_goto (tgt := 119) hx hb dX7_latestOf_114 (by decide) ?_
                  refine lv_lstore (lv' := [(8, .long (lN (mdN x9.2.1))), (7, .int (nI (i + 1 + k))), (11, .int (bZ (sealOk x9.2.1))), (0, .ref h0), (1, .int (nI q)), (2, .int (nI i)), (3, .int (nI lo)), (4, .int (nI hi)), (5, .long (lN t)), (10, .int (nI (i + 1 + k)))]) hx hb dX7_latestOf_119 hl (by decide) rfl (fun ls hl => ?_)
                  exact jz _ _ (some (i + 1 + k, mdN x9.2.1)) M4 (E ++ (E3 ++ E4)) hI4 hK4 (by rw [hst, if_pos ⟨⟨by omega, by omega⟩, c62⟩, if_pos (by first | exact Nat.zero_le _ | (show z9.2 ≤ _; omega))]) (by omega) (by omega) _ _ h _ (lv_sub hl [3, 4, 5, 6, 7, 8, 1, 0, 9] rfl)
                · obtain ⟨z9, rfl⟩ : ∃ z, o = some z := Option.ne_none_iff_exists'.mp con
                  have hz9 := latS_ok ho
                  obtain ⟨hz1, hz2, hz3⟩ := hz9
                  have hom : z9.2 < 4294967296 := hom
                  have hl : lv_has ls 12 [(11, .int (bZ (sealOk x9.2.1))), (0, .ref h0), (1, .int (nI q)), (2, .int (nI i)), (3, .int (nI lo)), (4, .int (nI hi)), (5, .long (lN t)), (7, .int (nI z9.1)), (8, .long (lN z9.2)), (10, .int (nI (i + 1 + k)))] := hl
                  refine lv_iload hx hb dX7_latestOf_78 (lv_at hl 7 rfl) ?_
                  refine lv_iconst (v := -1) hx hb dX7_latestOf_80 (by decide) ?_
                  refine lv_icmp_eq (tgt := 94) hx hb dX7_latestOf_81 (by decide) (fun c81 => by exfalso; cases (oI_ne (o := some z9.1) (fun i hi => by cases hi; omega)).mp c81) (fun c81 => ?_)
                  refine lv_aload_n hx hb dX7_latestOf_84 rfl (lv_at hl 1 rfl) ?_
                  refine m_gl C h 61 (by decide) rfl rfl q1931 (v := lN (mdN x9.2.1)) h61 dX7_latestOf_85 ?_
                  refine lv_lload hx hb dX7_latestOf_88 (lv_at hl 8 rfl) ?_
                  refine n_lcmp_lt (tgt := 99) hx hb (by omega) (by omega) dX7_latestOf_90 dX7_latestOf_91 (by decide) (fun c90 => ?_) (fun c90 => ?_)
                  · refine lv_iload hx hb dX7_latestOf_99 (lv_at hl 7 rfl) ?_
                    refine lv_istore (lv' := [(7, .int (nI z9.1)), (11, .int (bZ (sealOk x9.2.1))), (0, .ref h0), (1, .int (nI q)), (2, .int (nI i)), (3, .int (nI lo)), (4, .int (nI hi)), (5, .long (lN t)), (8, .long (lN z9.2)), (10, .int (nI (i + 1 + k)))]) hx hb dX7_latestOf_101 hl (by decide) rfl (fun ls hl => ?_)
                    refine lv_iload hx hb dX7_latestOf_103 (lv_at hl 0 rfl) ?_
                    refine lv_iload hx hb dX7_latestOf_105 (lv_at hl 9 rfl) ?_
                    refine n_icmp_ne (tgt := 117) hx hb (by omega) (by omega) dX7_latestOf_107 (by decide) (fun c107 => ?_) (fun c107 => by exfalso; omega)
                    refine lv_lload hx hb dX7_latestOf_117 (lv_at hl 8 rfl) ?_
                    refine lv_lstore (lv' := [(8, .long (lN z9.2)), (7, .int (nI z9.1)), (11, .int (bZ (sealOk x9.2.1))), (0, .ref h0), (1, .int (nI q)), (2, .int (nI i)), (3, .int (nI lo)), (4, .int (nI hi)), (5, .long (lN t)), (10, .int (nI (i + 1 + k)))]) hx hb dX7_latestOf_119 hl (by decide) rfl (fun ls hl => ?_)
                    exact jz _ _ (some z9) M4 (E ++ (E3 ++ E4)) hI4 hK4 (by rw [hst, if_pos ⟨⟨by omega, by omega⟩, c62⟩, if_neg (by show ¬ z9.2 ≤ _; omega)]) (by omega) (by omega) _ _ h _ (lv_sub hl [3, 4, 5, 6, 7, 8, 1, 0, 9] rfl)
                  · refine lv_iload hx hb dX7_latestOf_94 (lv_at hl 9 rfl) ?_
                    refine lv_goto (tgt := 101) hx hb dX7_latestOf_96 (by decide) ?_
                    refine lv_istore (lv' := [(7, .int (nI (i + 1 + k))), (11, .int (bZ (sealOk x9.2.1))), (0, .ref h0), (1, .int (nI q)), (2, .int (nI i)), (3, .int (nI lo)), (4, .int (nI hi)), (5, .long (lN t)), (8, .long (lN z9.2)), (10, .int (nI (i + 1 + k)))]) hx hb dX7_latestOf_101 hl (by decide) rfl (fun ls hl => ?_)
                    refine lv_iload hx hb dX7_latestOf_103 (lv_at hl 0 rfl) ?_
                    refine lv_iload hx hb dX7_latestOf_105 (lv_at hl 9 rfl) ?_
                    refine n_icmp_ne (tgt := 117) hx hb (by omega) (by omega) dX7_latestOf_107 (by decide) (fun c107 => by exfalso; exact c107 rfl) (fun c107 => ?_)
                    refine lv_aload_n hx hb dX7_latestOf_110 rfl (lv_at hl 2 rfl) ?_
                    refine m_gl C h 61 (by decide) rfl rfl q1931 (v := lN (mdN x9.2.1)) h61 dX7_latestOf_111 ?_
                    refine lv_goto (tgt := 119) hx hb dX7_latestOf_114 (by decide) ?_
                    refine lv_lstore (lv' := [(8, .long (lN (mdN x9.2.1))), (7, .int (nI (i + 1 + k))), (11, .int (bZ (sealOk x9.2.1))), (0, .ref h0), (1, .int (nI q)), (2, .int (nI i)), (3, .int (nI lo)), (4, .int (nI hi)), (5, .long (lN t)), (10, .int (nI (i + 1 + k)))]) hx hb dX7_latestOf_119 hl (by decide) rfl (fun ls hl => ?_)
                    exact jz _ _ (some (i + 1 + k, mdN x9.2.1)) M4 (E ++ (E3 ++ E4)) hI4 hK4 (by rw [hst, if_pos ⟨⟨by omega, by omega⟩, c62⟩, if_pos (by first | exact Nat.zero_le _ | (show z9.2 ≤ _; omega))]) (by omega) (by omega) _ _ h _ (lv_sub hl [3, 4, 5, 6, 7, 8, 1, 0, 9] rfl)
  exact loop _ 0 _ _ none M [] hI (Kp.rfl' M) rfl hns (by omega) (by omega) (by omega) (Nat.lt_succ_self _) _ _ h _ (lv_sub hl [3, 4, 5, 6, 7, 8, 2, 1, 0] rfl)
