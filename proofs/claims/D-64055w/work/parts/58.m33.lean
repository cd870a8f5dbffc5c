set_option maxRecDepth 100000

theorem sk_in {P : PK → Bool} {L : List PK} : ∀ {n q j : Nat} {x : PK}, j = q + n → j < sk P L q → L[j]? = some x → P x = true := by
  intro n
  induction n with
  | zero =>
    intro q j x h h1 h2
    rw [Nat.add_zero] at h; subst h
    cases z : P x with
    | true => rfl
    | false => rw [sk_stop h2 z] at h1; omega
  | succ n ih =>
    intro q j x h h1 h2
    have hl := (List.getElem?_eq_some_iff.mp h2).1
    obtain ⟨y, hy⟩ : ∃ z, L[q]? = some z := ⟨_, List.getElem?_eq_getElem (by omega)⟩
    cases z : P y with
    | true => rw [sk_go hy z] at h1; exact ih (q := q + 1) (by omega) h1 h2
    | false => rw [sk_stop hy z] at h1; omega
def nsF (L : List PK) (p : Nat) : Nat := sk (isK 2) L (p + 1) - (p + 1)
theorem nsF_e {L : List PK} {p : Nat} (h : p < L.length) : sk (isK 2) L (p + 1) = p + 1 + nsF L p := by
  have := sk_le (P := isK 2) (L := L) (q := p + 1) (by omega)
  unfold nsF; omega
/-- the place and the time of a seal that stands -/
def LOk (L : List PK) (o : LO) : Prop := ∀ z, o = some z → ∃ x, L[z.1]? = some x ∧ x.1 = 2 ∧ sealOk x.2.1 = true ∧ z.2 = mdN x.2.1 ∧ sVain x.2.1 = false ∧ z.2 < 4294967296
theorem latS_LOk {L : List PK} (hPK : PKs L) {kx tx : PK} {lo hi t i : Nat} (hi2 : i < L.length) : LOk L (latS L kx tx lo hi t i (nsF L i)) := by
  intro z hz
  obtain ⟨h1, h2, x, h3, h4, h5, _, _⟩ := latS_ok hz
  have h6 : isK 2 x = true := sk_in (P := isK 2) (n := z.1 - (i + 1)) (q := i + 1) (by omega) (by rw [nsF_e hi2]; exact h2) h3
  have h7 : x.1 = 2 := of_decide_eq_true h6
  exact ⟨x, h3, h7, ((hPK.at h3).2.2.2.2.1 h7).2.1, h4, countS_v h5, by rw [h4]; exact mdN_lt (hPK.at h3).2.1⟩
def bndN (L : List PK) (kx : PK) (t p : Nat) (o : LO) : LO :=
  match L[p]? with
  | none => o
  | some u => if u.1 = 13 then (match latS L kx u 16 19 t p (nsF L p) with
    | none => o
    | some z => if drpS L kx u z.2 t p (nsF L p) = true then o else (if o = none ∨ latM o < z.2 then some z else o)) else o
def bndS (L : List PK) (kx : PK) (t q : Nat) : Nat → LO
  | 0 => latS L kx kx 31 31 t q (nsF L q)
  | n + 1 => bndN L kx t (q + 1 + n) (bndS L kx t q n)
theorem bndN_o {L : List PK} {kx u : PK} {t p : Nat} {o : LO} (h : L[p]? = some u) (h1 : ¬ u.1 = 13) : bndN L kx t p o = o := by
  unfold bndN; rw [h]; show (if u.1 = 13 then _ else o) = o; rw [if_neg h1]
theorem bndN_n {L : List PK} {kx u : PK} {t p : Nat} {o : LO} (h : L[p]? = some u) (h1 : u.1 = 13) (h2 : latS L kx u 16 19 t p (nsF L p) = none) : bndN L kx t p o = o := by
  unfold bndN; rw [h]; show (if u.1 = 13 then _ else o) = o; rw [if_pos h1, h2]
theorem bndN_s {L : List PK} {kx u : PK} {t p : Nat} {o : LO} {z : Nat × Nat} (h : L[p]? = some u) (h1 : u.1 = 13) (h2 : latS L kx u 16 19 t p (nsF L p) = some z) : bndN L kx t p o = if drpS L kx u z.2 t p (nsF L p) = true then o else (if o = none ∨ latM o < z.2 then some z else o) := by
  unfold bndN; rw [h]; show (if u.1 = 13 then _ else o) = _; rw [if_pos h1, h2]
theorem bndS_LOk {L : List PK} (hPK : PKs L) {kx : PK} {t q : Nat} : ∀ {n : Nat}, q + n < L.length → LOk L (bndS L kx t q n) := by
  intro n
  induction n with
  | zero => intro h; exact latS_LOk hPK h
  | succ n ih =>
    intro h
    have i0 := ih (by omega)
    rw [bndS]
    obtain ⟨u, hu⟩ : ∃ z, L[q + 1 + n]? = some z := ⟨_, List.getElem?_eq_getElem (by omega)⟩
    by_cases h1 : u.1 = 13
    · cases h2 : latS L kx u 16 19 t (q + 1 + n) (nsF L (q + 1 + n)) with
      | none => rw [bndN_n hu h1 h2]; exact i0
      | some z =>
        rw [bndN_s hu h1 h2]
        have i1 := latS_LOk (kx := kx) (tx := u) (lo := 16) (hi := 19) (t := t) (i := q + 1 + n) hPK (by omega)
        rw [h2] at i1
        split
        · exact i0
        · split
          · exact i1
          · exact i0
    · rw [bndN_o hu h1]; exact i0
/-- cells and slots of a bond's search -/
def katN (L : List PK) (j : Nat) : Nat := (L[j]?.map Prod.fst).getD 0
theorem katN_e {L : List PK} {j : Nat} {x : PK} (h : L[j]? = some x) : katN L j = x.1 := by unfold katN; rw [h]; rfl
def bcst (a b c d : Nat) (L : List PK) (q : Nat) : Nat → Nat
  | 0 => a * lsm L (nsF L q) (q + 1)
  | n + 1 => bcst a b c d L q n + (if katN L (q + 1 + n) = 13 then (2 * a) * lsm L (nsF L (q + 1 + n)) (q + 1 + n + 1) + (nsF L (q + 1 + n) * c + (if nsF L (q + 1 + n) = 0 then 0 else d)) else 0)
theorem bcst_mono (a b c d : Nat) (L : List PK) (q : Nat) : ∀ {n m : Nat}, n ≤ m → bcst a b c d L q n ≤ bcst a b c d L q m := by
  intro n m h
  induction m with
  | zero => rw [Nat.le_zero.mp h]; exact Nat.le_refl _
  | succ m ih =>
    by_cases z : n = m + 1
    · rw [z]; exact Nat.le_refl _
    · have := ih (by omega)
      rw [bcst]; omega
theorem lsm_at {L : List PK} {a : Nat} : ∀ {n j : Nat} {x : PK}, a ≤ j → j < a + n → L[j]? = some x → x.2.1.length ≤ lsm L n a := by
  intro n
  induction n with
  | zero => intro j x h1 h2; omega
  | succ n ih =>
    intro j x h1 h2 h3
    by_cases z : j = a + n
    · subst z; rw [lsm_s h3]; omega
    · have := ih h1 (by omega) h3
      rw [lsm]; omega

set_option maxHeartbeats 400000 in
set_option maxRecDepth 100000 in
theorem c7_bondOf (l : Launch) (D : va_G) (dA : Nat → ClassId) (B : Nat) (Z : State → Prop) (hZ : Stab B Z) (h0 : Nat) (ad : Nat → Nat) (M : MS) (F : va_W) (L : List PK) (q t bm en : Nat) (kx : PK) (hzR : ∀ U : State, Z U → ∃ t, va_Z "SignetRingModel" "ROUNDS" "[I" (.ref t) (bA B) U U.heap ∧ va_T .int t 64 (fun j => .int (K2 j)) (bA B) U U.heap) (hI : MI M) (hR : CurR dA F ad M L) (hPK : PKs L) (hLl : L.length ≤ 4650) (hen2 : sk (notK 6) L (q + 1) = q + 1 + en) (hkx : L[q]? = some kx) (hk5 : 5 ≤ kx.2.1.length) (hk142 : kx.2.1.length ≤ 142) (ht : t < 4294967296) (hbm : ∀ (j : Nat) (x : PK), L[j]? = some x → x.1 = 2 → x.2.1.length ≤ bm) :
    Ct (S := MS × va_W) l D dA B Z yX7_bondOf cX7_bondOf 7 (some .int) 10 (bcst 2 0 (bm / 2 + 1) (bm + 2) L q en) (bcst 106 0 (5 * bm) (10 * bm) L q en) [.ref h0, .int (nI q), .long (lN t)] (mw dA h0 ad M ++ F) (fun u => MI u.1 ∧ Kp M u.1) (fun _ => some (.int (oI (latP (bndS L kx t q en))))) (fun u => mw dA h0 ad u.1 ++ (F ++ u.2)) := by
  refine Ct.mk2 (by decide) (Nat.le_of_ble_eq_true rfl) hZ ?_
  intro p e R s m args below meth c ls Q C hr hlocks hin hQ hl h
  have C0 := C
  obtain ⟨hx, hb, hml, hown, hts, -⟩ := C0
  have hl : lv_has ls 7 [(0, .ref h0), (1, .int (nI q)), (2, .long (lN t))] := hl
  have hql := (List.getElem?_eq_some_iff.mp hkx).1
  have hsl := sk_le (P := notK 6) (L := L) (q := q + 1) (by omega)
  have hm0 := bcst_mono 2 0 (bm / 2 + 1) (bm + 2) L q (Nat.zero_le en)
  have hm1 := bcst_mono 106 0 (5 * bm) (10 * bm) L q (Nat.zero_le en)
  have hz0 : bcst 2 0 (bm / 2 + 1) (bm + 2) L q 0 = 2 * lsm L (nsF L q) (q + 1) := rfl
  have hz1 : bcst 106 0 (5 * bm) (10 * bm) L q 0 = 106 * lsm L (nsF L q) (q + 1) := rfl
  refine lv_aload_n hx hb dX7_bondOf_0 rfl (lv_at hl 0 rfl) ?_
  refine lv_iload_n hx hb dX7_bondOf_1 rfl (lv_at hl 1 rfl) ?_
  refine lv_iload_n hx hb dX7_bondOf_2 rfl (lv_at hl 1 rfl) ?_
  refine lv_bipush (v := nI 31) hx hb dX7_bondOf_3 (by decide) ?_
  refine lv_bipush (v := nI 31) hx hb dX7_bondOf_5 (by decide) ?_
  refine lv_lload_n hx hb dX7_bondOf_7 rfl (lv_at hl 2 rfl) ?_
  refine call_V (As := [.int (nI q), .int (nI q), .int (nI 31), .int (nI 31), .long (lN t)]) (rest := []) (n := 5) C h (c7_latestOf l D dA B Z hZ h0 ad M F L q q 31 31 t (nsF L q) kx kx hzR hI hR hPK hLl hkx hk5 hk142 hkx (by decide) (by decide) ht (nsF_e hql)) (lw_V q2472 q2474 qs109 q138 q2475) (by decide +kernel) (ci := 5) rfl rfl mw_mem0 (by decide) (by decide) rfl hl rfl (Nat.le_of_ble_eq_true rfl) dX7_bondOf_8 (by omega) (fun u0 H locs hu0 h => ?_)
  obtain ⟨M0, E0⟩ := u0
  have hI0 : MI M0 := hu0.1
  have hK0 : Kp M M0 := hu0.2
  have h : Wd D B s (mw dA h0 ad M0 ++ (F ++ E0)) H locs := h
  have hR0 : CurR dA (F ++ E0) ad M0 L := hR.kp hK0 (fun z hz => List.mem_append_left _ hz)
  refine lv_istore (lv' := [(4, .int (oI (latP (latS L kx kx 31 31 t q (nsF L q))))), (0, .ref h0), (1, .int (nI q)), (2, .long (lN t))]) hx hb dX7_bondOf_11 hl (by decide) rfl (fun ls hl => ?_)
  refine lv_iload_n hx hb dX7_bondOf_13 rfl (lv_at hl 2 rfl) ?_
  refine lv_iconst (v := nI 1) hx hb dX7_bondOf_14 (by decide) ?_
  refine lv_iadd hx hb dX7_bondOf_15 (n_top (y := nI (q + 1)) (nI_add q 1) ?_)
  refine lv_istore (lv' := [(5, .int (nI (q + 1))), (4, .int (oI (latP (latS L kx kx 31 31 t q (nsF L q))))), (0, .ref h0), (1, .int (nI q)), (2, .long (lN t))]) hx hb dX7_bondOf_16 hl (by decide) rfl (fun ls hl => ?_)
  have hl : lv_has ls 7 [(5, .int (nI (q + 1 + 0))), (4, .int (oI (latP (bndS L kx t q 0)))), (0, .ref h0), (1, .int (nI q)), (2, .long (lN t))] := hl
  have loop : ∀ (nn : Nat) (k cc cs : Nat) (o : LO) (M1 : MS) (E : va_W), (MI M1) → (Kp M M1) → (bndS L kx t q k = o) → (k ≤ en) → (cc ≤ bcst 2 0 (bm / 2 + 1) (bm + 2) L q k) → (cs ≤ bcst 106 0 (5 * bm) (10 * bm) L q k) → en - k < nn → ∀ (H : Heap) (locs : List Loc), Wd D B s (mw dA h0 ad M1 ++ (F ++ E)) H locs → ∀ (ls : Array Slot), lv_has ls 7 [(0, .ref h0), (1, .int (nI q)), (2, .long (lN t)), (4, .int (oI (latP o))), (5, .int (nI (q + 1 + k)))] → W p l e R s m args below meth c H locs cc cs Q (F0 m 18 ls []) := by
    intro nn
    induction nn with
    | zero => intro k cc cs  o  M1  E  hI1 hK1 ho hkn hcc hcs hme; exact absurd hme (Nat.not_lt_zero _)
    | succ nn ih =>
      intro k cc cs  o  M1  E  hI1 hK1 ho hkn hcc hcs hme H locs h ls hl
      have hR1 : CurR dA (F ++ E) ad M1 L := hR.kp hK1 (fun z hz => List.mem_append_left _ hz); have hkm1 := bcst_mono 2 0 (bm / 2 + 1) (bm + 2) L q hkn; have hkm2 := bcst_mono 106 0 (5 * bm) (10 * bm) L q hkn
      refine lv_iload hx hb dX7_bondOf_18 (lv_at hl 4 rfl) ?_
      refine lv_aload_n hx hb dX7_bondOf_20 rfl (lv_at hl 0 rfl) ?_
      refine lv_iload_n hx hb dX7_bondOf_21 rfl (lv_at hl 1 rfl) ?_
      refine call_V (As := [.int (nI q)]) (rest := [.int (nI (q + 1 + k))]) (n := 1) C h (c7_lastOf l D dA B Z hZ h0 ad M1 (F ++ E) L q hR1 hPK hLl hql) (lw_V q2476 q2478 qs110 q138 q2479) (by decide +kernel) (ci := 5) rfl rfl mw_mem0 (by decide) (by decide) rfl hl rfl (Nat.le_of_ble_eq_true rfl) dX7_bondOf_22 (by omega) (fun _ H locs _ h => ?_)
      refine n_top (y := nI (q + 1 + en)) (by rw [hen2]) ?_
      refine n_icmp_ge (tgt := 110) hx hb (by omega) (by omega) dX7_bondOf_25 (by decide) (fun c25 => ?_) (fun c25 => ?_)
      · refine lv_iload hx hb dX7_bondOf_110 (lv_at hl 3 rfl) ?_
        subst hQ
        have hfin : en = k := by omega
        subst hfin
        exact ret_i C hr hlocks h (M1, E) (⟨hI1, hK1⟩) (by rw [ho]) rfl (by omega) (by omega) dX7_bondOf_112
      · obtain ⟨x9, hx9⟩ : ∃ z, L[q + 1 + k]? = some z := ⟨_, List.getElem?_eq_getElem (by omega)⟩
        obtain ⟨hx9k, _, hx9s⟩ := hR1.1 _ _ hx9
        have hx9o := hPK.at hx9
        have hx91 := hx9o.1
        have hoL : LOk L o := by rw [← ho]; exact bndS_LOk hPK (by omega)
        obtain ⟨n9, hn9⟩ : ∃ z, z = nsF L (q + 1 + k) := ⟨_, rfl⟩
        obtain ⟨s9, hs9⟩ : ∃ z, z = lsm L n9 (q + 1 + k + 1) := ⟨_, rfl⟩
        obtain ⟨w9, hw9⟩ : ∃ z, z = n9 * (bm / 2 + 1) := ⟨_, rfl⟩
        obtain ⟨v9, hv9⟩ : ∃ z, z = n9 * (5 * bm) := ⟨_, rfl⟩
        obtain ⟨d9, hd9⟩ : ∃ z, z = (if n9 = 0 then 0 else bm + 2) := ⟨_, rfl⟩
        obtain ⟨f9, hf9⟩ : ∃ z, z = (if n9 = 0 then 0 else 10 * bm) := ⟨_, rfl⟩
        obtain ⟨g9, hg9⟩ : ∃ z, z = (if x9.1 = 13 then 4 * s9 + (w9 + d9) else 0) := ⟨_, rfl⟩
        obtain ⟨i9, hi9⟩ : ∃ z, z = (if x9.1 = 13 then 212 * s9 + (v9 + f9) else 0) := ⟨_, rfl⟩
        have hq1 : bcst 2 0 (bm / 2 + 1) (bm + 2) L q (k + 1) = bcst 2 0 (bm / 2 + 1) (bm + 2) L q k + g9 := by rw [bcst, katN_e hx9, hg9, hd9, hw9, hs9, hn9]
        have hq2 : bcst 106 0 (5 * bm) (10 * bm) L q (k + 1) = bcst 106 0 (5 * bm) (10 * bm) L q k + i9 := by rw [bcst, katN_e hx9, hi9, hf9, hv9, hs9, hn9]
        have hq3 := bcst_mono 2 0 (bm / 2 + 1) (bm + 2) L q (show k + 1 ≤ en by omega)
        have hq4 := bcst_mono 106 0 (5 * bm) (10 * bm) L q (show k + 1 ≤ en by omega)
        rw [hq1] at hq3
        rw [hq2] at hq4
        have hst : bndS L kx t q (k + 1) = bndN L kx t (q + 1 + k) o := by rw [bndS, ho]
        have jz : ∀ (cd cs2 : Nat) (o2 : LO) (M5 : MS) (E5 : va_W), (MI M5) → (Kp M M5) → (bndS L kx t q (k + 1) = o2) → (cd ≤ cc + g9) → (cs2 ≤ cs + i9) → ∀ (H : Heap) (locs : List Loc), Wd D B s (mw dA h0 ad M5 ++ (F ++ E5)) H locs → ∀ (ls : Array Slot), lv_has ls 7 [(0, .ref h0), (1, .int (nI q)), (2, .long (lN t)), (4, .int (oI (latP o2))), (5, .int (nI (q + 1 + k)))] → W p l e R s m args below meth c H locs cd cs2 Q (F0 m 104 ls []) := by
          intro cd cs2  o2  M5  E5  hI5 hK5 ho2 hcd hcs2 H locs h ls hl
          refine lv_iinc (v := nI (q + 1 + k + 1)) (lv' := [(5, .int (nI (q + 1 + k + 1))), (0, .ref h0), (1, .int (nI q)), (2, .long (lN t)), (4, .int (oI (latP o2)))]) hx hb dX7_bondOf_104 hl (k := 4) rfl (nI_add (q + 1 + k) 1) (by decide) rfl (fun ls hl => ?_)
          refine lv_goto (tgt := 18) hx hb dX7_bondOf_107 (by decide) ?_
          exact ih (k + 1) _ _ o2 M5 E5 hI5 hK5 ho2 (by omega) (by omega) (by omega) (by omega) _ _ h _ (lv_sub hl [1, 2, 3, 4, 0] rfl)
        refine lv_aload_n hx hb dX7_bondOf_28 rfl (lv_at hl 0 rfl) ?_
        refine m_gr C h 13 (by decide) rfl rfl q1883 (v := some (ad 13)) hR1.2.2.1 dX7_bondOf_29 ?_
        refine lv_iload hx hb dX7_bondOf_32 (lv_at hl 4 rfl) ?_
        refine n_iald C h (v := (mG M1 13) (q + 1 + k)) (mw_memG (k := 13) (by decide)) (show q + 1 + k < 4700 by omega) (by decide) rfl dX7_bondOf_34 ?_
        refine n_top (y := nI x9.1) (congrArg nI hx9k) ?_
        refine lv_bipush (v := nI 13) hx hb dX7_bondOf_35 (by decide) ?_
        refine n_icmp_ne (tgt := 104) hx hb (by omega) (by omega) dX7_bondOf_37 (by decide) (fun c37 => ?_) (fun c37 => ?_)
        · exact jz _ _ o M1 E hI1 hK1 (by rw [hst, bndN_o hx9 c37]) (by omega) (by omega) _ _ h _ (lv_sub hl [0, 1, 2, 3, 4] rfl)
        · have hg8 : g9 = 4 * s9 + (w9 + d9) := by rw [hg9, if_pos c37]
          have hi8 : i9 = 212 * s9 + (v9 + f9) := by rw [hi9, if_pos c37]
          refine lv_aload_n hx hb dX7_bondOf_40 rfl (lv_at hl 0 rfl) ?_
          refine lv_iload_n hx hb dX7_bondOf_41 rfl (lv_at hl 1 rfl) ?_
          refine lv_iload hx hb dX7_bondOf_42 (lv_at hl 4 rfl) ?_
          refine lv_bipush (v := nI 16) hx hb dX7_bondOf_44 (by decide) ?_
          refine lv_bipush (v := nI 19) hx hb dX7_bondOf_46 (by decide) ?_
          refine lv_lload_n hx hb dX7_bondOf_48 rfl (lv_at hl 2 rfl) ?_
          have hnn : sk (isK 2) L (q + 1 + k + 1) = q + 1 + k + 1 + n9 := by rw [hn9]; exact nsF_e (by omega)
          refine call_V (As := [.int (nI q), .int (nI (q + 1 + k)), .int (nI 16), .int (nI 19), .long (lN t)]) (rest := []) (n := 5) C h (c7_latestOf l D dA B Z hZ h0 ad M1 (F ++ E) L q (q + 1 + k) 16 19 t n9 kx x9 hzR hI1 hR1 hPK hLl hkx hk5 hk142 hx9 (by decide) (by decide) ht hnn) (lw_V q2472 q2474 qs109 q138 q2475) (by decide +kernel) (ci := 5) rfl rfl mw_mem0 (by decide) (by decide) rfl hl rfl (Nat.le_of_ble_eq_true rfl) dX7_bondOf_49 (by omega) (fun ua H locs hua h => ?_)
          obtain ⟨M3, E3⟩ := ua
          have hI3 : MI M3 := hua.1
          have hK3 : Kp M M3 := hK1.trans hua.2
          have h : Wd D B s (mw dA h0 ad M3 ++ (F ++ (E ++ E3))) H locs := by rw [← List.append_assoc F]; exact h
          have hR3 : CurR dA (F ++ (E ++ E3)) ad M3 L := hR.kp hK3 (fun z hz => List.mem_append_left _ hz)
          have hlok := latS_LOk (kx := kx) (tx := x9) (lo := 16) (hi := 19) (t := t) (i := q + 1 + k) hPK (by omega)
          obtain ⟨lo9, hlo9⟩ : ∃ z, z = latS L kx x9 16 19 t (q + 1 + k) n9 := ⟨_, rfl⟩
          rw [← hn9, ← hlo9] at hlok
          refine n_top (y := oI (latP lo9)) (by rw [hlo9]) ?_
          refine lv_istore (lv' := [(6, .int (oI (latP lo9))), (0, .ref h0), (1, .int (nI q)), (2, .long (lN t)), (4, .int (oI (latP o))), (5, .int (nI (q + 1 + k)))]) hx hb dX7_bondOf_52 hl (by decide) rfl (fun ls hl => ?_)
          refine lv_iload hx hb dX7_bondOf_54 (lv_at hl 0 rfl) ?_
          refine lv_iconst (v := -1) hx hb dX7_bondOf_56 (by decide) ?_
          refine lv_icmp_eq (tgt := 104) hx hb dX7_bondOf_57 (by decide) (fun c57 => ?_) (fun c57 => ?_)
          · have hlb9 : ∀ i, latP lo9 = some i → i < 100000 := by
              intro i9 hi9
              cases q9 : lo9 with
              | none => rw [q9] at hi9; cases hi9
              | some z =>
                rw [q9] at hi9; cases hi9
                obtain ⟨x8, hx8, _⟩ := hlok z q9
                have := (List.getElem?_eq_some_iff.mp hx8).1
                omega
            have hln0 : lo9 = none := by
              have e9 := (oI_ne hlb9).mp c57
              cases q9 : lo9 with
              | none => rfl
              | some z => rw [q9] at e9; cases e9
            have hln : latS L kx x9 16 19 t (q + 1 + k) (nsF L (q + 1 + k)) = none := by rw [← hn9, ← hlo9]; exact hln0
            exact jz _ _ o M3 (E ++ E3) hI3 hK3 (by rw [hst, bndN_n hx9 c37 hln]) (by omega) (by omega) _ _ h _ (lv_sub hl [1, 2, 3, 4, 5] rfl)
          · obtain ⟨z9, hz9⟩ : ∃ z, lo9 = some z := by
              cases q9 : lo9 with
              | none => rw [q9] at c57; exact absurd rfl c57
              | some z => exact ⟨z, rfl⟩
            have hlz : latS L kx x9 16 19 t (q + 1 + k) (nsF L (q + 1 + k)) = some z9 := by rw [← hn9, ← hlo9]; exact hz9
            have hlz2 := latS_ok (hlo9.symm.trans hz9)
            obtain ⟨hp1, hp2, _⟩ := hlz2
            obtain ⟨y9, hy9, hy2, hyk, hyd, hyv, hyt⟩ := hlok z9 hz9
            have hym := sVain_f hyv
            have hyb := hbm _ _ hy9 hy2
            have hyl := (List.getElem?_eq_some_iff.mp hy9).1
            rw [if_neg (by omega)] at hd9
            rw [if_neg (by omega)] at hf9
            have hl : lv_has ls 7 [(6, .int (nI z9.1)), (0, .ref h0), (1, .int (nI q)), (2, .long (lN t)), (4, .int (oI (latP o))), (5, .int (nI (q + 1 + k)))] := by rw [hz9] at hl; exact hl
            refine lv_aload_n hx hb dX7_bondOf_60 rfl (lv_at hl 1 rfl) ?_
            refine lv_iload_n hx hb dX7_bondOf_61 rfl (lv_at hl 2 rfl) ?_
            refine lv_iload hx hb dX7_bondOf_62 (lv_at hl 5 rfl) ?_
            refine lv_iload hx hb dX7_bondOf_64 (lv_at hl 0 rfl) ?_
            refine lv_lload_n hx hb dX7_bondOf_66 rfl (lv_at hl 3 rfl) ?_
            refine call_V (As := [.int (nI q), .int (nI (q + 1 + k)), .int (nI z9.1), .long (lN t)]) (rest := []) (n := 4) C h (c7_isDropped l D dA B Z hZ h0 ad M3 (F ++ (E ++ E3)) L q (q + 1 + k) z9.1 t n9 (bm / 2 + 1) (5 * bm) kx x9 y9 hzR hI3 hR3 hPK hLl hkx hk5 hk142 hx9 (by omega) (by omega) hy9 hyk hym ht hnn) (lw_V q2480 q2482 qs111 q138 q2483) (by decide +kernel) (ci := 5) rfl rfl mw_mem0 (by decide) (by decide) rfl hl rfl (Nat.le_of_ble_eq_true rfl) dX7_bondOf_67 (by omega) (fun ue H locs hue h => ?_)
            obtain ⟨M4, E4⟩ := ue
            have hI4 : MI M4 := hue.1
            have hK4 : Kp M M4 := hK3.trans hue.2
            have h : Wd D B s (mw dA h0 ad M4 ++ (F ++ (E ++ (E3 ++ E4)))) H locs := by rw [← List.append_assoc E, ← List.append_assoc F]; exact h
            have hR4 : CurR dA (F ++ (E ++ (E3 ++ E4))) ad M4 L := hR.kp hK4 (fun z hz => List.mem_append_left _ hz)
            refine z_if_ne (tgt := 104) hx hb dX7_bondOf_70 (by decide) (fun c70 => ?_) (fun c70 => ?_)
            · exact jz _ _ o M4 (E ++ (E3 ++ E4)) hI4 hK4 (by rw [hst, bndN_s hx9 c37 hlz, if_pos (by rw [hyd, ← hn9]; exact c70)]) (by omega) (by omega) _ _ h _ (lv_sub hl [1, 2, 3, 4, 5] rfl)
            · by_cases con : o = none
              · subst con
                have hl : lv_has ls 7 [(6, .int (nI z9.1)), (0, .ref h0), (1, .int (nI q)), (2, .long (lN t)), (4, .int (-1)), (5, .int (nI (q + 1 + k)))] := hl
                refine lv_iload hx hb dX7_bondOf_73 (lv_at hl 4 rfl) ?_
                refine lv_iconst (v := -1) hx hb dX7_bondOf_75 (by decide) ?_
                refine lv_icmp_eq (tgt := 95) hx hb dX7_bondOf_76 (by decide) (fun c76 => ?_) (fun c76 => by exfalso; exact c76 rfl)
                refine lv_iload hx hb dX7_bondOf_95 (lv_at hl 0 rfl) ?_
                refine lv_goto (tgt := 102) hx hb dX7_bondOf_97 (by decide) ?_
                refine lv_istore (lv' := [(4, .int (nI z9.1)), (6, .int (nI z9.1)), (0, .ref h0), (1, .int (nI q)), (2, .long (lN t)), (5, .int (nI (q + 1 + k)))]) hx hb dX7_bondOf_102 hl (by decide) rfl (fun ls hl => ?_)
                exact jz _ _ (some z9) M4 (E ++ (E3 ++ E4)) hI4 hK4 (by rw [hst, bndN_s hx9 c37 hlz, if_neg (by rw [hyd, ← hn9, c70]; decide), if_pos (Or.inl rfl)]) (by omega) (by omega) _ _ h _ (lv_sub hl [2, 3, 4, 0, 5] rfl)
              · obtain ⟨z0, rfl⟩ : ∃ z, o = some z := Option.ne_none_iff_exists'.mp con
                obtain ⟨y0, hy0, hy02, hy0k, hy0d, hy0v, hy0t⟩ := hoL z0 rfl
                have hy0m := sVain_f hy0v
                have hy0b := hbm _ _ hy0 hy02
                have hy0l := (List.getElem?_eq_some_iff.mp hy0).1
                have hl : lv_has ls 7 [(6, .int (nI z9.1)), (0, .ref h0), (1, .int (nI q)), (2, .long (lN t)), (4, .int (nI z0.1)), (5, .int (nI (q + 1 + k)))] := hl
                refine lv_iload hx hb dX7_bondOf_73 (lv_at hl 4 rfl) ?_
                refine lv_iconst (v := -1) hx hb dX7_bondOf_75 (by decide) ?_
                refine lv_icmp_eq (tgt := 95) hx hb dX7_bondOf_76 (by decide) (fun c76 => by exfalso; cases (oI_ne (o := some z0.1) (fun i hi => by cases hi; omega)).mp c76) (fun c76 => ?_)
                refine lv_aload_n hx hb dX7_bondOf_79 rfl (lv_at hl 1 rfl) ?_
                refine lv_iload hx hb dX7_bondOf_80 (lv_at hl 0 rfl) ?_
                refine call_V (As := [.int (nI z9.1)]) (rest := []) (n := 1) C h (c7_madeAt l D dA B Z hZ h0 ad M4 (F ++ (E ++ (E3 ++ E4))) L z9.1 y9 hI4 hR4 hPK hLl hy9 hyk) (lw_V q2484 q2486 qs112 q138 q2487) (by decide +kernel) (ci := 5) rfl rfl mw_mem0 (by decide) (by decide) rfl hl rfl (Nat.le_of_ble_eq_true rfl) dX7_bondOf_82 (by omega) (fun uf H locs huf h => ?_)
                obtain ⟨M6, E6⟩ := uf
                have hI6 : MI M6 := huf.1
                have hK6 : Kp M M6 := hK4.trans huf.2
                have h : Wd D B s (mw dA h0 ad M6 ++ (F ++ (E ++ (E3 ++ (E4 ++ E6))))) H locs := by rw [← List.append_assoc E3, ← List.append_assoc E, ← List.append_assoc F]; exact h
                have hR6 : CurR dA (F ++ (E ++ (E3 ++ (E4 ++ E6)))) ad M6 L := hR.kp hK6 (fun z hz => List.mem_append_left _ hz)
                refine lv_aload_n hx hb dX7_bondOf_85 rfl (lv_at hl 1 rfl) ?_
                refine lv_iload hx hb dX7_bondOf_86 (lv_at hl 4 rfl) ?_
                refine call_V (As := [.int (nI z0.1)]) (rest := [.long (oL (sNote y9.2.1).1)]) (n := 1) C h (c7_madeAt l D dA B Z hZ h0 ad M6 (F ++ (E ++ (E3 ++ (E4 ++ E6)))) L z0.1 y0 hI6 hR6 hPK hLl hy0 hy0k) (lw_V q2484 q2486 qs112 q138 q2487) (by decide +kernel) (ci := 5) rfl rfl mw_mem0 (by decide) (by decide) rfl hl rfl (Nat.le_of_ble_eq_true rfl) dX7_bondOf_88 (by omega) (fun ug H locs hug h => ?_)
                obtain ⟨M7, E7⟩ := ug
                have hI7 : MI M7 := hug.1
                have hK7 : Kp M M7 := hK6.trans hug.2
                have h : Wd D B s (mw dA h0 ad M7 ++ (F ++ (E ++ (E3 ++ (E4 ++ (E6 ++ E7)))))) H locs := by rw [← List.append_assoc E4, ← List.append_assoc E3, ← List.append_assoc E, ← List.append_assoc F]; exact h
                refine k_lcmp_le (tgt := 100) hx hb dX7_bondOf_91 dX7_bondOf_92 (by decide) (fun c91 => ?_) (fun c91 => ?_)
                · rw [hym, hy0m] at c91
                  have c91 : lN (mdN y9.2.1) ≤ lN (mdN y0.2.1) := c91
                  have c92 := (pk_lLE (by omega) (by omega)).mp c91
                  refine lv_iload hx hb dX7_bondOf_100 (lv_at hl 4 rfl) ?_
                  refine lv_istore (lv' := [(4, .int (nI z0.1)), (6, .int (nI z9.1)), (0, .ref h0), (1, .int (nI q)), (2, .long (lN t)), (5, .int (nI (q + 1 + k)))]) hx hb dX7_bondOf_102 hl (by decide) rfl (fun ls hl => ?_)
                  exact jz _ _ (some z0) M7 (E ++ (E3 ++ (E4 ++ (E6 ++ E7)))) hI7 hK7 (by rw [hst, bndN_s hx9 c37 hlz, if_neg (by rw [hyd, ← hn9, c70]; decide), if_neg (by intro z; rcases z with z | z; cases z; exact absurd (show z0.2 < z9.2 from z) (by omega))]) (by omega) (by omega) _ _ h _ (lv_sub hl [2, 3, 4, 0, 5] rfl)
                · rw [hym, hy0m] at c91
                  have c91 : ¬ lN (mdN y9.2.1) ≤ lN (mdN y0.2.1) := c91
                  have c92 : ¬ mdN y9.2.1 ≤ mdN y0.2.1 := fun z => c91 ((pk_lLE (by omega) (by omega)).mpr z)
                  refine lv_iload hx hb dX7_bondOf_95 (lv_at hl 0 rfl) ?_
                  refine lv_goto (tgt := 102) hx hb dX7_bondOf_97 (by decide) ?_
                  refine lv_istore (lv' := [(4, .int (nI z9.1)), (6, .int (nI z9.1)), (0, .ref h0), (1, .int (nI q)), (2, .long (lN t)), (5, .int (nI (q + 1 + k)))]) hx hb dX7_bondOf_102 hl (by decide) rfl (fun ls hl => ?_)
                  exact jz _ _ (some z9) M7 (E ++ (E3 ++ (E4 ++ (E6 ++ E7)))) hI7 hK7 (by rw [hst, bndN_s hx9 c37 hlz, if_neg (by rw [hyd, ← hn9, c70]; decide), if_pos (Or.inr (show latM (some z0) < z9.2 from (by show z0.2 < z9.2; omega)))]) (by omega) (by omega) _ _ h _ (lv_sub hl [2, 3, 4, 0, 5] rfl)
  exact loop _ 0 _ _ (bndS L kx t q 0) M0 E0 hI0 hK0 rfl (by omega) (by omega) (by omega) (Nat.lt_succ_self _) _ _ h _ (lv_sub hl [2, 3, 4, 1, 0] rfl)
