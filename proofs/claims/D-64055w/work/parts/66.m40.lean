set_option maxRecDepth 100000

theorem MSt.kp {dA : Nat → ClassId} {F F' : va_W} {ad : Nat → Nat} {M M' : MS} {tp dc ou : List Nat} {L : List PK} (h : MSt dA F ad M tp dc ou L) (hk : Kp M M') (hI : MI M') (hs : ∀ x ∈ F, x ∈ F') : MSt dA F' ad M' tp dc ou L := by
  obtain ⟨⟨a1, a2, a3⟩, ⟨b1, b2, b3⟩, ⟨c1, c2, c3⟩, ⟨d1, d2, d3⟩, ⟨e1, e2, e3, e4, e5, e6⟩, f, g, x, y, k1, k2⟩ := h
  refine ⟨⟨(hk.1 1 (by decide)).trans a1, fun j hj => ?_, a3⟩, ⟨(hk.1 3 (by decide)).trans b1, fun j hj => ?_, b3⟩, ⟨(hk.1 10 (by decide)).trans c1, fun j hj => ?_, c3⟩, ⟨d1.up hs (hk.2.2.2.1 13 (by decide)) (by rw [hk.2.2.2.2]) (by rw [hk.2.2.2.2]), (hk.1 12 (by decide)).trans d2, d3⟩, ⟨(hk.2.2.1 13 (by decide)).trans e1, (hk.2.2.1 14 (by decide)).trans e2, (hk.2.2.1 15 (by decide)).trans e3, (hk.2.2.1 17 (by decide)).trans e4, (hk.2.2.1 18 (by decide)).trans e5, (hk.2.2.1 19 (by decide)).trans e6⟩, hI, fun j => ?_, x, y, (hk.1 37 (by decide)).trans k1, (hk.1 38 (by decide)).trans k2⟩
  · rw [hk.2.2.2.1 2 (by decide)]; exact a2 j hj
  · rw [hk.2.2.2.1 4 (by decide)]; exact b2 j hj
  · rw [hk.2.2.2.1 11 (by decide)]; exact c2 j hj
  · rw [hk.2.2.2.1 6 (by decide)]; exact g j
theorem MSt.up {dA : Nat → ClassId} {F F' : va_W} {ad : Nat → Nat} {M : MS} {tp dc ou : List Nat} {L : List PK} (h : MSt dA F ad M tp dc ou L) (hs : ∀ x ∈ F, x ∈ F') : MSt dA F' ad M tp dc ou L := h.kp (Kp.rfl' M) h.2.2.2.2.2.1 hs
theorem MSt.cur {dA : Nat → ClassId} {F : va_W} {ad : Nat → Nat} {M : MS} {tp dc ou : List Nat} {L : List PK} (h : MSt dA F ad M tp dc ou L) : CurR dA F ad M L := ⟨h.2.2.2.1.1, h.2.2.2.1.2.1, h.2.2.2.2.1.1, h.2.2.2.2.1.2.1, h.2.2.2.2.1.2.2.1⟩
theorem app_get {G : Nat → Nat} {tp l : List Nat} (h : ∀ j, j < tp.length → G j = gD tp j) : ∀ j, j < (tp ++ l).length → appG G tp.length l j = gD (tp ++ l) j := by
  intro j hj
  rw [List.length_append] at hj
  rcases Nat.lt_or_ge j tp.length with q | q
  · rw [appG_lt q, gD_appL q]; exact h j q
  · rw [appG_mid q hj, gD_appR q]
theorem app_get0 {G : Nat → Nat} {l : List Nat} : ∀ j, j < l.length → appG G 0 l j = gD l j := fun j hj => app_get (G := G) (tp := []) (l := l) (fun _ h => absurd h (Nat.not_lt_zero _)) j hj
/-- the tape grows -/
theorem MSt.tape {dA : Nat → ClassId} {F : va_W} {ad : Nat → Nat} {M : MS} {tp dc ou : List Nat} {L : List PK} (h : MSt dA F ad M tp dc ou L) {l : List Nat} (hb : byt l) (hl : tp.length + l.length ≤ 4096) : MSt dA F ad (apM M 2 1 tp.length l) (tp ++ l) dc ou L :=
  ⟨⟨by rw [List.length_append]; rfl, app_get h.1.2.1, byt_app h.1.2.2.1 hb, by rw [List.length_append]; exact hl⟩, h.2⟩
/-- the tape is another -/
theorem MSt.tape0 {dA : Nat → ClassId} {F : va_W} {ad : Nat → Nat} {M : MS} {tp dc ou : List Nat} {L : List PK} (h : MSt dA F ad M tp dc ou L) {l : List Nat} (hb : byt l) (hl : l.length ≤ 4096) : MSt dA F ad (sG (sI M 1 (nI l.length)) 2 (appG (mG M 2) 0 l)) l dc ou L :=
  ⟨⟨rfl, app_get0, hb, hl⟩, h.2⟩
theorem MSt.doc {dA : Nat → ClassId} {F : va_W} {ad : Nat → Nat} {M : MS} {tp dc ou : List Nat} {L : List PK} (h : MSt dA F ad M tp dc ou L) : MSt dA F ad (sG (sI (sI (sI (sI M 0 (nI 0)) 5 (nI tp.length)) 1 (nI 0)) 3 (nI tp.length)) 4 (appG (mG M 4) 0 tp)) [] tp ou L :=
  ⟨⟨rfl, fun j hj => absurd hj (Nat.not_lt_zero _), fun x hx => absurd hx List.not_mem_nil, Nat.zero_le _⟩, ⟨rfl, app_get0, h.1.2.2.1, h.1.2.2.2⟩, h.2.2⟩
def uL (x : Int64) : Nat := x.toBitVec.toNat
theorem lN_uL (x : Int64) : lN (uL x) = x := by
  apply Int64.toBitVec_inj.mp
  rw [wb_tb]
  exact BitVec.eq_of_toNat_eq (by rw [BitVec.toNat_ofNat]; exact Nat.mod_eq_of_lt x.toBitVec.isLt)
theorem l255 (x : Int64) : x &&& lN 255 = lN (uL x % 256) := by
  have e := l_andN (a := uL x) (b := 255) (k := 8) x.toBitVec.isLt (by decide)
  rw [lN_uL] at e
  exact e
/-- the bytes of a word, the lowest first -/
def wB (w : Int64) (k : Nat) : Nat := uL (lshr w (nI (8 * k))) % 256
def addB (w : Int64) (k : Nat) : List Nat := sl (wB w) 0 k
theorem addB_byt (w : Int64) (k : Nat) : byt (addB w k) := sl_byt (fun j => Nat.mod_lt _ (by decide))
def addS (tp : List Nat) (w : Int64) (n : Int32) : Bool × List Nat := if n < nI 1 ∨ nI 8 < n then (false, tp) else if 4096 < tp.length + n.toInt.toNat then (false, tp) else (true, tp ++ addB w n.toInt.toNat)
theorem i8 {z : Int32} (h1 : ¬ z < nI 1) (h2 : ¬ nI 8 < z) : ∃ k, 1 ≤ k ∧ k ≤ 8 ∧ z = nI k ∧ z.toInt.toNat = k := by
  have h0 : ¬ z < 0 := fun q => h1 (Int32.lt_trans q (by decide))
  obtain ⟨j, hj, rfl⟩ := nI_of2 (M := nI 8) (n := 8) (by decide) h0 (Int32.not_lt.mp h2)
  have e : ∀ j, j < 9 → ((nI j).toInt.toNat = j ∧ (¬ nI j < nI 1 → 1 ≤ j)) := by decide
  exact ⟨j, (e j (by omega)).2 h1, hj, rfl, (e j (by omega)).1⟩
theorem addS_f {tp : List Nat} {w : Int64} {n : Int32} (h : n < nI 1 ∨ nI 8 < n) : addS tp w n = (false, tp) := by unfold addS; rw [if_pos h]
theorem addS_k {tp : List Nat} {w : Int64} {n : Int32} {k : Nat} (h1 : ¬ n < nI 1) (h2 : ¬ nI 8 < n) (hk : n.toInt.toNat = k) : addS tp w n = if 4096 < tp.length + k then (false, tp) else (true, tp ++ addB w k) := by unfold addS; rw [if_neg (fun q => q.elim h1 h2), hk]
/-- thrown and told by out -/
def outS (ou : List Nat) (i : Int32) : Nat × Nat := if i < 0 ∨ ¬ i < nI ou.length then (1, 0) else (0, gD ou i.toInt.toNat)
theorem outS_f {ou : List Nat} {i : Int32} (h : i < 0 ∨ ¬ i < nI ou.length) : outS ou i = (1, 0) := by unfold outS; rw [if_pos h]
theorem outS_k {ou : List Nat} {i : Int32} {k : Nat} (h1 : ¬ i < 0) (h2 : i < nI ou.length) (hk : i.toInt.toNat = k) : outS ou i = (0, gD ou k) := by unfold outS; rw [if_neg (fun q => q.elim h1 (fun z => z h2)), hk]
theorem i_lt {z : Int32} {n : Nat} (hn : n < 1000000) (h1 : ¬ z < 0) (h2 : z < nI n) : ∃ k, k < n ∧ z = nI k ∧ z.toInt.toNat = k := by
  have h0 : 0 < n := by
    rcases Nat.eq_zero_or_pos n with q | q
    · subst q; exact absurd h2 h1
    · exact q
  obtain ⟨j, hj, rfl⟩ := nI_of2 (M := nI n) (n := n) (nI_toInt (by omega)) h1 (Int32.le_of_lt h2)
  refine ⟨j, (nI_ltI (by omega) (by omega)).mp h2, rfl, ?_⟩
  rw [nI_toInt (by omega)]; rfl

set_option maxHeartbeats 400000 in
set_option maxRecDepth 100000 in
theorem c7_takeOut (l : Launch) (D : va_G) (dA : Nat → ClassId) (B : Nat) (Z : State → Prop) (hZ : Stab B Z) (h0 : Nat) (ad : Nat → Nat) (M : MS) (F : va_W) (n b : Nat) (h1 : mI M 10 = nI n) (h2 : b ≤ n) (h3 : n - b ≤ 8000) (h4 : n ≤ 60000) :
    Ct (S := Unit) l D dA B Z yX7_takeOut cX7_takeOut 4 (some .int) 1 0 0 [.ref h0, .int (nI b)] (mw dA h0 ad M ++ F) (fun _ => True) (fun _ => some (.int (nI (n - b)))) (fun _ => mw dA h0 ad (sI (sG M 9 (appG (mG M 9) 0 (sl (mG M 11) b (n - b)))) 10 (nI b)) ++ F) := by
  refine Ct.mk2 (by decide) (Nat.le_of_ble_eq_true rfl) hZ ?_
  intro p e R s m args below meth c ls Q C hr hlocks hin hQ hl h
  have C0 := C
  obtain ⟨hx, hb, hml, hown, hts, -⟩ := C0
  have hl : lv_has ls 4 [(0, .ref h0), (1, .int (nI b))] := hl
  refine lv_aload_n hx hb dX7_takeOut_0 rfl (lv_at hl 0 rfl) ?_
  refine m_gi C h 10 (by decide) rfl rfl q1880 (v := nI n) h1 dX7_takeOut_1 ?_
  refine lv_iload_n hx hb dX7_takeOut_4 rfl (lv_at hl 1 rfl) ?_
  refine lv_isub hx hb dX7_takeOut_5 (n_top (y := nI (n - b)) (pk_sub (by omega)) ?_)
  refine lv_istore_n (lv' := [(2, .int (nI (n - b))), (0, .ref h0), (1, .int (nI b))]) hx hb dX7_takeOut_6 rfl hl (by decide) rfl (fun ls hl => ?_)
  refine lv_iconst (v := nI 0) hx hb dX7_takeOut_7 (by decide) ?_
  refine lv_istore_n (lv' := [(3, .int (nI 0)), (2, .int (nI (n - b))), (0, .ref h0), (1, .int (nI b))]) hx hb dX7_takeOut_8 rfl hl (by decide) rfl (fun ls hl => ?_)
  have h : Wd D B s (mw dA h0 ad (sG M 9 (appG (mG M 9) 0 (sl (mG M 11) b 0))) ++ F) s.heap [] := by rw [sl_0, appG_nil, sG_id]; exact h
  have loop : ∀ (nn : Nat) (i : Nat), (i ≤ n - b) → n - b - i < nn → ∀ (H : Heap) (locs : List Loc), Wd D B s (mw dA h0 ad (sG M 9 (appG (mG M 9) 0 (sl (mG M 11) b i))) ++ F) H locs → ∀ (ls : Array Slot), lv_has ls 4 [(3, .int (nI i)), (0, .ref h0), (1, .int (nI b)), (2, .int (nI (n - b)))] → W p l e R s m args below meth c H locs 0 0 Q (F0 m 9 ls []) := by
    intro nn
    induction nn with
    | zero => intro i  hi0 hme; exact absurd hme (Nat.not_lt_zero _)
    | succ nn ih =>
      intro i  hi0 hme H locs h ls hl
      refine lv_iload_n hx hb dX7_takeOut_9 rfl (lv_at hl 0 rfl) ?_
      refine lv_iload_n hx hb dX7_takeOut_10 rfl (lv_at hl 3 rfl) ?_
      refine n_icmp_ge (tgt := 34) hx hb (by omega) (by omega) dX7_takeOut_11 (by decide) (fun c11 => ?_) (fun c11 => ?_)
      · refine lv_aload_n hx hb dX7_takeOut_34 rfl (lv_at hl 1 rfl) ?_
        refine lv_iload_n hx hb dX7_takeOut_35 rfl (lv_at hl 2 rfl) ?_
        refine m_pi C h 10 (v := nI b) (by decide) rfl rfl rfl q1880 rfl rfl dX7_takeOut_36 (fun H locs h => ?_)
        refine lv_iload_n hx hb dX7_takeOut_39 rfl (lv_at hl 3 rfl) ?_
        subst hQ
        exact ret_i C hr hlocks h () trivial rfl (by rw [show i = n - b by omega]) (by omega) (by omega) dX7_takeOut_40
      · refine lv_aload_n hx hb dX7_takeOut_14 rfl (lv_at hl 1 rfl) ?_
        refine m_gc C h 9 (by decide) rfl rfl q1879 dX7_takeOut_15 ?_
        refine lv_iload_n hx hb dX7_takeOut_18 rfl (lv_at hl 0 rfl) ?_
        refine lv_aload_n hx hb dX7_takeOut_19 rfl (lv_at hl 1 rfl) ?_
        refine m_gc C h 11 (by decide) rfl rfl q1881 dX7_takeOut_20 ?_
        refine lv_iload_n hx hb dX7_takeOut_23 rfl (lv_at hl 2 rfl) ?_
        refine lv_iload_n hx hb dX7_takeOut_24 rfl (lv_at hl 0 rfl) ?_
        refine lv_iadd hx hb dX7_takeOut_25 (n_top (y := nI (b + i)) (nI_add b i) ?_)
        refine n_iald C h (v := (mG M 11) (b + i)) (mw_memG (k := 11) (by decide)) (show b + i < 60000 by omega) (by decide) rfl dX7_takeOut_26 ?_
        refine m_iast C h 9 (v := (mG M 11) (b + i)) (by decide) (n := 8000) rfl (by omega) dX7_takeOut_27 (fun H locs h => ?_)
        have h : Wd D B s (mw dA h0 ad (sG M 9 (appG (mG M 9) 0 (sl (mG M 11) b (i + 1)))) ++ F) H locs := by
          have e9 := appG_snoc (mG M 9) 0 (sl (mG M 11) b i) ((mG M 11) (b + i)) (k := i) (by rw [sl_len, Nat.zero_add])
          rw [sl_succ, ← e9, ← sG_sG]
          first | exact h | (rw [Nat.zero_add]; exact h)
        refine lv_iinc (v := nI (i + 1)) (lv' := [(3, .int (nI (i + 1))), (0, .ref h0), (1, .int (nI b)), (2, .int (nI (n - b)))]) hx hb dX7_takeOut_28 hl (k := 0) rfl (nI_add i 1) (by decide) rfl (fun ls hl => ?_)
        refine lv_goto (tgt := 9) hx hb dX7_takeOut_31 (by decide) ?_
        exact ih (i + 1) (by omega) (by omega) _ _ h _ (lv_sub hl [0, 1, 2, 3] rfl)
  exact loop _ 0 (by omega) (Nat.lt_succ_self _) _ _ h _ (lv_sub hl [0, 2, 3, 1] rfl)
set_option maxHeartbeats 400000 in
set_option maxRecDepth 100000 in
theorem c7_take (l : Launch) (D : va_G) (dA : Nat → ClassId) (B : Nat) (Z : State → Prop) (hZ : Stab B Z) (h0 : Nat) (ad : Nat → Nat) (M : MS) (F : va_W) (tp dc ou : List Nat) (L : List PK) (hS : MSt dA F ad M tp dc ou L) :
    Ct (S := MS) l D dA B Z yX7_take cX7_take 2 (some .int) 1 0 0 [.ref h0] (mw dA h0 ad M ++ F) (fun u => MSt dA F ad u (ou.take 4096) dc ou L ∧ mI u 0 = 0) (fun _ => some (.int (nI (ou.take 4096).length))) (fun u => mw dA h0 ad u ++ F) := by
  refine Ct.mk2 (by decide) (Nat.le_of_ble_eq_true rfl) hZ ?_
  intro p e R s m args below meth c ls Q C hr hlocks hin hQ hl h
  have C0 := C
  obtain ⟨hx, hb, hml, hown, hts, -⟩ := C0
  have hl : lv_has ls 2 [(0, .ref h0)] := hl
  have hou := hS.2.2.1.2.2.2
  obtain ⟨m9, hm9⟩ : ∃ z, z = (ou.take 4096).length := ⟨_, rfl⟩
  have hm8 : m9 = min 4096 ou.length := by rw [hm9, List.length_take]
  refine lv_aload_n hx hb dX7_take_0 rfl (lv_at hl 0 rfl) ?_
  refine lv_iconst (v := nI 0) hx hb dX7_take_1 (by decide) ?_
  refine m_pi C h 0 (v := nI 0) (by decide) rfl rfl rfl q1870 rfl rfl dX7_take_2 (fun H locs h => ?_)
  refine lv_aload_n hx hb dX7_take_5 rfl (lv_at hl 0 rfl) ?_
  have jc : ∀ (H : Heap) (locs : List Loc), Wd D B s (mw dA h0 ad (sI M 0 (nI 0)) ++ F) H locs → ∀ (ls : Array Slot), lv_has ls 2 [(0, .ref h0)] → W p l e R s m args below meth c H locs 0 0 Q (F0 m 26 ls [.int (nI m9), .ref h0]) := by
    intro   H locs h ls hl
    refine m_pi C h 1 (v := nI m9) (by decide) rfl rfl rfl q1871 rfl rfl dX7_take_26 (fun H locs h => ?_)
    refine lv_iconst (v := nI 0) hx hb dX7_take_29 (by decide) ?_
    refine lv_istore_n (lv' := [(1, .int (nI 0)), (0, .ref h0)]) hx hb dX7_take_30 rfl hl (by decide) rfl (fun ls hl => ?_)
    have h : Wd D B s (mw dA h0 ad (sI (sI M 0 (nI 0)) 1 (nI m9)) ++ F) H locs := h
    obtain ⟨M1, hM1⟩ : ∃ z, z = sI (sI M 0 (nI 0)) 1 (nI m9) := ⟨_, rfl⟩
    rw [← hM1] at h
    have hM1I1 : mI M1 1 = nI m9 := by rw [hM1]; exact rfl
    have h : Wd D B s (mw dA h0 ad (sG M1 2 (appG (mG M1 2) 0 (sl (mG M1 11) 0 0))) ++ F) H locs := by rw [sl_0, appG_nil, sG_id]; exact h
    have loop : ∀ (nn : Nat) (i : Nat), (i ≤ m9) → m9 - i < nn → ∀ (H : Heap) (locs : List Loc), Wd D B s (mw dA h0 ad (sG M1 2 (appG (mG M1 2) 0 (sl (mG M1 11) 0 i))) ++ F) H locs → ∀ (ls : Array Slot), lv_has ls 2 [(1, .int (nI i)), (0, .ref h0)] → W p l e R s m args below meth c H locs 0 0 Q (F0 m 31 ls []) := by
      intro nn
      induction nn with
      | zero => intro i  hi0 hme; exact absurd hme (Nat.not_lt_zero _)
      | succ nn ih =>
        intro i  hi0 hme H locs h ls hl
        refine lv_iload_n hx hb dX7_take_31 rfl (lv_at hl 0 rfl) ?_
        refine lv_aload_n hx hb dX7_take_32 rfl (lv_at hl 1 rfl) ?_
        refine m_gi C h 1 (by decide) rfl rfl q1871 (v := nI m9) hM1I1 dX7_take_33 ?_
        refine n_icmp_ge (tgt := 57) hx hb (by omega) (by omega) dX7_take_36 (by decide) (fun c36 => ?_) (fun c36 => ?_)
        · refine lv_aload_n hx hb dX7_take_57 rfl (lv_at hl 1 rfl) ?_
          refine m_gi C h 1 (by decide) rfl rfl q1871 (v := nI m9) hM1I1 dX7_take_58 ?_
          subst hQ
          have hie : i = m9 := by omega
          have hsl : sl (mG M1 11) 0 i = ou.take 4096 := by
            rw [hM1, hie]
            have e1 : sl (mG M 11) 0 m9 = sl (gD ou) 0 m9 := sl_congr (fun j hj => hS.2.2.1.2.1 _ (by omega))
            refine Eq.trans e1 ?_
            rw [sl_gDc ou (by omega), List.drop_zero, List.take_eq_take_iff]
            omega
          have hpp : MSt dA F ad (sG M1 2 (appG (mG M1 2) 0 (sl (mG M1 11) 0 i))) (ou.take 4096) dc ou L ∧ mI (sG M1 2 (appG (mG M1 2) 0 (sl (mG M1 11) 0 i))) 0 = 0 := by
            rw [hsl, hM1, hm9]
            exact ⟨MSt.tape0 (M := (sI M 0 (nI 0))) hS (fun x hx => hS.2.2.1.2.2.1 x (List.mem_of_mem_take hx)) (by rw [List.length_take]; omega), rfl⟩
          exact ret_i C hr hlocks h (sG M1 2 (appG (mG M1 2) 0 (sl (mG M1 11) 0 i))) hpp (by rw [hm9]) rfl (by omega) (by omega) dX7_take_61
        · refine lv_aload_n hx hb dX7_take_39 rfl (lv_at hl 1 rfl) ?_
          refine m_gc C h 2 (by decide) rfl rfl q1872 dX7_take_40 ?_
          refine lv_iload_n hx hb dX7_take_43 rfl (lv_at hl 0 rfl) ?_
          refine lv_aload_n hx hb dX7_take_44 rfl (lv_at hl 1 rfl) ?_
          refine m_gc C h 11 (by decide) rfl rfl q1881 dX7_take_45 ?_
          refine lv_iload_n hx hb dX7_take_48 rfl (lv_at hl 0 rfl) ?_
          refine n_iald C h (v := (mG M1 11) i) (mw_memG (k := 11) (by decide)) (show i < 60000 by omega) (by decide) rfl dX7_take_49 ?_
          refine m_iast C h 2 (v := (mG M1 11) i) (by decide) (n := 4096) rfl (by omega) dX7_take_50 (fun H locs h => ?_)
          have h : Wd D B s (mw dA h0 ad (sG M1 2 (appG (mG M1 2) 0 (sl (mG M1 11) 0 (i + 1)))) ++ F) H locs := by
            have e9 := appG_snoc (mG M1 2) 0 (sl (mG M1 11) 0 i) ((mG M1 11) (0 + i)) (k := i) (by rw [sl_len, Nat.zero_add])
            rw [sl_succ, ← e9, ← sG_sG]
            first | exact h | (rw [Nat.zero_add]; exact h)
          refine lv_iinc (v := nI (i + 1)) (lv' := [(1, .int (nI (i + 1))), (0, .ref h0)]) hx hb dX7_take_51 hl (k := 0) rfl (nI_add i 1) (by decide) rfl (fun ls hl => ?_)
          refine lv_goto (tgt := 31) hx hb dX7_take_54 (by decide) ?_
          exact ih (i + 1) (by omega) (by omega) _ _ h _ (lv_sub hl [0, 1] rfl)
    exact loop _ 0 (by omega) (Nat.lt_succ_self _) _ _ h _ (lv_sub hl [0, 1] rfl)
  refine lv_aload_n hx hb dX7_take_6 rfl (lv_at hl 0 rfl) ?_
  refine m_gi C h 10 (by decide) rfl rfl q1880 (v := nI ou.length) hS.2.2.1.1 dX7_take_7 ?_
  refine lv_sipush (v := nI 4096) hx hb dX7_take_10 (by decide) ?_
  refine n_icmp_ge (tgt := 23) hx hb (by omega) (by omega) dX7_take_13 (by decide) (fun c13 => ?_) (fun c13 => ?_)
  · refine lv_sipush (v := nI 4096) hx hb dX7_take_23 (by decide) ?_
    refine n_top (y := nI m9) (congrArg nI (by omega)) ?_
    exact jc   _ _ h _ (lv_sub hl [0] rfl)
  · refine lv_aload_n hx hb dX7_take_16 rfl (lv_at hl 0 rfl) ?_
    refine m_gi C h 10 (by decide) rfl rfl q1880 (v := nI ou.length) hS.2.2.1.1 dX7_take_17 ?_
    refine lv_goto (tgt := 26) hx hb dX7_take_20 (by decide) ?_
    refine n_top (y := nI m9) (congrArg nI (by omega)) ?_
    exact jc   _ _ h _ (lv_sub hl [0] rfl)
set_option maxHeartbeats 400000 in
set_option maxRecDepth 100000 in
theorem c7_add (l : Launch) (D : va_G) (dA : Nat → ClassId) (B : Nat) (Z : State → Prop) (hZ : Stab B Z) (h0 : Nat) (ad : Nat → Nat) (M : MS) (F : va_W) (tp dc ou : List Nat) (L : List PK) (wd : Int64) (n : Int32) (hS : MSt dA F ad M tp dc ou L) :
    Ct (S := MS) l D dA B Z yX7_add cX7_add 5 (some .boolean) 1 0 0 [.ref h0, .long wd, .int n] (mw dA h0 ad M ++ F) (fun u => MSt dA F ad u ((addS tp wd n).2) dc ou L ∧ mI u 0 = 0) (fun _ => some (.int (bZ (addS tp wd n).1))) (fun u => mw dA h0 ad u ++ F) := by
  refine Ct.mk2 (by decide) (Nat.le_of_ble_eq_true rfl) hZ ?_
  intro p e R s m args below meth c ls Q C hr hlocks hin hQ hl h
  have C0 := C
  obtain ⟨hx, hb, hml, hown, hts, -⟩ := C0
  have hl : lv_has ls 5 [(0, .ref h0), (1, .long wd), (3, .int n)] := hl
  have htp := hS.1.2.2.2
  refine lv_aload_n hx hb dX7_add_0 rfl (lv_at hl 0 rfl) ?_
  refine lv_iconst (v := nI 0) hx hb dX7_add_1 (by decide) ?_
  refine m_pi C h 0 (v := nI 0) (by decide) rfl rfl rfl q1870 rfl rfl dX7_add_2 (fun H locs h => ?_)
  refine lv_iload_n hx hb dX7_add_5 rfl (lv_at hl 2 rfl) ?_
  refine lv_iconst (v := nI 1) hx hb dX7_add_6 (by decide) ?_
  refine lv_icmp_lt (tgt := 28) hx hb dX7_add_7 (by decide) (fun c7 => ?_) (fun c7 => ?_)
  · have hU := addS_f (tp := tp) (w := wd) (Or.inl c7)
    refine lv_iconst (v := nI 0) hx hb dX7_add_28 (by decide) ?_
    subst hQ
    refine n_top (y := bZ false) rfl ?_
    exact ret_z C hr hlocks h (sI M 0 (nI 0)) (⟨by rw [hU]; exact hS, rfl⟩) (by rw [hU]) rfl (by omega) (by omega) dX7_add_29
  · refine lv_iload_n hx hb dX7_add_10 rfl (lv_at hl 2 rfl) ?_
    refine lv_bipush (v := nI 8) hx hb dX7_add_11 (by decide) ?_
    refine lv_icmp_gt (tgt := 28) hx hb dX7_add_13 (by decide) (fun c13 => ?_) (fun c13 => ?_)
    · have hU := addS_f (tp := tp) (w := wd) (Or.inr c13)
      refine lv_iconst (v := nI 0) hx hb dX7_add_28 (by decide) ?_
      subst hQ
      refine n_top (y := bZ false) rfl ?_
      exact ret_z C hr hlocks h (sI M 0 (nI 0)) (⟨by rw [hU]; exact hS, rfl⟩) (by rw [hU]) rfl (by omega) (by omega) dX7_add_29
    · obtain ⟨k, hk1, hk8, hnk, hkt⟩ := i8 c7 c13
      have hU := addS_k (tp := tp) (w := wd) c7 c13 hkt
      have hl : lv_has ls 5 [(0, .ref h0), (1, .long wd), (3, .int (nI k))] := by rw [hnk] at hl; exact hl
      refine lv_aload_n hx hb dX7_add_16 rfl (lv_at hl 0 rfl) ?_
      refine m_gi C h 1 (by decide) rfl rfl q1871 (v := nI tp.length) hS.1.1 dX7_add_17 ?_
      refine lv_iload_n hx hb dX7_add_20 rfl (lv_at hl 2 rfl) ?_
      refine lv_iadd hx hb dX7_add_21 (n_top (y := nI (tp.length + k)) (nI_add tp.length k) ?_)
      refine lv_sipush (v := nI 4096) hx hb dX7_add_22 (by decide) ?_
      refine n_icmp_le (tgt := 30) hx hb (by omega) (by omega) dX7_add_25 (by decide) (fun c25 => ?_) (fun c25 => ?_)
      · rw [if_neg (by omega)] at hU
        refine lv_iconst (v := nI 0) hx hb dX7_add_30 (by decide) ?_
        refine lv_istore (lv' := [(4, .int (nI 0)), (0, .ref h0), (1, .long wd), (3, .int (nI k))]) hx hb dX7_add_31 hl (by decide) rfl (fun ls hl => ?_)
        have h1 : mI (sI M 0 (nI 0)) 1 = nI tp.length := hS.1.1
        have h : Wd D B s (mw dA h0 ad (apM (sI M 0 (nI 0)) 2 1 tp.length (sl (wB wd) 0 0)) ++ F) H locs := by rw [sl_0, apM_nil h1]; exact h
        have loop : ∀ (nn : Nat) (i : Nat), (i ≤ k) → k - i < nn → ∀ (H : Heap) (locs : List Loc), Wd D B s (mw dA h0 ad (apM (sI M 0 (nI 0)) 2 1 tp.length (sl (wB wd) 0 i)) ++ F) H locs → ∀ (ls : Array Slot), lv_has ls 5 [(4, .int (nI i)), (0, .ref h0), (1, .long wd), (3, .int (nI k))] → W p l e R s m args below meth c H locs 0 0 Q (F0 m 33 ls []) := by
          intro nn
          induction nn with
          | zero => intro i  hi0 hme; exact absurd hme (Nat.not_lt_zero _)
          | succ nn ih =>
            intro i  hi0 hme H locs h ls hl
            have hsl9 := sl_len (wB wd) 0 i
            refine lv_iload hx hb dX7_add_33 (lv_at hl 0 rfl) ?_
            refine lv_iload_n hx hb dX7_add_35 rfl (lv_at hl 3 rfl) ?_
            refine n_icmp_ge (tgt := 76) hx hb (by omega) (by omega) dX7_add_36 (by decide) (fun c36 => ?_) (fun c36 => ?_)
            · refine lv_iconst (v := nI 1) hx hb dX7_add_76 (by decide) ?_
              subst hQ
              have hik : i = k := by omega
              subst hik
              refine n_top (y := bZ true) rfl ?_
              exact ret_z C hr hlocks h (apM (sI M 0 (nI 0)) 2 1 tp.length (sl (wB wd) 0 i)) (⟨by rw [hU]; exact MSt.tape (M := (sI M 0 (nI 0))) hS (addB_byt wd i) (by rw [hsl9]; omega), rfl⟩) (by rw [hU]) rfl (by omega) (by omega) dX7_add_77
            · refine lv_aload_n hx hb dX7_add_39 rfl (lv_at hl 1 rfl) ?_
              refine m_gc C h 2 (by decide) rfl rfl q1872 dX7_add_40 ?_
              refine lv_aload_n hx hb dX7_add_43 rfl (lv_at hl 1 rfl) ?_
              refine m_gi C h 1 (by decide) rfl rfl q1871 (v := nI (tp.length + (sl (wB wd) 0 i).length)) rfl dX7_add_44 ?_
              refine lv_lload_n hx hb dX7_add_47 rfl (lv_at hl 2 rfl) ?_
              refine lv_bipush (v := nI 8) hx hb dX7_add_48 (by decide) ?_
              refine lv_iload hx hb dX7_add_50 (lv_at hl 0 rfl) ?_
              refine lv_imul hx hb dX7_add_52 (n_top (y := nI (8 * i)) (pk_mul 8 i) ?_)
              refine n_lshr hx hb dX7_add_53 ?_
              refine lv_ldc2 hx hb hown (hts _ q2103) dX7_add_54 ?_
              refine n_topl (y := lN 255) (by decide) ?_
              refine lv_land hx hb dX7_add_57 ?_
              refine n_topl (y := lN (wB wd i)) (l255 _) ?_
              refine lv_l2i (v := nI (wB wd i)) hx hb dX7_add_58 (lN_i _) ?_
              refine m_iast C h 2 (v := wB wd i) (by decide) (n := 4096) rfl (by omega) dX7_add_59 (fun H locs h => ?_)
              refine lv_aload_n hx hb dX7_add_60 rfl (lv_at hl 1 rfl) ?_
              refine lv_dup hx hb dX7_add_61 rfl ?_
              refine m_gi C h 1 (by decide) rfl rfl q1871 (v := nI (tp.length + (sl (wB wd) 0 i).length)) rfl dX7_add_62 ?_
              refine lv_iconst (v := nI 1) hx hb dX7_add_65 (by decide) ?_
              refine lv_iadd hx hb dX7_add_66 (n_top (y := nI ((tp.length + (sl (wB wd) 0 i).length) + 1)) (nI_add (tp.length + (sl (wB wd) 0 i).length) 1) ?_)
              refine m_pi C h 1 (v := nI ((tp.length + (sl (wB wd) 0 i).length) + 1)) (by decide) rfl rfl rfl q1871 rfl rfl dX7_add_67 (fun H locs h => ?_)
              rw [apM_one, apM_app, show wB wd i = wB wd (0 + i) by rw [Nat.zero_add], ← sl_succ] at h
              refine lv_iinc (v := nI (i + 1)) (lv' := [(4, .int (nI (i + 1))), (0, .ref h0), (1, .long wd), (3, .int (nI k))]) hx hb dX7_add_70 hl (k := 0) rfl (nI_add i 1) (by decide) rfl (fun ls hl => ?_)
              refine lv_goto (tgt := 33) hx hb dX7_add_73 (by decide) ?_
              exact ih (i + 1) (by omega) (by omega) _ _ h _ (lv_sub hl [0, 1, 2, 3] rfl)
        exact loop _ 0 (by omega) (Nat.lt_succ_self _) _ _ h _ (lv_sub hl [0, 1, 2, 3] rfl)
      · rw [if_pos c25] at hU
        refine lv_iconst (v := nI 0) hx hb dX7_add_28 (by decide) ?_
        subst hQ
        refine n_top (y := bZ false) rfl ?_
        exact ret_z C hr hlocks h (sI M 0 (nI 0)) (⟨by rw [hU]; exact hS, rfl⟩) (by rw [hU]) rfl (by omega) (by omega) dX7_add_29
set_option maxHeartbeats 400000 in
set_option maxRecDepth 100000 in
theorem c7_document (l : Launch) (D : va_G) (dA : Nat → ClassId) (B : Nat) (Z : State → Prop) (hZ : Stab B Z) (h0 : Nat) (ad : Nat → Nat) (M : MS) (F : va_W) (tp dc ou : List Nat) (L : List PK) (hS : MSt dA F ad M tp dc ou L) :
    Ct (S := MS) l D dA B Z yX7_document cX7_document 3 (some .int) 2 0 0 [.ref h0] (mw dA h0 ad M ++ F) (fun u => MSt dA F ad u ([] : List Nat) tp ou L ∧ mI u 0 = 0) (fun _ => some (.int (nI tp.length))) (fun u => mw dA h0 ad u ++ F) := by
  refine Ct.mk2 (by decide) (Nat.le_of_ble_eq_true rfl) hZ ?_
  intro p e R s m args below meth c ls Q C hr hlocks hin hQ hl h
  have C0 := C
  obtain ⟨hx, hb, hml, hown, hts, -⟩ := C0
  have hl : lv_has ls 3 [(0, .ref h0)] := hl
  have htp := hS.1.2.2.2
  refine lv_aload_n hx hb dX7_document_0 rfl (lv_at hl 0 rfl) ?_
  refine lv_iconst (v := nI 0) hx hb dX7_document_1 (by decide) ?_
  refine m_pi C h 0 (v := nI 0) (by decide) rfl rfl rfl q1870 rfl rfl dX7_document_2 (fun H locs h => ?_)
  refine lv_aload_n hx hb dX7_document_5 rfl (lv_at hl 0 rfl) ?_
  refine call_V (As := []) (rest := []) (n := 0) C h (c7_taken l D dA B Z hZ h0 ad (sI M 0 (nI 0)) F tp.length hS.1.1) (lw_V q2108 q2110 qs43 q138 q2111) (by decide +kernel) (ci := 5) rfl rfl mw_mem0 (by decide) (by decide) rfl hl rfl (Nat.le_of_ble_eq_true rfl) dX7_document_6 (by omega) (fun _ H locs _ h => ?_)
  have h : Wd D B s (mw dA h0 ad (sI (sI (sI M 0 (nI 0)) 5 (nI tp.length)) 1 (nI 0)) ++ F) H locs := h
  refine lv_astore_n (lv' := [(1, .ref (ad 2)), (0, .ref h0)]) hx hb dX7_document_9 rfl hl (by decide) rfl (fun ls hl => ?_)
  refine lv_aload_n hx hb dX7_document_10 rfl (lv_at hl 1 rfl) ?_
  refine lv_aload_n hx hb dX7_document_11 rfl (lv_at hl 1 rfl) ?_
  refine m_gi C h 5 (by decide) rfl rfl q1875 (v := nI tp.length) rfl dX7_document_12 ?_
  refine m_pi C h 3 (v := nI tp.length) (by decide) rfl rfl rfl q1873 rfl rfl dX7_document_15 (fun H locs h => ?_)
  refine lv_iconst (v := nI 0) hx hb dX7_document_18 (by decide) ?_
  refine lv_istore_n (lv' := [(2, .int (nI 0)), (1, .ref (ad 2)), (0, .ref h0)]) hx hb dX7_document_19 rfl hl (by decide) rfl (fun ls hl => ?_)
  have h : Wd D B s (mw dA h0 ad (sI (sI (sI (sI M 0 (nI 0)) 5 (nI tp.length)) 1 (nI 0)) 3 (nI tp.length)) ++ F) H locs := h
  obtain ⟨M1, hM1⟩ : ∃ z, z = sI (sI (sI (sI M 0 (nI 0)) 5 (nI tp.length)) 1 (nI 0)) 3 (nI tp.length) := ⟨_, rfl⟩
  rw [← hM1] at h
  have hM1I3 : mI M1 3 = nI tp.length := by rw [hM1]; exact rfl
  have h : Wd D B s (mw dA h0 ad (sG M1 4 (appG (mG M1 4) 0 (sl (mG M1 2) 0 0))) ++ F) H locs := by rw [sl_0, appG_nil, sG_id]; exact h
  have loop : ∀ (nn : Nat) (i : Nat), (i ≤ tp.length) → tp.length - i < nn → ∀ (H : Heap) (locs : List Loc), Wd D B s (mw dA h0 ad (sG M1 4 (appG (mG M1 4) 0 (sl (mG M1 2) 0 i))) ++ F) H locs → ∀ (ls : Array Slot), lv_has ls 3 [(2, .int (nI i)), (0, .ref h0), (1, .ref (ad 2))] → W p l e R s m args below meth c H locs (0 + 0) (0 + 0) Q (F0 m 20 ls []) := by
    intro nn
    induction nn with
    | zero => intro i  hi0 hme; exact absurd hme (Nat.not_lt_zero _)
    | succ nn ih =>
      intro i  hi0 hme H locs h ls hl
      refine lv_iload_n hx hb dX7_document_20 rfl (lv_at hl 0 rfl) ?_
      refine lv_aload_n hx hb dX7_document_21 rfl (lv_at hl 1 rfl) ?_
      refine m_gi C h 3 (by decide) rfl rfl q1873 (v := nI tp.length) hM1I3 dX7_document_22 ?_
      refine n_icmp_ge (tgt := 43) hx hb (by omega) (by omega) dX7_document_25 (by decide) (fun c25 => ?_) (fun c25 => ?_)
      · refine lv_aload_n hx hb dX7_document_43 rfl (lv_at hl 1 rfl) ?_
        refine m_gi C h 3 (by decide) rfl rfl q1873 (v := nI tp.length) hM1I3 dX7_document_44 ?_
        subst hQ
        have hie : i = tp.length := by omega
        have hsl : sl (mG M1 2) 0 i = tp := by
          rw [hM1, hie]
          exact (sl_congr (fun j hj => hS.1.2.1 _ (by omega))).trans (sl_gD tp)
        exact ret_i C hr hlocks h (sG M1 4 (appG (mG M1 4) 0 (sl (mG M1 2) 0 i))) (⟨by rw [hsl, hM1]; exact MSt.doc hS, by rw [hM1]; rfl⟩) rfl rfl (by omega) (by omega) dX7_document_47
      · refine lv_aload_n hx hb dX7_document_28 rfl (lv_at hl 1 rfl) ?_
        refine m_gc C h 4 (by decide) rfl rfl q1874 dX7_document_29 ?_
        refine lv_iload_n hx hb dX7_document_32 rfl (lv_at hl 0 rfl) ?_
        refine lv_aload_n hx hb dX7_document_33 rfl (lv_at hl 2 rfl) ?_
        refine lv_iload_n hx hb dX7_document_34 rfl (lv_at hl 0 rfl) ?_
        refine n_iald C h (v := (mG M1 2) i) (mw_memG (k := 2) (by decide)) (show i < 4096 by omega) (by decide) rfl dX7_document_35 ?_
        refine m_iast C h 4 (v := (mG M1 2) i) (by decide) (n := 4096) rfl (by omega) dX7_document_36 (fun H locs h => ?_)
        have h : Wd D B s (mw dA h0 ad (sG M1 4 (appG (mG M1 4) 0 (sl (mG M1 2) 0 (i + 1)))) ++ F) H locs := by
          have e9 := appG_snoc (mG M1 4) 0 (sl (mG M1 2) 0 i) ((mG M1 2) (0 + i)) (k := i) (by rw [sl_len, Nat.zero_add])
          rw [sl_succ, ← e9, ← sG_sG]
          first | exact h | (rw [Nat.zero_add]; exact h)
        refine lv_iinc (v := nI (i + 1)) (lv' := [(2, .int (nI (i + 1))), (0, .ref h0), (1, .ref (ad 2))]) hx hb dX7_document_37 hl (k := 0) rfl (nI_add i 1) (by decide) rfl (fun ls hl => ?_)
        refine lv_goto (tgt := 20) hx hb dX7_document_40 (by decide) ?_
        exact ih (i + 1) (by omega) (by omega) _ _ h _ (lv_sub hl [0, 1, 2] rfl)
  exact loop _ 0 (by omega) (Nat.lt_succ_self _) _ _ h _ (lv_sub hl [0, 2, 1] rfl)
set_option maxHeartbeats 400000 in
set_option maxRecDepth 100000 in
theorem c7_out (l : Launch) (D : va_G) (dA : Nat → ClassId) (B : Nat) (Z : State → Prop) (hZ : Stab B Z) (h0 : Nat) (ad : Nat → Nat) (M : MS) (F : va_W) (tp dc ou : List Nat) (L : List PK) (x : Int32) (hS : MSt dA F ad M tp dc ou L) :
    Ct (S := MS) l D dA B Z yX7_out cX7_out 2 (some .int) 1 0 0 [.ref h0, .int x] (mw dA h0 ad M ++ F) (fun u => MSt dA F ad u tp dc ou L ∧ mI u 0 = nI (outS ou x).1) (fun _ => some (.int (nI (outS ou x).2))) (fun u => mw dA h0 ad u ++ F) := by
  refine Ct.mk2 (by decide) (Nat.le_of_ble_eq_true rfl) hZ ?_
  intro p e R s m args below meth c ls Q C hr hlocks hin hQ hl h
  have C0 := C
  obtain ⟨hx, hb, hml, hown, hts, -⟩ := C0
  have hl : lv_has ls 2 [(0, .ref h0), (1, .int x)] := hl
  have hou := hS.2.2.1.2.2.2
  refine lv_aload_n hx hb dX7_out_0 rfl (lv_at hl 0 rfl) ?_
  refine lv_iload_n hx hb dX7_out_1 rfl (lv_at hl 1 rfl) ?_
  refine lv_if_lt (tgt := 13) hx hb dX7_out_2 (by decide) (fun c2 => ?_) (fun c2 => ?_)
  · have hU := outS_f (ou := ou) (Or.inl c2)
    refine lv_iconst (v := nI 1) hx hb dX7_out_13 (by decide) ?_
    refine lv_goto (tgt := 18) hx hb dX7_out_14 (by decide) ?_
    refine m_pi C h 0 (v := nI 1) (by decide) rfl rfl rfl q1870 rfl rfl dX7_out_18 (fun H locs h => ?_)
    refine lv_aload_n hx hb dX7_out_21 rfl (lv_at hl 0 rfl) ?_
    refine m_gi C h 0 (by decide) rfl rfl q1870 (v := nI 1) rfl dX7_out_22 ?_
    refine n_if_le (tgt := 32) hx hb (by omega) dX7_out_25 (by decide) (fun c25 => by exfalso; omega) (fun c25 => ?_)
    refine lv_iconst (v := nI 0) hx hb dX7_out_28 (by decide) ?_
    refine lv_goto (tgt := 38) hx hb dX7_out_29 (by decide) ?_
    subst hQ
    exact ret_i C hr hlocks h (sI M 0 (nI 1)) (⟨hS, by rw [hU]; rfl⟩) (by rw [hU]) rfl (by omega) (by omega) dX7_out_38
  · refine lv_iload_n hx hb dX7_out_5 rfl (lv_at hl 1 rfl) ?_
    refine lv_aload_n hx hb dX7_out_6 rfl (lv_at hl 0 rfl) ?_
    refine m_gi C h 10 (by decide) rfl rfl q1880 (v := nI ou.length) hS.2.2.1.1 dX7_out_7 ?_
    refine lv_icmp_lt (tgt := 17) hx hb dX7_out_10 (by decide) (fun c10 => ?_) (fun c10 => ?_)
    · obtain ⟨k, hk1, hnk, hkt⟩ := i_lt (by omega) c2 c10
      have hU := outS_k c2 c10 hkt
      have hl : lv_has ls 2 [(0, .ref h0), (1, .int (nI k))] := by rw [hnk] at hl; exact hl
      refine lv_iconst (v := nI 0) hx hb dX7_out_17 (by decide) ?_
      refine m_pi C h 0 (v := nI 0) (by decide) rfl rfl rfl q1870 rfl rfl dX7_out_18 (fun H locs h => ?_)
      refine lv_aload_n hx hb dX7_out_21 rfl (lv_at hl 0 rfl) ?_
      refine m_gi C h 0 (by decide) rfl rfl q1870 (v := nI 0) rfl dX7_out_22 ?_
      refine n_if_le (tgt := 32) hx hb (by omega) dX7_out_25 (by decide) (fun c25 => ?_) (fun c25 => by exfalso; omega)
      refine lv_aload_n hx hb dX7_out_32 rfl (lv_at hl 0 rfl) ?_
      refine m_gc C h 11 (by decide) rfl rfl q1881 dX7_out_33 ?_
      refine lv_iload_n hx hb dX7_out_36 rfl (lv_at hl 1 rfl) ?_
      refine n_iald C h (v := (mG M 11) k) (mw_memG (k := 11) (by decide)) (show k < 60000 by omega) (by decide) rfl dX7_out_37 ?_
      refine n_top (y := nI (gD ou k)) (congrArg nI (hS.2.2.1.2.1 _ hk1)) ?_
      subst hQ
      exact ret_i C hr hlocks h (sI M 0 (nI 0)) (⟨hS, by rw [hU]; rfl⟩) (by rw [hU]) rfl (by omega) (by omega) dX7_out_38
    · have hU := outS_f (ou := ou) (Or.inr c10)
      refine lv_iconst (v := nI 1) hx hb dX7_out_13 (by decide) ?_
      refine lv_goto (tgt := 18) hx hb dX7_out_14 (by decide) ?_
      refine m_pi C h 0 (v := nI 1) (by decide) rfl rfl rfl q1870 rfl rfl dX7_out_18 (fun H locs h => ?_)
      refine lv_aload_n hx hb dX7_out_21 rfl (lv_at hl 0 rfl) ?_
      refine m_gi C h 0 (by decide) rfl rfl q1870 (v := nI 1) rfl dX7_out_22 ?_
      refine n_if_le (tgt := 32) hx hb (by omega) dX7_out_25 (by decide) (fun c25 => by exfalso; omega) (fun c25 => ?_)
      refine lv_iconst (v := nI 0) hx hb dX7_out_28 (by decide) ?_
      refine lv_goto (tgt := 38) hx hb dX7_out_29 (by decide) ?_
      subst hQ
      exact ret_i C hr hlocks h (sI M 0 (nI 1)) (⟨hS, by rw [hU]; rfl⟩) (by rw [hU]) rfl (by omega) (by omega) dX7_out_38
set_option maxHeartbeats 400000 in
set_option maxRecDepth 100000 in
theorem c7_sum (l : Launch) (D : va_G) (dA : Nat → ClassId) (B : Nat) (Z : State → Prop) (hZ : Stab B Z) (h0 : Nat) (ad : Nat → Nat) (M : MS) (F : va_W) (tp dc ou : List Nat) (L : List PK) (hS : MSt dA F ad M tp dc ou L) :
    Ct (S := Unit) l D dA B Z yX7_sum cX7_sum 1 (some .int) 2 0 0 [.ref h0] (mw dA h0 ad M ++ F) (fun _ => MSt dA F ad (sI M 0 (nI 0)) tp dc ou L) (fun _ => some (.int (nI (crcS ou)))) (fun _ => mw dA h0 ad (sI M 0 (nI 0)) ++ F) := by
  refine Ct.mk2 (by decide) (Nat.le_of_ble_eq_true rfl) hZ ?_
  intro p e R s m args below meth c ls Q C hr hlocks hin hQ hl h
  have C0 := C
  obtain ⟨hx, hb, hml, hown, hts, -⟩ := C0
  have hl : lv_has ls 1 [(0, .ref h0)] := hl
  have hou := hS.2.2.1.2.2.2
  have hsl : sl (mG (sI M 0 (nI 0)) 11) 0 ou.length = ou := (sl_congr (fun j hj => hS.2.2.1.2.1 _ (by omega))).trans (sl_gD ou)
  refine lv_aload_n hx hb dX7_sum_0 rfl (lv_at hl 0 rfl) ?_
  refine lv_iconst (v := nI 0) hx hb dX7_sum_1 (by decide) ?_
  refine m_pi C h 0 (v := nI 0) (by decide) rfl rfl rfl q1870 rfl rfl dX7_sum_2 (fun H locs h => ?_)
  refine lv_aload_n hx hb dX7_sum_5 rfl (lv_at hl 0 rfl) ?_
  refine m_gc C h 11 (by decide) rfl rfl q1881 dX7_sum_6 ?_
  refine lv_aload_n hx hb dX7_sum_9 rfl (lv_at hl 0 rfl) ?_
  refine m_gi C h 10 (by decide) rfl rfl q1880 (v := nI ou.length) hS.2.2.1.1 dX7_sum_10 ?_
  refine call_S (As := [.ref (ad 11), .int (nI ou.length)]) (rest := []) (n := 2) C h (c7_sumOf l D dA B Z hZ _ (ad 11) 60000 (mG (sI M 0 (nI 0)) 11) ou.length (mw_memG (k := 11) (by decide)) (by omega) (by decide) (fun j hj => by rw [show mG (sI M 0 (nI 0)) 11 j = gD ou j from hS.2.2.1.2.1 j hj]; exact byt_gD hS.2.2.1.2.2.1 j)) (lw_S q2169 q2170 q138 q2171) (by decide +kernel) (by decide) (by decide) rfl hl rfl (Nat.le_of_ble_eq_true rfl) dX7_sum_13 (by omega) (fun _ H locs _ h => ?_)
  subst hQ
  exact ret_i C hr hlocks h () hS (by rw [hsl]) rfl (by omega) (by omega) dX7_sum_16
set_option maxHeartbeats 400000 in
set_option maxRecDepth 100000 in
theorem c7_thrown (l : Launch) (D : va_G) (dA : Nat → ClassId) (B : Nat) (Z : State → Prop) (hZ : Stab B Z) (h0 : Nat) (ad : Nat → Nat) (M : MS) (F : va_W) (x : Int32) (h1 : mI M 0 = x) :
    Ct (S := Unit) l D dA B Z yX7_thrown cX7_thrown 1 (some .int) 1 0 0 [.ref h0] (mw dA h0 ad M ++ F) (fun _ => True) (fun _ => some (.int x)) (fun _ => mw dA h0 ad M ++ F) := by
  refine Ct.mk2 (by decide) (Nat.le_of_ble_eq_true rfl) hZ ?_
  intro p e R s m args below meth c ls Q C hr hlocks hin hQ hl h
  have C0 := C
  obtain ⟨hx, hb, hml, hown, hts, -⟩ := C0
  have hl : lv_has ls 1 [(0, .ref h0)] := hl
  refine lv_aload_n hx hb dX7_thrown_0 rfl (lv_at hl 0 rfl) ?_
  refine m_gi C h 0 (by decide) rfl rfl q1870 (v := x) h1 dX7_thrown_1 ?_
  subst hQ
  exact ret_i C hr hlocks h () trivial rfl rfl (by omega) (by omega) dX7_thrown_4
