set_option maxRecDepth 100000

def setSec (L : List PK) (i : Nat) (sec : Option (List Nat)) : List PK := match L[i]? with
  | none => L
  | some x => match x.2.2 with
    | none => L.set i (x.1, x.2.1, sec)
    | some _ => L
def toldK (pl : Nat) : Option Nat → Int32
  | none => -1 - nI pl
  | some _ => 0
def comeK (L : List PK) (a b k most : Nat) (own : List Nat) (sec : Option (List Nat)) : Option Nat → Option Nat × List PK
  | some i => (some i, setSec L i sec)
  | none => if cntF L k (b - a) a = most then (none, L) else (some b, insF L b (k, own, sec))
def comeS (L : List PK) (a b k most : Nat) (own : List Nat) (sec : Option (List Nat)) : Option Nat × List PK := comeK L a b k most own sec (findF (prP k (sha1 (keyMsg own))) L (b - a) a)
theorem kSize_le {l : List Nat} (hb : byt l) : kSize l ≤ l.length := by
  have l1 : (kU1 l).2.1 ≤ l.length := (oneS_le (Nat.zero_le _)).1
  have l2 : (kU2 l).2.1 ≤ l.length := (someS_ok hb 4 0 0 _ l1 (by decide)).2.1
  have l3 : (kU3 l).2.1 ≤ l.length := (oneS_le l2).1
  have n4 := numS_ok hb _ l3
  exact (numS_ok hb (kU4 l).2 n4.1).1
theorem setSec_len (L : List PK) (i : Nat) (sec : Option (List Nat)) : (setSec L i sec).length = L.length := by
  unfold setSec
  split
  · rfl
  · split
    · exact List.length_set ..
    · rfl
theorem RingAt.sec {dA : Nat → ClassId} {F F' : va_W} {M M' : MS} {k b c i : Nat} {L : List PK} {x : PK} {sec : Option (List Nat)} {o2 : Option Nat} (h : RingAt dA F M k b c L) (hs : ∀ z ∈ F, z ∈ F') (hx : L[i]? = some x) (h1 : mG M' k = mG M k) (h2 : mA M' b = mA M b) (h3 : mA M' c = upN (mA M c) i o2) (r2 : refIs dA F' o2 sec) : RingAt dA F' M' k b c (L.set i (x.1, x.2.1, sec)) := by
  intro j y hj
  rw [h1, h2, h3]
  rw [List.getElem?_set] at hj
  by_cases c1 : i = j
  · subst c1
    rw [if_pos rfl] at hj
    split at hj
    · cases hj
      obtain ⟨a1, a2, a3⟩ := h i x hx
      exact ⟨a1, a2.up hs, by rw [upN_s]; exact r2⟩
    · cases hj
  · rw [if_neg c1] at hj
    obtain ⟨a1, a2, a3⟩ := h j y hj
    exact ⟨a1, a2.up hs, by rw [upN_n (Ne.symm c1)]; exact a3.up hs⟩
theorem setSec_some {L : List PK} {i : Nat} {x : PK} {sec : Option (List Nat)} {z : List Nat} (hx : L[i]? = some x) (hz : x.2.2 = some z) : setSec L i sec = L := by
  unfold setSec; rw [hx]; simp only [hz]
theorem setSec_none {L : List PK} {i : Nat} {x : PK} {sec : Option (List Nat)} (hx : L[i]? = some x) (hz : x.2.2 = none) : setSec L i sec = L.set i (x.1, x.2.1, sec) := by
  unfold setSec; rw [hx]; simp only [hz]
theorem sA_same (M : MS) (k i : Nat) : sA M k (upN (mA M k) i (mA M k i)) = M := by
  refine MS.ext rfl rfl rfl rfl rfl ?_
  show upN M.2.2.2.2.2 k (upN (mA M k) i (mA M k i)) = M.2.2.2.2.2
  have e : upN (mA M k) i (mA M k i) = mA M k := upN_same _ _ _ rfl
  rw [e]
  exact upN_same _ _ _ rfl
theorem sA_kc {M M' : MS} (h : Kc M M') (g : Nat → Option Nat) : Kc M (sA M' 19 g) := ⟨h.1, h.2.1, h.2.2.1, h.2.2.2.1, fun k a b => (upN_n b).trans (h.2.2.2.2 k a b)⟩

set_option maxHeartbeats 400000 in
set_option maxRecDepth 100000 in
theorem c7_comes (l : Launch) (D : va_G) (dA : Nat → ClassId) (B : Nat) (Z : State → Prop) (hZ : Stab B Z) (h0 : Nat) (ad : Nat → Nat) (M : MS) (F : va_W) (L : List PK) (a b k most ba pl : Nat) (lb : List Nat) (sec : Option (List Nat)) (hzs : ZS dA B Z) (hzR : ∀ U : State, Z U → ∃ t, va_Z "SignetRingModel" "ROUNDS" "[I" (.ref t) (bA B) U U.heap ∧ va_T .int t 64 (fun j => .int (K2 j)) (bA B) U U.heap) (hI : MI M) (hR : NewR dA F ad M L) (hPK : PKs L) (hLl : L.length ≤ 4650) (ha : a ≤ b) (hb9 : b ≤ L.length) (hk : k < 100) (hmo : most < 100) (h44 : mR M 44 = some ba) (hba : (ba, ial dA lb) ∈ F) (hlb : byt lb) (hll : lb.length ≤ 4096) (h42 : mI M 42 = nI pl) (h48 : mI M 48 = nI (kSize lb)) (h52 : refIs dA F (mR M 52) sec) (h33 : mI M 33 = 0) :
    Ct (S := MS × va_W) l D dA B Z yX7_comes cX7_comes 8 (some .int) 8 (2 + cntF L k (b - a) a) (kSize lb + 20 + 20 * cntF L k (b - a) a) [.ref h0, .int (nI a), .int (nI b), .int (nI k), .int (nI most)] (mw dA h0 ad M ++ F) (fun u => MI u.1 ∧ Kc M u.1 ∧ NewR dA (F ++ u.2) ad u.1 (comeS L a b k most (lb.take (kSize lb)) sec).2 ∧ mI u.1 33 = toldK pl (comeS L a b k most (lb.take (kSize lb)) sec).1) (fun _ => some (.int (oI (comeS L a b k most (lb.take (kSize lb)) sec).1))) (fun u => mw dA h0 ad u.1 ++ (F ++ u.2)) := by
  refine Ct.mk2 (by decide) (Nat.le_of_ble_eq_true rfl) hZ ?_
  intro p e R s m args below meth c ls Q C hr hlocks hin hQ hl h
  have C0 := C
  obtain ⟨hx, hb, hml, hown, hts, -⟩ := C0
  have hl : lv_has ls 8 [(0, .ref h0), (1, .int (nI a)), (2, .int (nI b)), (3, .int (nI k)), (4, .int (nI most))] := hl
  have hks := kSize_le hlb
  refine lv_aload_n hx hb dX7_comes_0 rfl (lv_at hl 0 rfl) ?_
  refine m_gr C h 44 (by decide) rfl rfl q1914 (v := some ba) h44 dX7_comes_1 ?_
  refine lv_iconst (v := nI 0) hx hb dX7_comes_4 (by decide) ?_
  refine lv_aload_n hx hb dX7_comes_5 rfl (lv_at hl 0 rfl) ?_
  refine m_gi C h 48 (by decide) rfl rfl q1918 (v := nI (kSize lb)) h48 dX7_comes_6 ?_
  refine call_S (As := [.ref ba, .int (nI 0), .int (nI (kSize lb))]) (rest := []) (n := 3) C h (c7_part l D dA B Z hZ _ ba lb.length (gD lb) 0 (kSize lb) (List.mem_append_right _ hba) (by omega) (by omega)) (lw_S q2208 q2209 q138 q2210) (by decide +kernel) (by decide) (by decide) rfl hl rfl (Nat.le_of_ble_eq_true rfl) dX7_comes_9 (by omega) (fun qo H locs _ h => ?_)
  have how : sl (gD lb) 0 (kSize lb) = lb.take (kSize lb) := by rw [sl_gDc lb (by omega)]; rfl
  rw [how] at h
  obtain ⟨ow, hw9⟩ : ∃ z, z = lb.take (kSize lb) := ⟨_, rfl⟩
  rw [← hw9] at h
  have hol : ow.length = kSize lb := by rw [hw9, List.length_take]; omega
  have hob : byt ow := by rw [hw9]; exact fun z hz => hlb z (List.mem_of_mem_take hz)
  have h : Wd D B s (mw dA h0 ad M ++ (F ++ [(qo, ial dA ow)])) H locs := by rw [← List.append_assoc]; exact h
  have hR0 : NewR dA (F ++ [(qo, ial dA ow)]) ad M L := hR.kp (Kp.rfl' M) (fun x hx => List.mem_append_left _ hx)
  refine lv_astore (lv' := [(5, .ref qo), (0, .ref h0), (1, .int (nI a)), (2, .int (nI b)), (3, .int (nI k)), (4, .int (nI most))]) hx hb dX7_comes_12 hl (by decide) rfl (fun ls hl => ?_)
  refine lv_aload_n hx hb dX7_comes_14 rfl (lv_at hl 1 rfl) ?_
  refine lv_iload_n hx hb dX7_comes_15 rfl (lv_at hl 2 rfl) ?_
  refine lv_iload_n hx hb dX7_comes_16 rfl (lv_at hl 3 rfl) ?_
  refine lv_iload_n hx hb dX7_comes_17 rfl (lv_at hl 4 rfl) ?_
  refine lv_aload_n hx hb dX7_comes_18 rfl (lv_at hl 1 rfl) ?_
  refine lv_aload hx hb dX7_comes_19 (lv_at hl 0 rfl) ?_
  refine call_V (As := [.ref qo]) (rest := [.int (nI k), .int (nI b), .int (nI a), .ref h0]) (n := 1) C h (c7_printOf l D dA B Z hZ h0 ad M (F ++ [(qo, ial dA ow)]) qo ow hzR hI.1 (List.mem_append_right _ List.mem_cons_self) hob (by omega)) (lw_V q2240 q2242 qs65 q138 q2243) (by decide +kernel) (ci := 5) rfl rfl mw_mem0 (by decide) (by decide) rfl hl rfl (Nat.le_of_ble_eq_true rfl) dX7_comes_21 (by omega) (fun up H locs hup h => ?_)
  obtain ⟨qp, uh⟩ := up
  obtain ⟨hp1, hp2⟩ := hup
  have hI2 : MI (hM M uh) := hM_kp2 M uh hI hp1
  have hK2 : Kp M (hM M uh) := hM_kp M uh
  obtain ⟨M2, hM2⟩ : ∃ z, z = hM M uh := ⟨_, rfl⟩
  have h : Wd D B s (mw dA h0 ad (hM M uh) ++ (F ++ [(qo, ial dA ow)] ++ [(qp, ial dA (sha1 (keyMsg ow)))])) H locs := h
  rw [← hM2] at h hI2 hK2
  have h : Wd D B s (mw dA h0 ad M2 ++ (F ++ ([(qo, ial dA ow)] ++ [(qp, ial dA (sha1 (keyMsg ow)))]))) H locs := by rw [← List.append_assoc F]; exact h
  have hR2 : NewR dA (F ++ ([(qo, ial dA ow)] ++ [(qp, ial dA (sha1 (keyMsg ow)))])) ad M2 L := hR.kp hK2 (fun x hx => List.mem_append_left _ hx)
  show W p l e R s m args below meth c H locs (0 + 1 + 1) (0 + (kSize lb) + 20) Q (F0 m 24 ls [.ref qp, .int (nI k), .int (nI b), .int (nI a), .ref h0])
  refine call_V (As := [.int (nI a), .int (nI b), .int (nI k), .ref qp]) (rest := []) (n := 4) C h (c7_findPrint l D dA B Z hZ h0 ad M2 (F ++ ([(qo, ial dA ow)] ++ [(qp, ial dA (sha1 (keyMsg ow)))])) L a b k qp (sha1 (keyMsg ow)) hzR hI2 hR2 hPK hLl ha hb9 hk (List.mem_append_right _ (List.mem_append_right _ List.mem_cons_self)) (sha1_byt _) (by rw [sha1_len]; decide)) (lw_V q2306 q2308 qs75 q138 q2309) (by decide +kernel) (ci := 5) rfl rfl mw_mem0 (by decide) (by decide) rfl hl rfl (Nat.le_of_ble_eq_true rfl) dX7_comes_24 (by omega) (fun uf H locs huf h => ?_)
  obtain ⟨M3, E3⟩ := uf
  obtain ⟨hI3, hK3, hm52⟩ := huf
  have hI3 : MI M3 := hI3
  have hK3 : Kp M2 M3 := hK3
  have h : Wd D B s (mw dA h0 ad M3 ++ (F ++ (([(qo, ial dA ow)] ++ [(qp, ial dA (sha1 (keyMsg ow)))]) ++ E3))) H locs := by rw [← List.append_assoc F]; exact h
  obtain ⟨E4, hE4⟩ : ∃ z, z = ([(qo, ial dA ow)] ++ [(qp, ial dA (sha1 (keyMsg ow)))]) ++ E3 := ⟨_, rfl⟩
  have hqo : (qo, ial dA ow) ∈ F ++ E4 := by rw [hE4]; exact List.mem_append_right _ (List.mem_append_left _ (List.mem_append_left _ List.mem_cons_self))
  rw [← hE4] at h
  have hK4 : Kp M M3 := hK2.trans hK3
  have hR3 : NewR dA (F ++ E4) ad M3 L := hR.kp hK4 (fun x hx => List.mem_append_left _ hx)
  obtain ⟨fo, hfo⟩ : ∃ z, z = findF (prP k (sha1 (keyMsg ow))) L (b - a) a := ⟨_, rfl⟩
  rw [← hfo]
  have hfl : ∀ i, fo = some i → i < 100000 := fun i hi => by have := (findF_lt (hfo.symm.trans hi)).2.1; omega
  have hCS : (comeS L a b k most (lb.take (kSize lb)) sec) = comeK L a b k most ow sec fo := by unfold comeS; rw [← hw9, ← hfo]
  have e52 : mR M3 52 = mR M 52 := by rw [show mR M3 = mR M2 from hm52, hM2]; rfl
  show W p l e R s m args below meth c H locs (0 + 1 + 1 + (cntF L k (b - a) a)) (0 + (kSize lb) + 20 + (20 * cntF L k (b - a) a)) Q (F0 m 27 ls [.int (oI fo)])
  refine lv_istore (lv' := [(6, .int (oI fo)), (5, .ref qo), (0, .ref h0), (1, .int (nI a)), (2, .int (nI b)), (3, .int (nI k)), (4, .int (nI most))]) hx hb dX7_comes_27 hl (by decide) rfl (fun ls hl => ?_)
  refine lv_iload hx hb dX7_comes_29 (lv_at hl 0 rfl) ?_
  refine lv_iconst (v := -1) hx hb dX7_comes_31 (by decide) ?_
  refine lv_icmp_eq (tgt := 69) hx hb dX7_comes_32 (by decide) (fun c32 => ?_) (fun c32 => ?_)
  · have hn9 : fo = none := (oI_ne hfl).mp c32
    have hcl9 := cntF_le L k (b - a) a
    refine lv_aload_n hx hb dX7_comes_69 rfl (lv_at hl 2 rfl) ?_
    refine lv_iload_n hx hb dX7_comes_70 rfl (lv_at hl 3 rfl) ?_
    refine lv_iload_n hx hb dX7_comes_71 rfl (lv_at hl 4 rfl) ?_
    refine lv_iload_n hx hb dX7_comes_72 rfl (lv_at hl 5 rfl) ?_
    refine call_V (As := [.int (nI a), .int (nI b), .int (nI k)]) (rest := []) (n := 3) C h (c7_countOf l D dA B Z hZ h0 ad M3 (F ++ E4) L a b k hR3 hPK hLl ha hb9 hk) (lw_V q2313 q2315 qs76 q138 q2316) (by decide +kernel) (ci := 5) rfl rfl mw_mem0 (by decide) (by decide) rfl hl rfl (Nat.le_of_ble_eq_true rfl) dX7_comes_73 (by omega) (fun _ H locs _ h => ?_)
    refine lv_iload hx hb dX7_comes_76 (lv_at hl 6 rfl) ?_
    refine n_icmp_ne (tgt := 89) hx hb (by omega) (by omega) dX7_comes_78 (by decide) (fun c78 => ?_) (fun c78 => ?_)
    · refine lv_aload_n hx hb dX7_comes_89 rfl (lv_at hl 2 rfl) ?_
      refine lv_iload_n hx hb dX7_comes_90 rfl (lv_at hl 4 rfl) ?_
      refine lv_iload_n hx hb dX7_comes_91 rfl (lv_at hl 5 rfl) ?_
      refine lv_aload hx hb dX7_comes_92 (lv_at hl 1 rfl) ?_
      refine lv_aload_n hx hb dX7_comes_94 rfl (lv_at hl 2 rfl) ?_
      refine m_gr C h 52 (by decide) rfl rfl q1922 (v := mR M 52) e52 dX7_comes_95 ?_
      refine call_V (As := [.int (nI b), .int (nI k), .ref qo, va_rf (mR M 52)]) (rest := []) (n := 4) C h (c7_insert l D dA B Z hZ h0 ad M3 (F ++ E4) L b qo (mR M 52) (k, ow, sec) hzs hR3 hPK hLl hb9 hk hqo (h52.up (fun z hz => List.mem_append_left _ hz))) (lw_V q2317 q2319 qs77 q138 q2320) (by decide +kernel) (ci := 5) rfl rfl mw_mem0 (by decide) (by decide) rfl hl rfl (Nat.le_of_ble_eq_true rfl) dX7_comes_98 (by omega) (fun _ H locs _ h => ?_)
      have h : Wd D B s (mw dA h0 ad (vM M3 (nI (L.length + 1)) (insA (mG M3 17) b L.length k) (insA (mA M3 18) b L.length (some qo)) (insA (mA M3 19) b L.length (mR M 52))) ++ (F ++ E4)) H locs := h
      refine lv_iload_n hx hb dX7_comes_101 rfl (lv_at hl 4 rfl) ?_
      subst hQ
      have hCS : (comeS L a b k most (lb.take (kSize lb)) sec) = (some b, insF L b (k, ow, sec)) := by rw [hCS, hn9]; exact if_neg c78
      exact ret_i C hr hlocks h ((vM M3 (nI (L.length + 1)) (insA (mG M3 17) b L.length k) (insA (mA M3 18) b L.length (some qo)) (insA (mA M3 19) b L.length (mR M 52))), E4) (by rw [hCS]; exact ⟨hI3, hK4.kc.trans (vM_kc _ _ _ _ _), vM_new (x := (k, ow, sec)) hR3 hb9 hqo (h52.up (fun z hz => List.mem_append_left _ hz)), (hK4.1 33 (by decide)).trans h33⟩) (by rw [hCS]; rfl) rfl (by omega) (by omega) dX7_comes_102
    · refine lv_aload_n hx hb dX7_comes_81 rfl (lv_at hl 2 rfl) ?_
      refine call_V (As := []) (rest := []) (n := 0) C h (c7_failPacket l D dA B Z hZ h0 ad M3 (F ++ E4) pl ((hK4.1 42 (by decide)).trans h42)) (lw_V q2193 q2195 qs57 q138 q2196) (by decide +kernel) (ci := 5) rfl rfl mw_mem0 (by decide) (by decide) rfl hl rfl (Nat.le_of_ble_eq_true rfl) dX7_comes_82 (by omega) (fun _ H locs _ h => ?_)
      have e33 : mI M3 33 = 0 := (hK4.1 33 (by decide)).trans h33
      rw [e33, failT_0] at h
      refine lv_istore (lv' := [(7, .int (bZ false)), (6, .int (oI fo)), (5, .ref qo), (0, .ref h0), (1, .int (nI a)), (2, .int (nI b)), (3, .int (nI k)), (4, .int (nI most))]) hx hb dX7_comes_85 hl (by decide) rfl (fun ls hl => ?_)
      refine lv_iconst (v := -1) hx hb dX7_comes_87 (by decide) ?_
      subst hQ
      have hCS : (comeS L a b k most (lb.take (kSize lb)) sec) = (none, L) := by rw [hCS, hn9]; exact if_pos c78
      exact ret_i C hr hlocks h (sI M3 33 (-1 - nI pl), E4) (by rw [hCS]; exact ⟨hI3, hK4.kc.i33 _, hR3, rfl⟩) (by rw [hCS]; rfl) rfl (by omega) (by omega) dX7_comes_88
  · obtain ⟨i9, hi9⟩ : ∃ z, fo = some z := by
      cases fo with
      | none => exact absurd rfl c32
      | some z => exact ⟨z, rfl⟩
    obtain ⟨y1, y2, x9, hx9, -⟩ := findF_lt (hfo.symm.trans hi9)
    obtain ⟨hx9k, hx9b, hx9s⟩ := hR3.1 _ _ hx9
    rw [hi9] at hl hCS
    have hl : lv_has ls 8 [(6, .int (nI i9)), (5, .ref qo), (0, .ref h0), (1, .int (nI a)), (2, .int (nI b)), (3, .int (nI k)), (4, .int (nI most))] := hl
    have hCS : (comeS L a b k most (lb.take (kSize lb)) sec) = (some i9, setSec L i9 sec) := hCS
    refine lv_aload_n hx hb dX7_comes_35 rfl (lv_at hl 2 rfl) ?_
    refine m_gr C h 19 (by decide) rfl rfl q1889 (v := some (ad 19)) hR3.2.2.2.2 dX7_comes_36 ?_
    refine lv_iload hx hb dX7_comes_39 (lv_at hl 0 rfl) ?_
    refine lv_aload_n hx hb dX7_comes_41 rfl (lv_at hl 2 rfl) ?_
    refine m_gr C h 19 (by decide) rfl rfl q1889 (v := some (ad 19)) hR3.2.2.2.2 dX7_comes_42 ?_
    refine lv_iload hx hb dX7_comes_45 (lv_at hl 0 rfl) ?_
    refine n_aald C h (v := (mA M3 19) i9) (mw_memA (k := 19) (by decide)) (show i9 < 4700 by omega) (by decide) rfl dX7_comes_47 ?_
    refine q_ifnonnull (tgt := 58) hx hb dX7_comes_48 (by decide) (fun a48 c48 => ?_) (fun c48 => ?_)
    · refine lv_aload_n hx hb dX7_comes_58 rfl (lv_at hl 2 rfl) ?_
      refine m_gr C h 19 (by decide) rfl rfl q1889 (v := some (ad 19)) hR3.2.2.2.2 dX7_comes_59 ?_
      refine lv_iload hx hb dX7_comes_62 (lv_at hl 0 rfl) ?_
      refine n_aald C h (v := (mA M3 19) i9) (mw_memA (k := 19) (by decide)) (show i9 < 4700 by omega) (by decide) rfl dX7_comes_64 ?_
      refine m_aast C h 19 (o := (mA M3 19) i9) hzs (by decide) (n := 4700) rfl (by omega) (hx9s.mem (fun z hz => List.mem_append_right _ hz)) dX7_comes_65 (fun H locs h => ?_)
      refine lv_iload hx hb dX7_comes_66 (lv_at hl 0 rfl) ?_
      subst hQ
      have hsz : setSec L i9 sec = L := by
        cases hz : x9.2.2 with
        | none => rw [hz] at hx9s; rw [show mA M3 19 i9 = none from hx9s] at c48; cases c48
        | some z => exact setSec_some hx9 hz
      rw [hsz] at hCS
      have h : Wd D B s (mw dA h0 ad M3 ++ (F ++ E4)) H locs := by rw [← sA_same M3 19 i9]; exact h
      exact ret_i C hr hlocks h (M3, E4) (by rw [hCS]; exact ⟨hI3, hK4.kc, hR3, (hK4.1 33 (by decide)).trans h33⟩) (by rw [hCS]; rfl) rfl (by omega) (by omega) dX7_comes_68
    · refine lv_aload_n hx hb dX7_comes_51 rfl (lv_at hl 2 rfl) ?_
      refine m_gr C h 52 (by decide) rfl rfl q1922 (v := mR M 52) e52 dX7_comes_52 ?_
      refine lv_goto (tgt := 65) hx hb dX7_comes_55 (by decide) ?_
      refine m_aast C h 19 (o := mR M 52) hzs (by decide) (n := 4700) rfl (by omega) (h52.mem (fun z hz => List.mem_append_right _ (List.mem_append_left _ hz))) dX7_comes_65 (fun H locs h => ?_)
      refine lv_iload hx hb dX7_comes_66 (lv_at hl 0 rfl) ?_
      subst hQ
      have hsz : setSec L i9 sec = L.set i9 (x9.1, x9.2.1, sec) := by
        cases hz : x9.2.2 with
        | none => exact setSec_none hx9 hz
        | some z => rw [hz] at hx9s; obtain ⟨a9, e9, -⟩ := hx9s; rw [c48] at e9; cases e9
      rw [hsz] at hCS
      have hR5 : NewR dA (F ++ E4) ad (sA M3 19 (upN (mA M3 19) i9 (mR M 52))) (L.set i9 (x9.1, x9.2.1, sec)) := ⟨hR3.1.sec (fun z hz => hz) hx9 rfl rfl rfl (h52.up (fun z hz => List.mem_append_left _ hz)), by rw [List.length_set]; exact hR3.2.1, hR3.2.2⟩
      exact ret_i C hr hlocks h (sA M3 19 (upN (mA M3 19) i9 (mR M 52)), E4) (by rw [hCS]; exact ⟨hI3, sA_kc hK4.kc _, hR5, (hK4.1 33 (by decide)).trans h33⟩) (by rw [hCS]; rfl) rfl (by omega) (by omega) dX7_comes_68
