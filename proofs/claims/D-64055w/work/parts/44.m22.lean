set_option maxRecDepth 100000

def prP (k : Nat) (pr : List Nat) (x : PK) : Bool := isK k x && decide (sha1 (keyMsg x.2.1) = pr)
theorem hM_kp2 (M : MS) (u : HU) (hI : MI M) (h : ∀ j, u.1 j < 256) : MI (hM M u) := ⟨h, hI.2⟩
theorem cntF_s0 (L : List PK) (k : Nat) : ∀ n a, cntF L k (n + 1) a = cntF L k n (a + 1) + (if (L[a]?.map (·.1)) = some k then 1 else 0) := by
  intro n
  induction n with
  | zero => intro a; rw [cntF, cntF, cntF, Nat.add_zero]
  | succ n ih => intro a; rw [cntF, ih a, cntF, show a + 1 + n = a + (n + 1) by omega]; omega


theorem nI_succ9 (j : Nat) : nI (j + 1) - 1 = nI j := nI_pred j
theorem pred_lt {i : Nat} (h : i < 1000000) : nI i - 1 < nI i := by
  rw [Int32.lt_iff_toInt_lt, Int32.toInt_sub, nI_toInt (by omega), show (1 : Int32).toInt = 1 from rfl, Int.bmod_eq_of_le (by omega) (by omega)]
  omega
theorem n_icmp0 {p : Program} {l : Launch} {e : Env} {R : Room} {s : State} {m : MethodId} {args : Array Value} {below : List Frame} {meth : Method} {c : Code} {H : Heap} {locs : List Loc} {cells slots : Nat} {Q : State → Prop} {pc : Nat} {ls : Array Slot} {rest : List Value} {x y z : Int32} (ee : x = y) (k : W p l e R s m args below meth c H locs cells slots Q (F0 m pc ls (.int z :: .int y :: rest))) : W p l e R s m args below meth c H locs cells slots Q (F0 m pc ls (.int z :: .int x :: rest)) := by
  subst ee; exact k

set_option maxHeartbeats 400000 in
set_option maxRecDepth 100000 in
theorem c7_findPrint (l : Launch) (D : va_G) (dA : Nat → ClassId) (B : Nat) (Z : State → Prop) (hZ : Stab B Z) (h0 : Nat) (ad : Nat → Nat) (M : MS) (F : va_W) (L : List PK) (a b k fa : Nat) (pr : List Nat) (hzR : ∀ U : State, Z U → ∃ t, va_Z "SignetRingModel" "ROUNDS" "[I" (.ref t) (bA B) U U.heap ∧ va_T .int t 64 (fun j => .int (K2 j)) (bA B) U U.heap) (hI : MI M) (hR : NewR dA F ad M L) (hPK : PKs L) (hLl : L.length ≤ 4650) (ha : a ≤ b) (hb9 : b ≤ L.length) (hk : k < 100) (hfa : (fa, ial dA pr) ∈ F) (hlb : byt pr) (hll : pr.length ≤ 100) :
    Ct (S := MS × va_W) l D dA B Z yX7_findPrint cX7_findPrint 7 (some .int) 7 (cntF L k (b - a) a) (20 * cntF L k (b - a) a) [.ref h0, .int (nI a), .int (nI b), .int (nI k), .ref fa] (mw dA h0 ad M ++ F) (fun u => MI u.1 ∧ Kp M u.1 ∧ mR u.1 = mR M) (fun _ => some (.int (oI (findF (prP k pr) L (b - a) a)))) (fun u => mw dA h0 ad u.1 ++ (F ++ u.2)) := by
  refine Ct.mk2 (by decide) (Nat.le_of_ble_eq_true rfl) hZ ?_
  intro p e R s m args below meth c ls Q C hr hlocks hin hQ hl h
  have C0 := C
  obtain ⟨hx, hb, hml, hown, hts, -⟩ := C0
  have hl : lv_has ls 7 [(0, .ref h0), (1, .int (nI a)), (2, .int (nI b)), (3, .int (nI k)), (4, .ref fa)] := hl
  refine lv_iconst (v := -1) hx hb dX7_findPrint_0 (by decide) ?_
  refine lv_istore (lv' := [(5, .int (-1)), (0, .ref h0), (1, .int (nI a)), (2, .int (nI b)), (3, .int (nI k)), (4, .ref fa)]) hx hb dX7_findPrint_1 hl (by decide) rfl (fun ls hl => ?_)
  refine lv_iload_n hx hb dX7_findPrint_3 rfl (lv_at hl 3 rfl) ?_
  refine lv_iconst (v := nI 1) hx hb dX7_findPrint_4 (by decide) ?_
  refine lv_isub hx hb dX7_findPrint_5 ?_
  refine n_top (y := nI b - 1) rfl ?_
  refine lv_istore (lv' := [(6, .int (nI b - 1)), (5, .int (-1)), (0, .ref h0), (1, .int (nI a)), (2, .int (nI b)), (3, .int (nI k)), (4, .ref fa)]) hx hb dX7_findPrint_6 hl (by decide) rfl (fun ls hl => ?_)
  obtain ⟨M1, hM1⟩ : ∃ z, z = M := ⟨_, rfl⟩
  have h : Wd D B s (mw dA h0 ad M ++ (F ++ [])) s.heap [] := by rw [List.append_nil]; exact h
  have loop : ∀ (nn : Nat) (i cc cs : Nat) (M1 : MS) (E : va_W), (a ≤ i) → (i ≤ b) → (MI M1) → (Kp M M1) → (mR M1 = mR M) → (cc + cntF L k (i - a) a ≤ cntF L k (b - a) a) → (cs + 20 * cntF L k (i - a) a ≤ 20 * cntF L k (b - a) a) → i < nn → ∀ (H : Heap) (locs : List Loc), Wd D B s (mw dA h0 ad M1 ++ (F ++ E)) H locs → ∀ (ls : Array Slot), lv_has ls 7 [(0, .ref h0), (1, .int (nI a)), (3, .int (nI k)), (4, .ref fa), (5, .int (oI (findF (prP k pr) L (b - i) i))), (6, .int (nI i - 1))] → W p l e R s m args below meth c H locs cc cs Q (F0 m 8 ls []) := by
    intro nn
    induction nn with
    | zero => intro i cc cs  M1  E  hi1 hi2 hI1 hK1 hmR hcc hcs hme; exact absurd hme (Nat.not_lt_zero _)
    | succ nn ih =>
      intro i cc cs  M1  E  hi1 hi2 hI1 hK1 hmR hcc hcs hme H locs h ls hl
      have hR1 : NewR dA (F ++ E) ad M1 L := hR.kp hK1 (fun x hx => List.mem_append_left _ hx)
      refine lv_iload hx hb dX7_findPrint_8 (lv_at hl 5 rfl) ?_
      refine lv_iload_n hx hb dX7_findPrint_10 rfl (lv_at hl 1 rfl) ?_
      by_cases hai : i = a
      · subst hai
        refine lv_icmp_lt (tgt := 59) hx hb dX7_findPrint_11 (by decide) (fun _ => ?_) (fun q => absurd (pred_lt (by omega)) q)
        refine lv_iload hx hb dX7_findPrint_59 (lv_at hl 4 rfl) ?_
        subst hQ
        exact ret_i C hr hlocks h (M1, E) (⟨hI1, hK1, hmR⟩) rfl rfl (by omega) (by omega) dX7_findPrint_61
      · obtain ⟨j, rfl⟩ : ∃ z, i = z + 1 := ⟨i - 1, by omega⟩
        refine n_icmp0 (y := nI j) (nI_succ9 j) ?_
        refine n_icmp_lt (tgt := 59) hx hb (by omega) (by omega) dX7_findPrint_11 (by decide) (fun q => by exfalso; omega) (fun c11 => ?_)
        have hl : lv_has ls 7 [(0, .ref h0), (1, .int (nI a)), (3, .int (nI k)), (4, .ref fa), (5, .int (oI (findF (prP k pr) L (b - (j + 1)) (j + 1)))), (6, .int (nI j))] := by rw [← nI_succ9 j]; exact hl
        obtain ⟨x9, hx9⟩ : ∃ z, L[j]? = some z := ⟨_, List.getElem?_eq_getElem (by omega)⟩
        obtain ⟨hx9k, hx9b, hx9s⟩ := hR1.1 _ _ hx9
        have hx9o := hPK.at hx9
        have hx91 := hx9o.1
        have hst9 : findF (prP k pr) L (b - j) j = if prP k pr x9 = true then some j else findF (prP k pr) L (b - (j + 1)) (j + 1) := by
          rw [show b - j = (b - (j + 1)) + 1 by omega, findF, hx9, Option.map_some]
          by_cases z : prP k pr x9 = true
          · rw [if_pos z, if_pos (congrArg some z)]
          · rw [if_neg z, if_neg (fun y => z (Option.some.inj y))]
        have hcn9 : cntF L k (j + 1 - a) a = cntF L k (j - a) a + (if x9.1 = k then 1 else 0) := by
          rw [show j + 1 - a = (j - a) + 1 by omega, cntF, show a + (j - a) = j by omega, hx9, Option.map_some]
          by_cases z : x9.1 = k
          · rw [if_pos z, if_pos (congrArg some z)]
          · rw [if_neg z, if_neg (fun y => z (Option.some.inj y))]
        refine lv_aload_n hx hb dX7_findPrint_14 rfl (lv_at hl 0 rfl) ?_
        refine m_gr C h 17 (by decide) rfl rfl q1887 (v := some (ad 17)) hR1.2.2.1 dX7_findPrint_15 ?_
        refine lv_iload hx hb dX7_findPrint_18 (lv_at hl 5 rfl) ?_
        refine n_iald C h (v := (mG M1 17) j) (mw_memG (k := 17) (by decide)) (show j < 4700 by omega) (by decide) rfl dX7_findPrint_20 ?_
        refine n_top (y := nI x9.1) (congrArg nI hx9k) ?_
        refine lv_iload_n hx hb dX7_findPrint_21 rfl (lv_at hl 2 rfl) ?_
        refine n_icmp_ne (tgt := 49) hx hb (by omega) (by omega) dX7_findPrint_22 (by decide) (fun c22 => ?_) (fun c22 => ?_)
        · have hnk : ¬ x9.1 = k := c22
          rw [if_neg hnk] at hcn9
          refine lv_iload hx hb dX7_findPrint_49 (lv_at hl 4 rfl) ?_
          refine n_top (y := oI (findF (prP k pr) L (b - j) j)) (by first | (rw [hst9, if_neg (by show ¬ (isK k x9 && decide (sha1 (keyMsg x9.2.1) = pr)) = true; rw [show isK k x9 = false from decide_eq_false hnk]; simp)]; done) | (rw [hst9, if_neg (by show ¬ (isK k x9 && decide (sha1 (keyMsg x9.2.1) = pr)) = true; rw [c41, Bool.and_false]; exact Bool.false_ne_true)]; done)) ?_
          refine lv_istore (lv' := [(5, .int (oI (findF (prP k pr) L (b - j) j))), (0, .ref h0), (1, .int (nI a)), (3, .int (nI k)), (4, .ref fa), (6, .int (nI j))]) hx hb dX7_findPrint_51 hl (by decide) rfl (fun ls hl => ?_)
          refine lv_iinc (v := nI j - 1) (lv' := [(6, .int (nI j - 1)), (5, .int (oI (findF (prP k pr) L (b - j) j))), (0, .ref h0), (1, .int (nI a)), (3, .int (nI k)), (4, .ref fa)]) hx hb dX7_findPrint_53 hl (k := 5) rfl (by rw [Int32.sub_eq_add_neg]; rfl) (by decide) rfl (fun ls hl => ?_)
          refine lv_goto (tgt := 8) hx hb dX7_findPrint_56 (by decide) ?_
          exact ih j _ _ M1 E (by omega) (by omega) hI1 hK1 hmR (by omega) (by omega) (by omega) _ _ h _ (lv_sub hl [2, 3, 4, 5, 1, 0] rfl)
        · have hyk : x9.1 = k := c22
          rw [if_pos hyk] at hcn9
          obtain ⟨qb, hqb, hqbF⟩ := hx9b
          refine lv_aload_n hx hb dX7_findPrint_25 rfl (lv_at hl 0 rfl) ?_
          refine lv_aload_n hx hb dX7_findPrint_26 rfl (lv_at hl 0 rfl) ?_
          refine m_gr C h 18 (by decide) rfl rfl q1888 (v := some (ad 18)) hR1.2.2.2.1 dX7_findPrint_27 ?_
          refine lv_iload hx hb dX7_findPrint_30 (lv_at hl 5 rfl) ?_
          refine n_aald C h (v := (mA M1 18) j) (mw_memA (k := 18) (by decide)) (show j < 4700 by omega) (by decide) rfl dX7_findPrint_32 ?_
          refine n_topv (y := .ref qb) (by rw [hqb]; rfl) ?_
          refine call_V (As := [.ref qb]) (rest := []) (n := 1) C h (c7_printOf l D dA B Z hZ h0 ad M1 (F ++ E) qb x9.2.1 hzR hI1.1 hqbF hx9o.2.1 (by have := hx9o.2.2.1; omega)) (lw_V q2240 q2242 qs65 q138 q2243) (by decide +kernel) (ci := 5) rfl rfl mw_mem0 (by decide) (by decide) rfl hl rfl (Nat.le_of_ble_eq_true rfl) dX7_findPrint_33 (by omega) (fun up H locs hup h => ?_)
          obtain ⟨qp, uh⟩ := up
          obtain ⟨hp1, hp2⟩ := hup
          have hI2 : MI (hM M1 uh) := hM_kp2 M1 uh hI1 hp1
          have hK2 : Kp M (hM M1 uh) := hK1.trans (hM_kp M1 uh)
          have h : Wd D B s (mw dA h0 ad (hM M1 uh) ++ (F ++ (E ++ [(qp, ial dA (sha1 (keyMsg x9.2.1)))]))) H locs := by rw [← List.append_assoc F E]; exact h
          show W p l e R s m args below meth c H locs (cc + 1) (cs + 20) Q (F0 m 36 ls [.ref qp])
          refine lv_aload hx hb dX7_findPrint_36 (lv_at hl 3 rfl) ?_
          refine call_S (As := [.ref qp, .ref fa]) (rest := []) (n := 2) C h (c7_areSame l D dA B Z hZ _ qp fa (sha1 (keyMsg x9.2.1)).length pr.length (gD (sha1 (keyMsg x9.2.1))) (gD pr) (List.mem_append_right _ (List.mem_append_right _ (List.mem_append_right _ List.mem_cons_self))) (List.mem_append_right _ (List.mem_append_left _ hfa)) (by rw [sha1_len]; decide) (by omega) (fun j _ => Nat.lt_trans (byt_gD (sha1_byt _) j) (by decide)) (fun j _ => Nat.lt_trans (byt_gD hlb j) (by decide))) (lw_S q2310 q2311 q138 q2312) (by decide +kernel) (by decide) (by decide) rfl hl rfl (Nat.le_of_ble_eq_true rfl) dX7_findPrint_38 (by omega) (fun _ H locs _ h => ?_)
          rw [sl_gD, sl_gD]
          refine z_if_eq (tgt := 49) hx hb dX7_findPrint_41 (by decide) (fun c41 => ?_) (fun c41 => ?_)
          · refine lv_iload hx hb dX7_findPrint_49 (lv_at hl 4 rfl) ?_
            refine n_top (y := oI (findF (prP k pr) L (b - j) j)) (by first | (rw [hst9, if_neg (by show ¬ (isK k x9 && decide (sha1 (keyMsg x9.2.1) = pr)) = true; rw [show isK k x9 = false from decide_eq_false hnk]; simp)]; done) | (rw [hst9, if_neg (by show ¬ (isK k x9 && decide (sha1 (keyMsg x9.2.1) = pr)) = true; rw [c41, Bool.and_false]; exact Bool.false_ne_true)]; done)) ?_
            refine lv_istore (lv' := [(5, .int (oI (findF (prP k pr) L (b - j) j))), (0, .ref h0), (1, .int (nI a)), (3, .int (nI k)), (4, .ref fa), (6, .int (nI j))]) hx hb dX7_findPrint_51 hl (by decide) rfl (fun ls hl => ?_)
            refine lv_iinc (v := nI j - 1) (lv' := [(6, .int (nI j - 1)), (5, .int (oI (findF (prP k pr) L (b - j) j))), (0, .ref h0), (1, .int (nI a)), (3, .int (nI k)), (4, .ref fa)]) hx hb dX7_findPrint_53 hl (k := 5) rfl (by rw [Int32.sub_eq_add_neg]; rfl) (by decide) rfl (fun ls hl => ?_)
            refine lv_goto (tgt := 8) hx hb dX7_findPrint_56 (by decide) ?_
            exact ih j _ _ (hM M1 uh) (E ++ [(qp, ial dA (sha1 (keyMsg x9.2.1)))]) (by omega) (by omega) hI2 hK2 hmR (by omega) (by omega) (by omega) _ _ h _ (lv_sub hl [2, 3, 4, 5, 1, 0] rfl)
          · refine lv_iload hx hb dX7_findPrint_44 (lv_at hl 5 rfl) ?_
            refine lv_goto (tgt := 51) hx hb dX7_findPrint_46 (by decide) ?_
            refine n_top (y := oI (findF (prP k pr) L (b - j) j)) (by rw [hst9, if_pos (by show (isK k x9 && decide (sha1 (keyMsg x9.2.1) = pr)) = true; rw [show isK k x9 = true from decide_eq_true hyk, c41]; rfl)]; rfl) ?_
            refine lv_istore (lv' := [(5, .int (oI (findF (prP k pr) L (b - j) j))), (0, .ref h0), (1, .int (nI a)), (3, .int (nI k)), (4, .ref fa), (6, .int (nI j))]) hx hb dX7_findPrint_51 hl (by decide) rfl (fun ls hl => ?_)
            refine lv_iinc (v := nI j - 1) (lv' := [(6, .int (nI j - 1)), (5, .int (oI (findF (prP k pr) L (b - j) j))), (0, .ref h0), (1, .int (nI a)), (3, .int (nI k)), (4, .ref fa)]) hx hb dX7_findPrint_53 hl (k := 5) rfl (by rw [Int32.sub_eq_add_neg]; rfl) (by decide) rfl (fun ls hl => ?_)
            refine lv_goto (tgt := 8) hx hb dX7_findPrint_56 (by decide) ?_
            exact ih j _ _ (hM M1 uh) (E ++ [(qp, ial dA (sha1 (keyMsg x9.2.1)))]) (by omega) (by omega) hI2 hK2 hmR (by omega) (by omega) (by omega) _ _ h _ (lv_sub hl [2, 3, 4, 5, 1, 0] rfl)
  have hl : lv_has ls 7 [(6, .int (nI b - 1)), (5, .int (oI (findF (prP k pr) L (b - b) b))), (0, .ref h0), (1, .int (nI a)), (2, .int (nI b)), (3, .int (nI k)), (4, .ref fa)] := by rw [Nat.sub_self]; exact hl
  exact loop _ b _ _ M [] ha (by omega) hI (Kp.rfl' M) rfl (by omega) (by omega) (Nat.lt_succ_self _) _ _ h _ (lv_sub hl [2, 3, 5, 6, 1, 0] rfl)

def shf {α : Type} (f : Nat → α) (p n : Nat) : Nat → α := fun j => if p < j ∧ j ≤ n then f (j - 1) else f j
theorem shf_n {α : Type} (f : Nat → α) (n : Nat) : shf f n n = f := by
  funext j; unfold shf; rw [if_neg (by omega)]
theorem shf_at {α : Type} (f : Nat → α) {p n j : Nat} (h : j ≤ p) : shf f p n j = f j := by
  unfold shf; rw [if_neg (by omega)]
theorem shf_s {α : Type} (f : Nat → α) {k n : Nat} (hk : 0 < k) (hn : k ≤ n) : upN (shf f k n) k (f (k - 1)) = shf f (k - 1) n := by
  funext j
  rw [upN_if]
  unfold shf
  by_cases h : j = k
  · subst h; rw [if_pos rfl, if_pos (by omega)]
  · rw [if_neg h]
    by_cases h2 : k < j ∧ j ≤ n
    · rw [if_pos h2, if_pos (by omega)]
    · rw [if_neg h2, if_neg (by omega)]
def insA {α : Type} (f : Nat → α) (p n : Nat) (v : α) : Nat → α := upN (shf f p n) p v
theorem insA_get {α : Type} (f : Nat → α) {p n : Nat} (v : α) (j : Nat) (hj : j ≤ n) : insA f p n v j = if j < p then f j else if j = p then v else f (j - 1) := by
  unfold insA
  rw [upN_if]
  unfold shf
  by_cases h : j = p
  · rw [if_pos h, if_neg (by omega), if_pos h]
  · rw [if_neg h]
    by_cases h2 : j < p
    · rw [if_neg (by omega), if_pos h2]
    · rw [if_pos (by omega), if_neg h2, if_neg h]
theorem RingAt.ins {dA : Nat → ClassId} {F F' : va_W} {M M' : MS} {k b c p : Nat} {L : List PK} {x : PK} {o1 o2 : Option Nat} (h : RingAt dA F M k b c L) (hs : ∀ z ∈ F, z ∈ F') (hp : p ≤ L.length) (h1 : mG M' k = insA (mG M k) p L.length x.1) (h2 : mA M' b = insA (mA M b) p L.length o1) (h3 : mA M' c = insA (mA M c) p L.length o2) (r1 : refIs dA F' o1 (some x.2.1)) (r2 : refIs dA F' o2 x.2.2) : RingAt dA F' M' k b c (insF L p x) := by
  intro j y hj
  have hjl : j ≤ L.length := by
    obtain ⟨q, -⟩ := List.getElem?_eq_some_iff.mp hj
    rw [insF_len hp] at q; omega
  rw [insF_get hp] at hj
  rw [h1, h2, h3, insA_get _ _ _ hjl, insA_get _ _ _ hjl, insA_get _ _ _ hjl]
  by_cases c1 : j < p
  · rw [if_pos c1] at hj
    rw [if_pos c1, if_pos c1, if_pos c1]
    obtain ⟨a1, a2, a3⟩ := h j y hj
    exact ⟨a1, a2.up hs, a3.up hs⟩
  · rw [if_neg c1] at hj
    rw [if_neg c1, if_neg c1, if_neg c1]
    by_cases c2 : j = p
    · rw [if_pos c2] at hj
      rw [if_pos c2, if_pos c2, if_pos c2]
      cases hj
      exact ⟨rfl, r1, r2⟩
    · rw [if_neg c2] at hj
      rw [if_neg c2, if_neg c2, if_neg c2]
      obtain ⟨a1, a2, a3⟩ := h (j - 1) y hj
      exact ⟨a1, a2.up hs, a3.up hs⟩
theorem refIs.mem {dA : Nat → ClassId} {F W : va_W} {o : Option Nat} {l : Option (List Nat)} (h : refIs dA F o l) (hs : ∀ z ∈ F, z ∈ W) : ∀ a, o = some a → ∃ (n9 : Nat) (g9 : Nat → Nat), (a, iar dA n9 g9) ∈ W := by
  intro a ha
  cases l with
  | none => rw [show o = none from h] at ha; cases ha
  | some b =>
    obtain ⟨a2, h1, h2⟩ := h
    rw [h1] at ha
    cases ha
    exact ⟨_, _, hs _ h2⟩

def vM (M : MS) (x16 : Int32) (x17 : Nat → Nat) (x18 : Nat → Option Nat) (x19 : Nat → Option Nat) : MS := sA (sA (sG (sI M 16 x16) 17 x17) 18 x18) 19 x19
theorem vM_id (M : MS) : vM M (mI M 16) (mG M 17) (mA M 18) (mA M 19) = M := MS.ext (by
    show upN M.1 16 (M.1 16) = M.1
    rw [upN_same M.1 16 _ rfl]) rfl rfl (by
    show upN M.2.2.2.1 17 (M.2.2.2.1 17) = M.2.2.2.1
    rw [upN_same M.2.2.2.1 17 _ rfl]) rfl (by
    show upN (upN M.2.2.2.2.2 18 (M.2.2.2.2.2 18)) 19 (M.2.2.2.2.2 19) = M.2.2.2.2.2
    rw [upN_same M.2.2.2.2.2 18 _ rfl, upN_same M.2.2.2.2.2 19 _ rfl])
theorem vM_16 (M : MS) (x16 : Int32) (x17 : Nat → Nat) (x18 : Nat → Option Nat) (x19 : Nat → Option Nat) (y : Int32) : sI (vM M x16 x17 x18 x19) 16 y = vM M y x17 x18 x19 := MS.ext (by
    show upN (upN M.1 16 x16) 16 y = upN M.1 16 y
    rw [upN_upN]) rfl rfl rfl rfl rfl
theorem vM_17 (M : MS) (x16 : Int32) (x17 : Nat → Nat) (x18 : Nat → Option Nat) (x19 : Nat → Option Nat) (y : Nat → Nat) : sG (vM M x16 x17 x18 x19) 17 y = vM M x16 y x18 x19 := MS.ext rfl rfl rfl (by
    show upN (upN M.2.2.2.1 17 x17) 17 y = upN M.2.2.2.1 17 y
    rw [upN_upN]) rfl rfl
theorem vM_18 (M : MS) (x16 : Int32) (x17 : Nat → Nat) (x18 : Nat → Option Nat) (x19 : Nat → Option Nat) (y : Nat → Option Nat) : sA (vM M x16 x17 x18 x19) 18 y = vM M x16 x17 y x19 := MS.ext rfl rfl rfl rfl rfl (by
    show upN (upN (upN M.2.2.2.2.2 18 x18) 19 x19) 18 y = upN (upN M.2.2.2.2.2 18 y) 19 x19
    rw [upN_comm _ _ _ (by decide : (19 : Nat) ≠ 18), upN_upN])
theorem vM_19 (M : MS) (x16 : Int32) (x17 : Nat → Nat) (x18 : Nat → Option Nat) (x19 : Nat → Option Nat) (y : Nat → Option Nat) : sA (vM M x16 x17 x18 x19) 19 y = vM M x16 x17 x18 y := MS.ext rfl rfl rfl rfl rfl (by
    show upN (upN (upN M.2.2.2.2.2 18 x18) 19 x19) 19 y = upN (upN M.2.2.2.2.2 18 x18) 19 y
    rw [upN_upN])
theorem vM_re (M : MS) (x16 : Int32) (x17 : Nat → Nat) (x18 : Nat → Option Nat) (x19 : Nat → Option Nat) (y16 : Int32) (y17 : Nat → Nat) (y18 : Nat → Option Nat) (y19 : Nat → Option Nat) : vM (vM M x16 x17 x18 x19) y16 y17 y18 y19 = vM M y16 y17 y18 y19 := by
  show sA (sA (sG (sI (vM M x16 x17 x18 x19) 16 y16) 17 y17) 18 y18) 19 y19 = _
  rw [vM_16, vM_17, vM_18, vM_19]
set_option maxHeartbeats 400000 in
set_option maxRecDepth 100000 in
theorem c7_insert (l : Launch) (D : va_G) (dA : Nat → ClassId) (B : Nat) (Z : State → Prop) (hZ : Stab B Z) (h0 : Nat) (ad : Nat → Nat) (M : MS) (F : va_W) (L : List PK) (q ba : Nat) (so : Option Nat) (x : PK) (hzs : ZS dA B Z) (hR : NewR dA F ad M L) (hPK : PKs L) (hLl : L.length ≤ 4650) (hq : q ≤ L.length) (hx1 : x.1 < 100) (r1 : (ba, ial dA x.2.1) ∈ F) (r2 : refIs dA F so x.2.2) :
    Ct (S := Unit) l D dA B Z yX7_insert cX7_insert 6 none 1 0 0 [.ref h0, .int (nI q), .int (nI x.1), .ref ba, va_rf so] (mw dA h0 ad M ++ F) (fun _ => True) (fun _ => none) (fun _ => mw dA h0 ad (vM M (nI (L.length + 1)) (insA (mG M 17) q L.length x.1) (insA (mA M 18) q L.length (some ba)) (insA (mA M 19) q L.length so)) ++ F) := by
  refine Ct.mk2 (by decide) (by cases so <;> exact Nat.le_of_ble_eq_true rfl) hZ ?_
  intro p e R s m args below meth c ls Q C hr hlocks hin hQ hl h
  have C0 := C
  obtain ⟨hx, hb, hml, hown, hts, -⟩ := C0
  have hl : lv_has ls 6 [(0, .ref h0), (1, .int (nI q)), (2, .int (nI x.1)), (3, .ref ba), (4, va_rf so)] := hl
  refine lv_aload_n hx hb dX7_insert_0 rfl (lv_at hl 0 rfl) ?_
  refine m_gi C h 16 (by decide) rfl rfl q1886 (v := nI L.length) hR.2.1 dX7_insert_1 ?_
  refine lv_istore (lv' := [(5, .int (nI L.length)), (0, .ref h0), (1, .int (nI q)), (2, .int (nI x.1)), (3, .ref ba), (4, va_rf so)]) hx hb dX7_insert_4 hl (by decide) (by generalize so = z9; cases z9 <;> rfl) (fun ls hl => ?_)
  have h : Wd D B s (mw dA h0 ad (vM M (nI L.length) (shf (mG M 17) L.length L.length) (shf (mA M 18) L.length L.length) (shf (mA M 19) L.length L.length)) ++ F) s.heap [] := by
    rw [shf_n, shf_n, shf_n, ← hR.2.1, vM_id]; exact h
  have loop : ∀ (nn : Nat) (k : Nat), (q ≤ k) → (k ≤ L.length) → k < nn → ∀ (H : Heap) (locs : List Loc), Wd D B s (mw dA h0 ad (vM M (nI L.length) (shf (mG M 17) k L.length) (shf (mA M 18) k L.length) (shf (mA M 19) k L.length)) ++ F) H locs → ∀ (ls : Array Slot), lv_has ls 6 [(0, .ref h0), (1, .int (nI q)), (2, .int (nI x.1)), (3, .ref ba), (4, va_rf so), (5, .int (nI k))] → W p l e R s m args below meth c H locs 0 0 Q (F0 m 6 ls []) := by
    intro nn
    induction nn with
    | zero => intro k  hi0 hi1 hme; exact absurd hme (Nat.not_lt_zero _)
    | succ nn ih =>
      intro k  hi0 hi1 hme H locs h ls hl
      refine lv_iload hx hb dX7_insert_6 (lv_at hl 5 rfl) ?_
      refine lv_iload_n hx hb dX7_insert_8 rfl (lv_at hl 1 rfl) ?_
      refine n_icmp_le (tgt := 66) hx hb (by omega) (by omega) dX7_insert_9 (by decide) (fun c9 => ?_) (fun c9 => ?_)
      · have hkq : q = k := by omega
        subst hkq
        refine lv_aload_n hx hb dX7_insert_66 rfl (lv_at hl 0 rfl) ?_
        refine m_gr C h 17 (by decide) rfl rfl q1887 (v := some (ad 17)) hR.2.2.1 dX7_insert_67 ?_
        refine lv_iload_n hx hb dX7_insert_70 rfl (lv_at hl 1 rfl) ?_
        refine lv_iload_n hx hb dX7_insert_71 rfl (lv_at hl 2 rfl) ?_
        refine m_iast C h 17 (v := x.1) (by decide) (n := 4700) rfl (by omega) dX7_insert_72 (fun H locs h => ?_)
        rw [vM_17] at h
        have h : Wd D B s (mw dA h0 ad (vM M (nI L.length) (insA (mG M 17) q L.length x.1) (shf (mA M 18) q L.length) (shf (mA M 19) q L.length)) ++ F) H locs := h
        refine lv_aload_n hx hb dX7_insert_73 rfl (lv_at hl 0 rfl) ?_
        refine m_gr C h 18 (by decide) rfl rfl q1888 (v := some (ad 18)) hR.2.2.2.1 dX7_insert_74 ?_
        refine lv_iload_n hx hb dX7_insert_77 rfl (lv_at hl 1 rfl) ?_
        refine lv_aload_n hx hb dX7_insert_78 rfl (lv_at hl 3 rfl) ?_
        refine m_aast C h 18 (o := some ba) hzs (by decide) (n := 4700) rfl (by omega) (fun a e9 => by cases e9; exact ⟨_, _, List.mem_append_right _ r1⟩) dX7_insert_79 (fun H locs h => ?_)
        rw [vM_18] at h
        have h : Wd D B s (mw dA h0 ad (vM M (nI L.length) (insA (mG M 17) q L.length x.1) (insA (mA M 18) q L.length (some ba)) (shf (mA M 19) q L.length)) ++ F) H locs := h
        refine lv_aload_n hx hb dX7_insert_80 rfl (lv_at hl 0 rfl) ?_
        refine m_gr C h 19 (by decide) rfl rfl q1889 (v := some (ad 19)) hR.2.2.2.2 dX7_insert_81 ?_
        refine lv_iload_n hx hb dX7_insert_84 rfl (lv_at hl 1 rfl) ?_
        refine q_aload hx hb dX7_insert_85 (lv_at hl 4 rfl) ?_
        refine m_aast C h 19 (o := so) hzs (by decide) (n := 4700) rfl (by omega) (r2.mem (fun z hz => List.mem_append_right _ hz)) dX7_insert_87 (fun H locs h => ?_)
        rw [vM_19] at h
        have h : Wd D B s (mw dA h0 ad (vM M (nI L.length) (insA (mG M 17) q L.length x.1) (insA (mA M 18) q L.length (some ba)) (insA (mA M 19) q L.length so)) ++ F) H locs := h
        refine lv_aload_n hx hb dX7_insert_88 rfl (lv_at hl 0 rfl) ?_
        refine lv_dup hx hb dX7_insert_89 rfl ?_
        refine m_gi C h 16 (by decide) rfl rfl q1886 (v := nI L.length) rfl dX7_insert_90 ?_
        refine lv_iconst (v := nI 1) hx hb dX7_insert_93 (by decide) ?_
        refine lv_iadd hx hb dX7_insert_94 (n_top (y := nI (L.length + 1)) (nI_add L.length 1) ?_)
        refine m_pi C h 16 (v := nI (L.length + 1)) (by decide) rfl rfl rfl q1886 rfl rfl dX7_insert_95 (fun H locs h => ?_)
        rw [vM_16] at h
        have h : Wd D B s (mw dA h0 ad (vM M (nI (L.length + 1)) (insA (mG M 17) q L.length x.1) (insA (mA M 18) q L.length (some ba)) (insA (mA M 19) q L.length so)) ++ F) H locs := h
        subst hQ
        exact ret_v C hr hlocks h () trivial rfl rfl (by omega) (by omega) dX7_insert_98
      · obtain ⟨x9, hx9⟩ : ∃ z, L[k - 1]? = some z := ⟨_, List.getElem?_eq_getElem (by omega)⟩
        obtain ⟨hx9k, ⟨qb, hqb, hqbF⟩, hx9s⟩ := hR.1 _ _ hx9
        have hx91 := (hPK.at hx9).1
        refine lv_aload_n hx hb dX7_insert_12 rfl (lv_at hl 0 rfl) ?_
        refine m_gr C h 17 (by decide) rfl rfl q1887 (v := some (ad 17)) hR.2.2.1 dX7_insert_13 ?_
        refine lv_iload hx hb dX7_insert_16 (lv_at hl 5 rfl) ?_
        refine lv_aload_n hx hb dX7_insert_18 rfl (lv_at hl 0 rfl) ?_
        refine m_gr C h 17 (by decide) rfl rfl q1887 (v := some (ad 17)) hR.2.2.1 dX7_insert_19 ?_
        refine lv_iload hx hb dX7_insert_22 (lv_at hl 5 rfl) ?_
        refine lv_iconst (v := nI 1) hx hb dX7_insert_24 (by decide) ?_
        refine lv_isub hx hb dX7_insert_25 (n_top (y := nI (k - 1)) (pk_sub (by omega)) ?_)
        refine n_iald C h (v := (shf (mG M 17) k L.length) (k - 1)) (mw_memG (k := 17) (by decide)) (show k - 1 < 4700 by omega) (by decide) rfl dX7_insert_26 ?_
        refine n_top (y := nI (mG M 17 (k - 1))) (congrArg nI (shf_at _ (by omega))) ?_
        refine m_iast C h 17 (v := mG M 17 (k - 1)) (by decide) (n := 4700) rfl (by omega) dX7_insert_27 (fun H locs h => ?_)
        rw [vM_17] at h
        have h : Wd D B s (mw dA h0 ad (vM M (nI L.length) (upN (shf (mG M 17) k L.length) k (mG M 17 (k - 1))) (shf (mA M 18) k L.length) (shf (mA M 19) k L.length)) ++ F) H locs := h
        rw [shf_s (mG M 17) (by omega) (by omega)] at h
        have h : Wd D B s (mw dA h0 ad (vM M (nI L.length) (shf (mG M 17) (k - 1) L.length) (shf (mA M 18) k L.length) (shf (mA M 19) k L.length)) ++ F) H locs := h
        refine lv_aload_n hx hb dX7_insert_28 rfl (lv_at hl 0 rfl) ?_
        refine m_gr C h 18 (by decide) rfl rfl q1888 (v := some (ad 18)) hR.2.2.2.1 dX7_insert_29 ?_
        refine lv_iload hx hb dX7_insert_32 (lv_at hl 5 rfl) ?_
        refine lv_aload_n hx hb dX7_insert_34 rfl (lv_at hl 0 rfl) ?_
        refine m_gr C h 18 (by decide) rfl rfl q1888 (v := some (ad 18)) hR.2.2.2.1 dX7_insert_35 ?_
        refine lv_iload hx hb dX7_insert_38 (lv_at hl 5 rfl) ?_
        refine lv_iconst (v := nI 1) hx hb dX7_insert_40 (by decide) ?_
        refine lv_isub hx hb dX7_insert_41 (n_top (y := nI (k - 1)) (pk_sub (by omega)) ?_)
        refine n_aald C h (v := (shf (mA M 18) k L.length) (k - 1)) (mw_memA (k := 18) (by decide)) (show k - 1 < 4700 by omega) (by decide) rfl dX7_insert_42 ?_
        refine n_topv (y := .ref qb) (by rw [shf_at _ (by omega), hqb]; rfl) ?_
        refine m_aast C h 18 (o := some qb) hzs (by decide) (n := 4700) rfl (by omega) (fun a e9 => by cases e9; exact ⟨_, _, List.mem_append_right _ hqbF⟩) dX7_insert_43 (fun H locs h => ?_)
        rw [vM_18] at h
        have h : Wd D B s (mw dA h0 ad (vM M (nI L.length) (shf (mG M 17) (k - 1) L.length) (upN (shf (mA M 18) k L.length) k (mA M 18 (k - 1))) (shf (mA M 19) k L.length)) ++ F) H locs := by rw [hqb]; exact h
        rw [shf_s (mA M 18) (by omega) (by omega)] at h
        have h : Wd D B s (mw dA h0 ad (vM M (nI L.length) (shf (mG M 17) (k - 1) L.length) (shf (mA M 18) (k - 1) L.length) (shf (mA M 19) k L.length)) ++ F) H locs := h
        refine lv_aload_n hx hb dX7_insert_44 rfl (lv_at hl 0 rfl) ?_
        refine m_gr C h 19 (by decide) rfl rfl q1889 (v := some (ad 19)) hR.2.2.2.2 dX7_insert_45 ?_
        refine lv_iload hx hb dX7_insert_48 (lv_at hl 5 rfl) ?_
        refine lv_aload_n hx hb dX7_insert_50 rfl (lv_at hl 0 rfl) ?_
        refine m_gr C h 19 (by decide) rfl rfl q1889 (v := some (ad 19)) hR.2.2.2.2 dX7_insert_51 ?_
        refine lv_iload hx hb dX7_insert_54 (lv_at hl 5 rfl) ?_
        refine lv_iconst (v := nI 1) hx hb dX7_insert_56 (by decide) ?_
        refine lv_isub hx hb dX7_insert_57 (n_top (y := nI (k - 1)) (pk_sub (by omega)) ?_)
        refine n_aald C h (v := (shf (mA M 19) k L.length) (k - 1)) (mw_memA (k := 19) (by decide)) (show k - 1 < 4700 by omega) (by decide) rfl dX7_insert_58 ?_
        refine n_topv (y := va_rf (mA M 19 (k - 1))) (by rw [shf_at _ (by omega)]) ?_
        refine m_aast C h 19 (o := mA M 19 (k - 1)) hzs (by decide) (n := 4700) rfl (by omega) (hx9s.mem (fun z hz => List.mem_append_right _ hz)) dX7_insert_59 (fun H locs h => ?_)
        rw [vM_19] at h
        have h : Wd D B s (mw dA h0 ad (vM M (nI L.length) (shf (mG M 17) (k - 1) L.length) (shf (mA M 18) (k - 1) L.length) (upN (shf (mA M 19) k L.length) k (mA M 19 (k - 1)))) ++ F) H locs := h
        rw [shf_s (mA M 19) (by omega) (by omega)] at h
        have h : Wd D B s (mw dA h0 ad (vM M (nI L.length) (shf (mG M 17) (k - 1) L.length) (shf (mA M 18) (k - 1) L.length) (shf (mA M 19) (k - 1) L.length)) ++ F) H locs := h
        refine lv_iinc (v := nI (k - 1)) (lv' := [(5, .int (nI (k - 1))), (0, .ref h0), (1, .int (nI q)), (2, .int (nI x.1)), (3, .ref ba), (4, va_rf so)]) hx hb dX7_insert_60 hl (k := 5) rfl (n_dec (by omega)) (by decide) (by generalize so = z9; cases z9 <;> rfl) (fun ls hl => ?_)
        refine lv_goto (tgt := 6) hx hb dX7_insert_63 (by decide) ?_
        exact ih (k - 1) (by omega) (by omega) (by omega) _ _ h _ (lv_sub hl [1, 2, 3, 4, 5, 0] rfl)
  exact loop _ L.length hq (Nat.le_refl _) (Nat.lt_succ_self _) _ _ h _ (lv_sub hl [1, 2, 3, 4, 5, 0] rfl)

theorem vM_new {dA : Nat → ClassId} {F : va_W} {ad : Nat → Nat} {M : MS} {L : List PK} {q ba : Nat} {so : Option Nat} {x : PK} (hR : NewR dA F ad M L) (hq : q ≤ L.length) (r1 : (ba, ial dA x.2.1) ∈ F) (r2 : refIs dA F so x.2.2) : NewR dA F ad (vM M (nI (L.length + 1)) (insA (mG M 17) q L.length x.1) (insA (mA M 18) q L.length (some ba)) (insA (mA M 19) q L.length so)) (insF L q x) :=
  ⟨hR.1.ins (fun z hz => hz) hq rfl rfl rfl ⟨ba, rfl, r1⟩ r2, by rw [insF_len hq]; rfl, hR.2.2.1, hR.2.2.2.1, hR.2.2.2.2⟩
theorem vM_kc (M : MS) (a : Int32) (b : Nat → Nat) (c d : Nat → Option Nat) : Kc M (vM M a b c d) :=
  ⟨fun k _ h _ => upN_n h, fun _ _ => rfl, fun _ _ => rfl, fun k _ h => upN_n h, fun k h1 h2 => (upN_n h2).trans (upN_n h1)⟩

